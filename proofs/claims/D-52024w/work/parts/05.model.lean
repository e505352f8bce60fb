/-! TimberListModel -/
set_option maxRecDepth 100000
def RX2 : String := "TimberListModel"
def TX2 : u_T := fun k => match k with
  | 0 => ("TimberListModel", "thrown", "I", false)
  | 1 => ("TimberListModel", "boards", "I", false)
  | 2 => ("TimberListModel", "wood", "[I", true)
  | 3 => ("TimberListModel", "defects", "I", false)
  | 4 => ("TimberListModel", "flaws", "[I", true)
  | 5 => ("TimberListModel", "parts", "I", false)
  | 6 => ("TimberListModel", "wants", "[I", true)
  | 7 => ("TimberListModel", "mayBeJoined", "[Z", true)
  | 8 => ("TimberListModel", "saw", "I", false)
  | 9 => ("TimberListModel", "joint", "I", false)
  | 10 => ("TimberListModel", "made", "I", false)
  | 11 => ("TimberListModel", "cuts", "[I", true)
  | 12 => ("TimberListModel", "areJoined", "[Z", true)
  | 13 => ("TimberListModel", "stretchFrom", "I", false)
  | _ => ("TimberListModel", "stretchTo", "I", false)
def tyX2 : Nat → FieldType := fun k => match k with
  | 0 => .int
  | 1 => .int
  | 2 => .array .int
  | 3 => .int
  | 4 => .array .int
  | 5 => .int
  | 6 => .array .int
  | 7 => .array .boolean
  | 8 => .int
  | 9 => .int
  | 10 => .int
  | 11 => .array .int
  | 12 => .array .boolean
  | 13 => .int
  | _ => .int
abbrev wsX20 : List Cond := u_ws RX2 TX2 15
set_option maxRecDepth 100000 in
theorem nmX2 : ∀ a, a < 15 → ∀ b, b < 15 → a ≠ b → (TX2 a).2.1 ≠ (TX2 b).2.1 := by decide +kernel
set_option maxRecDepth 100000 in
theorem tyX2_ok : ∀ k, k < 15 → parseFieldDescriptor (TX2 k).2.2.1 = some (tyX2 k) := by decide +kernel
abbrev cX2_init : ByteArray := prog_10_method_1_code
def yX2_init : MethodName := ⟨RX2, "<init>", "()V"⟩
def dkwX2_init_2 : List UInt8 := [42, 17, 3, 96, 188, 10, 181, 0, 30, 42, 17, 0, 216, 188, 4, 181, 0, 33, 177]
abbrev dktX2_init_2 : List UInt8 := dkwX2_init_2 ++ []
def dkwX2_init_1 : List UInt8 := [188, 10, 181, 0, 16, 42, 16, 12, 188, 4, 181, 0, 19, 42, 6, 181, 0, 23, 42, 16, 10, 181, 0, 27]
abbrev dktX2_init_1 : List UInt8 := dkwX2_init_1 ++ dktX2_init_2
def dkwX2_init_0 : List UInt8 := [42, 183, 0, 3, 42, 16, 30, 188, 10, 181, 0, 9, 42, 16, 96, 188, 10, 181, 0, 13, 42, 16, 48]
abbrev dktX2_init_0 : List UInt8 := dkwX2_init_0 ++ dktX2_init_1
theorem dksX2_init_0 : cX2_init.data.toList.drop 0 = dktX2_init_0 := by decide +kernel
theorem dksX2_init_1 : cX2_init.data.toList.drop 23 = dktX2_init_1 := dk_seg dksX2_init_0 23 rfl rfl
theorem dksX2_init_2 : cX2_init.data.toList.drop 47 = dktX2_init_2 := dk_seg dksX2_init_1 24 rfl rfl
theorem dX2_init_0 : decode cX2_init 0 = .ok (.aload_n 0, 1) := dk_42 (dk_at dksX2_init_0 0 rfl rfl)
theorem dX2_init_1 : decode cX2_init 1 = .ok (.invokespecial 3, 3) := dk_183 0 3 (dk_at dksX2_init_0 1 rfl rfl)
theorem dX2_init_4 : decode cX2_init 4 = .ok (.aload_n 0, 1) := dk_42 (dk_at dksX2_init_0 4 rfl rfl)
theorem dX2_init_5 : decode cX2_init 5 = .ok (.bipush 30, 2) := dk_16 30 (dk_at dksX2_init_0 5 rfl rfl)
theorem dX2_init_7 : decode cX2_init 7 = .ok (.newarray .int, 2) := dk_188_10 (dk_at dksX2_init_0 7 rfl rfl)
theorem dX2_init_9 : decode cX2_init 9 = .ok (.putfield 9, 3) := dk_181 0 9 (dk_at dksX2_init_0 9 rfl rfl)
theorem dX2_init_12 : decode cX2_init 12 = .ok (.aload_n 0, 1) := dk_42 (dk_at dksX2_init_0 12 rfl rfl)
theorem dX2_init_13 : decode cX2_init 13 = .ok (.bipush 96, 2) := dk_16 96 (dk_at dksX2_init_0 13 rfl rfl)
theorem dX2_init_15 : decode cX2_init 15 = .ok (.newarray .int, 2) := dk_188_10 (dk_at dksX2_init_0 15 rfl rfl)
theorem dX2_init_17 : decode cX2_init 17 = .ok (.putfield 13, 3) := dk_181 0 13 (dk_at dksX2_init_0 17 rfl rfl)
theorem dX2_init_20 : decode cX2_init 20 = .ok (.aload_n 0, 1) := dk_42 (dk_at dksX2_init_0 20 rfl rfl)
theorem dX2_init_21 : decode cX2_init 21 = .ok (.bipush 48, 2) := dk_16 48 (dk_at dksX2_init_0 21 rfl rfl)
theorem dX2_init_23 : decode cX2_init 23 = .ok (.newarray .int, 2) := dk_188_10 (dk_at dksX2_init_1 0 rfl rfl)
theorem dX2_init_25 : decode cX2_init 25 = .ok (.putfield 16, 3) := dk_181 0 16 (dk_at dksX2_init_1 2 rfl rfl)
theorem dX2_init_28 : decode cX2_init 28 = .ok (.aload_n 0, 1) := dk_42 (dk_at dksX2_init_1 5 rfl rfl)
theorem dX2_init_29 : decode cX2_init 29 = .ok (.bipush 12, 2) := dk_16 12 (dk_at dksX2_init_1 6 rfl rfl)
theorem dX2_init_31 : decode cX2_init 31 = .ok (.newarray .boolean, 2) := dk_188_4 (dk_at dksX2_init_1 8 rfl rfl)
theorem dX2_init_33 : decode cX2_init 33 = .ok (.putfield 19, 3) := dk_181 0 19 (dk_at dksX2_init_1 10 rfl rfl)
theorem dX2_init_36 : decode cX2_init 36 = .ok (.aload_n 0, 1) := dk_42 (dk_at dksX2_init_1 13 rfl rfl)
theorem dX2_init_37 : decode cX2_init 37 = .ok (.iconst 3, 1) := dk_6 (dk_at dksX2_init_1 14 rfl rfl)
theorem dX2_init_38 : decode cX2_init 38 = .ok (.putfield 23, 3) := dk_181 0 23 (dk_at dksX2_init_1 15 rfl rfl)
theorem dX2_init_41 : decode cX2_init 41 = .ok (.aload_n 0, 1) := dk_42 (dk_at dksX2_init_1 18 rfl rfl)
theorem dX2_init_42 : decode cX2_init 42 = .ok (.bipush 10, 2) := dk_16 10 (dk_at dksX2_init_1 19 rfl rfl)
theorem dX2_init_44 : decode cX2_init 44 = .ok (.putfield 27, 3) := dk_181 0 27 (dk_at dksX2_init_1 21 rfl rfl)
theorem dX2_init_47 : decode cX2_init 47 = .ok (.aload_n 0, 1) := dk_42 (dk_at dksX2_init_2 0 rfl rfl)
theorem dX2_init_48 : decode cX2_init 48 = .ok (.sipush 864, 3) := dk_17 3 96 (dk_at dksX2_init_2 1 rfl rfl)
theorem dX2_init_51 : decode cX2_init 51 = .ok (.newarray .int, 2) := dk_188_10 (dk_at dksX2_init_2 4 rfl rfl)
theorem dX2_init_53 : decode cX2_init 53 = .ok (.putfield 30, 3) := dk_181 0 30 (dk_at dksX2_init_2 6 rfl rfl)
theorem dX2_init_56 : decode cX2_init 56 = .ok (.aload_n 0, 1) := dk_42 (dk_at dksX2_init_2 9 rfl rfl)
theorem dX2_init_57 : decode cX2_init 57 = .ok (.sipush 216, 3) := dk_17 0 216 (dk_at dksX2_init_2 10 rfl rfl)
theorem dX2_init_60 : decode cX2_init 60 = .ok (.newarray .boolean, 2) := dk_188_4 (dk_at dksX2_init_2 13 rfl rfl)
theorem dX2_init_62 : decode cX2_init 62 = .ok (.putfield 33, 3) := dk_181 0 33 (dk_at dksX2_init_2 15 rfl rfl)
theorem dX2_init_65 : decode cX2_init 65 = .ok (.return_, 1) := dk_177 (dk_at dksX2_init_2 18 rfl rfl)
abbrev cX2_thrown : ByteArray := prog_10_method_2_code
def yX2_thrown : MethodName := ⟨RX2, "thrown", "()I"⟩
theorem dX2_thrown_0 : decode cX2_thrown 0 = .ok (.aload_n 0, 1) := by decide +kernel
theorem dX2_thrown_1 : decode cX2_thrown 1 = .ok (.getfield 36, 3) := by decide +kernel
theorem dX2_thrown_4 : decode cX2_thrown 4 = .ok (.ireturn, 1) := by decide +kernel
abbrev cX2_addBoard : ByteArray := prog_10_method_10_code
def yX2_addBoard : MethodName := ⟨RX2, "addBoard", "(III)I"⟩
def dkwX2_addBoard_5 : List UInt8 := [172]
abbrev dktX2_addBoard_5 : List UInt8 := dkwX2_addBoard_5 ++ []
def dkwX2_addBoard_4 : List UInt8 := [180, 0, 39, 104, 5, 96, 29, 79, 42, 89, 180, 0, 39, 4, 96, 181, 0, 39, 42, 180, 0, 39, 4, 100]
abbrev dktX2_addBoard_4 : List UInt8 := dkwX2_addBoard_4 ++ dktX2_addBoard_5
def dkwX2_addBoard_3 : List UInt8 := [27, 79, 42, 180, 0, 9, 6, 42, 180, 0, 39, 104, 4, 96, 28, 79, 42, 180, 0, 9, 6, 42]
abbrev dktX2_addBoard_3 : List UInt8 := dkwX2_addBoard_3 ++ dktX2_addBoard_4
def dkwX2_addBoard_2 : List UInt8 := [180, 0, 39, 16, 10, 160, 0, 9, 42, 5, 182, 0, 49, 172, 42, 180, 0, 9, 6, 42, 180, 0, 39, 104]
abbrev dktX2_addBoard_2 : List UInt8 := dkwX2_addBoard_2 ++ dktX2_addBoard_3
def dkwX2_addBoard_1 : List UInt8 := [184, 0, 42, 153, 0, 12, 29, 3, 6, 184, 0, 42, 154, 0, 9, 42, 4, 182, 0, 49, 172, 42]
abbrev dktX2_addBoard_1 : List UInt8 := dkwX2_addBoard_1 ++ dktX2_addBoard_2
def dkwX2_addBoard_0 : List UInt8 := [42, 3, 181, 0, 36, 27, 16, 100, 17, 11, 184, 184, 0, 42, 153, 0, 24, 28, 16, 10, 17, 1, 144]
abbrev dktX2_addBoard_0 : List UInt8 := dkwX2_addBoard_0 ++ dktX2_addBoard_1
theorem dksX2_addBoard_0 : cX2_addBoard.data.toList.drop 0 = dktX2_addBoard_0 := by decide +kernel
theorem dksX2_addBoard_1 : cX2_addBoard.data.toList.drop 23 = dktX2_addBoard_1 := dk_seg dksX2_addBoard_0 23 rfl rfl
theorem dksX2_addBoard_2 : cX2_addBoard.data.toList.drop 45 = dktX2_addBoard_2 := dk_seg dksX2_addBoard_1 22 rfl rfl
theorem dksX2_addBoard_3 : cX2_addBoard.data.toList.drop 69 = dktX2_addBoard_3 := dk_seg dksX2_addBoard_2 24 rfl rfl
theorem dksX2_addBoard_4 : cX2_addBoard.data.toList.drop 91 = dktX2_addBoard_4 := dk_seg dksX2_addBoard_3 22 rfl rfl
theorem dksX2_addBoard_5 : cX2_addBoard.data.toList.drop 115 = dktX2_addBoard_5 := dk_seg dksX2_addBoard_4 24 rfl rfl
theorem dX2_addBoard_0 : decode cX2_addBoard 0 = .ok (.aload_n 0, 1) := dk_42 (dk_at dksX2_addBoard_0 0 rfl rfl)
theorem dX2_addBoard_1 : decode cX2_addBoard 1 = .ok (.iconst 0, 1) := dk_3 (dk_at dksX2_addBoard_0 1 rfl rfl)
theorem dX2_addBoard_2 : decode cX2_addBoard 2 = .ok (.putfield 36, 3) := dk_181 0 36 (dk_at dksX2_addBoard_0 2 rfl rfl)
theorem dX2_addBoard_5 : decode cX2_addBoard 5 = .ok (.iload_n 1, 1) := dk_27 (dk_at dksX2_addBoard_0 5 rfl rfl)
theorem dX2_addBoard_6 : decode cX2_addBoard 6 = .ok (.bipush 100, 2) := dk_16 100 (dk_at dksX2_addBoard_0 6 rfl rfl)
theorem dX2_addBoard_8 : decode cX2_addBoard 8 = .ok (.sipush 3000, 3) := dk_17 11 184 (dk_at dksX2_addBoard_0 8 rfl rfl)
theorem dX2_addBoard_11 : decode cX2_addBoard 11 = .ok (.invokestatic 42, 3) := dk_184 0 42 (dk_at dksX2_addBoard_0 11 rfl rfl)
theorem dX2_addBoard_14 : decode cX2_addBoard 14 = .ok (.ifCond .eq 24, 3) := dk_153 0 24 (dk_at dksX2_addBoard_0 14 rfl rfl)
theorem dX2_addBoard_17 : decode cX2_addBoard 17 = .ok (.iload_n 2, 1) := dk_28 (dk_at dksX2_addBoard_0 17 rfl rfl)
theorem dX2_addBoard_18 : decode cX2_addBoard 18 = .ok (.bipush 10, 2) := dk_16 10 (dk_at dksX2_addBoard_0 18 rfl rfl)
theorem dX2_addBoard_20 : decode cX2_addBoard 20 = .ok (.sipush 400, 3) := dk_17 1 144 (dk_at dksX2_addBoard_0 20 rfl rfl)
theorem dX2_addBoard_23 : decode cX2_addBoard 23 = .ok (.invokestatic 42, 3) := dk_184 0 42 (dk_at dksX2_addBoard_1 0 rfl rfl)
theorem dX2_addBoard_26 : decode cX2_addBoard 26 = .ok (.ifCond .eq 12, 3) := dk_153 0 12 (dk_at dksX2_addBoard_1 3 rfl rfl)
theorem dX2_addBoard_29 : decode cX2_addBoard 29 = .ok (.iload_n 3, 1) := dk_29 (dk_at dksX2_addBoard_1 6 rfl rfl)
theorem dX2_addBoard_30 : decode cX2_addBoard 30 = .ok (.iconst 0, 1) := dk_3 (dk_at dksX2_addBoard_1 7 rfl rfl)
theorem dX2_addBoard_31 : decode cX2_addBoard 31 = .ok (.iconst 3, 1) := dk_6 (dk_at dksX2_addBoard_1 8 rfl rfl)
theorem dX2_addBoard_32 : decode cX2_addBoard 32 = .ok (.invokestatic 42, 3) := dk_184 0 42 (dk_at dksX2_addBoard_1 9 rfl rfl)
theorem dX2_addBoard_35 : decode cX2_addBoard 35 = .ok (.ifCond .ne 9, 3) := dk_154 0 9 (dk_at dksX2_addBoard_1 12 rfl rfl)
theorem dX2_addBoard_38 : decode cX2_addBoard 38 = .ok (.aload_n 0, 1) := dk_42 (dk_at dksX2_addBoard_1 15 rfl rfl)
theorem dX2_addBoard_39 : decode cX2_addBoard 39 = .ok (.iconst 1, 1) := dk_4 (dk_at dksX2_addBoard_1 16 rfl rfl)
theorem dX2_addBoard_40 : decode cX2_addBoard 40 = .ok (.invokevirtual 49, 3) := dk_182 0 49 (dk_at dksX2_addBoard_1 17 rfl rfl)
theorem dX2_addBoard_43 : decode cX2_addBoard 43 = .ok (.ireturn, 1) := dk_172 (dk_at dksX2_addBoard_1 20 rfl rfl)
theorem dX2_addBoard_44 : decode cX2_addBoard 44 = .ok (.aload_n 0, 1) := dk_42 (dk_at dksX2_addBoard_1 21 rfl rfl)
theorem dX2_addBoard_45 : decode cX2_addBoard 45 = .ok (.getfield 39, 3) := dk_180 0 39 (dk_at dksX2_addBoard_2 0 rfl rfl)
theorem dX2_addBoard_48 : decode cX2_addBoard 48 = .ok (.bipush 10, 2) := dk_16 10 (dk_at dksX2_addBoard_2 3 rfl rfl)
theorem dX2_addBoard_50 : decode cX2_addBoard 50 = .ok (.if_icmp .ne 9, 3) := dk_160 0 9 (dk_at dksX2_addBoard_2 5 rfl rfl)
theorem dX2_addBoard_53 : decode cX2_addBoard 53 = .ok (.aload_n 0, 1) := dk_42 (dk_at dksX2_addBoard_2 8 rfl rfl)
theorem dX2_addBoard_54 : decode cX2_addBoard 54 = .ok (.iconst 2, 1) := dk_5 (dk_at dksX2_addBoard_2 9 rfl rfl)
theorem dX2_addBoard_55 : decode cX2_addBoard 55 = .ok (.invokevirtual 49, 3) := dk_182 0 49 (dk_at dksX2_addBoard_2 10 rfl rfl)
theorem dX2_addBoard_58 : decode cX2_addBoard 58 = .ok (.ireturn, 1) := dk_172 (dk_at dksX2_addBoard_2 13 rfl rfl)
theorem dX2_addBoard_59 : decode cX2_addBoard 59 = .ok (.aload_n 0, 1) := dk_42 (dk_at dksX2_addBoard_2 14 rfl rfl)
theorem dX2_addBoard_60 : decode cX2_addBoard 60 = .ok (.getfield 9, 3) := dk_180 0 9 (dk_at dksX2_addBoard_2 15 rfl rfl)
theorem dX2_addBoard_63 : decode cX2_addBoard 63 = .ok (.iconst 3, 1) := dk_6 (dk_at dksX2_addBoard_2 18 rfl rfl)
theorem dX2_addBoard_64 : decode cX2_addBoard 64 = .ok (.aload_n 0, 1) := dk_42 (dk_at dksX2_addBoard_2 19 rfl rfl)
theorem dX2_addBoard_65 : decode cX2_addBoard 65 = .ok (.getfield 39, 3) := dk_180 0 39 (dk_at dksX2_addBoard_2 20 rfl rfl)
theorem dX2_addBoard_68 : decode cX2_addBoard 68 = .ok (.imul, 1) := dk_104 (dk_at dksX2_addBoard_2 23 rfl rfl)
theorem dX2_addBoard_69 : decode cX2_addBoard 69 = .ok (.iload_n 1, 1) := dk_27 (dk_at dksX2_addBoard_3 0 rfl rfl)
theorem dX2_addBoard_70 : decode cX2_addBoard 70 = .ok (.iastore, 1) := dk_79 (dk_at dksX2_addBoard_3 1 rfl rfl)
theorem dX2_addBoard_71 : decode cX2_addBoard 71 = .ok (.aload_n 0, 1) := dk_42 (dk_at dksX2_addBoard_3 2 rfl rfl)
theorem dX2_addBoard_72 : decode cX2_addBoard 72 = .ok (.getfield 9, 3) := dk_180 0 9 (dk_at dksX2_addBoard_3 3 rfl rfl)
theorem dX2_addBoard_75 : decode cX2_addBoard 75 = .ok (.iconst 3, 1) := dk_6 (dk_at dksX2_addBoard_3 6 rfl rfl)
theorem dX2_addBoard_76 : decode cX2_addBoard 76 = .ok (.aload_n 0, 1) := dk_42 (dk_at dksX2_addBoard_3 7 rfl rfl)
theorem dX2_addBoard_77 : decode cX2_addBoard 77 = .ok (.getfield 39, 3) := dk_180 0 39 (dk_at dksX2_addBoard_3 8 rfl rfl)
theorem dX2_addBoard_80 : decode cX2_addBoard 80 = .ok (.imul, 1) := dk_104 (dk_at dksX2_addBoard_3 11 rfl rfl)
theorem dX2_addBoard_81 : decode cX2_addBoard 81 = .ok (.iconst 1, 1) := dk_4 (dk_at dksX2_addBoard_3 12 rfl rfl)
theorem dX2_addBoard_82 : decode cX2_addBoard 82 = .ok (.iadd, 1) := dk_96 (dk_at dksX2_addBoard_3 13 rfl rfl)
theorem dX2_addBoard_83 : decode cX2_addBoard 83 = .ok (.iload_n 2, 1) := dk_28 (dk_at dksX2_addBoard_3 14 rfl rfl)
theorem dX2_addBoard_84 : decode cX2_addBoard 84 = .ok (.iastore, 1) := dk_79 (dk_at dksX2_addBoard_3 15 rfl rfl)
theorem dX2_addBoard_85 : decode cX2_addBoard 85 = .ok (.aload_n 0, 1) := dk_42 (dk_at dksX2_addBoard_3 16 rfl rfl)
theorem dX2_addBoard_86 : decode cX2_addBoard 86 = .ok (.getfield 9, 3) := dk_180 0 9 (dk_at dksX2_addBoard_3 17 rfl rfl)
theorem dX2_addBoard_89 : decode cX2_addBoard 89 = .ok (.iconst 3, 1) := dk_6 (dk_at dksX2_addBoard_3 20 rfl rfl)
theorem dX2_addBoard_90 : decode cX2_addBoard 90 = .ok (.aload_n 0, 1) := dk_42 (dk_at dksX2_addBoard_3 21 rfl rfl)
theorem dX2_addBoard_91 : decode cX2_addBoard 91 = .ok (.getfield 39, 3) := dk_180 0 39 (dk_at dksX2_addBoard_4 0 rfl rfl)
theorem dX2_addBoard_94 : decode cX2_addBoard 94 = .ok (.imul, 1) := dk_104 (dk_at dksX2_addBoard_4 3 rfl rfl)
theorem dX2_addBoard_95 : decode cX2_addBoard 95 = .ok (.iconst 2, 1) := dk_5 (dk_at dksX2_addBoard_4 4 rfl rfl)
theorem dX2_addBoard_96 : decode cX2_addBoard 96 = .ok (.iadd, 1) := dk_96 (dk_at dksX2_addBoard_4 5 rfl rfl)
theorem dX2_addBoard_97 : decode cX2_addBoard 97 = .ok (.iload_n 3, 1) := dk_29 (dk_at dksX2_addBoard_4 6 rfl rfl)
theorem dX2_addBoard_98 : decode cX2_addBoard 98 = .ok (.iastore, 1) := dk_79 (dk_at dksX2_addBoard_4 7 rfl rfl)
theorem dX2_addBoard_99 : decode cX2_addBoard 99 = .ok (.aload_n 0, 1) := dk_42 (dk_at dksX2_addBoard_4 8 rfl rfl)
theorem dX2_addBoard_100 : decode cX2_addBoard 100 = .ok (.dup, 1) := dk_89 (dk_at dksX2_addBoard_4 9 rfl rfl)
theorem dX2_addBoard_101 : decode cX2_addBoard 101 = .ok (.getfield 39, 3) := dk_180 0 39 (dk_at dksX2_addBoard_4 10 rfl rfl)
theorem dX2_addBoard_104 : decode cX2_addBoard 104 = .ok (.iconst 1, 1) := dk_4 (dk_at dksX2_addBoard_4 13 rfl rfl)
theorem dX2_addBoard_105 : decode cX2_addBoard 105 = .ok (.iadd, 1) := dk_96 (dk_at dksX2_addBoard_4 14 rfl rfl)
theorem dX2_addBoard_106 : decode cX2_addBoard 106 = .ok (.putfield 39, 3) := dk_181 0 39 (dk_at dksX2_addBoard_4 15 rfl rfl)
theorem dX2_addBoard_109 : decode cX2_addBoard 109 = .ok (.aload_n 0, 1) := dk_42 (dk_at dksX2_addBoard_4 18 rfl rfl)
theorem dX2_addBoard_110 : decode cX2_addBoard 110 = .ok (.getfield 39, 3) := dk_180 0 39 (dk_at dksX2_addBoard_4 19 rfl rfl)
theorem dX2_addBoard_113 : decode cX2_addBoard 113 = .ok (.iconst 1, 1) := dk_4 (dk_at dksX2_addBoard_4 22 rfl rfl)
theorem dX2_addBoard_114 : decode cX2_addBoard 114 = .ok (.isub, 1) := dk_100 (dk_at dksX2_addBoard_4 23 rfl rfl)
theorem dX2_addBoard_115 : decode cX2_addBoard 115 = .ok (.ireturn, 1) := dk_172 (dk_at dksX2_addBoard_5 0 rfl rfl)
abbrev cX2_isIn : ByteArray := prog_10_method_4_code
def yX2_isIn : MethodName := ⟨RX2, "isIn", "(III)Z"⟩
def dkwX2_isIn_0 : List UInt8 := [26, 27, 161, 0, 12, 26, 28, 163, 0, 7, 4, 167, 0, 4, 3, 172]
abbrev dktX2_isIn_0 : List UInt8 := dkwX2_isIn_0 ++ []
theorem dksX2_isIn_0 : cX2_isIn.data.toList.drop 0 = dktX2_isIn_0 := by decide +kernel
theorem dX2_isIn_0 : decode cX2_isIn 0 = .ok (.iload_n 0, 1) := dk_26 (dk_at dksX2_isIn_0 0 rfl rfl)
theorem dX2_isIn_1 : decode cX2_isIn 1 = .ok (.iload_n 1, 1) := dk_27 (dk_at dksX2_isIn_0 1 rfl rfl)
theorem dX2_isIn_2 : decode cX2_isIn 2 = .ok (.if_icmp .lt 12, 3) := dk_161 0 12 (dk_at dksX2_isIn_0 2 rfl rfl)
theorem dX2_isIn_5 : decode cX2_isIn 5 = .ok (.iload_n 0, 1) := dk_26 (dk_at dksX2_isIn_0 5 rfl rfl)
theorem dX2_isIn_6 : decode cX2_isIn 6 = .ok (.iload_n 2, 1) := dk_28 (dk_at dksX2_isIn_0 6 rfl rfl)
theorem dX2_isIn_7 : decode cX2_isIn 7 = .ok (.if_icmp .gt 7, 3) := dk_163 0 7 (dk_at dksX2_isIn_0 7 rfl rfl)
theorem dX2_isIn_10 : decode cX2_isIn 10 = .ok (.iconst 1, 1) := dk_4 (dk_at dksX2_isIn_0 10 rfl rfl)
theorem dX2_isIn_11 : decode cX2_isIn 11 = .ok (.goto 4, 3) := dk_167 0 4 (dk_at dksX2_isIn_0 11 rfl rfl)
theorem dX2_isIn_14 : decode cX2_isIn 14 = .ok (.iconst 0, 1) := dk_3 (dk_at dksX2_isIn_0 14 rfl rfl)
theorem dX2_isIn_15 : decode cX2_isIn 15 = .ok (.ireturn, 1) := dk_172 (dk_at dksX2_isIn_0 15 rfl rfl)
abbrev cX2_fail : ByteArray := prog_10_method_3_code
def yX2_fail : MethodName := ⟨RX2, "fail", "(I)I"⟩
def dkwX2_fail_0 : List UInt8 := [42, 27, 181, 0, 36, 3, 172]
abbrev dktX2_fail_0 : List UInt8 := dkwX2_fail_0 ++ []
theorem dksX2_fail_0 : cX2_fail.data.toList.drop 0 = dktX2_fail_0 := by decide +kernel
theorem dX2_fail_0 : decode cX2_fail 0 = .ok (.aload_n 0, 1) := dk_42 (dk_at dksX2_fail_0 0 rfl rfl)
theorem dX2_fail_1 : decode cX2_fail 1 = .ok (.iload_n 1, 1) := dk_27 (dk_at dksX2_fail_0 1 rfl rfl)
theorem dX2_fail_2 : decode cX2_fail 2 = .ok (.putfield 36, 3) := dk_181 0 36 (dk_at dksX2_fail_0 2 rfl rfl)
theorem dX2_fail_5 : decode cX2_fail 5 = .ok (.iconst 0, 1) := dk_3 (dk_at dksX2_fail_0 5 rfl rfl)
theorem dX2_fail_6 : decode cX2_fail 6 = .ok (.ireturn, 1) := dk_172 (dk_at dksX2_fail_0 6 rfl rfl)
abbrev cX2_addDefect : ByteArray := prog_10_method_15_code
def yX2_addDefect : MethodName := ⟨RX2, "addDefect", "(IIII)I"⟩
def dkwX2_addDefect_9 : List UInt8 := [89, 180, 0, 60, 4, 96, 181, 0, 60, 42, 180, 0, 60, 172]
abbrev dktX2_addDefect_9 : List UInt8 := dkwX2_addDefect_9 ++ []
def dkwX2_addDefect_8 : List UInt8 := [180, 0, 60, 104, 5, 96, 29, 79, 42, 180, 0, 13, 7, 42, 180, 0, 60, 104, 6, 96, 21, 4, 79, 42]
abbrev dktX2_addDefect_8 : List UInt8 := dkwX2_addDefect_8 ++ dktX2_addDefect_9
def dkwX2_addDefect_7 : List UInt8 := [27, 79, 42, 180, 0, 13, 7, 42, 180, 0, 60, 104, 4, 96, 28, 79, 42, 180, 0, 13, 7, 42]
abbrev dktX2_addDefect_7 : List UInt8 := dkwX2_addDefect_7 ++ dktX2_addDefect_8
def dkwX2_addDefect_6 : List UInt8 := [167, 255, 186, 21, 5, 153, 0, 9, 42, 6, 182, 0, 49, 172, 42, 180, 0, 13, 7, 42, 180, 0, 60, 104]
abbrev dktX2_addDefect_6 : List UInt8 := dkwX2_addDefect_6 ++ dktX2_addDefect_7
def dkwX2_addDefect_5 : List UInt8 := [21, 6, 182, 0, 76, 5, 182, 0, 79, 164, 0, 7, 4, 167, 0, 4, 3, 54, 5, 132, 6, 1]
abbrev dktX2_addDefect_5 : List UInt8 := dkwX2_addDefect_5 ++ dktX2_addDefect_6
def dkwX2_addDefect_4 : List UInt8 := [42, 21, 6, 182, 0, 70, 29, 162, 0, 33, 28, 42, 21, 6, 182, 0, 73, 162, 0, 23, 21, 4, 42, 42]
abbrev dktX2_addDefect_4 : List UInt8 := dkwX2_addDefect_4 ++ dktX2_addDefect_5
def dkwX2_addDefect_3 : List UInt8 := [21, 6, 42, 180, 0, 63, 162, 0, 67, 21, 5, 154, 0, 49, 42, 21, 6, 27, 182, 0, 66, 153, 0, 43]
abbrev dktX2_addDefect_3 : List UInt8 := dkwX2_addDefect_3 ++ dktX2_addDefect_4
def dkwX2_addDefect_2 : List UInt8 := [5, 182, 0, 49, 172, 42, 180, 0, 60, 16, 24, 160, 0, 7, 4, 167, 0, 4, 3, 54, 5, 3, 54, 6]
abbrev dktX2_addDefect_2 : List UInt8 := dkwX2_addDefect_2 ++ dktX2_addDefect_3
def dkwX2_addDefect_1 : List UInt8 := [28, 164, 0, 22, 29, 42, 27, 182, 0, 57, 163, 0, 13, 21, 4, 4, 6, 184, 0, 42, 154, 0, 9, 42]
abbrev dktX2_addDefect_1 : List UInt8 := dkwX2_addDefect_1 ++ dktX2_addDefect_2
def dkwX2_addDefect_0 : List UInt8 := [42, 3, 181, 0, 36, 42, 27, 182, 0, 53, 154, 0, 9, 42, 4, 182, 0, 49, 172, 28, 155, 0, 27, 29]
abbrev dktX2_addDefect_0 : List UInt8 := dkwX2_addDefect_0 ++ dktX2_addDefect_1
theorem dksX2_addDefect_0 : cX2_addDefect.data.toList.drop 0 = dktX2_addDefect_0 := by decide +kernel
theorem dksX2_addDefect_1 : cX2_addDefect.data.toList.drop 24 = dktX2_addDefect_1 := dk_seg dksX2_addDefect_0 24 rfl rfl
theorem dksX2_addDefect_2 : cX2_addDefect.data.toList.drop 48 = dktX2_addDefect_2 := dk_seg dksX2_addDefect_1 24 rfl rfl
theorem dksX2_addDefect_3 : cX2_addDefect.data.toList.drop 72 = dktX2_addDefect_3 := dk_seg dksX2_addDefect_2 24 rfl rfl
theorem dksX2_addDefect_4 : cX2_addDefect.data.toList.drop 96 = dktX2_addDefect_4 := dk_seg dksX2_addDefect_3 24 rfl rfl
theorem dksX2_addDefect_5 : cX2_addDefect.data.toList.drop 120 = dktX2_addDefect_5 := dk_seg dksX2_addDefect_4 24 rfl rfl
theorem dksX2_addDefect_6 : cX2_addDefect.data.toList.drop 142 = dktX2_addDefect_6 := dk_seg dksX2_addDefect_5 22 rfl rfl
theorem dksX2_addDefect_7 : cX2_addDefect.data.toList.drop 166 = dktX2_addDefect_7 := dk_seg dksX2_addDefect_6 24 rfl rfl
theorem dksX2_addDefect_8 : cX2_addDefect.data.toList.drop 188 = dktX2_addDefect_8 := dk_seg dksX2_addDefect_7 22 rfl rfl
theorem dksX2_addDefect_9 : cX2_addDefect.data.toList.drop 212 = dktX2_addDefect_9 := dk_seg dksX2_addDefect_8 24 rfl rfl
theorem dX2_addDefect_0 : decode cX2_addDefect 0 = .ok (.aload_n 0, 1) := dk_42 (dk_at dksX2_addDefect_0 0 rfl rfl)
theorem dX2_addDefect_1 : decode cX2_addDefect 1 = .ok (.iconst 0, 1) := dk_3 (dk_at dksX2_addDefect_0 1 rfl rfl)
theorem dX2_addDefect_2 : decode cX2_addDefect 2 = .ok (.putfield 36, 3) := dk_181 0 36 (dk_at dksX2_addDefect_0 2 rfl rfl)
theorem dX2_addDefect_5 : decode cX2_addDefect 5 = .ok (.aload_n 0, 1) := dk_42 (dk_at dksX2_addDefect_0 5 rfl rfl)
theorem dX2_addDefect_6 : decode cX2_addDefect 6 = .ok (.iload_n 1, 1) := dk_27 (dk_at dksX2_addDefect_0 6 rfl rfl)
theorem dX2_addDefect_7 : decode cX2_addDefect 7 = .ok (.invokevirtual 53, 3) := dk_182 0 53 (dk_at dksX2_addDefect_0 7 rfl rfl)
theorem dX2_addDefect_10 : decode cX2_addDefect 10 = .ok (.ifCond .ne 9, 3) := dk_154 0 9 (dk_at dksX2_addDefect_0 10 rfl rfl)
theorem dX2_addDefect_13 : decode cX2_addDefect 13 = .ok (.aload_n 0, 1) := dk_42 (dk_at dksX2_addDefect_0 13 rfl rfl)
theorem dX2_addDefect_14 : decode cX2_addDefect 14 = .ok (.iconst 1, 1) := dk_4 (dk_at dksX2_addDefect_0 14 rfl rfl)
theorem dX2_addDefect_15 : decode cX2_addDefect 15 = .ok (.invokevirtual 49, 3) := dk_182 0 49 (dk_at dksX2_addDefect_0 15 rfl rfl)
theorem dX2_addDefect_18 : decode cX2_addDefect 18 = .ok (.ireturn, 1) := dk_172 (dk_at dksX2_addDefect_0 18 rfl rfl)
theorem dX2_addDefect_19 : decode cX2_addDefect 19 = .ok (.iload_n 2, 1) := dk_28 (dk_at dksX2_addDefect_0 19 rfl rfl)
theorem dX2_addDefect_20 : decode cX2_addDefect 20 = .ok (.ifCond .lt 27, 3) := dk_155 0 27 (dk_at dksX2_addDefect_0 20 rfl rfl)
theorem dX2_addDefect_23 : decode cX2_addDefect 23 = .ok (.iload_n 3, 1) := dk_29 (dk_at dksX2_addDefect_0 23 rfl rfl)
theorem dX2_addDefect_24 : decode cX2_addDefect 24 = .ok (.iload_n 2, 1) := dk_28 (dk_at dksX2_addDefect_1 0 rfl rfl)
theorem dX2_addDefect_25 : decode cX2_addDefect 25 = .ok (.if_icmp .le 22, 3) := dk_164 0 22 (dk_at dksX2_addDefect_1 1 rfl rfl)
theorem dX2_addDefect_28 : decode cX2_addDefect 28 = .ok (.iload_n 3, 1) := dk_29 (dk_at dksX2_addDefect_1 4 rfl rfl)
theorem dX2_addDefect_29 : decode cX2_addDefect 29 = .ok (.aload_n 0, 1) := dk_42 (dk_at dksX2_addDefect_1 5 rfl rfl)
theorem dX2_addDefect_30 : decode cX2_addDefect 30 = .ok (.iload_n 1, 1) := dk_27 (dk_at dksX2_addDefect_1 6 rfl rfl)
theorem dX2_addDefect_31 : decode cX2_addDefect 31 = .ok (.invokevirtual 57, 3) := dk_182 0 57 (dk_at dksX2_addDefect_1 7 rfl rfl)
theorem dX2_addDefect_34 : decode cX2_addDefect 34 = .ok (.if_icmp .gt 13, 3) := dk_163 0 13 (dk_at dksX2_addDefect_1 10 rfl rfl)
theorem dX2_addDefect_37 : decode cX2_addDefect 37 = .ok (.iload 4, 2) := dk_21 4 (dk_at dksX2_addDefect_1 13 rfl rfl)
theorem dX2_addDefect_39 : decode cX2_addDefect 39 = .ok (.iconst 1, 1) := dk_4 (dk_at dksX2_addDefect_1 15 rfl rfl)
theorem dX2_addDefect_40 : decode cX2_addDefect 40 = .ok (.iconst 3, 1) := dk_6 (dk_at dksX2_addDefect_1 16 rfl rfl)
theorem dX2_addDefect_41 : decode cX2_addDefect 41 = .ok (.invokestatic 42, 3) := dk_184 0 42 (dk_at dksX2_addDefect_1 17 rfl rfl)
theorem dX2_addDefect_44 : decode cX2_addDefect 44 = .ok (.ifCond .ne 9, 3) := dk_154 0 9 (dk_at dksX2_addDefect_1 20 rfl rfl)
theorem dX2_addDefect_47 : decode cX2_addDefect 47 = .ok (.aload_n 0, 1) := dk_42 (dk_at dksX2_addDefect_1 23 rfl rfl)
theorem dX2_addDefect_48 : decode cX2_addDefect 48 = .ok (.iconst 2, 1) := dk_5 (dk_at dksX2_addDefect_2 0 rfl rfl)
theorem dX2_addDefect_49 : decode cX2_addDefect 49 = .ok (.invokevirtual 49, 3) := dk_182 0 49 (dk_at dksX2_addDefect_2 1 rfl rfl)
theorem dX2_addDefect_52 : decode cX2_addDefect 52 = .ok (.ireturn, 1) := dk_172 (dk_at dksX2_addDefect_2 4 rfl rfl)
theorem dX2_addDefect_53 : decode cX2_addDefect 53 = .ok (.aload_n 0, 1) := dk_42 (dk_at dksX2_addDefect_2 5 rfl rfl)
theorem dX2_addDefect_54 : decode cX2_addDefect 54 = .ok (.getfield 60, 3) := dk_180 0 60 (dk_at dksX2_addDefect_2 6 rfl rfl)
theorem dX2_addDefect_57 : decode cX2_addDefect 57 = .ok (.bipush 24, 2) := dk_16 24 (dk_at dksX2_addDefect_2 9 rfl rfl)
theorem dX2_addDefect_59 : decode cX2_addDefect 59 = .ok (.if_icmp .ne 7, 3) := dk_160 0 7 (dk_at dksX2_addDefect_2 11 rfl rfl)
theorem dX2_addDefect_62 : decode cX2_addDefect 62 = .ok (.iconst 1, 1) := dk_4 (dk_at dksX2_addDefect_2 14 rfl rfl)
theorem dX2_addDefect_63 : decode cX2_addDefect 63 = .ok (.goto 4, 3) := dk_167 0 4 (dk_at dksX2_addDefect_2 15 rfl rfl)
theorem dX2_addDefect_66 : decode cX2_addDefect 66 = .ok (.iconst 0, 1) := dk_3 (dk_at dksX2_addDefect_2 18 rfl rfl)
theorem dX2_addDefect_67 : decode cX2_addDefect 67 = .ok (.istore 5, 2) := dk_54 5 (dk_at dksX2_addDefect_2 19 rfl rfl)
theorem dX2_addDefect_69 : decode cX2_addDefect 69 = .ok (.iconst 0, 1) := dk_3 (dk_at dksX2_addDefect_2 21 rfl rfl)
theorem dX2_addDefect_70 : decode cX2_addDefect 70 = .ok (.istore 6, 2) := dk_54 6 (dk_at dksX2_addDefect_2 22 rfl rfl)
theorem dX2_addDefect_72 : decode cX2_addDefect 72 = .ok (.iload 6, 2) := dk_21 6 (dk_at dksX2_addDefect_3 0 rfl rfl)
theorem dX2_addDefect_74 : decode cX2_addDefect 74 = .ok (.aload_n 0, 1) := dk_42 (dk_at dksX2_addDefect_3 2 rfl rfl)
theorem dX2_addDefect_75 : decode cX2_addDefect 75 = .ok (.getfield 63, 3) := dk_180 0 63 (dk_at dksX2_addDefect_3 3 rfl rfl)
theorem dX2_addDefect_78 : decode cX2_addDefect 78 = .ok (.if_icmp .ge 67, 3) := dk_162 0 67 (dk_at dksX2_addDefect_3 6 rfl rfl)
theorem dX2_addDefect_81 : decode cX2_addDefect 81 = .ok (.iload 5, 2) := dk_21 5 (dk_at dksX2_addDefect_3 9 rfl rfl)
theorem dX2_addDefect_83 : decode cX2_addDefect 83 = .ok (.ifCond .ne 49, 3) := dk_154 0 49 (dk_at dksX2_addDefect_3 11 rfl rfl)
theorem dX2_addDefect_86 : decode cX2_addDefect 86 = .ok (.aload_n 0, 1) := dk_42 (dk_at dksX2_addDefect_3 14 rfl rfl)
theorem dX2_addDefect_87 : decode cX2_addDefect 87 = .ok (.iload 6, 2) := dk_21 6 (dk_at dksX2_addDefect_3 15 rfl rfl)
theorem dX2_addDefect_89 : decode cX2_addDefect 89 = .ok (.iload_n 1, 1) := dk_27 (dk_at dksX2_addDefect_3 17 rfl rfl)
theorem dX2_addDefect_90 : decode cX2_addDefect 90 = .ok (.invokevirtual 66, 3) := dk_182 0 66 (dk_at dksX2_addDefect_3 18 rfl rfl)
theorem dX2_addDefect_93 : decode cX2_addDefect 93 = .ok (.ifCond .eq 43, 3) := dk_153 0 43 (dk_at dksX2_addDefect_3 21 rfl rfl)
theorem dX2_addDefect_96 : decode cX2_addDefect 96 = .ok (.aload_n 0, 1) := dk_42 (dk_at dksX2_addDefect_4 0 rfl rfl)
theorem dX2_addDefect_97 : decode cX2_addDefect 97 = .ok (.iload 6, 2) := dk_21 6 (dk_at dksX2_addDefect_4 1 rfl rfl)
theorem dX2_addDefect_99 : decode cX2_addDefect 99 = .ok (.invokevirtual 70, 3) := dk_182 0 70 (dk_at dksX2_addDefect_4 3 rfl rfl)
theorem dX2_addDefect_102 : decode cX2_addDefect 102 = .ok (.iload_n 3, 1) := dk_29 (dk_at dksX2_addDefect_4 6 rfl rfl)
theorem dX2_addDefect_103 : decode cX2_addDefect 103 = .ok (.if_icmp .ge 33, 3) := dk_162 0 33 (dk_at dksX2_addDefect_4 7 rfl rfl)
theorem dX2_addDefect_106 : decode cX2_addDefect 106 = .ok (.iload_n 2, 1) := dk_28 (dk_at dksX2_addDefect_4 10 rfl rfl)
theorem dX2_addDefect_107 : decode cX2_addDefect 107 = .ok (.aload_n 0, 1) := dk_42 (dk_at dksX2_addDefect_4 11 rfl rfl)
theorem dX2_addDefect_108 : decode cX2_addDefect 108 = .ok (.iload 6, 2) := dk_21 6 (dk_at dksX2_addDefect_4 12 rfl rfl)
theorem dX2_addDefect_110 : decode cX2_addDefect 110 = .ok (.invokevirtual 73, 3) := dk_182 0 73 (dk_at dksX2_addDefect_4 14 rfl rfl)
theorem dX2_addDefect_113 : decode cX2_addDefect 113 = .ok (.if_icmp .ge 23, 3) := dk_162 0 23 (dk_at dksX2_addDefect_4 17 rfl rfl)
theorem dX2_addDefect_116 : decode cX2_addDefect 116 = .ok (.iload 4, 2) := dk_21 4 (dk_at dksX2_addDefect_4 20 rfl rfl)
theorem dX2_addDefect_118 : decode cX2_addDefect 118 = .ok (.aload_n 0, 1) := dk_42 (dk_at dksX2_addDefect_4 22 rfl rfl)
theorem dX2_addDefect_119 : decode cX2_addDefect 119 = .ok (.aload_n 0, 1) := dk_42 (dk_at dksX2_addDefect_4 23 rfl rfl)
theorem dX2_addDefect_120 : decode cX2_addDefect 120 = .ok (.iload 6, 2) := dk_21 6 (dk_at dksX2_addDefect_5 0 rfl rfl)
theorem dX2_addDefect_122 : decode cX2_addDefect 122 = .ok (.invokevirtual 76, 3) := dk_182 0 76 (dk_at dksX2_addDefect_5 2 rfl rfl)
theorem dX2_addDefect_125 : decode cX2_addDefect 125 = .ok (.iconst 2, 1) := dk_5 (dk_at dksX2_addDefect_5 5 rfl rfl)
theorem dX2_addDefect_126 : decode cX2_addDefect 126 = .ok (.invokevirtual 79, 3) := dk_182 0 79 (dk_at dksX2_addDefect_5 6 rfl rfl)
theorem dX2_addDefect_129 : decode cX2_addDefect 129 = .ok (.if_icmp .le 7, 3) := dk_164 0 7 (dk_at dksX2_addDefect_5 9 rfl rfl)
theorem dX2_addDefect_132 : decode cX2_addDefect 132 = .ok (.iconst 1, 1) := dk_4 (dk_at dksX2_addDefect_5 12 rfl rfl)
theorem dX2_addDefect_133 : decode cX2_addDefect 133 = .ok (.goto 4, 3) := dk_167 0 4 (dk_at dksX2_addDefect_5 13 rfl rfl)
theorem dX2_addDefect_136 : decode cX2_addDefect 136 = .ok (.iconst 0, 1) := dk_3 (dk_at dksX2_addDefect_5 16 rfl rfl)
theorem dX2_addDefect_137 : decode cX2_addDefect 137 = .ok (.istore 5, 2) := dk_54 5 (dk_at dksX2_addDefect_5 17 rfl rfl)
theorem dX2_addDefect_139 : decode cX2_addDefect 139 = .ok (.iinc 6 1, 3) := dk_132 6 1 (dk_at dksX2_addDefect_5 19 rfl rfl)
theorem dX2_addDefect_142 : decode cX2_addDefect 142 = .ok (.goto (-70), 3) := dk_167 255 186 (dk_at dksX2_addDefect_6 0 rfl rfl)
theorem dX2_addDefect_145 : decode cX2_addDefect 145 = .ok (.iload 5, 2) := dk_21 5 (dk_at dksX2_addDefect_6 3 rfl rfl)
theorem dX2_addDefect_147 : decode cX2_addDefect 147 = .ok (.ifCond .eq 9, 3) := dk_153 0 9 (dk_at dksX2_addDefect_6 5 rfl rfl)
theorem dX2_addDefect_150 : decode cX2_addDefect 150 = .ok (.aload_n 0, 1) := dk_42 (dk_at dksX2_addDefect_6 8 rfl rfl)
theorem dX2_addDefect_151 : decode cX2_addDefect 151 = .ok (.iconst 3, 1) := dk_6 (dk_at dksX2_addDefect_6 9 rfl rfl)
theorem dX2_addDefect_152 : decode cX2_addDefect 152 = .ok (.invokevirtual 49, 3) := dk_182 0 49 (dk_at dksX2_addDefect_6 10 rfl rfl)
theorem dX2_addDefect_155 : decode cX2_addDefect 155 = .ok (.ireturn, 1) := dk_172 (dk_at dksX2_addDefect_6 13 rfl rfl)
theorem dX2_addDefect_156 : decode cX2_addDefect 156 = .ok (.aload_n 0, 1) := dk_42 (dk_at dksX2_addDefect_6 14 rfl rfl)
theorem dX2_addDefect_157 : decode cX2_addDefect 157 = .ok (.getfield 13, 3) := dk_180 0 13 (dk_at dksX2_addDefect_6 15 rfl rfl)
theorem dX2_addDefect_160 : decode cX2_addDefect 160 = .ok (.iconst 4, 1) := dk_7 (dk_at dksX2_addDefect_6 18 rfl rfl)
theorem dX2_addDefect_161 : decode cX2_addDefect 161 = .ok (.aload_n 0, 1) := dk_42 (dk_at dksX2_addDefect_6 19 rfl rfl)
theorem dX2_addDefect_162 : decode cX2_addDefect 162 = .ok (.getfield 60, 3) := dk_180 0 60 (dk_at dksX2_addDefect_6 20 rfl rfl)
theorem dX2_addDefect_165 : decode cX2_addDefect 165 = .ok (.imul, 1) := dk_104 (dk_at dksX2_addDefect_6 23 rfl rfl)
theorem dX2_addDefect_166 : decode cX2_addDefect 166 = .ok (.iload_n 1, 1) := dk_27 (dk_at dksX2_addDefect_7 0 rfl rfl)
theorem dX2_addDefect_167 : decode cX2_addDefect 167 = .ok (.iastore, 1) := dk_79 (dk_at dksX2_addDefect_7 1 rfl rfl)
theorem dX2_addDefect_168 : decode cX2_addDefect 168 = .ok (.aload_n 0, 1) := dk_42 (dk_at dksX2_addDefect_7 2 rfl rfl)
theorem dX2_addDefect_169 : decode cX2_addDefect 169 = .ok (.getfield 13, 3) := dk_180 0 13 (dk_at dksX2_addDefect_7 3 rfl rfl)
theorem dX2_addDefect_172 : decode cX2_addDefect 172 = .ok (.iconst 4, 1) := dk_7 (dk_at dksX2_addDefect_7 6 rfl rfl)
theorem dX2_addDefect_173 : decode cX2_addDefect 173 = .ok (.aload_n 0, 1) := dk_42 (dk_at dksX2_addDefect_7 7 rfl rfl)
theorem dX2_addDefect_174 : decode cX2_addDefect 174 = .ok (.getfield 60, 3) := dk_180 0 60 (dk_at dksX2_addDefect_7 8 rfl rfl)
theorem dX2_addDefect_177 : decode cX2_addDefect 177 = .ok (.imul, 1) := dk_104 (dk_at dksX2_addDefect_7 11 rfl rfl)
theorem dX2_addDefect_178 : decode cX2_addDefect 178 = .ok (.iconst 1, 1) := dk_4 (dk_at dksX2_addDefect_7 12 rfl rfl)
theorem dX2_addDefect_179 : decode cX2_addDefect 179 = .ok (.iadd, 1) := dk_96 (dk_at dksX2_addDefect_7 13 rfl rfl)
theorem dX2_addDefect_180 : decode cX2_addDefect 180 = .ok (.iload_n 2, 1) := dk_28 (dk_at dksX2_addDefect_7 14 rfl rfl)
theorem dX2_addDefect_181 : decode cX2_addDefect 181 = .ok (.iastore, 1) := dk_79 (dk_at dksX2_addDefect_7 15 rfl rfl)
theorem dX2_addDefect_182 : decode cX2_addDefect 182 = .ok (.aload_n 0, 1) := dk_42 (dk_at dksX2_addDefect_7 16 rfl rfl)
theorem dX2_addDefect_183 : decode cX2_addDefect 183 = .ok (.getfield 13, 3) := dk_180 0 13 (dk_at dksX2_addDefect_7 17 rfl rfl)
theorem dX2_addDefect_186 : decode cX2_addDefect 186 = .ok (.iconst 4, 1) := dk_7 (dk_at dksX2_addDefect_7 20 rfl rfl)
theorem dX2_addDefect_187 : decode cX2_addDefect 187 = .ok (.aload_n 0, 1) := dk_42 (dk_at dksX2_addDefect_7 21 rfl rfl)
theorem dX2_addDefect_188 : decode cX2_addDefect 188 = .ok (.getfield 60, 3) := dk_180 0 60 (dk_at dksX2_addDefect_8 0 rfl rfl)
theorem dX2_addDefect_191 : decode cX2_addDefect 191 = .ok (.imul, 1) := dk_104 (dk_at dksX2_addDefect_8 3 rfl rfl)
theorem dX2_addDefect_192 : decode cX2_addDefect 192 = .ok (.iconst 2, 1) := dk_5 (dk_at dksX2_addDefect_8 4 rfl rfl)
theorem dX2_addDefect_193 : decode cX2_addDefect 193 = .ok (.iadd, 1) := dk_96 (dk_at dksX2_addDefect_8 5 rfl rfl)
theorem dX2_addDefect_194 : decode cX2_addDefect 194 = .ok (.iload_n 3, 1) := dk_29 (dk_at dksX2_addDefect_8 6 rfl rfl)
theorem dX2_addDefect_195 : decode cX2_addDefect 195 = .ok (.iastore, 1) := dk_79 (dk_at dksX2_addDefect_8 7 rfl rfl)
theorem dX2_addDefect_196 : decode cX2_addDefect 196 = .ok (.aload_n 0, 1) := dk_42 (dk_at dksX2_addDefect_8 8 rfl rfl)
theorem dX2_addDefect_197 : decode cX2_addDefect 197 = .ok (.getfield 13, 3) := dk_180 0 13 (dk_at dksX2_addDefect_8 9 rfl rfl)
theorem dX2_addDefect_200 : decode cX2_addDefect 200 = .ok (.iconst 4, 1) := dk_7 (dk_at dksX2_addDefect_8 12 rfl rfl)
theorem dX2_addDefect_201 : decode cX2_addDefect 201 = .ok (.aload_n 0, 1) := dk_42 (dk_at dksX2_addDefect_8 13 rfl rfl)
theorem dX2_addDefect_202 : decode cX2_addDefect 202 = .ok (.getfield 60, 3) := dk_180 0 60 (dk_at dksX2_addDefect_8 14 rfl rfl)
theorem dX2_addDefect_205 : decode cX2_addDefect 205 = .ok (.imul, 1) := dk_104 (dk_at dksX2_addDefect_8 17 rfl rfl)
theorem dX2_addDefect_206 : decode cX2_addDefect 206 = .ok (.iconst 3, 1) := dk_6 (dk_at dksX2_addDefect_8 18 rfl rfl)
theorem dX2_addDefect_207 : decode cX2_addDefect 207 = .ok (.iadd, 1) := dk_96 (dk_at dksX2_addDefect_8 19 rfl rfl)
theorem dX2_addDefect_208 : decode cX2_addDefect 208 = .ok (.iload 4, 2) := dk_21 4 (dk_at dksX2_addDefect_8 20 rfl rfl)
theorem dX2_addDefect_210 : decode cX2_addDefect 210 = .ok (.iastore, 1) := dk_79 (dk_at dksX2_addDefect_8 22 rfl rfl)
theorem dX2_addDefect_211 : decode cX2_addDefect 211 = .ok (.aload_n 0, 1) := dk_42 (dk_at dksX2_addDefect_8 23 rfl rfl)
theorem dX2_addDefect_212 : decode cX2_addDefect 212 = .ok (.dup, 1) := dk_89 (dk_at dksX2_addDefect_9 0 rfl rfl)
theorem dX2_addDefect_213 : decode cX2_addDefect 213 = .ok (.getfield 60, 3) := dk_180 0 60 (dk_at dksX2_addDefect_9 1 rfl rfl)
theorem dX2_addDefect_216 : decode cX2_addDefect 216 = .ok (.iconst 1, 1) := dk_4 (dk_at dksX2_addDefect_9 4 rfl rfl)
theorem dX2_addDefect_217 : decode cX2_addDefect 217 = .ok (.iadd, 1) := dk_96 (dk_at dksX2_addDefect_9 5 rfl rfl)
theorem dX2_addDefect_218 : decode cX2_addDefect 218 = .ok (.putfield 60, 3) := dk_181 0 60 (dk_at dksX2_addDefect_9 6 rfl rfl)
theorem dX2_addDefect_221 : decode cX2_addDefect 221 = .ok (.aload_n 0, 1) := dk_42 (dk_at dksX2_addDefect_9 9 rfl rfl)
theorem dX2_addDefect_222 : decode cX2_addDefect 222 = .ok (.getfield 60, 3) := dk_180 0 60 (dk_at dksX2_addDefect_9 10 rfl rfl)
theorem dX2_addDefect_225 : decode cX2_addDefect 225 = .ok (.ireturn, 1) := dk_172 (dk_at dksX2_addDefect_9 13 rfl rfl)
abbrev cX2_isBoard : ByteArray := prog_10_method_5_code
def yX2_isBoard : MethodName := ⟨RX2, "isBoard", "(I)Z"⟩
def dkwX2_isBoard_0 : List UInt8 := [27, 3, 42, 180, 0, 39, 4, 100, 184, 0, 42, 172]
abbrev dktX2_isBoard_0 : List UInt8 := dkwX2_isBoard_0 ++ []
theorem dksX2_isBoard_0 : cX2_isBoard.data.toList.drop 0 = dktX2_isBoard_0 := by decide +kernel
theorem dX2_isBoard_0 : decode cX2_isBoard 0 = .ok (.iload_n 1, 1) := dk_27 (dk_at dksX2_isBoard_0 0 rfl rfl)
theorem dX2_isBoard_1 : decode cX2_isBoard 1 = .ok (.iconst 0, 1) := dk_3 (dk_at dksX2_isBoard_0 1 rfl rfl)
theorem dX2_isBoard_2 : decode cX2_isBoard 2 = .ok (.aload_n 0, 1) := dk_42 (dk_at dksX2_isBoard_0 2 rfl rfl)
theorem dX2_isBoard_3 : decode cX2_isBoard 3 = .ok (.getfield 39, 3) := dk_180 0 39 (dk_at dksX2_isBoard_0 3 rfl rfl)
theorem dX2_isBoard_6 : decode cX2_isBoard 6 = .ok (.iconst 1, 1) := dk_4 (dk_at dksX2_isBoard_0 6 rfl rfl)
theorem dX2_isBoard_7 : decode cX2_isBoard 7 = .ok (.isub, 1) := dk_100 (dk_at dksX2_isBoard_0 7 rfl rfl)
theorem dX2_isBoard_8 : decode cX2_isBoard 8 = .ok (.invokestatic 42, 3) := dk_184 0 42 (dk_at dksX2_isBoard_0 8 rfl rfl)
theorem dX2_isBoard_11 : decode cX2_isBoard 11 = .ok (.ireturn, 1) := dk_172 (dk_at dksX2_isBoard_0 11 rfl rfl)
abbrev cX2_length : ByteArray := prog_10_method_7_code
def yX2_length : MethodName := ⟨RX2, "length", "(I)I"⟩
def dkwX2_length_0 : List UInt8 := [42, 180, 0, 9, 6, 27, 104, 46, 172]
abbrev dktX2_length_0 : List UInt8 := dkwX2_length_0 ++ []
theorem dksX2_length_0 : cX2_length.data.toList.drop 0 = dktX2_length_0 := by decide +kernel
theorem dX2_length_0 : decode cX2_length 0 = .ok (.aload_n 0, 1) := dk_42 (dk_at dksX2_length_0 0 rfl rfl)
theorem dX2_length_1 : decode cX2_length 1 = .ok (.getfield 9, 3) := dk_180 0 9 (dk_at dksX2_length_0 1 rfl rfl)
theorem dX2_length_4 : decode cX2_length 4 = .ok (.iconst 3, 1) := dk_6 (dk_at dksX2_length_0 4 rfl rfl)
theorem dX2_length_5 : decode cX2_length 5 = .ok (.iload_n 1, 1) := dk_27 (dk_at dksX2_length_0 5 rfl rfl)
theorem dX2_length_6 : decode cX2_length 6 = .ok (.imul, 1) := dk_104 (dk_at dksX2_length_0 6 rfl rfl)
theorem dX2_length_7 : decode cX2_length 7 = .ok (.iaload, 1) := dk_46 (dk_at dksX2_length_0 7 rfl rfl)
theorem dX2_length_8 : decode cX2_length 8 = .ok (.ireturn, 1) := dk_172 (dk_at dksX2_length_0 8 rfl rfl)
abbrev cX2_isOn : ByteArray := prog_10_method_11_code
def yX2_isOn : MethodName := ⟨RX2, "isOn", "(II)Z"⟩
def dkwX2_isOn_0 : List UInt8 := [42, 180, 0, 30, 7, 27, 104, 46, 28, 160, 0, 7, 4, 167, 0, 4, 3, 172]
abbrev dktX2_isOn_0 : List UInt8 := dkwX2_isOn_0 ++ []
theorem dksX2_isOn_0 : cX2_isOn.data.toList.drop 0 = dktX2_isOn_0 := by decide +kernel
theorem dX2_isOn_0 : decode cX2_isOn 0 = .ok (.aload_n 0, 1) := dk_42 (dk_at dksX2_isOn_0 0 rfl rfl)
theorem dX2_isOn_1 : decode cX2_isOn 1 = .ok (.getfield 30, 3) := dk_180 0 30 (dk_at dksX2_isOn_0 1 rfl rfl)
theorem dX2_isOn_4 : decode cX2_isOn 4 = .ok (.iconst 4, 1) := dk_7 (dk_at dksX2_isOn_0 4 rfl rfl)
theorem dX2_isOn_5 : decode cX2_isOn 5 = .ok (.iload_n 1, 1) := dk_27 (dk_at dksX2_isOn_0 5 rfl rfl)
theorem dX2_isOn_6 : decode cX2_isOn 6 = .ok (.imul, 1) := dk_104 (dk_at dksX2_isOn_0 6 rfl rfl)
theorem dX2_isOn_7 : decode cX2_isOn 7 = .ok (.iaload, 1) := dk_46 (dk_at dksX2_isOn_0 7 rfl rfl)
theorem dX2_isOn_8 : decode cX2_isOn 8 = .ok (.iload_n 2, 1) := dk_28 (dk_at dksX2_isOn_0 8 rfl rfl)
theorem dX2_isOn_9 : decode cX2_isOn 9 = .ok (.if_icmp .ne 7, 3) := dk_160 0 7 (dk_at dksX2_isOn_0 9 rfl rfl)
theorem dX2_isOn_12 : decode cX2_isOn 12 = .ok (.iconst 1, 1) := dk_4 (dk_at dksX2_isOn_0 12 rfl rfl)
theorem dX2_isOn_13 : decode cX2_isOn 13 = .ok (.goto 4, 3) := dk_167 0 4 (dk_at dksX2_isOn_0 13 rfl rfl)
theorem dX2_isOn_16 : decode cX2_isOn 16 = .ok (.iconst 0, 1) := dk_3 (dk_at dksX2_isOn_0 16 rfl rfl)
theorem dX2_isOn_17 : decode cX2_isOn 17 = .ok (.ireturn, 1) := dk_172 (dk_at dksX2_isOn_0 17 rfl rfl)
abbrev cX2_from : ByteArray := prog_10_method_12_code
def yX2_from : MethodName := ⟨RX2, "from", "(I)I"⟩
def dkwX2_from_0 : List UInt8 := [42, 180, 0, 30, 7, 27, 104, 4, 96, 46, 172]
abbrev dktX2_from_0 : List UInt8 := dkwX2_from_0 ++ []
theorem dksX2_from_0 : cX2_from.data.toList.drop 0 = dktX2_from_0 := by decide +kernel
theorem dX2_from_0 : decode cX2_from 0 = .ok (.aload_n 0, 1) := dk_42 (dk_at dksX2_from_0 0 rfl rfl)
theorem dX2_from_1 : decode cX2_from 1 = .ok (.getfield 30, 3) := dk_180 0 30 (dk_at dksX2_from_0 1 rfl rfl)
theorem dX2_from_4 : decode cX2_from 4 = .ok (.iconst 4, 1) := dk_7 (dk_at dksX2_from_0 4 rfl rfl)
theorem dX2_from_5 : decode cX2_from 5 = .ok (.iload_n 1, 1) := dk_27 (dk_at dksX2_from_0 5 rfl rfl)
theorem dX2_from_6 : decode cX2_from 6 = .ok (.imul, 1) := dk_104 (dk_at dksX2_from_0 6 rfl rfl)
theorem dX2_from_7 : decode cX2_from 7 = .ok (.iconst 1, 1) := dk_4 (dk_at dksX2_from_0 7 rfl rfl)
theorem dX2_from_8 : decode cX2_from 8 = .ok (.iadd, 1) := dk_96 (dk_at dksX2_from_0 8 rfl rfl)
theorem dX2_from_9 : decode cX2_from 9 = .ok (.iaload, 1) := dk_46 (dk_at dksX2_from_0 9 rfl rfl)
theorem dX2_from_10 : decode cX2_from 10 = .ok (.ireturn, 1) := dk_172 (dk_at dksX2_from_0 10 rfl rfl)
abbrev cX2_to : ByteArray := prog_10_method_13_code
def yX2_to : MethodName := ⟨RX2, "to", "(I)I"⟩
def dkwX2_to_0 : List UInt8 := [42, 180, 0, 30, 7, 27, 104, 5, 96, 46, 172]
abbrev dktX2_to_0 : List UInt8 := dkwX2_to_0 ++ []
theorem dksX2_to_0 : cX2_to.data.toList.drop 0 = dktX2_to_0 := by decide +kernel
theorem dX2_to_0 : decode cX2_to 0 = .ok (.aload_n 0, 1) := dk_42 (dk_at dksX2_to_0 0 rfl rfl)
theorem dX2_to_1 : decode cX2_to 1 = .ok (.getfield 30, 3) := dk_180 0 30 (dk_at dksX2_to_0 1 rfl rfl)
theorem dX2_to_4 : decode cX2_to 4 = .ok (.iconst 4, 1) := dk_7 (dk_at dksX2_to_0 4 rfl rfl)
theorem dX2_to_5 : decode cX2_to 5 = .ok (.iload_n 1, 1) := dk_27 (dk_at dksX2_to_0 5 rfl rfl)
theorem dX2_to_6 : decode cX2_to 6 = .ok (.imul, 1) := dk_104 (dk_at dksX2_to_0 6 rfl rfl)
theorem dX2_to_7 : decode cX2_to 7 = .ok (.iconst 2, 1) := dk_5 (dk_at dksX2_to_0 7 rfl rfl)
theorem dX2_to_8 : decode cX2_to 8 = .ok (.iadd, 1) := dk_96 (dk_at dksX2_to_0 8 rfl rfl)
theorem dX2_to_9 : decode cX2_to 9 = .ok (.iaload, 1) := dk_46 (dk_at dksX2_to_0 9 rfl rfl)
theorem dX2_to_10 : decode cX2_to 10 = .ok (.ireturn, 1) := dk_172 (dk_at dksX2_to_0 10 rfl rfl)
abbrev cX2_partOf : ByteArray := prog_10_method_14_code
def yX2_partOf : MethodName := ⟨RX2, "partOf", "(I)I"⟩
def dkwX2_partOf_0 : List UInt8 := [42, 180, 0, 30, 7, 27, 104, 6, 96, 46, 172]
abbrev dktX2_partOf_0 : List UInt8 := dkwX2_partOf_0 ++ []
theorem dksX2_partOf_0 : cX2_partOf.data.toList.drop 0 = dktX2_partOf_0 := by decide +kernel
theorem dX2_partOf_0 : decode cX2_partOf 0 = .ok (.aload_n 0, 1) := dk_42 (dk_at dksX2_partOf_0 0 rfl rfl)
theorem dX2_partOf_1 : decode cX2_partOf 1 = .ok (.getfield 30, 3) := dk_180 0 30 (dk_at dksX2_partOf_0 1 rfl rfl)
theorem dX2_partOf_4 : decode cX2_partOf 4 = .ok (.iconst 4, 1) := dk_7 (dk_at dksX2_partOf_0 4 rfl rfl)
theorem dX2_partOf_5 : decode cX2_partOf 5 = .ok (.iload_n 1, 1) := dk_27 (dk_at dksX2_partOf_0 5 rfl rfl)
theorem dX2_partOf_6 : decode cX2_partOf 6 = .ok (.imul, 1) := dk_104 (dk_at dksX2_partOf_0 6 rfl rfl)
theorem dX2_partOf_7 : decode cX2_partOf 7 = .ok (.iconst 3, 1) := dk_6 (dk_at dksX2_partOf_0 7 rfl rfl)
theorem dX2_partOf_8 : decode cX2_partOf 8 = .ok (.iadd, 1) := dk_96 (dk_at dksX2_partOf_0 8 rfl rfl)
theorem dX2_partOf_9 : decode cX2_partOf 9 = .ok (.iaload, 1) := dk_46 (dk_at dksX2_partOf_0 9 rfl rfl)
theorem dX2_partOf_10 : decode cX2_partOf 10 = .ok (.ireturn, 1) := dk_172 (dk_at dksX2_partOf_0 10 rfl rfl)
abbrev cX2_want : ByteArray := prog_10_method_9_code
def yX2_want : MethodName := ⟨RX2, "want", "(II)I"⟩
def dkwX2_want_0 : List UInt8 := [42, 180, 0, 16, 7, 27, 104, 28, 96, 46, 172]
abbrev dktX2_want_0 : List UInt8 := dkwX2_want_0 ++ []
theorem dksX2_want_0 : cX2_want.data.toList.drop 0 = dktX2_want_0 := by decide +kernel
theorem dX2_want_0 : decode cX2_want 0 = .ok (.aload_n 0, 1) := dk_42 (dk_at dksX2_want_0 0 rfl rfl)
theorem dX2_want_1 : decode cX2_want 1 = .ok (.getfield 16, 3) := dk_180 0 16 (dk_at dksX2_want_0 1 rfl rfl)
theorem dX2_want_4 : decode cX2_want 4 = .ok (.iconst 4, 1) := dk_7 (dk_at dksX2_want_0 4 rfl rfl)
theorem dX2_want_5 : decode cX2_want 5 = .ok (.iload_n 1, 1) := dk_27 (dk_at dksX2_want_0 5 rfl rfl)
theorem dX2_want_6 : decode cX2_want 6 = .ok (.imul, 1) := dk_104 (dk_at dksX2_want_0 6 rfl rfl)
theorem dX2_want_7 : decode cX2_want 7 = .ok (.iload_n 2, 1) := dk_28 (dk_at dksX2_want_0 7 rfl rfl)
theorem dX2_want_8 : decode cX2_want 8 = .ok (.iadd, 1) := dk_96 (dk_at dksX2_want_0 8 rfl rfl)
theorem dX2_want_9 : decode cX2_want 9 = .ok (.iaload, 1) := dk_46 (dk_at dksX2_want_0 9 rfl rfl)
theorem dX2_want_10 : decode cX2_want 10 = .ok (.ireturn, 1) := dk_172 (dk_at dksX2_want_0 10 rfl rfl)
abbrev cX2_addPart : ByteArray := prog_10_method_16_code
def yX2_addPart : MethodName := ⟨RX2, "addPart", "(IIIIZ)I"⟩
def dkwX2_addPart_6 : List UInt8 := [180, 0, 46, 4, 96, 181, 0, 46, 42, 180, 0, 46, 4, 100, 172]
abbrev dktX2_addPart_6 : List UInt8 := dkwX2_addPart_6 ++ []
def dkwX2_addPart_5 : List UInt8 := [180, 0, 46, 104, 6, 96, 21, 4, 79, 42, 180, 0, 19, 42, 180, 0, 46, 21, 5, 84, 42, 89]
abbrev dktX2_addPart_5 : List UInt8 := dkwX2_addPart_5 ++ dktX2_addPart_6
def dkwX2_addPart_4 : List UInt8 := [28, 79, 42, 180, 0, 16, 7, 42, 180, 0, 46, 104, 5, 96, 29, 79, 42, 180, 0, 16, 7, 42]
abbrev dktX2_addPart_4 : List UInt8 := dkwX2_addPart_4 ++ dktX2_addPart_5
def dkwX2_addPart_3 : List UInt8 := [42, 180, 0, 16, 7, 42, 180, 0, 46, 104, 27, 79, 42, 180, 0, 16, 7, 42, 180, 0, 46, 104, 4, 96]
abbrev dktX2_addPart_3 : List UInt8 := dkwX2_addPart_3 ++ dktX2_addPart_4
def dkwX2_addPart_2 : List UInt8 := [154, 0, 9, 42, 4, 182, 0, 49, 172, 42, 180, 0, 46, 16, 12, 160, 0, 9, 42, 5, 182, 0, 49, 172]
abbrev dktX2_addPart_2 : List UInt8 := dkwX2_addPart_2 ++ dktX2_addPart_3
def dkwX2_addPart_1 : List UInt8 := [184, 0, 42, 153, 0, 23, 29, 3, 6, 184, 0, 42, 153, 0, 14, 21, 4, 4, 16, 9, 184, 0, 42]
abbrev dktX2_addPart_1 : List UInt8 := dkwX2_addPart_1 ++ dktX2_addPart_2
def dkwX2_addPart_0 : List UInt8 := [42, 3, 181, 0, 36, 27, 16, 20, 17, 11, 184, 184, 0, 42, 153, 0, 35, 28, 16, 10, 17, 1, 144]
abbrev dktX2_addPart_0 : List UInt8 := dkwX2_addPart_0 ++ dktX2_addPart_1
theorem dksX2_addPart_0 : cX2_addPart.data.toList.drop 0 = dktX2_addPart_0 := by decide +kernel
theorem dksX2_addPart_1 : cX2_addPart.data.toList.drop 23 = dktX2_addPart_1 := dk_seg dksX2_addPart_0 23 rfl rfl
theorem dksX2_addPart_2 : cX2_addPart.data.toList.drop 46 = dktX2_addPart_2 := dk_seg dksX2_addPart_1 23 rfl rfl
theorem dksX2_addPart_3 : cX2_addPart.data.toList.drop 70 = dktX2_addPart_3 := dk_seg dksX2_addPart_2 24 rfl rfl
theorem dksX2_addPart_4 : cX2_addPart.data.toList.drop 94 = dktX2_addPart_4 := dk_seg dksX2_addPart_3 24 rfl rfl
theorem dksX2_addPart_5 : cX2_addPart.data.toList.drop 116 = dktX2_addPart_5 := dk_seg dksX2_addPart_4 22 rfl rfl
theorem dksX2_addPart_6 : cX2_addPart.data.toList.drop 138 = dktX2_addPart_6 := dk_seg dksX2_addPart_5 22 rfl rfl
theorem dX2_addPart_0 : decode cX2_addPart 0 = .ok (.aload_n 0, 1) := dk_42 (dk_at dksX2_addPart_0 0 rfl rfl)
theorem dX2_addPart_1 : decode cX2_addPart 1 = .ok (.iconst 0, 1) := dk_3 (dk_at dksX2_addPart_0 1 rfl rfl)
theorem dX2_addPart_2 : decode cX2_addPart 2 = .ok (.putfield 36, 3) := dk_181 0 36 (dk_at dksX2_addPart_0 2 rfl rfl)
theorem dX2_addPart_5 : decode cX2_addPart 5 = .ok (.iload_n 1, 1) := dk_27 (dk_at dksX2_addPart_0 5 rfl rfl)
theorem dX2_addPart_6 : decode cX2_addPart 6 = .ok (.bipush 20, 2) := dk_16 20 (dk_at dksX2_addPart_0 6 rfl rfl)
theorem dX2_addPart_8 : decode cX2_addPart 8 = .ok (.sipush 3000, 3) := dk_17 11 184 (dk_at dksX2_addPart_0 8 rfl rfl)
theorem dX2_addPart_11 : decode cX2_addPart 11 = .ok (.invokestatic 42, 3) := dk_184 0 42 (dk_at dksX2_addPart_0 11 rfl rfl)
theorem dX2_addPart_14 : decode cX2_addPart 14 = .ok (.ifCond .eq 35, 3) := dk_153 0 35 (dk_at dksX2_addPart_0 14 rfl rfl)
theorem dX2_addPart_17 : decode cX2_addPart 17 = .ok (.iload_n 2, 1) := dk_28 (dk_at dksX2_addPart_0 17 rfl rfl)
theorem dX2_addPart_18 : decode cX2_addPart 18 = .ok (.bipush 10, 2) := dk_16 10 (dk_at dksX2_addPart_0 18 rfl rfl)
theorem dX2_addPart_20 : decode cX2_addPart 20 = .ok (.sipush 400, 3) := dk_17 1 144 (dk_at dksX2_addPart_0 20 rfl rfl)
theorem dX2_addPart_23 : decode cX2_addPart 23 = .ok (.invokestatic 42, 3) := dk_184 0 42 (dk_at dksX2_addPart_1 0 rfl rfl)
theorem dX2_addPart_26 : decode cX2_addPart 26 = .ok (.ifCond .eq 23, 3) := dk_153 0 23 (dk_at dksX2_addPart_1 3 rfl rfl)
theorem dX2_addPart_29 : decode cX2_addPart 29 = .ok (.iload_n 3, 1) := dk_29 (dk_at dksX2_addPart_1 6 rfl rfl)
theorem dX2_addPart_30 : decode cX2_addPart 30 = .ok (.iconst 0, 1) := dk_3 (dk_at dksX2_addPart_1 7 rfl rfl)
theorem dX2_addPart_31 : decode cX2_addPart 31 = .ok (.iconst 3, 1) := dk_6 (dk_at dksX2_addPart_1 8 rfl rfl)
theorem dX2_addPart_32 : decode cX2_addPart 32 = .ok (.invokestatic 42, 3) := dk_184 0 42 (dk_at dksX2_addPart_1 9 rfl rfl)
theorem dX2_addPart_35 : decode cX2_addPart 35 = .ok (.ifCond .eq 14, 3) := dk_153 0 14 (dk_at dksX2_addPart_1 12 rfl rfl)
theorem dX2_addPart_38 : decode cX2_addPart 38 = .ok (.iload 4, 2) := dk_21 4 (dk_at dksX2_addPart_1 15 rfl rfl)
theorem dX2_addPart_40 : decode cX2_addPart 40 = .ok (.iconst 1, 1) := dk_4 (dk_at dksX2_addPart_1 17 rfl rfl)
theorem dX2_addPart_41 : decode cX2_addPart 41 = .ok (.bipush 9, 2) := dk_16 9 (dk_at dksX2_addPart_1 18 rfl rfl)
theorem dX2_addPart_43 : decode cX2_addPart 43 = .ok (.invokestatic 42, 3) := dk_184 0 42 (dk_at dksX2_addPart_1 20 rfl rfl)
theorem dX2_addPart_46 : decode cX2_addPart 46 = .ok (.ifCond .ne 9, 3) := dk_154 0 9 (dk_at dksX2_addPart_2 0 rfl rfl)
theorem dX2_addPart_49 : decode cX2_addPart 49 = .ok (.aload_n 0, 1) := dk_42 (dk_at dksX2_addPart_2 3 rfl rfl)
theorem dX2_addPart_50 : decode cX2_addPart 50 = .ok (.iconst 1, 1) := dk_4 (dk_at dksX2_addPart_2 4 rfl rfl)
theorem dX2_addPart_51 : decode cX2_addPart 51 = .ok (.invokevirtual 49, 3) := dk_182 0 49 (dk_at dksX2_addPart_2 5 rfl rfl)
theorem dX2_addPart_54 : decode cX2_addPart 54 = .ok (.ireturn, 1) := dk_172 (dk_at dksX2_addPart_2 8 rfl rfl)
theorem dX2_addPart_55 : decode cX2_addPart 55 = .ok (.aload_n 0, 1) := dk_42 (dk_at dksX2_addPart_2 9 rfl rfl)
theorem dX2_addPart_56 : decode cX2_addPart 56 = .ok (.getfield 46, 3) := dk_180 0 46 (dk_at dksX2_addPart_2 10 rfl rfl)
theorem dX2_addPart_59 : decode cX2_addPart 59 = .ok (.bipush 12, 2) := dk_16 12 (dk_at dksX2_addPart_2 13 rfl rfl)
theorem dX2_addPart_61 : decode cX2_addPart 61 = .ok (.if_icmp .ne 9, 3) := dk_160 0 9 (dk_at dksX2_addPart_2 15 rfl rfl)
theorem dX2_addPart_64 : decode cX2_addPart 64 = .ok (.aload_n 0, 1) := dk_42 (dk_at dksX2_addPart_2 18 rfl rfl)
theorem dX2_addPart_65 : decode cX2_addPart 65 = .ok (.iconst 2, 1) := dk_5 (dk_at dksX2_addPart_2 19 rfl rfl)
theorem dX2_addPart_66 : decode cX2_addPart 66 = .ok (.invokevirtual 49, 3) := dk_182 0 49 (dk_at dksX2_addPart_2 20 rfl rfl)
theorem dX2_addPart_69 : decode cX2_addPart 69 = .ok (.ireturn, 1) := dk_172 (dk_at dksX2_addPart_2 23 rfl rfl)
theorem dX2_addPart_70 : decode cX2_addPart 70 = .ok (.aload_n 0, 1) := dk_42 (dk_at dksX2_addPart_3 0 rfl rfl)
theorem dX2_addPart_71 : decode cX2_addPart 71 = .ok (.getfield 16, 3) := dk_180 0 16 (dk_at dksX2_addPart_3 1 rfl rfl)
theorem dX2_addPart_74 : decode cX2_addPart 74 = .ok (.iconst 4, 1) := dk_7 (dk_at dksX2_addPart_3 4 rfl rfl)
theorem dX2_addPart_75 : decode cX2_addPart 75 = .ok (.aload_n 0, 1) := dk_42 (dk_at dksX2_addPart_3 5 rfl rfl)
theorem dX2_addPart_76 : decode cX2_addPart 76 = .ok (.getfield 46, 3) := dk_180 0 46 (dk_at dksX2_addPart_3 6 rfl rfl)
theorem dX2_addPart_79 : decode cX2_addPart 79 = .ok (.imul, 1) := dk_104 (dk_at dksX2_addPart_3 9 rfl rfl)
theorem dX2_addPart_80 : decode cX2_addPart 80 = .ok (.iload_n 1, 1) := dk_27 (dk_at dksX2_addPart_3 10 rfl rfl)
theorem dX2_addPart_81 : decode cX2_addPart 81 = .ok (.iastore, 1) := dk_79 (dk_at dksX2_addPart_3 11 rfl rfl)
theorem dX2_addPart_82 : decode cX2_addPart 82 = .ok (.aload_n 0, 1) := dk_42 (dk_at dksX2_addPart_3 12 rfl rfl)
theorem dX2_addPart_83 : decode cX2_addPart 83 = .ok (.getfield 16, 3) := dk_180 0 16 (dk_at dksX2_addPart_3 13 rfl rfl)
theorem dX2_addPart_86 : decode cX2_addPart 86 = .ok (.iconst 4, 1) := dk_7 (dk_at dksX2_addPart_3 16 rfl rfl)
theorem dX2_addPart_87 : decode cX2_addPart 87 = .ok (.aload_n 0, 1) := dk_42 (dk_at dksX2_addPart_3 17 rfl rfl)
theorem dX2_addPart_88 : decode cX2_addPart 88 = .ok (.getfield 46, 3) := dk_180 0 46 (dk_at dksX2_addPart_3 18 rfl rfl)
theorem dX2_addPart_91 : decode cX2_addPart 91 = .ok (.imul, 1) := dk_104 (dk_at dksX2_addPart_3 21 rfl rfl)
theorem dX2_addPart_92 : decode cX2_addPart 92 = .ok (.iconst 1, 1) := dk_4 (dk_at dksX2_addPart_3 22 rfl rfl)
theorem dX2_addPart_93 : decode cX2_addPart 93 = .ok (.iadd, 1) := dk_96 (dk_at dksX2_addPart_3 23 rfl rfl)
theorem dX2_addPart_94 : decode cX2_addPart 94 = .ok (.iload_n 2, 1) := dk_28 (dk_at dksX2_addPart_4 0 rfl rfl)
theorem dX2_addPart_95 : decode cX2_addPart 95 = .ok (.iastore, 1) := dk_79 (dk_at dksX2_addPart_4 1 rfl rfl)
theorem dX2_addPart_96 : decode cX2_addPart 96 = .ok (.aload_n 0, 1) := dk_42 (dk_at dksX2_addPart_4 2 rfl rfl)
theorem dX2_addPart_97 : decode cX2_addPart 97 = .ok (.getfield 16, 3) := dk_180 0 16 (dk_at dksX2_addPart_4 3 rfl rfl)
theorem dX2_addPart_100 : decode cX2_addPart 100 = .ok (.iconst 4, 1) := dk_7 (dk_at dksX2_addPart_4 6 rfl rfl)
theorem dX2_addPart_101 : decode cX2_addPart 101 = .ok (.aload_n 0, 1) := dk_42 (dk_at dksX2_addPart_4 7 rfl rfl)
theorem dX2_addPart_102 : decode cX2_addPart 102 = .ok (.getfield 46, 3) := dk_180 0 46 (dk_at dksX2_addPart_4 8 rfl rfl)
theorem dX2_addPart_105 : decode cX2_addPart 105 = .ok (.imul, 1) := dk_104 (dk_at dksX2_addPart_4 11 rfl rfl)
theorem dX2_addPart_106 : decode cX2_addPart 106 = .ok (.iconst 2, 1) := dk_5 (dk_at dksX2_addPart_4 12 rfl rfl)
theorem dX2_addPart_107 : decode cX2_addPart 107 = .ok (.iadd, 1) := dk_96 (dk_at dksX2_addPart_4 13 rfl rfl)
theorem dX2_addPart_108 : decode cX2_addPart 108 = .ok (.iload_n 3, 1) := dk_29 (dk_at dksX2_addPart_4 14 rfl rfl)
theorem dX2_addPart_109 : decode cX2_addPart 109 = .ok (.iastore, 1) := dk_79 (dk_at dksX2_addPart_4 15 rfl rfl)
theorem dX2_addPart_110 : decode cX2_addPart 110 = .ok (.aload_n 0, 1) := dk_42 (dk_at dksX2_addPart_4 16 rfl rfl)
theorem dX2_addPart_111 : decode cX2_addPart 111 = .ok (.getfield 16, 3) := dk_180 0 16 (dk_at dksX2_addPart_4 17 rfl rfl)
theorem dX2_addPart_114 : decode cX2_addPart 114 = .ok (.iconst 4, 1) := dk_7 (dk_at dksX2_addPart_4 20 rfl rfl)
theorem dX2_addPart_115 : decode cX2_addPart 115 = .ok (.aload_n 0, 1) := dk_42 (dk_at dksX2_addPart_4 21 rfl rfl)
theorem dX2_addPart_116 : decode cX2_addPart 116 = .ok (.getfield 46, 3) := dk_180 0 46 (dk_at dksX2_addPart_5 0 rfl rfl)
theorem dX2_addPart_119 : decode cX2_addPart 119 = .ok (.imul, 1) := dk_104 (dk_at dksX2_addPart_5 3 rfl rfl)
theorem dX2_addPart_120 : decode cX2_addPart 120 = .ok (.iconst 3, 1) := dk_6 (dk_at dksX2_addPart_5 4 rfl rfl)
theorem dX2_addPart_121 : decode cX2_addPart 121 = .ok (.iadd, 1) := dk_96 (dk_at dksX2_addPart_5 5 rfl rfl)
theorem dX2_addPart_122 : decode cX2_addPart 122 = .ok (.iload 4, 2) := dk_21 4 (dk_at dksX2_addPart_5 6 rfl rfl)
theorem dX2_addPart_124 : decode cX2_addPart 124 = .ok (.iastore, 1) := dk_79 (dk_at dksX2_addPart_5 8 rfl rfl)
theorem dX2_addPart_125 : decode cX2_addPart 125 = .ok (.aload_n 0, 1) := dk_42 (dk_at dksX2_addPart_5 9 rfl rfl)
theorem dX2_addPart_126 : decode cX2_addPart 126 = .ok (.getfield 19, 3) := dk_180 0 19 (dk_at dksX2_addPart_5 10 rfl rfl)
theorem dX2_addPart_129 : decode cX2_addPart 129 = .ok (.aload_n 0, 1) := dk_42 (dk_at dksX2_addPart_5 13 rfl rfl)
theorem dX2_addPart_130 : decode cX2_addPart 130 = .ok (.getfield 46, 3) := dk_180 0 46 (dk_at dksX2_addPart_5 14 rfl rfl)
theorem dX2_addPart_133 : decode cX2_addPart 133 = .ok (.iload 5, 2) := dk_21 5 (dk_at dksX2_addPart_5 17 rfl rfl)
theorem dX2_addPart_135 : decode cX2_addPart 135 = .ok (.bastore, 1) := dk_84 (dk_at dksX2_addPart_5 19 rfl rfl)
theorem dX2_addPart_136 : decode cX2_addPart 136 = .ok (.aload_n 0, 1) := dk_42 (dk_at dksX2_addPart_5 20 rfl rfl)
theorem dX2_addPart_137 : decode cX2_addPart 137 = .ok (.dup, 1) := dk_89 (dk_at dksX2_addPart_5 21 rfl rfl)
theorem dX2_addPart_138 : decode cX2_addPart 138 = .ok (.getfield 46, 3) := dk_180 0 46 (dk_at dksX2_addPart_6 0 rfl rfl)
theorem dX2_addPart_141 : decode cX2_addPart 141 = .ok (.iconst 1, 1) := dk_4 (dk_at dksX2_addPart_6 3 rfl rfl)
theorem dX2_addPart_142 : decode cX2_addPart 142 = .ok (.iadd, 1) := dk_96 (dk_at dksX2_addPart_6 4 rfl rfl)
theorem dX2_addPart_143 : decode cX2_addPart 143 = .ok (.putfield 46, 3) := dk_181 0 46 (dk_at dksX2_addPart_6 5 rfl rfl)
theorem dX2_addPart_146 : decode cX2_addPart 146 = .ok (.aload_n 0, 1) := dk_42 (dk_at dksX2_addPart_6 8 rfl rfl)
theorem dX2_addPart_147 : decode cX2_addPart 147 = .ok (.getfield 46, 3) := dk_180 0 46 (dk_at dksX2_addPart_6 9 rfl rfl)
theorem dX2_addPart_150 : decode cX2_addPart 150 = .ok (.iconst 1, 1) := dk_4 (dk_at dksX2_addPart_6 12 rfl rfl)
theorem dX2_addPart_151 : decode cX2_addPart 151 = .ok (.isub, 1) := dk_100 (dk_at dksX2_addPart_6 13 rfl rfl)
theorem dX2_addPart_152 : decode cX2_addPart 152 = .ok (.ireturn, 1) := dk_172 (dk_at dksX2_addPart_6 14 rfl rfl)
abbrev cX2_setSaw : ByteArray := prog_10_method_17_code
def yX2_setSaw : MethodName := ⟨RX2, "setSaw", "(I)I"⟩
def dkwX2_setSaw_1 : List UInt8 := [180, 0, 63, 158, 0, 9, 42, 5, 182, 0, 49, 172, 42, 180, 0, 23, 61, 42, 27, 181, 0, 23, 28, 172]
abbrev dktX2_setSaw_1 : List UInt8 := dkwX2_setSaw_1 ++ []
def dkwX2_setSaw_0 : List UInt8 := [42, 3, 181, 0, 36, 27, 3, 16, 10, 184, 0, 42, 154, 0, 9, 42, 4, 182, 0, 49, 172, 42]
abbrev dktX2_setSaw_0 : List UInt8 := dkwX2_setSaw_0 ++ dktX2_setSaw_1
theorem dksX2_setSaw_0 : cX2_setSaw.data.toList.drop 0 = dktX2_setSaw_0 := by decide +kernel
theorem dksX2_setSaw_1 : cX2_setSaw.data.toList.drop 22 = dktX2_setSaw_1 := dk_seg dksX2_setSaw_0 22 rfl rfl
theorem dX2_setSaw_0 : decode cX2_setSaw 0 = .ok (.aload_n 0, 1) := dk_42 (dk_at dksX2_setSaw_0 0 rfl rfl)
theorem dX2_setSaw_1 : decode cX2_setSaw 1 = .ok (.iconst 0, 1) := dk_3 (dk_at dksX2_setSaw_0 1 rfl rfl)
theorem dX2_setSaw_2 : decode cX2_setSaw 2 = .ok (.putfield 36, 3) := dk_181 0 36 (dk_at dksX2_setSaw_0 2 rfl rfl)
theorem dX2_setSaw_5 : decode cX2_setSaw 5 = .ok (.iload_n 1, 1) := dk_27 (dk_at dksX2_setSaw_0 5 rfl rfl)
theorem dX2_setSaw_6 : decode cX2_setSaw 6 = .ok (.iconst 0, 1) := dk_3 (dk_at dksX2_setSaw_0 6 rfl rfl)
theorem dX2_setSaw_7 : decode cX2_setSaw 7 = .ok (.bipush 10, 2) := dk_16 10 (dk_at dksX2_setSaw_0 7 rfl rfl)
theorem dX2_setSaw_9 : decode cX2_setSaw 9 = .ok (.invokestatic 42, 3) := dk_184 0 42 (dk_at dksX2_setSaw_0 9 rfl rfl)
theorem dX2_setSaw_12 : decode cX2_setSaw 12 = .ok (.ifCond .ne 9, 3) := dk_154 0 9 (dk_at dksX2_setSaw_0 12 rfl rfl)
theorem dX2_setSaw_15 : decode cX2_setSaw 15 = .ok (.aload_n 0, 1) := dk_42 (dk_at dksX2_setSaw_0 15 rfl rfl)
theorem dX2_setSaw_16 : decode cX2_setSaw 16 = .ok (.iconst 1, 1) := dk_4 (dk_at dksX2_setSaw_0 16 rfl rfl)
theorem dX2_setSaw_17 : decode cX2_setSaw 17 = .ok (.invokevirtual 49, 3) := dk_182 0 49 (dk_at dksX2_setSaw_0 17 rfl rfl)
theorem dX2_setSaw_20 : decode cX2_setSaw 20 = .ok (.ireturn, 1) := dk_172 (dk_at dksX2_setSaw_0 20 rfl rfl)
theorem dX2_setSaw_21 : decode cX2_setSaw 21 = .ok (.aload_n 0, 1) := dk_42 (dk_at dksX2_setSaw_0 21 rfl rfl)
theorem dX2_setSaw_22 : decode cX2_setSaw 22 = .ok (.getfield 63, 3) := dk_180 0 63 (dk_at dksX2_setSaw_1 0 rfl rfl)
theorem dX2_setSaw_25 : decode cX2_setSaw 25 = .ok (.ifCond .le 9, 3) := dk_158 0 9 (dk_at dksX2_setSaw_1 3 rfl rfl)
theorem dX2_setSaw_28 : decode cX2_setSaw 28 = .ok (.aload_n 0, 1) := dk_42 (dk_at dksX2_setSaw_1 6 rfl rfl)
theorem dX2_setSaw_29 : decode cX2_setSaw 29 = .ok (.iconst 2, 1) := dk_5 (dk_at dksX2_setSaw_1 7 rfl rfl)
theorem dX2_setSaw_30 : decode cX2_setSaw 30 = .ok (.invokevirtual 49, 3) := dk_182 0 49 (dk_at dksX2_setSaw_1 8 rfl rfl)
theorem dX2_setSaw_33 : decode cX2_setSaw 33 = .ok (.ireturn, 1) := dk_172 (dk_at dksX2_setSaw_1 11 rfl rfl)
theorem dX2_setSaw_34 : decode cX2_setSaw 34 = .ok (.aload_n 0, 1) := dk_42 (dk_at dksX2_setSaw_1 12 rfl rfl)
theorem dX2_setSaw_35 : decode cX2_setSaw 35 = .ok (.getfield 23, 3) := dk_180 0 23 (dk_at dksX2_setSaw_1 13 rfl rfl)
theorem dX2_setSaw_38 : decode cX2_setSaw 38 = .ok (.istore_n 2, 1) := dk_61 (dk_at dksX2_setSaw_1 16 rfl rfl)
theorem dX2_setSaw_39 : decode cX2_setSaw 39 = .ok (.aload_n 0, 1) := dk_42 (dk_at dksX2_setSaw_1 17 rfl rfl)
theorem dX2_setSaw_40 : decode cX2_setSaw 40 = .ok (.iload_n 1, 1) := dk_27 (dk_at dksX2_setSaw_1 18 rfl rfl)
theorem dX2_setSaw_41 : decode cX2_setSaw 41 = .ok (.putfield 23, 3) := dk_181 0 23 (dk_at dksX2_setSaw_1 19 rfl rfl)
theorem dX2_setSaw_44 : decode cX2_setSaw 44 = .ok (.iload_n 2, 1) := dk_28 (dk_at dksX2_setSaw_1 22 rfl rfl)
theorem dX2_setSaw_45 : decode cX2_setSaw 45 = .ok (.ireturn, 1) := dk_172 (dk_at dksX2_setSaw_1 23 rfl rfl)
abbrev cX2_setJoint : ByteArray := prog_10_method_18_code
def yX2_setJoint : MethodName := ⟨RX2, "setJoint", "(I)I"⟩
def dkwX2_setJoint_1 : List UInt8 := [180, 0, 27, 61, 42, 27, 181, 0, 27, 28, 172]
abbrev dktX2_setJoint_1 : List UInt8 := dkwX2_setJoint_1 ++ []
def dkwX2_setJoint_0 : List UInt8 := [42, 3, 181, 0, 36, 27, 3, 16, 50, 184, 0, 42, 154, 0, 9, 42, 4, 182, 0, 49, 172, 42]
abbrev dktX2_setJoint_0 : List UInt8 := dkwX2_setJoint_0 ++ dktX2_setJoint_1
theorem dksX2_setJoint_0 : cX2_setJoint.data.toList.drop 0 = dktX2_setJoint_0 := by decide +kernel
theorem dksX2_setJoint_1 : cX2_setJoint.data.toList.drop 22 = dktX2_setJoint_1 := dk_seg dksX2_setJoint_0 22 rfl rfl
theorem dX2_setJoint_0 : decode cX2_setJoint 0 = .ok (.aload_n 0, 1) := dk_42 (dk_at dksX2_setJoint_0 0 rfl rfl)
theorem dX2_setJoint_1 : decode cX2_setJoint 1 = .ok (.iconst 0, 1) := dk_3 (dk_at dksX2_setJoint_0 1 rfl rfl)
theorem dX2_setJoint_2 : decode cX2_setJoint 2 = .ok (.putfield 36, 3) := dk_181 0 36 (dk_at dksX2_setJoint_0 2 rfl rfl)
theorem dX2_setJoint_5 : decode cX2_setJoint 5 = .ok (.iload_n 1, 1) := dk_27 (dk_at dksX2_setJoint_0 5 rfl rfl)
theorem dX2_setJoint_6 : decode cX2_setJoint 6 = .ok (.iconst 0, 1) := dk_3 (dk_at dksX2_setJoint_0 6 rfl rfl)
theorem dX2_setJoint_7 : decode cX2_setJoint 7 = .ok (.bipush 50, 2) := dk_16 50 (dk_at dksX2_setJoint_0 7 rfl rfl)
theorem dX2_setJoint_9 : decode cX2_setJoint 9 = .ok (.invokestatic 42, 3) := dk_184 0 42 (dk_at dksX2_setJoint_0 9 rfl rfl)
theorem dX2_setJoint_12 : decode cX2_setJoint 12 = .ok (.ifCond .ne 9, 3) := dk_154 0 9 (dk_at dksX2_setJoint_0 12 rfl rfl)
theorem dX2_setJoint_15 : decode cX2_setJoint 15 = .ok (.aload_n 0, 1) := dk_42 (dk_at dksX2_setJoint_0 15 rfl rfl)
theorem dX2_setJoint_16 : decode cX2_setJoint 16 = .ok (.iconst 1, 1) := dk_4 (dk_at dksX2_setJoint_0 16 rfl rfl)
theorem dX2_setJoint_17 : decode cX2_setJoint 17 = .ok (.invokevirtual 49, 3) := dk_182 0 49 (dk_at dksX2_setJoint_0 17 rfl rfl)
theorem dX2_setJoint_20 : decode cX2_setJoint 20 = .ok (.ireturn, 1) := dk_172 (dk_at dksX2_setJoint_0 20 rfl rfl)
theorem dX2_setJoint_21 : decode cX2_setJoint 21 = .ok (.aload_n 0, 1) := dk_42 (dk_at dksX2_setJoint_0 21 rfl rfl)
theorem dX2_setJoint_22 : decode cX2_setJoint 22 = .ok (.getfield 27, 3) := dk_180 0 27 (dk_at dksX2_setJoint_1 0 rfl rfl)
theorem dX2_setJoint_25 : decode cX2_setJoint 25 = .ok (.istore_n 2, 1) := dk_61 (dk_at dksX2_setJoint_1 3 rfl rfl)
theorem dX2_setJoint_26 : decode cX2_setJoint 26 = .ok (.aload_n 0, 1) := dk_42 (dk_at dksX2_setJoint_1 4 rfl rfl)
theorem dX2_setJoint_27 : decode cX2_setJoint 27 = .ok (.iload_n 1, 1) := dk_27 (dk_at dksX2_setJoint_1 5 rfl rfl)
theorem dX2_setJoint_28 : decode cX2_setJoint 28 = .ok (.putfield 27, 3) := dk_181 0 27 (dk_at dksX2_setJoint_1 6 rfl rfl)
theorem dX2_setJoint_31 : decode cX2_setJoint 31 = .ok (.iload_n 2, 1) := dk_28 (dk_at dksX2_setJoint_1 9 rfl rfl)
theorem dX2_setJoint_32 : decode cX2_setJoint 32 = .ok (.ireturn, 1) := dk_172 (dk_at dksX2_setJoint_1 10 rfl rfl)
abbrev cX2_grade : ByteArray := prog_10_method_20_code
def yX2_grade : MethodName := ⟨RX2, "grade", "(II)I"⟩
def dkwX2_grade_1 : List UInt8 := [184, 0, 42, 153, 0, 12, 42, 27, 28, 182, 0, 88, 167, 0, 8, 42, 4, 182, 0, 49, 172]
abbrev dktX2_grade_1 : List UInt8 := dkwX2_grade_1 ++ []
def dkwX2_grade_0 : List UInt8 := [42, 3, 181, 0, 36, 42, 27, 182, 0, 53, 153, 0, 27, 28, 3, 42, 27, 182, 0, 57, 4, 100]
abbrev dktX2_grade_0 : List UInt8 := dkwX2_grade_0 ++ dktX2_grade_1
theorem dksX2_grade_0 : cX2_grade.data.toList.drop 0 = dktX2_grade_0 := by decide +kernel
theorem dksX2_grade_1 : cX2_grade.data.toList.drop 22 = dktX2_grade_1 := dk_seg dksX2_grade_0 22 rfl rfl
theorem dX2_grade_0 : decode cX2_grade 0 = .ok (.aload_n 0, 1) := dk_42 (dk_at dksX2_grade_0 0 rfl rfl)
theorem dX2_grade_1 : decode cX2_grade 1 = .ok (.iconst 0, 1) := dk_3 (dk_at dksX2_grade_0 1 rfl rfl)
theorem dX2_grade_2 : decode cX2_grade 2 = .ok (.putfield 36, 3) := dk_181 0 36 (dk_at dksX2_grade_0 2 rfl rfl)
theorem dX2_grade_5 : decode cX2_grade 5 = .ok (.aload_n 0, 1) := dk_42 (dk_at dksX2_grade_0 5 rfl rfl)
theorem dX2_grade_6 : decode cX2_grade 6 = .ok (.iload_n 1, 1) := dk_27 (dk_at dksX2_grade_0 6 rfl rfl)
theorem dX2_grade_7 : decode cX2_grade 7 = .ok (.invokevirtual 53, 3) := dk_182 0 53 (dk_at dksX2_grade_0 7 rfl rfl)
theorem dX2_grade_10 : decode cX2_grade 10 = .ok (.ifCond .eq 27, 3) := dk_153 0 27 (dk_at dksX2_grade_0 10 rfl rfl)
theorem dX2_grade_13 : decode cX2_grade 13 = .ok (.iload_n 2, 1) := dk_28 (dk_at dksX2_grade_0 13 rfl rfl)
theorem dX2_grade_14 : decode cX2_grade 14 = .ok (.iconst 0, 1) := dk_3 (dk_at dksX2_grade_0 14 rfl rfl)
theorem dX2_grade_15 : decode cX2_grade 15 = .ok (.aload_n 0, 1) := dk_42 (dk_at dksX2_grade_0 15 rfl rfl)
theorem dX2_grade_16 : decode cX2_grade 16 = .ok (.iload_n 1, 1) := dk_27 (dk_at dksX2_grade_0 16 rfl rfl)
theorem dX2_grade_17 : decode cX2_grade 17 = .ok (.invokevirtual 57, 3) := dk_182 0 57 (dk_at dksX2_grade_0 17 rfl rfl)
theorem dX2_grade_20 : decode cX2_grade 20 = .ok (.iconst 1, 1) := dk_4 (dk_at dksX2_grade_0 20 rfl rfl)
theorem dX2_grade_21 : decode cX2_grade 21 = .ok (.isub, 1) := dk_100 (dk_at dksX2_grade_0 21 rfl rfl)
theorem dX2_grade_22 : decode cX2_grade 22 = .ok (.invokestatic 42, 3) := dk_184 0 42 (dk_at dksX2_grade_1 0 rfl rfl)
theorem dX2_grade_25 : decode cX2_grade 25 = .ok (.ifCond .eq 12, 3) := dk_153 0 12 (dk_at dksX2_grade_1 3 rfl rfl)
theorem dX2_grade_28 : decode cX2_grade 28 = .ok (.aload_n 0, 1) := dk_42 (dk_at dksX2_grade_1 6 rfl rfl)
theorem dX2_grade_29 : decode cX2_grade 29 = .ok (.iload_n 1, 1) := dk_27 (dk_at dksX2_grade_1 7 rfl rfl)
theorem dX2_grade_30 : decode cX2_grade 30 = .ok (.iload_n 2, 1) := dk_28 (dk_at dksX2_grade_1 8 rfl rfl)
theorem dX2_grade_31 : decode cX2_grade 31 = .ok (.invokevirtual 88, 3) := dk_182 0 88 (dk_at dksX2_grade_1 9 rfl rfl)
theorem dX2_grade_34 : decode cX2_grade 34 = .ok (.goto 8, 3) := dk_167 0 8 (dk_at dksX2_grade_1 12 rfl rfl)
theorem dX2_grade_37 : decode cX2_grade 37 = .ok (.aload_n 0, 1) := dk_42 (dk_at dksX2_grade_1 15 rfl rfl)
theorem dX2_grade_38 : decode cX2_grade 38 = .ok (.iconst 1, 1) := dk_4 (dk_at dksX2_grade_1 16 rfl rfl)
theorem dX2_grade_39 : decode cX2_grade 39 = .ok (.invokevirtual 49, 3) := dk_182 0 49 (dk_at dksX2_grade_1 17 rfl rfl)
theorem dX2_grade_42 : decode cX2_grade 42 = .ok (.ireturn, 1) := dk_172 (dk_at dksX2_grade_1 20 rfl rfl)
abbrev cX2_gradeAt : ByteArray := prog_10_method_19_code
def yX2_gradeAt : MethodName := ⟨RX2, "gradeAt", "(II)I"⟩
def dkwX2_gradeAt_3 : List UInt8 := [7, 21, 4, 104, 6, 96, 46, 184, 0, 83, 62, 132, 4, 1, 167, 255, 184, 29, 172]
abbrev dktX2_gradeAt_3 : List UInt8 := dkwX2_gradeAt_3 ++ []
def dkwX2_gradeAt_2 : List UInt8 := [42, 180, 0, 13, 7, 21, 4, 104, 5, 96, 46, 4, 100, 184, 0, 42, 153, 0, 19, 29, 42, 180, 0, 13]
abbrev dktX2_gradeAt_2 : List UInt8 := dkwX2_gradeAt_2 ++ dktX2_gradeAt_3
def dkwX2_gradeAt_1 : List UInt8 := [180, 0, 13, 7, 21, 4, 104, 46, 27, 160, 0, 50, 28, 42, 180, 0, 13, 7, 21, 4, 104, 4, 96, 46]
abbrev dktX2_gradeAt_1 : List UInt8 := dkwX2_gradeAt_1 ++ dktX2_gradeAt_2
def dkwX2_gradeAt_0 : List UInt8 := [42, 180, 0, 9, 6, 27, 104, 5, 96, 46, 62, 3, 54, 4, 21, 4, 42, 180, 0, 60, 162, 0, 69, 42]
abbrev dktX2_gradeAt_0 : List UInt8 := dkwX2_gradeAt_0 ++ dktX2_gradeAt_1
theorem dksX2_gradeAt_0 : cX2_gradeAt.data.toList.drop 0 = dktX2_gradeAt_0 := by decide +kernel
theorem dksX2_gradeAt_1 : cX2_gradeAt.data.toList.drop 24 = dktX2_gradeAt_1 := dk_seg dksX2_gradeAt_0 24 rfl rfl
theorem dksX2_gradeAt_2 : cX2_gradeAt.data.toList.drop 48 = dktX2_gradeAt_2 := dk_seg dksX2_gradeAt_1 24 rfl rfl
theorem dksX2_gradeAt_3 : cX2_gradeAt.data.toList.drop 72 = dktX2_gradeAt_3 := dk_seg dksX2_gradeAt_2 24 rfl rfl
theorem dX2_gradeAt_0 : decode cX2_gradeAt 0 = .ok (.aload_n 0, 1) := dk_42 (dk_at dksX2_gradeAt_0 0 rfl rfl)
theorem dX2_gradeAt_1 : decode cX2_gradeAt 1 = .ok (.getfield 9, 3) := dk_180 0 9 (dk_at dksX2_gradeAt_0 1 rfl rfl)
theorem dX2_gradeAt_4 : decode cX2_gradeAt 4 = .ok (.iconst 3, 1) := dk_6 (dk_at dksX2_gradeAt_0 4 rfl rfl)
theorem dX2_gradeAt_5 : decode cX2_gradeAt 5 = .ok (.iload_n 1, 1) := dk_27 (dk_at dksX2_gradeAt_0 5 rfl rfl)
theorem dX2_gradeAt_6 : decode cX2_gradeAt 6 = .ok (.imul, 1) := dk_104 (dk_at dksX2_gradeAt_0 6 rfl rfl)
theorem dX2_gradeAt_7 : decode cX2_gradeAt 7 = .ok (.iconst 2, 1) := dk_5 (dk_at dksX2_gradeAt_0 7 rfl rfl)
theorem dX2_gradeAt_8 : decode cX2_gradeAt 8 = .ok (.iadd, 1) := dk_96 (dk_at dksX2_gradeAt_0 8 rfl rfl)
theorem dX2_gradeAt_9 : decode cX2_gradeAt 9 = .ok (.iaload, 1) := dk_46 (dk_at dksX2_gradeAt_0 9 rfl rfl)
theorem dX2_gradeAt_10 : decode cX2_gradeAt 10 = .ok (.istore_n 3, 1) := dk_62 (dk_at dksX2_gradeAt_0 10 rfl rfl)
theorem dX2_gradeAt_11 : decode cX2_gradeAt 11 = .ok (.iconst 0, 1) := dk_3 (dk_at dksX2_gradeAt_0 11 rfl rfl)
theorem dX2_gradeAt_12 : decode cX2_gradeAt 12 = .ok (.istore 4, 2) := dk_54 4 (dk_at dksX2_gradeAt_0 12 rfl rfl)
theorem dX2_gradeAt_14 : decode cX2_gradeAt 14 = .ok (.iload 4, 2) := dk_21 4 (dk_at dksX2_gradeAt_0 14 rfl rfl)
theorem dX2_gradeAt_16 : decode cX2_gradeAt 16 = .ok (.aload_n 0, 1) := dk_42 (dk_at dksX2_gradeAt_0 16 rfl rfl)
theorem dX2_gradeAt_17 : decode cX2_gradeAt 17 = .ok (.getfield 60, 3) := dk_180 0 60 (dk_at dksX2_gradeAt_0 17 rfl rfl)
theorem dX2_gradeAt_20 : decode cX2_gradeAt 20 = .ok (.if_icmp .ge 69, 3) := dk_162 0 69 (dk_at dksX2_gradeAt_0 20 rfl rfl)
theorem dX2_gradeAt_23 : decode cX2_gradeAt 23 = .ok (.aload_n 0, 1) := dk_42 (dk_at dksX2_gradeAt_0 23 rfl rfl)
theorem dX2_gradeAt_24 : decode cX2_gradeAt 24 = .ok (.getfield 13, 3) := dk_180 0 13 (dk_at dksX2_gradeAt_1 0 rfl rfl)
theorem dX2_gradeAt_27 : decode cX2_gradeAt 27 = .ok (.iconst 4, 1) := dk_7 (dk_at dksX2_gradeAt_1 3 rfl rfl)
theorem dX2_gradeAt_28 : decode cX2_gradeAt 28 = .ok (.iload 4, 2) := dk_21 4 (dk_at dksX2_gradeAt_1 4 rfl rfl)
theorem dX2_gradeAt_30 : decode cX2_gradeAt 30 = .ok (.imul, 1) := dk_104 (dk_at dksX2_gradeAt_1 6 rfl rfl)
theorem dX2_gradeAt_31 : decode cX2_gradeAt 31 = .ok (.iaload, 1) := dk_46 (dk_at dksX2_gradeAt_1 7 rfl rfl)
theorem dX2_gradeAt_32 : decode cX2_gradeAt 32 = .ok (.iload_n 1, 1) := dk_27 (dk_at dksX2_gradeAt_1 8 rfl rfl)
theorem dX2_gradeAt_33 : decode cX2_gradeAt 33 = .ok (.if_icmp .ne 50, 3) := dk_160 0 50 (dk_at dksX2_gradeAt_1 9 rfl rfl)
theorem dX2_gradeAt_36 : decode cX2_gradeAt 36 = .ok (.iload_n 2, 1) := dk_28 (dk_at dksX2_gradeAt_1 12 rfl rfl)
theorem dX2_gradeAt_37 : decode cX2_gradeAt 37 = .ok (.aload_n 0, 1) := dk_42 (dk_at dksX2_gradeAt_1 13 rfl rfl)
theorem dX2_gradeAt_38 : decode cX2_gradeAt 38 = .ok (.getfield 13, 3) := dk_180 0 13 (dk_at dksX2_gradeAt_1 14 rfl rfl)
theorem dX2_gradeAt_41 : decode cX2_gradeAt 41 = .ok (.iconst 4, 1) := dk_7 (dk_at dksX2_gradeAt_1 17 rfl rfl)
theorem dX2_gradeAt_42 : decode cX2_gradeAt 42 = .ok (.iload 4, 2) := dk_21 4 (dk_at dksX2_gradeAt_1 18 rfl rfl)
theorem dX2_gradeAt_44 : decode cX2_gradeAt 44 = .ok (.imul, 1) := dk_104 (dk_at dksX2_gradeAt_1 20 rfl rfl)
theorem dX2_gradeAt_45 : decode cX2_gradeAt 45 = .ok (.iconst 1, 1) := dk_4 (dk_at dksX2_gradeAt_1 21 rfl rfl)
theorem dX2_gradeAt_46 : decode cX2_gradeAt 46 = .ok (.iadd, 1) := dk_96 (dk_at dksX2_gradeAt_1 22 rfl rfl)
theorem dX2_gradeAt_47 : decode cX2_gradeAt 47 = .ok (.iaload, 1) := dk_46 (dk_at dksX2_gradeAt_1 23 rfl rfl)
theorem dX2_gradeAt_48 : decode cX2_gradeAt 48 = .ok (.aload_n 0, 1) := dk_42 (dk_at dksX2_gradeAt_2 0 rfl rfl)
theorem dX2_gradeAt_49 : decode cX2_gradeAt 49 = .ok (.getfield 13, 3) := dk_180 0 13 (dk_at dksX2_gradeAt_2 1 rfl rfl)
theorem dX2_gradeAt_52 : decode cX2_gradeAt 52 = .ok (.iconst 4, 1) := dk_7 (dk_at dksX2_gradeAt_2 4 rfl rfl)
theorem dX2_gradeAt_53 : decode cX2_gradeAt 53 = .ok (.iload 4, 2) := dk_21 4 (dk_at dksX2_gradeAt_2 5 rfl rfl)
theorem dX2_gradeAt_55 : decode cX2_gradeAt 55 = .ok (.imul, 1) := dk_104 (dk_at dksX2_gradeAt_2 7 rfl rfl)
theorem dX2_gradeAt_56 : decode cX2_gradeAt 56 = .ok (.iconst 2, 1) := dk_5 (dk_at dksX2_gradeAt_2 8 rfl rfl)
theorem dX2_gradeAt_57 : decode cX2_gradeAt 57 = .ok (.iadd, 1) := dk_96 (dk_at dksX2_gradeAt_2 9 rfl rfl)
theorem dX2_gradeAt_58 : decode cX2_gradeAt 58 = .ok (.iaload, 1) := dk_46 (dk_at dksX2_gradeAt_2 10 rfl rfl)
theorem dX2_gradeAt_59 : decode cX2_gradeAt 59 = .ok (.iconst 1, 1) := dk_4 (dk_at dksX2_gradeAt_2 11 rfl rfl)
theorem dX2_gradeAt_60 : decode cX2_gradeAt 60 = .ok (.isub, 1) := dk_100 (dk_at dksX2_gradeAt_2 12 rfl rfl)
theorem dX2_gradeAt_61 : decode cX2_gradeAt 61 = .ok (.invokestatic 42, 3) := dk_184 0 42 (dk_at dksX2_gradeAt_2 13 rfl rfl)
theorem dX2_gradeAt_64 : decode cX2_gradeAt 64 = .ok (.ifCond .eq 19, 3) := dk_153 0 19 (dk_at dksX2_gradeAt_2 16 rfl rfl)
theorem dX2_gradeAt_67 : decode cX2_gradeAt 67 = .ok (.iload_n 3, 1) := dk_29 (dk_at dksX2_gradeAt_2 19 rfl rfl)
theorem dX2_gradeAt_68 : decode cX2_gradeAt 68 = .ok (.aload_n 0, 1) := dk_42 (dk_at dksX2_gradeAt_2 20 rfl rfl)
theorem dX2_gradeAt_69 : decode cX2_gradeAt 69 = .ok (.getfield 13, 3) := dk_180 0 13 (dk_at dksX2_gradeAt_2 21 rfl rfl)
theorem dX2_gradeAt_72 : decode cX2_gradeAt 72 = .ok (.iconst 4, 1) := dk_7 (dk_at dksX2_gradeAt_3 0 rfl rfl)
theorem dX2_gradeAt_73 : decode cX2_gradeAt 73 = .ok (.iload 4, 2) := dk_21 4 (dk_at dksX2_gradeAt_3 1 rfl rfl)
theorem dX2_gradeAt_75 : decode cX2_gradeAt 75 = .ok (.imul, 1) := dk_104 (dk_at dksX2_gradeAt_3 3 rfl rfl)
theorem dX2_gradeAt_76 : decode cX2_gradeAt 76 = .ok (.iconst 3, 1) := dk_6 (dk_at dksX2_gradeAt_3 4 rfl rfl)
theorem dX2_gradeAt_77 : decode cX2_gradeAt 77 = .ok (.iadd, 1) := dk_96 (dk_at dksX2_gradeAt_3 5 rfl rfl)
theorem dX2_gradeAt_78 : decode cX2_gradeAt 78 = .ok (.iaload, 1) := dk_46 (dk_at dksX2_gradeAt_3 6 rfl rfl)
theorem dX2_gradeAt_79 : decode cX2_gradeAt 79 = .ok (.invokestatic 83, 3) := dk_184 0 83 (dk_at dksX2_gradeAt_3 7 rfl rfl)
theorem dX2_gradeAt_82 : decode cX2_gradeAt 82 = .ok (.istore_n 3, 1) := dk_62 (dk_at dksX2_gradeAt_3 10 rfl rfl)
theorem dX2_gradeAt_83 : decode cX2_gradeAt 83 = .ok (.iinc 4 1, 3) := dk_132 4 1 (dk_at dksX2_gradeAt_3 11 rfl rfl)
theorem dX2_gradeAt_86 : decode cX2_gradeAt 86 = .ok (.goto (-72), 3) := dk_167 255 184 (dk_at dksX2_gradeAt_3 14 rfl rfl)
theorem dX2_gradeAt_89 : decode cX2_gradeAt 89 = .ok (.iload_n 3, 1) := dk_29 (dk_at dksX2_gradeAt_3 17 rfl rfl)
theorem dX2_gradeAt_90 : decode cX2_gradeAt 90 = .ok (.ireturn, 1) := dk_172 (dk_at dksX2_gradeAt_3 18 rfl rfl)
abbrev cX2_stretches : ByteArray := prog_10_method_23_code
def yX2_stretches : MethodName := ⟨RX2, "stretches", "(II)I"⟩
def dkwX2_stretches_1 : List UInt8 := [184, 0, 42, 153, 0, 15, 42, 27, 28, 17, 11, 184, 182, 0, 103, 167, 0, 8, 42, 5, 182, 0, 49, 172]
abbrev dktX2_stretches_1 : List UInt8 := dkwX2_stretches_1 ++ []
def dkwX2_stretches_0 : List UInt8 := [42, 3, 181, 0, 36, 42, 27, 182, 0, 53, 154, 0, 9, 42, 4, 182, 0, 49, 172, 28, 3, 6]
abbrev dktX2_stretches_0 : List UInt8 := dkwX2_stretches_0 ++ dktX2_stretches_1
theorem dksX2_stretches_0 : cX2_stretches.data.toList.drop 0 = dktX2_stretches_0 := by decide +kernel
theorem dksX2_stretches_1 : cX2_stretches.data.toList.drop 22 = dktX2_stretches_1 := dk_seg dksX2_stretches_0 22 rfl rfl
theorem dX2_stretches_0 : decode cX2_stretches 0 = .ok (.aload_n 0, 1) := dk_42 (dk_at dksX2_stretches_0 0 rfl rfl)
theorem dX2_stretches_1 : decode cX2_stretches 1 = .ok (.iconst 0, 1) := dk_3 (dk_at dksX2_stretches_0 1 rfl rfl)
theorem dX2_stretches_2 : decode cX2_stretches 2 = .ok (.putfield 36, 3) := dk_181 0 36 (dk_at dksX2_stretches_0 2 rfl rfl)
theorem dX2_stretches_5 : decode cX2_stretches 5 = .ok (.aload_n 0, 1) := dk_42 (dk_at dksX2_stretches_0 5 rfl rfl)
theorem dX2_stretches_6 : decode cX2_stretches 6 = .ok (.iload_n 1, 1) := dk_27 (dk_at dksX2_stretches_0 6 rfl rfl)
theorem dX2_stretches_7 : decode cX2_stretches 7 = .ok (.invokevirtual 53, 3) := dk_182 0 53 (dk_at dksX2_stretches_0 7 rfl rfl)
theorem dX2_stretches_10 : decode cX2_stretches 10 = .ok (.ifCond .ne 9, 3) := dk_154 0 9 (dk_at dksX2_stretches_0 10 rfl rfl)
theorem dX2_stretches_13 : decode cX2_stretches 13 = .ok (.aload_n 0, 1) := dk_42 (dk_at dksX2_stretches_0 13 rfl rfl)
theorem dX2_stretches_14 : decode cX2_stretches 14 = .ok (.iconst 1, 1) := dk_4 (dk_at dksX2_stretches_0 14 rfl rfl)
theorem dX2_stretches_15 : decode cX2_stretches 15 = .ok (.invokevirtual 49, 3) := dk_182 0 49 (dk_at dksX2_stretches_0 15 rfl rfl)
theorem dX2_stretches_18 : decode cX2_stretches 18 = .ok (.ireturn, 1) := dk_172 (dk_at dksX2_stretches_0 18 rfl rfl)
theorem dX2_stretches_19 : decode cX2_stretches 19 = .ok (.iload_n 2, 1) := dk_28 (dk_at dksX2_stretches_0 19 rfl rfl)
theorem dX2_stretches_20 : decode cX2_stretches 20 = .ok (.iconst 0, 1) := dk_3 (dk_at dksX2_stretches_0 20 rfl rfl)
theorem dX2_stretches_21 : decode cX2_stretches 21 = .ok (.iconst 3, 1) := dk_6 (dk_at dksX2_stretches_0 21 rfl rfl)
theorem dX2_stretches_22 : decode cX2_stretches 22 = .ok (.invokestatic 42, 3) := dk_184 0 42 (dk_at dksX2_stretches_1 0 rfl rfl)
theorem dX2_stretches_25 : decode cX2_stretches 25 = .ok (.ifCond .eq 15, 3) := dk_153 0 15 (dk_at dksX2_stretches_1 3 rfl rfl)
theorem dX2_stretches_28 : decode cX2_stretches 28 = .ok (.aload_n 0, 1) := dk_42 (dk_at dksX2_stretches_1 6 rfl rfl)
theorem dX2_stretches_29 : decode cX2_stretches 29 = .ok (.iload_n 1, 1) := dk_27 (dk_at dksX2_stretches_1 7 rfl rfl)
theorem dX2_stretches_30 : decode cX2_stretches 30 = .ok (.iload_n 2, 1) := dk_28 (dk_at dksX2_stretches_1 8 rfl rfl)
theorem dX2_stretches_31 : decode cX2_stretches 31 = .ok (.sipush 3000, 3) := dk_17 11 184 (dk_at dksX2_stretches_1 9 rfl rfl)
theorem dX2_stretches_34 : decode cX2_stretches 34 = .ok (.invokevirtual 103, 3) := dk_182 0 103 (dk_at dksX2_stretches_1 12 rfl rfl)
theorem dX2_stretches_37 : decode cX2_stretches 37 = .ok (.goto 8, 3) := dk_167 0 8 (dk_at dksX2_stretches_1 15 rfl rfl)
theorem dX2_stretches_40 : decode cX2_stretches 40 = .ok (.aload_n 0, 1) := dk_42 (dk_at dksX2_stretches_1 18 rfl rfl)
theorem dX2_stretches_41 : decode cX2_stretches 41 = .ok (.iconst 2, 1) := dk_5 (dk_at dksX2_stretches_1 19 rfl rfl)
theorem dX2_stretches_42 : decode cX2_stretches 42 = .ok (.invokevirtual 49, 3) := dk_182 0 49 (dk_at dksX2_stretches_1 20 rfl rfl)
theorem dX2_stretches_45 : decode cX2_stretches 45 = .ok (.ireturn, 1) := dk_172 (dk_at dksX2_stretches_1 23 rfl rfl)
abbrev cX2_goOver : ByteArray := prog_10_method_22_code
def yX2_goOver : MethodName := ⟨RX2, "goOver", "(III)I"⟩
def dkwX2_goOver_4 : List UInt8 := [167, 255, 171, 21, 4, 172]
abbrev dktX2_goOver_4 : List UInt8 := dkwX2_goOver_4 ++ []
def dkwX2_goOver_3 : List UInt8 := [42, 27, 21, 6, 182, 0, 97, 181, 0, 100, 21, 7, 54, 5, 42, 27, 21, 6, 182, 0, 97, 54, 6]
abbrev dktX2_goOver_3 : List UInt8 := dkwX2_goOver_3 ++ dktX2_goOver_4
def dkwX2_goOver_2 : List UInt8 := [21, 4, 29, 164, 0, 6, 21, 4, 172, 132, 4, 1, 42, 21, 6, 181, 0, 94, 21, 7, 153, 0, 14, 42]
abbrev dktX2_goOver_2 : List UInt8 := dkwX2_goOver_2 ++ dktX2_goOver_3
def dkwX2_goOver_1 : List UInt8 := [182, 0, 88, 28, 163, 0, 7, 4, 167, 0, 4, 3, 54, 7, 21, 7, 153, 0, 26, 21, 5, 154, 0, 21]
abbrev dktX2_goOver_1 : List UInt8 := dkwX2_goOver_1 ++ dktX2_goOver_2
def dkwX2_goOver_0 : List UInt8 := [3, 54, 4, 3, 54, 5, 3, 54, 6, 21, 6, 42, 27, 182, 0, 57, 162, 0, 81, 42, 27, 21, 6]
abbrev dktX2_goOver_0 : List UInt8 := dkwX2_goOver_0 ++ dktX2_goOver_1
theorem dksX2_goOver_0 : cX2_goOver.data.toList.drop 0 = dktX2_goOver_0 := by decide +kernel
theorem dksX2_goOver_1 : cX2_goOver.data.toList.drop 23 = dktX2_goOver_1 := dk_seg dksX2_goOver_0 23 rfl rfl
theorem dksX2_goOver_2 : cX2_goOver.data.toList.drop 47 = dktX2_goOver_2 := dk_seg dksX2_goOver_1 24 rfl rfl
theorem dksX2_goOver_3 : cX2_goOver.data.toList.drop 71 = dktX2_goOver_3 := dk_seg dksX2_goOver_2 24 rfl rfl
theorem dksX2_goOver_4 : cX2_goOver.data.toList.drop 94 = dktX2_goOver_4 := dk_seg dksX2_goOver_3 23 rfl rfl
theorem dX2_goOver_0 : decode cX2_goOver 0 = .ok (.iconst 0, 1) := dk_3 (dk_at dksX2_goOver_0 0 rfl rfl)
theorem dX2_goOver_1 : decode cX2_goOver 1 = .ok (.istore 4, 2) := dk_54 4 (dk_at dksX2_goOver_0 1 rfl rfl)
theorem dX2_goOver_3 : decode cX2_goOver 3 = .ok (.iconst 0, 1) := dk_3 (dk_at dksX2_goOver_0 3 rfl rfl)
theorem dX2_goOver_4 : decode cX2_goOver 4 = .ok (.istore 5, 2) := dk_54 5 (dk_at dksX2_goOver_0 4 rfl rfl)
theorem dX2_goOver_6 : decode cX2_goOver 6 = .ok (.iconst 0, 1) := dk_3 (dk_at dksX2_goOver_0 6 rfl rfl)
theorem dX2_goOver_7 : decode cX2_goOver 7 = .ok (.istore 6, 2) := dk_54 6 (dk_at dksX2_goOver_0 7 rfl rfl)
theorem dX2_goOver_9 : decode cX2_goOver 9 = .ok (.iload 6, 2) := dk_21 6 (dk_at dksX2_goOver_0 9 rfl rfl)
theorem dX2_goOver_11 : decode cX2_goOver 11 = .ok (.aload_n 0, 1) := dk_42 (dk_at dksX2_goOver_0 11 rfl rfl)
theorem dX2_goOver_12 : decode cX2_goOver 12 = .ok (.iload_n 1, 1) := dk_27 (dk_at dksX2_goOver_0 12 rfl rfl)
theorem dX2_goOver_13 : decode cX2_goOver 13 = .ok (.invokevirtual 57, 3) := dk_182 0 57 (dk_at dksX2_goOver_0 13 rfl rfl)
theorem dX2_goOver_16 : decode cX2_goOver 16 = .ok (.if_icmp .ge 81, 3) := dk_162 0 81 (dk_at dksX2_goOver_0 16 rfl rfl)
theorem dX2_goOver_19 : decode cX2_goOver 19 = .ok (.aload_n 0, 1) := dk_42 (dk_at dksX2_goOver_0 19 rfl rfl)
theorem dX2_goOver_20 : decode cX2_goOver 20 = .ok (.iload_n 1, 1) := dk_27 (dk_at dksX2_goOver_0 20 rfl rfl)
theorem dX2_goOver_21 : decode cX2_goOver 21 = .ok (.iload 6, 2) := dk_21 6 (dk_at dksX2_goOver_0 21 rfl rfl)
theorem dX2_goOver_23 : decode cX2_goOver 23 = .ok (.invokevirtual 88, 3) := dk_182 0 88 (dk_at dksX2_goOver_1 0 rfl rfl)
theorem dX2_goOver_26 : decode cX2_goOver 26 = .ok (.iload_n 2, 1) := dk_28 (dk_at dksX2_goOver_1 3 rfl rfl)
theorem dX2_goOver_27 : decode cX2_goOver 27 = .ok (.if_icmp .gt 7, 3) := dk_163 0 7 (dk_at dksX2_goOver_1 4 rfl rfl)
theorem dX2_goOver_30 : decode cX2_goOver 30 = .ok (.iconst 1, 1) := dk_4 (dk_at dksX2_goOver_1 7 rfl rfl)
theorem dX2_goOver_31 : decode cX2_goOver 31 = .ok (.goto 4, 3) := dk_167 0 4 (dk_at dksX2_goOver_1 8 rfl rfl)
theorem dX2_goOver_34 : decode cX2_goOver 34 = .ok (.iconst 0, 1) := dk_3 (dk_at dksX2_goOver_1 11 rfl rfl)
theorem dX2_goOver_35 : decode cX2_goOver 35 = .ok (.istore 7, 2) := dk_54 7 (dk_at dksX2_goOver_1 12 rfl rfl)
theorem dX2_goOver_37 : decode cX2_goOver 37 = .ok (.iload 7, 2) := dk_21 7 (dk_at dksX2_goOver_1 14 rfl rfl)
theorem dX2_goOver_39 : decode cX2_goOver 39 = .ok (.ifCond .eq 26, 3) := dk_153 0 26 (dk_at dksX2_goOver_1 16 rfl rfl)
theorem dX2_goOver_42 : decode cX2_goOver 42 = .ok (.iload 5, 2) := dk_21 5 (dk_at dksX2_goOver_1 19 rfl rfl)
theorem dX2_goOver_44 : decode cX2_goOver 44 = .ok (.ifCond .ne 21, 3) := dk_154 0 21 (dk_at dksX2_goOver_1 21 rfl rfl)
theorem dX2_goOver_47 : decode cX2_goOver 47 = .ok (.iload 4, 2) := dk_21 4 (dk_at dksX2_goOver_2 0 rfl rfl)
theorem dX2_goOver_49 : decode cX2_goOver 49 = .ok (.iload_n 3, 1) := dk_29 (dk_at dksX2_goOver_2 2 rfl rfl)
theorem dX2_goOver_50 : decode cX2_goOver 50 = .ok (.if_icmp .le 6, 3) := dk_164 0 6 (dk_at dksX2_goOver_2 3 rfl rfl)
theorem dX2_goOver_53 : decode cX2_goOver 53 = .ok (.iload 4, 2) := dk_21 4 (dk_at dksX2_goOver_2 6 rfl rfl)
theorem dX2_goOver_55 : decode cX2_goOver 55 = .ok (.ireturn, 1) := dk_172 (dk_at dksX2_goOver_2 8 rfl rfl)
theorem dX2_goOver_56 : decode cX2_goOver 56 = .ok (.iinc 4 1, 3) := dk_132 4 1 (dk_at dksX2_goOver_2 9 rfl rfl)
theorem dX2_goOver_59 : decode cX2_goOver 59 = .ok (.aload_n 0, 1) := dk_42 (dk_at dksX2_goOver_2 12 rfl rfl)
theorem dX2_goOver_60 : decode cX2_goOver 60 = .ok (.iload 6, 2) := dk_21 6 (dk_at dksX2_goOver_2 13 rfl rfl)
theorem dX2_goOver_62 : decode cX2_goOver 62 = .ok (.putfield 94, 3) := dk_181 0 94 (dk_at dksX2_goOver_2 15 rfl rfl)
theorem dX2_goOver_65 : decode cX2_goOver 65 = .ok (.iload 7, 2) := dk_21 7 (dk_at dksX2_goOver_2 18 rfl rfl)
theorem dX2_goOver_67 : decode cX2_goOver 67 = .ok (.ifCond .eq 14, 3) := dk_153 0 14 (dk_at dksX2_goOver_2 20 rfl rfl)
theorem dX2_goOver_70 : decode cX2_goOver 70 = .ok (.aload_n 0, 1) := dk_42 (dk_at dksX2_goOver_2 23 rfl rfl)
theorem dX2_goOver_71 : decode cX2_goOver 71 = .ok (.aload_n 0, 1) := dk_42 (dk_at dksX2_goOver_3 0 rfl rfl)
theorem dX2_goOver_72 : decode cX2_goOver 72 = .ok (.iload_n 1, 1) := dk_27 (dk_at dksX2_goOver_3 1 rfl rfl)
theorem dX2_goOver_73 : decode cX2_goOver 73 = .ok (.iload 6, 2) := dk_21 6 (dk_at dksX2_goOver_3 2 rfl rfl)
theorem dX2_goOver_75 : decode cX2_goOver 75 = .ok (.invokevirtual 97, 3) := dk_182 0 97 (dk_at dksX2_goOver_3 4 rfl rfl)
theorem dX2_goOver_78 : decode cX2_goOver 78 = .ok (.putfield 100, 3) := dk_181 0 100 (dk_at dksX2_goOver_3 7 rfl rfl)
theorem dX2_goOver_81 : decode cX2_goOver 81 = .ok (.iload 7, 2) := dk_21 7 (dk_at dksX2_goOver_3 10 rfl rfl)
theorem dX2_goOver_83 : decode cX2_goOver 83 = .ok (.istore 5, 2) := dk_54 5 (dk_at dksX2_goOver_3 12 rfl rfl)
theorem dX2_goOver_85 : decode cX2_goOver 85 = .ok (.aload_n 0, 1) := dk_42 (dk_at dksX2_goOver_3 14 rfl rfl)
theorem dX2_goOver_86 : decode cX2_goOver 86 = .ok (.iload_n 1, 1) := dk_27 (dk_at dksX2_goOver_3 15 rfl rfl)
theorem dX2_goOver_87 : decode cX2_goOver 87 = .ok (.iload 6, 2) := dk_21 6 (dk_at dksX2_goOver_3 16 rfl rfl)
theorem dX2_goOver_89 : decode cX2_goOver 89 = .ok (.invokevirtual 97, 3) := dk_182 0 97 (dk_at dksX2_goOver_3 18 rfl rfl)
theorem dX2_goOver_92 : decode cX2_goOver 92 = .ok (.istore 6, 2) := dk_54 6 (dk_at dksX2_goOver_3 21 rfl rfl)
theorem dX2_goOver_94 : decode cX2_goOver 94 = .ok (.goto (-85), 3) := dk_167 255 171 (dk_at dksX2_goOver_4 0 rfl rfl)
theorem dX2_goOver_97 : decode cX2_goOver 97 = .ok (.iload 4, 2) := dk_21 4 (dk_at dksX2_goOver_4 3 rfl rfl)
theorem dX2_goOver_99 : decode cX2_goOver 99 = .ok (.ireturn, 1) := dk_172 (dk_at dksX2_goOver_4 5 rfl rfl)
abbrev cX2_nextChange : ByteArray := prog_10_method_21_code
def yX2_nextChange : MethodName := ⟨RX2, "nextChange", "(II)I"⟩
def dkwX2_nextChange_4 : List UInt8 := [184, 0, 91, 62, 132, 4, 1, 167, 255, 166, 29, 172]
abbrev dktX2_nextChange_4 : List UInt8 := dkwX2_nextChange_4 ++ []
def dkwX2_nextChange_3 : List UInt8 := [21, 4, 104, 5, 96, 46, 28, 164, 0, 19, 29, 42, 180, 0, 13, 7, 21, 4, 104, 5, 96, 46]
abbrev dktX2_nextChange_3 : List UInt8 := dkwX2_nextChange_3 ++ dktX2_nextChange_4
def dkwX2_nextChange_2 : List UInt8 := [164, 0, 19, 29, 42, 180, 0, 13, 7, 21, 4, 104, 4, 96, 46, 184, 0, 91, 62, 42, 180, 0, 13, 7]
abbrev dktX2_nextChange_2 : List UInt8 := dkwX2_nextChange_2 ++ dktX2_nextChange_3
def dkwX2_nextChange_1 : List UInt8 := [21, 4, 104, 46, 27, 159, 0, 6, 167, 0, 65, 42, 180, 0, 13, 7, 21, 4, 104, 4, 96, 46, 28]
abbrev dktX2_nextChange_1 : List UInt8 := dkwX2_nextChange_1 ++ dktX2_nextChange_2
def dkwX2_nextChange_0 : List UInt8 := [42, 27, 182, 0, 57, 62, 3, 54, 4, 21, 4, 42, 180, 0, 60, 162, 0, 87, 42, 180, 0, 13, 7]
abbrev dktX2_nextChange_0 : List UInt8 := dkwX2_nextChange_0 ++ dktX2_nextChange_1
theorem dksX2_nextChange_0 : cX2_nextChange.data.toList.drop 0 = dktX2_nextChange_0 := by decide +kernel
theorem dksX2_nextChange_1 : cX2_nextChange.data.toList.drop 23 = dktX2_nextChange_1 := dk_seg dksX2_nextChange_0 23 rfl rfl
theorem dksX2_nextChange_2 : cX2_nextChange.data.toList.drop 46 = dktX2_nextChange_2 := dk_seg dksX2_nextChange_1 23 rfl rfl
theorem dksX2_nextChange_3 : cX2_nextChange.data.toList.drop 70 = dktX2_nextChange_3 := dk_seg dksX2_nextChange_2 24 rfl rfl
theorem dksX2_nextChange_4 : cX2_nextChange.data.toList.drop 92 = dktX2_nextChange_4 := dk_seg dksX2_nextChange_3 22 rfl rfl
theorem dX2_nextChange_0 : decode cX2_nextChange 0 = .ok (.aload_n 0, 1) := dk_42 (dk_at dksX2_nextChange_0 0 rfl rfl)
theorem dX2_nextChange_1 : decode cX2_nextChange 1 = .ok (.iload_n 1, 1) := dk_27 (dk_at dksX2_nextChange_0 1 rfl rfl)
theorem dX2_nextChange_2 : decode cX2_nextChange 2 = .ok (.invokevirtual 57, 3) := dk_182 0 57 (dk_at dksX2_nextChange_0 2 rfl rfl)
theorem dX2_nextChange_5 : decode cX2_nextChange 5 = .ok (.istore_n 3, 1) := dk_62 (dk_at dksX2_nextChange_0 5 rfl rfl)
theorem dX2_nextChange_6 : decode cX2_nextChange 6 = .ok (.iconst 0, 1) := dk_3 (dk_at dksX2_nextChange_0 6 rfl rfl)
theorem dX2_nextChange_7 : decode cX2_nextChange 7 = .ok (.istore 4, 2) := dk_54 4 (dk_at dksX2_nextChange_0 7 rfl rfl)
theorem dX2_nextChange_9 : decode cX2_nextChange 9 = .ok (.iload 4, 2) := dk_21 4 (dk_at dksX2_nextChange_0 9 rfl rfl)
theorem dX2_nextChange_11 : decode cX2_nextChange 11 = .ok (.aload_n 0, 1) := dk_42 (dk_at dksX2_nextChange_0 11 rfl rfl)
theorem dX2_nextChange_12 : decode cX2_nextChange 12 = .ok (.getfield 60, 3) := dk_180 0 60 (dk_at dksX2_nextChange_0 12 rfl rfl)
theorem dX2_nextChange_15 : decode cX2_nextChange 15 = .ok (.if_icmp .ge 87, 3) := dk_162 0 87 (dk_at dksX2_nextChange_0 15 rfl rfl)
theorem dX2_nextChange_18 : decode cX2_nextChange 18 = .ok (.aload_n 0, 1) := dk_42 (dk_at dksX2_nextChange_0 18 rfl rfl)
theorem dX2_nextChange_19 : decode cX2_nextChange 19 = .ok (.getfield 13, 3) := dk_180 0 13 (dk_at dksX2_nextChange_0 19 rfl rfl)
theorem dX2_nextChange_22 : decode cX2_nextChange 22 = .ok (.iconst 4, 1) := dk_7 (dk_at dksX2_nextChange_0 22 rfl rfl)
theorem dX2_nextChange_23 : decode cX2_nextChange 23 = .ok (.iload 4, 2) := dk_21 4 (dk_at dksX2_nextChange_1 0 rfl rfl)
theorem dX2_nextChange_25 : decode cX2_nextChange 25 = .ok (.imul, 1) := dk_104 (dk_at dksX2_nextChange_1 2 rfl rfl)
theorem dX2_nextChange_26 : decode cX2_nextChange 26 = .ok (.iaload, 1) := dk_46 (dk_at dksX2_nextChange_1 3 rfl rfl)
theorem dX2_nextChange_27 : decode cX2_nextChange 27 = .ok (.iload_n 1, 1) := dk_27 (dk_at dksX2_nextChange_1 4 rfl rfl)
theorem dX2_nextChange_28 : decode cX2_nextChange 28 = .ok (.if_icmp .eq 6, 3) := dk_159 0 6 (dk_at dksX2_nextChange_1 5 rfl rfl)
theorem dX2_nextChange_31 : decode cX2_nextChange 31 = .ok (.goto 65, 3) := dk_167 0 65 (dk_at dksX2_nextChange_1 8 rfl rfl)
theorem dX2_nextChange_34 : decode cX2_nextChange 34 = .ok (.aload_n 0, 1) := dk_42 (dk_at dksX2_nextChange_1 11 rfl rfl)
theorem dX2_nextChange_35 : decode cX2_nextChange 35 = .ok (.getfield 13, 3) := dk_180 0 13 (dk_at dksX2_nextChange_1 12 rfl rfl)
theorem dX2_nextChange_38 : decode cX2_nextChange 38 = .ok (.iconst 4, 1) := dk_7 (dk_at dksX2_nextChange_1 15 rfl rfl)
theorem dX2_nextChange_39 : decode cX2_nextChange 39 = .ok (.iload 4, 2) := dk_21 4 (dk_at dksX2_nextChange_1 16 rfl rfl)
theorem dX2_nextChange_41 : decode cX2_nextChange 41 = .ok (.imul, 1) := dk_104 (dk_at dksX2_nextChange_1 18 rfl rfl)
theorem dX2_nextChange_42 : decode cX2_nextChange 42 = .ok (.iconst 1, 1) := dk_4 (dk_at dksX2_nextChange_1 19 rfl rfl)
theorem dX2_nextChange_43 : decode cX2_nextChange 43 = .ok (.iadd, 1) := dk_96 (dk_at dksX2_nextChange_1 20 rfl rfl)
theorem dX2_nextChange_44 : decode cX2_nextChange 44 = .ok (.iaload, 1) := dk_46 (dk_at dksX2_nextChange_1 21 rfl rfl)
theorem dX2_nextChange_45 : decode cX2_nextChange 45 = .ok (.iload_n 2, 1) := dk_28 (dk_at dksX2_nextChange_1 22 rfl rfl)
theorem dX2_nextChange_46 : decode cX2_nextChange 46 = .ok (.if_icmp .le 19, 3) := dk_164 0 19 (dk_at dksX2_nextChange_2 0 rfl rfl)
theorem dX2_nextChange_49 : decode cX2_nextChange 49 = .ok (.iload_n 3, 1) := dk_29 (dk_at dksX2_nextChange_2 3 rfl rfl)
theorem dX2_nextChange_50 : decode cX2_nextChange 50 = .ok (.aload_n 0, 1) := dk_42 (dk_at dksX2_nextChange_2 4 rfl rfl)
theorem dX2_nextChange_51 : decode cX2_nextChange 51 = .ok (.getfield 13, 3) := dk_180 0 13 (dk_at dksX2_nextChange_2 5 rfl rfl)
theorem dX2_nextChange_54 : decode cX2_nextChange 54 = .ok (.iconst 4, 1) := dk_7 (dk_at dksX2_nextChange_2 8 rfl rfl)
theorem dX2_nextChange_55 : decode cX2_nextChange 55 = .ok (.iload 4, 2) := dk_21 4 (dk_at dksX2_nextChange_2 9 rfl rfl)
theorem dX2_nextChange_57 : decode cX2_nextChange 57 = .ok (.imul, 1) := dk_104 (dk_at dksX2_nextChange_2 11 rfl rfl)
theorem dX2_nextChange_58 : decode cX2_nextChange 58 = .ok (.iconst 1, 1) := dk_4 (dk_at dksX2_nextChange_2 12 rfl rfl)
theorem dX2_nextChange_59 : decode cX2_nextChange 59 = .ok (.iadd, 1) := dk_96 (dk_at dksX2_nextChange_2 13 rfl rfl)
theorem dX2_nextChange_60 : decode cX2_nextChange 60 = .ok (.iaload, 1) := dk_46 (dk_at dksX2_nextChange_2 14 rfl rfl)
theorem dX2_nextChange_61 : decode cX2_nextChange 61 = .ok (.invokestatic 91, 3) := dk_184 0 91 (dk_at dksX2_nextChange_2 15 rfl rfl)
theorem dX2_nextChange_64 : decode cX2_nextChange 64 = .ok (.istore_n 3, 1) := dk_62 (dk_at dksX2_nextChange_2 18 rfl rfl)
theorem dX2_nextChange_65 : decode cX2_nextChange 65 = .ok (.aload_n 0, 1) := dk_42 (dk_at dksX2_nextChange_2 19 rfl rfl)
theorem dX2_nextChange_66 : decode cX2_nextChange 66 = .ok (.getfield 13, 3) := dk_180 0 13 (dk_at dksX2_nextChange_2 20 rfl rfl)
theorem dX2_nextChange_69 : decode cX2_nextChange 69 = .ok (.iconst 4, 1) := dk_7 (dk_at dksX2_nextChange_2 23 rfl rfl)
theorem dX2_nextChange_70 : decode cX2_nextChange 70 = .ok (.iload 4, 2) := dk_21 4 (dk_at dksX2_nextChange_3 0 rfl rfl)
theorem dX2_nextChange_72 : decode cX2_nextChange 72 = .ok (.imul, 1) := dk_104 (dk_at dksX2_nextChange_3 2 rfl rfl)
theorem dX2_nextChange_73 : decode cX2_nextChange 73 = .ok (.iconst 2, 1) := dk_5 (dk_at dksX2_nextChange_3 3 rfl rfl)
theorem dX2_nextChange_74 : decode cX2_nextChange 74 = .ok (.iadd, 1) := dk_96 (dk_at dksX2_nextChange_3 4 rfl rfl)
theorem dX2_nextChange_75 : decode cX2_nextChange 75 = .ok (.iaload, 1) := dk_46 (dk_at dksX2_nextChange_3 5 rfl rfl)
theorem dX2_nextChange_76 : decode cX2_nextChange 76 = .ok (.iload_n 2, 1) := dk_28 (dk_at dksX2_nextChange_3 6 rfl rfl)
theorem dX2_nextChange_77 : decode cX2_nextChange 77 = .ok (.if_icmp .le 19, 3) := dk_164 0 19 (dk_at dksX2_nextChange_3 7 rfl rfl)
theorem dX2_nextChange_80 : decode cX2_nextChange 80 = .ok (.iload_n 3, 1) := dk_29 (dk_at dksX2_nextChange_3 10 rfl rfl)
theorem dX2_nextChange_81 : decode cX2_nextChange 81 = .ok (.aload_n 0, 1) := dk_42 (dk_at dksX2_nextChange_3 11 rfl rfl)
theorem dX2_nextChange_82 : decode cX2_nextChange 82 = .ok (.getfield 13, 3) := dk_180 0 13 (dk_at dksX2_nextChange_3 12 rfl rfl)
theorem dX2_nextChange_85 : decode cX2_nextChange 85 = .ok (.iconst 4, 1) := dk_7 (dk_at dksX2_nextChange_3 15 rfl rfl)
theorem dX2_nextChange_86 : decode cX2_nextChange 86 = .ok (.iload 4, 2) := dk_21 4 (dk_at dksX2_nextChange_3 16 rfl rfl)
theorem dX2_nextChange_88 : decode cX2_nextChange 88 = .ok (.imul, 1) := dk_104 (dk_at dksX2_nextChange_3 18 rfl rfl)
theorem dX2_nextChange_89 : decode cX2_nextChange 89 = .ok (.iconst 2, 1) := dk_5 (dk_at dksX2_nextChange_3 19 rfl rfl)
theorem dX2_nextChange_90 : decode cX2_nextChange 90 = .ok (.iadd, 1) := dk_96 (dk_at dksX2_nextChange_3 20 rfl rfl)
theorem dX2_nextChange_91 : decode cX2_nextChange 91 = .ok (.iaload, 1) := dk_46 (dk_at dksX2_nextChange_3 21 rfl rfl)
theorem dX2_nextChange_92 : decode cX2_nextChange 92 = .ok (.invokestatic 91, 3) := dk_184 0 91 (dk_at dksX2_nextChange_4 0 rfl rfl)
theorem dX2_nextChange_95 : decode cX2_nextChange 95 = .ok (.istore_n 3, 1) := dk_62 (dk_at dksX2_nextChange_4 3 rfl rfl)
theorem dX2_nextChange_96 : decode cX2_nextChange 96 = .ok (.iinc 4 1, 3) := dk_132 4 1 (dk_at dksX2_nextChange_4 4 rfl rfl)
theorem dX2_nextChange_99 : decode cX2_nextChange 99 = .ok (.goto (-90), 3) := dk_167 255 166 (dk_at dksX2_nextChange_4 7 rfl rfl)
theorem dX2_nextChange_102 : decode cX2_nextChange 102 = .ok (.iload_n 3, 1) := dk_29 (dk_at dksX2_nextChange_4 10 rfl rfl)
theorem dX2_nextChange_103 : decode cX2_nextChange 103 = .ok (.ireturn, 1) := dk_172 (dk_at dksX2_nextChange_4 11 rfl rfl)
abbrev cX2_stretch : ByteArray := prog_10_method_24_code
def yX2_stretch : MethodName := ⟨RX2, "stretch", "(IIIZ)I"⟩
def dkwX2_stretch_2 : List UInt8 := [182, 0, 49, 172, 21, 4, 153, 0, 10, 42, 180, 0, 100, 167, 0, 7, 42, 180, 0, 94, 172]
abbrev dktX2_stretch_2 : List UInt8 := dkwX2_stretch_2 ++ []
def dkwX2_stretch_1 : List UInt8 := [184, 0, 42, 153, 0, 18, 29, 155, 0, 14, 42, 27, 28, 29, 182, 0, 103, 29, 163, 0, 9, 42, 5]
abbrev dktX2_stretch_1 : List UInt8 := dkwX2_stretch_1 ++ dktX2_stretch_2
def dkwX2_stretch_0 : List UInt8 := [42, 3, 181, 0, 36, 42, 27, 182, 0, 53, 154, 0, 9, 42, 4, 182, 0, 49, 172, 28, 3, 6]
abbrev dktX2_stretch_0 : List UInt8 := dkwX2_stretch_0 ++ dktX2_stretch_1
theorem dksX2_stretch_0 : cX2_stretch.data.toList.drop 0 = dktX2_stretch_0 := by decide +kernel
theorem dksX2_stretch_1 : cX2_stretch.data.toList.drop 22 = dktX2_stretch_1 := dk_seg dksX2_stretch_0 22 rfl rfl
theorem dksX2_stretch_2 : cX2_stretch.data.toList.drop 45 = dktX2_stretch_2 := dk_seg dksX2_stretch_1 23 rfl rfl
theorem dX2_stretch_0 : decode cX2_stretch 0 = .ok (.aload_n 0, 1) := dk_42 (dk_at dksX2_stretch_0 0 rfl rfl)
theorem dX2_stretch_1 : decode cX2_stretch 1 = .ok (.iconst 0, 1) := dk_3 (dk_at dksX2_stretch_0 1 rfl rfl)
theorem dX2_stretch_2 : decode cX2_stretch 2 = .ok (.putfield 36, 3) := dk_181 0 36 (dk_at dksX2_stretch_0 2 rfl rfl)
theorem dX2_stretch_5 : decode cX2_stretch 5 = .ok (.aload_n 0, 1) := dk_42 (dk_at dksX2_stretch_0 5 rfl rfl)
theorem dX2_stretch_6 : decode cX2_stretch 6 = .ok (.iload_n 1, 1) := dk_27 (dk_at dksX2_stretch_0 6 rfl rfl)
theorem dX2_stretch_7 : decode cX2_stretch 7 = .ok (.invokevirtual 53, 3) := dk_182 0 53 (dk_at dksX2_stretch_0 7 rfl rfl)
theorem dX2_stretch_10 : decode cX2_stretch 10 = .ok (.ifCond .ne 9, 3) := dk_154 0 9 (dk_at dksX2_stretch_0 10 rfl rfl)
theorem dX2_stretch_13 : decode cX2_stretch 13 = .ok (.aload_n 0, 1) := dk_42 (dk_at dksX2_stretch_0 13 rfl rfl)
theorem dX2_stretch_14 : decode cX2_stretch 14 = .ok (.iconst 1, 1) := dk_4 (dk_at dksX2_stretch_0 14 rfl rfl)
theorem dX2_stretch_15 : decode cX2_stretch 15 = .ok (.invokevirtual 49, 3) := dk_182 0 49 (dk_at dksX2_stretch_0 15 rfl rfl)
theorem dX2_stretch_18 : decode cX2_stretch 18 = .ok (.ireturn, 1) := dk_172 (dk_at dksX2_stretch_0 18 rfl rfl)
theorem dX2_stretch_19 : decode cX2_stretch 19 = .ok (.iload_n 2, 1) := dk_28 (dk_at dksX2_stretch_0 19 rfl rfl)
theorem dX2_stretch_20 : decode cX2_stretch 20 = .ok (.iconst 0, 1) := dk_3 (dk_at dksX2_stretch_0 20 rfl rfl)
theorem dX2_stretch_21 : decode cX2_stretch 21 = .ok (.iconst 3, 1) := dk_6 (dk_at dksX2_stretch_0 21 rfl rfl)
theorem dX2_stretch_22 : decode cX2_stretch 22 = .ok (.invokestatic 42, 3) := dk_184 0 42 (dk_at dksX2_stretch_1 0 rfl rfl)
theorem dX2_stretch_25 : decode cX2_stretch 25 = .ok (.ifCond .eq 18, 3) := dk_153 0 18 (dk_at dksX2_stretch_1 3 rfl rfl)
theorem dX2_stretch_28 : decode cX2_stretch 28 = .ok (.iload_n 3, 1) := dk_29 (dk_at dksX2_stretch_1 6 rfl rfl)
theorem dX2_stretch_29 : decode cX2_stretch 29 = .ok (.ifCond .lt 14, 3) := dk_155 0 14 (dk_at dksX2_stretch_1 7 rfl rfl)
theorem dX2_stretch_32 : decode cX2_stretch 32 = .ok (.aload_n 0, 1) := dk_42 (dk_at dksX2_stretch_1 10 rfl rfl)
theorem dX2_stretch_33 : decode cX2_stretch 33 = .ok (.iload_n 1, 1) := dk_27 (dk_at dksX2_stretch_1 11 rfl rfl)
theorem dX2_stretch_34 : decode cX2_stretch 34 = .ok (.iload_n 2, 1) := dk_28 (dk_at dksX2_stretch_1 12 rfl rfl)
theorem dX2_stretch_35 : decode cX2_stretch 35 = .ok (.iload_n 3, 1) := dk_29 (dk_at dksX2_stretch_1 13 rfl rfl)
theorem dX2_stretch_36 : decode cX2_stretch 36 = .ok (.invokevirtual 103, 3) := dk_182 0 103 (dk_at dksX2_stretch_1 14 rfl rfl)
theorem dX2_stretch_39 : decode cX2_stretch 39 = .ok (.iload_n 3, 1) := dk_29 (dk_at dksX2_stretch_1 17 rfl rfl)
theorem dX2_stretch_40 : decode cX2_stretch 40 = .ok (.if_icmp .gt 9, 3) := dk_163 0 9 (dk_at dksX2_stretch_1 18 rfl rfl)
theorem dX2_stretch_43 : decode cX2_stretch 43 = .ok (.aload_n 0, 1) := dk_42 (dk_at dksX2_stretch_1 21 rfl rfl)
theorem dX2_stretch_44 : decode cX2_stretch 44 = .ok (.iconst 2, 1) := dk_5 (dk_at dksX2_stretch_1 22 rfl rfl)
theorem dX2_stretch_45 : decode cX2_stretch 45 = .ok (.invokevirtual 49, 3) := dk_182 0 49 (dk_at dksX2_stretch_2 0 rfl rfl)
theorem dX2_stretch_48 : decode cX2_stretch 48 = .ok (.ireturn, 1) := dk_172 (dk_at dksX2_stretch_2 3 rfl rfl)
theorem dX2_stretch_49 : decode cX2_stretch 49 = .ok (.iload 4, 2) := dk_21 4 (dk_at dksX2_stretch_2 4 rfl rfl)
theorem dX2_stretch_51 : decode cX2_stretch 51 = .ok (.ifCond .eq 10, 3) := dk_153 0 10 (dk_at dksX2_stretch_2 6 rfl rfl)
theorem dX2_stretch_54 : decode cX2_stretch 54 = .ok (.aload_n 0, 1) := dk_42 (dk_at dksX2_stretch_2 9 rfl rfl)
theorem dX2_stretch_55 : decode cX2_stretch 55 = .ok (.getfield 100, 3) := dk_180 0 100 (dk_at dksX2_stretch_2 10 rfl rfl)
theorem dX2_stretch_58 : decode cX2_stretch 58 = .ok (.goto 7, 3) := dk_167 0 7 (dk_at dksX2_stretch_2 13 rfl rfl)
theorem dX2_stretch_61 : decode cX2_stretch 61 = .ok (.aload_n 0, 1) := dk_42 (dk_at dksX2_stretch_2 16 rfl rfl)
theorem dX2_stretch_62 : decode cX2_stretch 62 = .ok (.getfield 94, 3) := dk_180 0 94 (dk_at dksX2_stretch_2 17 rfl rfl)
theorem dX2_stretch_65 : decode cX2_stretch 65 = .ok (.ireturn, 1) := dk_172 (dk_at dksX2_stretch_2 20 rfl rfl)
abbrev cX2_fits : ByteArray := prog_10_method_28_code
def yX2_fits : MethodName := ⟨RX2, "fits", "(III)Z"⟩
def dkwX2_fits_2 : List UInt8 := [27, 3, 182, 0, 79, 28, 29, 182, 0, 117, 153, 0, 7, 4, 167, 0, 4, 3, 172]
abbrev dktX2_fits_2 : List UInt8 := dkwX2_fits_2 ++ []
def dkwX2_fits_1 : List UInt8 := [181, 0, 36, 42, 180, 0, 36, 154, 0, 34, 29, 3, 17, 11, 184, 184, 0, 42, 153, 0, 23, 42, 27, 42]
abbrev dktX2_fits_1 : List UInt8 := dkwX2_fits_1 ++ dktX2_fits_2
def dkwX2_fits_0 : List UInt8 := [42, 42, 27, 182, 0, 114, 153, 0, 15, 42, 28, 182, 0, 53, 153, 0, 7, 3, 167, 0, 4, 4]
abbrev dktX2_fits_0 : List UInt8 := dkwX2_fits_0 ++ dktX2_fits_1
theorem dksX2_fits_0 : cX2_fits.data.toList.drop 0 = dktX2_fits_0 := by decide +kernel
theorem dksX2_fits_1 : cX2_fits.data.toList.drop 22 = dktX2_fits_1 := dk_seg dksX2_fits_0 22 rfl rfl
theorem dksX2_fits_2 : cX2_fits.data.toList.drop 46 = dktX2_fits_2 := dk_seg dksX2_fits_1 24 rfl rfl
theorem dX2_fits_0 : decode cX2_fits 0 = .ok (.aload_n 0, 1) := dk_42 (dk_at dksX2_fits_0 0 rfl rfl)
theorem dX2_fits_1 : decode cX2_fits 1 = .ok (.aload_n 0, 1) := dk_42 (dk_at dksX2_fits_0 1 rfl rfl)
theorem dX2_fits_2 : decode cX2_fits 2 = .ok (.iload_n 1, 1) := dk_27 (dk_at dksX2_fits_0 2 rfl rfl)
theorem dX2_fits_3 : decode cX2_fits 3 = .ok (.invokevirtual 114, 3) := dk_182 0 114 (dk_at dksX2_fits_0 3 rfl rfl)
theorem dX2_fits_6 : decode cX2_fits 6 = .ok (.ifCond .eq 15, 3) := dk_153 0 15 (dk_at dksX2_fits_0 6 rfl rfl)
theorem dX2_fits_9 : decode cX2_fits 9 = .ok (.aload_n 0, 1) := dk_42 (dk_at dksX2_fits_0 9 rfl rfl)
theorem dX2_fits_10 : decode cX2_fits 10 = .ok (.iload_n 2, 1) := dk_28 (dk_at dksX2_fits_0 10 rfl rfl)
theorem dX2_fits_11 : decode cX2_fits 11 = .ok (.invokevirtual 53, 3) := dk_182 0 53 (dk_at dksX2_fits_0 11 rfl rfl)
theorem dX2_fits_14 : decode cX2_fits 14 = .ok (.ifCond .eq 7, 3) := dk_153 0 7 (dk_at dksX2_fits_0 14 rfl rfl)
theorem dX2_fits_17 : decode cX2_fits 17 = .ok (.iconst 0, 1) := dk_3 (dk_at dksX2_fits_0 17 rfl rfl)
theorem dX2_fits_18 : decode cX2_fits 18 = .ok (.goto 4, 3) := dk_167 0 4 (dk_at dksX2_fits_0 18 rfl rfl)
theorem dX2_fits_21 : decode cX2_fits 21 = .ok (.iconst 1, 1) := dk_4 (dk_at dksX2_fits_0 21 rfl rfl)
theorem dX2_fits_22 : decode cX2_fits 22 = .ok (.putfield 36, 3) := dk_181 0 36 (dk_at dksX2_fits_1 0 rfl rfl)
theorem dX2_fits_25 : decode cX2_fits 25 = .ok (.aload_n 0, 1) := dk_42 (dk_at dksX2_fits_1 3 rfl rfl)
theorem dX2_fits_26 : decode cX2_fits 26 = .ok (.getfield 36, 3) := dk_180 0 36 (dk_at dksX2_fits_1 4 rfl rfl)
theorem dX2_fits_29 : decode cX2_fits 29 = .ok (.ifCond .ne 34, 3) := dk_154 0 34 (dk_at dksX2_fits_1 7 rfl rfl)
theorem dX2_fits_32 : decode cX2_fits 32 = .ok (.iload_n 3, 1) := dk_29 (dk_at dksX2_fits_1 10 rfl rfl)
theorem dX2_fits_33 : decode cX2_fits 33 = .ok (.iconst 0, 1) := dk_3 (dk_at dksX2_fits_1 11 rfl rfl)
theorem dX2_fits_34 : decode cX2_fits 34 = .ok (.sipush 3000, 3) := dk_17 11 184 (dk_at dksX2_fits_1 12 rfl rfl)
theorem dX2_fits_37 : decode cX2_fits 37 = .ok (.invokestatic 42, 3) := dk_184 0 42 (dk_at dksX2_fits_1 15 rfl rfl)
theorem dX2_fits_40 : decode cX2_fits 40 = .ok (.ifCond .eq 23, 3) := dk_153 0 23 (dk_at dksX2_fits_1 18 rfl rfl)
theorem dX2_fits_43 : decode cX2_fits 43 = .ok (.aload_n 0, 1) := dk_42 (dk_at dksX2_fits_1 21 rfl rfl)
theorem dX2_fits_44 : decode cX2_fits 44 = .ok (.iload_n 1, 1) := dk_27 (dk_at dksX2_fits_1 22 rfl rfl)
theorem dX2_fits_45 : decode cX2_fits 45 = .ok (.aload_n 0, 1) := dk_42 (dk_at dksX2_fits_1 23 rfl rfl)
theorem dX2_fits_46 : decode cX2_fits 46 = .ok (.iload_n 1, 1) := dk_27 (dk_at dksX2_fits_2 0 rfl rfl)
theorem dX2_fits_47 : decode cX2_fits 47 = .ok (.iconst 0, 1) := dk_3 (dk_at dksX2_fits_2 1 rfl rfl)
theorem dX2_fits_48 : decode cX2_fits 48 = .ok (.invokevirtual 79, 3) := dk_182 0 79 (dk_at dksX2_fits_2 2 rfl rfl)
theorem dX2_fits_51 : decode cX2_fits 51 = .ok (.iload_n 2, 1) := dk_28 (dk_at dksX2_fits_2 5 rfl rfl)
theorem dX2_fits_52 : decode cX2_fits 52 = .ok (.iload_n 3, 1) := dk_29 (dk_at dksX2_fits_2 6 rfl rfl)
theorem dX2_fits_53 : decode cX2_fits 53 = .ok (.invokevirtual 117, 3) := dk_182 0 117 (dk_at dksX2_fits_2 7 rfl rfl)
theorem dX2_fits_56 : decode cX2_fits 56 = .ok (.ifCond .eq 7, 3) := dk_153 0 7 (dk_at dksX2_fits_2 10 rfl rfl)
theorem dX2_fits_59 : decode cX2_fits 59 = .ok (.iconst 1, 1) := dk_4 (dk_at dksX2_fits_2 13 rfl rfl)
theorem dX2_fits_60 : decode cX2_fits 60 = .ok (.goto 4, 3) := dk_167 0 4 (dk_at dksX2_fits_2 14 rfl rfl)
theorem dX2_fits_63 : decode cX2_fits 63 = .ok (.iconst 0, 1) := dk_3 (dk_at dksX2_fits_2 17 rfl rfl)
theorem dX2_fits_64 : decode cX2_fits 64 = .ok (.ireturn, 1) := dk_172 (dk_at dksX2_fits_2 18 rfl rfl)
abbrev cX2_isPart : ByteArray := prog_10_method_6_code
def yX2_isPart : MethodName := ⟨RX2, "isPart", "(I)Z"⟩
def dkwX2_isPart_0 : List UInt8 := [27, 3, 42, 180, 0, 46, 4, 100, 184, 0, 42, 172]
abbrev dktX2_isPart_0 : List UInt8 := dkwX2_isPart_0 ++ []
theorem dksX2_isPart_0 : cX2_isPart.data.toList.drop 0 = dktX2_isPart_0 := by decide +kernel
theorem dX2_isPart_0 : decode cX2_isPart 0 = .ok (.iload_n 1, 1) := dk_27 (dk_at dksX2_isPart_0 0 rfl rfl)
theorem dX2_isPart_1 : decode cX2_isPart 1 = .ok (.iconst 0, 1) := dk_3 (dk_at dksX2_isPart_0 1 rfl rfl)
theorem dX2_isPart_2 : decode cX2_isPart 2 = .ok (.aload_n 0, 1) := dk_42 (dk_at dksX2_isPart_0 2 rfl rfl)
theorem dX2_isPart_3 : decode cX2_isPart 3 = .ok (.getfield 46, 3) := dk_180 0 46 (dk_at dksX2_isPart_0 3 rfl rfl)
theorem dX2_isPart_6 : decode cX2_isPart 6 = .ok (.iconst 1, 1) := dk_4 (dk_at dksX2_isPart_0 6 rfl rfl)
theorem dX2_isPart_7 : decode cX2_isPart 7 = .ok (.isub, 1) := dk_100 (dk_at dksX2_isPart_0 7 rfl rfl)
theorem dX2_isPart_8 : decode cX2_isPart 8 = .ok (.invokestatic 42, 3) := dk_184 0 42 (dk_at dksX2_isPart_0 8 rfl rfl)
theorem dX2_isPart_11 : decode cX2_isPart 11 = .ok (.ireturn, 1) := dk_172 (dk_at dksX2_isPart_0 11 rfl rfl)
abbrev cX2_isPossible : ByteArray := prog_10_method_26_code
def yX2_isPossible : MethodName := ⟨RX2, "isPossible", "(IIII)Z"⟩
def dkwX2_isPossible_1 : List UInt8 := [167, 0, 4, 3, 172]
abbrev dktX2_isPossible_1 : List UInt8 := dkwX2_isPossible_1 ++ []
def dkwX2_isPossible_0 : List UInt8 := [21, 4, 17, 11, 184, 162, 0, 21, 42, 27, 28, 29, 21, 4, 182, 0, 110, 21, 4, 160, 0, 7, 4]
abbrev dktX2_isPossible_0 : List UInt8 := dkwX2_isPossible_0 ++ dktX2_isPossible_1
theorem dksX2_isPossible_0 : cX2_isPossible.data.toList.drop 0 = dktX2_isPossible_0 := by decide +kernel
theorem dksX2_isPossible_1 : cX2_isPossible.data.toList.drop 23 = dktX2_isPossible_1 := dk_seg dksX2_isPossible_0 23 rfl rfl
theorem dX2_isPossible_0 : decode cX2_isPossible 0 = .ok (.iload 4, 2) := dk_21 4 (dk_at dksX2_isPossible_0 0 rfl rfl)
theorem dX2_isPossible_2 : decode cX2_isPossible 2 = .ok (.sipush 3000, 3) := dk_17 11 184 (dk_at dksX2_isPossible_0 2 rfl rfl)
theorem dX2_isPossible_5 : decode cX2_isPossible 5 = .ok (.if_icmp .ge 21, 3) := dk_162 0 21 (dk_at dksX2_isPossible_0 5 rfl rfl)
theorem dX2_isPossible_8 : decode cX2_isPossible 8 = .ok (.aload_n 0, 1) := dk_42 (dk_at dksX2_isPossible_0 8 rfl rfl)
theorem dX2_isPossible_9 : decode cX2_isPossible 9 = .ok (.iload_n 1, 1) := dk_27 (dk_at dksX2_isPossible_0 9 rfl rfl)
theorem dX2_isPossible_10 : decode cX2_isPossible 10 = .ok (.iload_n 2, 1) := dk_28 (dk_at dksX2_isPossible_0 10 rfl rfl)
theorem dX2_isPossible_11 : decode cX2_isPossible 11 = .ok (.iload_n 3, 1) := dk_29 (dk_at dksX2_isPossible_0 11 rfl rfl)
theorem dX2_isPossible_12 : decode cX2_isPossible 12 = .ok (.iload 4, 2) := dk_21 4 (dk_at dksX2_isPossible_0 12 rfl rfl)
theorem dX2_isPossible_14 : decode cX2_isPossible 14 = .ok (.invokevirtual 110, 3) := dk_182 0 110 (dk_at dksX2_isPossible_0 14 rfl rfl)
theorem dX2_isPossible_17 : decode cX2_isPossible 17 = .ok (.iload 4, 2) := dk_21 4 (dk_at dksX2_isPossible_0 17 rfl rfl)
theorem dX2_isPossible_19 : decode cX2_isPossible 19 = .ok (.if_icmp .ne 7, 3) := dk_160 0 7 (dk_at dksX2_isPossible_0 19 rfl rfl)
theorem dX2_isPossible_22 : decode cX2_isPossible 22 = .ok (.iconst 1, 1) := dk_4 (dk_at dksX2_isPossible_0 22 rfl rfl)
theorem dX2_isPossible_23 : decode cX2_isPossible 23 = .ok (.goto 4, 3) := dk_167 0 4 (dk_at dksX2_isPossible_1 0 rfl rfl)
theorem dX2_isPossible_26 : decode cX2_isPossible 26 = .ok (.iconst 0, 1) := dk_3 (dk_at dksX2_isPossible_1 3 rfl rfl)
theorem dX2_isPossible_27 : decode cX2_isPossible 27 = .ok (.ireturn, 1) := dk_172 (dk_at dksX2_isPossible_1 4 rfl rfl)
abbrev cX2_onward : ByteArray := prog_10_method_25_code
def yX2_onward : MethodName := ⟨RX2, "onward", "(IIII)I"⟩
def dkwX2_onward_9 : List UInt8 := [182, 0, 73, 42, 180, 0, 23, 96, 172, 132, 5, 1, 167, 255, 188, 21, 4, 172]
abbrev dktX2_onward_9 : List UInt8 := dkwX2_onward_9 ++ []
def dkwX2_onward_8 : List UInt8 := [162, 0, 31, 42, 21, 5, 182, 0, 73, 42, 180, 0, 23, 96, 21, 4, 164, 0, 15, 42, 21, 5]
abbrev dktX2_onward_8 : List UInt8 := dkwX2_onward_8 ++ dktX2_onward_9
def dkwX2_onward_7 : List UInt8 := [21, 5, 29, 182, 0, 66, 153, 0, 49, 42, 21, 5, 182, 0, 70, 21, 4, 28, 96, 42, 180, 0, 23, 96]
abbrev dktX2_onward_7 : List UInt8 := dkwX2_onward_7 ++ dktX2_onward_8
def dkwX2_onward_6 : List UInt8 := [5, 96, 46, 172, 132, 5, 1, 167, 255, 165, 3, 54, 5, 21, 5, 42, 180, 0, 63, 162, 0, 65, 42]
abbrev dktX2_onward_6 : List UInt8 := dkwX2_onward_6 ++ dktX2_onward_7
def dkwX2_onward_5 : List UInt8 := [42, 180, 0, 13, 7, 21, 5, 104, 5, 96, 46, 21, 4, 164, 0, 15, 42, 180, 0, 13, 7, 21, 5, 104]
abbrev dktX2_onward_5 : List UInt8 := dkwX2_onward_5 ++ dktX2_onward_6
def dkwX2_onward_4 : List UInt8 := [182, 0, 79, 164, 0, 49, 42, 180, 0, 13, 7, 21, 5, 104, 4, 96, 46, 21, 4, 28, 96, 162, 0, 31]
abbrev dktX2_onward_4 : List UInt8 := dkwX2_onward_4 ++ dktX2_onward_5
def dkwX2_onward_3 : List UInt8 := [21, 5, 104, 46, 29, 160, 0, 69, 42, 180, 0, 13, 7, 21, 5, 104, 6, 96, 46, 42, 27, 5]
abbrev dktX2_onward_3 : List UInt8 := dkwX2_onward_3 ++ dktX2_onward_4
def dkwX2_onward_2 : List UInt8 := [164, 0, 7, 17, 11, 184, 172, 3, 54, 5, 21, 5, 42, 180, 0, 60, 162, 0, 88, 42, 180, 0, 13, 7]
abbrev dktX2_onward_2 : List UInt8 := dkwX2_onward_2 ++ dktX2_onward_3
def dkwX2_onward_1 : List UInt8 := [4, 182, 0, 79, 161, 0, 22, 42, 180, 0, 9, 6, 29, 104, 5, 96, 46, 42, 27, 5, 182, 0, 79]
abbrev dktX2_onward_1 : List UInt8 := dkwX2_onward_1 ++ dktX2_onward_2
def dkwX2_onward_0 : List UInt8 := [21, 4, 155, 0, 48, 21, 4, 28, 96, 42, 29, 182, 0, 57, 163, 0, 36, 42, 29, 182, 0, 107, 42, 27]
abbrev dktX2_onward_0 : List UInt8 := dkwX2_onward_0 ++ dktX2_onward_1
theorem dksX2_onward_0 : cX2_onward.data.toList.drop 0 = dktX2_onward_0 := by decide +kernel
theorem dksX2_onward_1 : cX2_onward.data.toList.drop 24 = dktX2_onward_1 := dk_seg dksX2_onward_0 24 rfl rfl
theorem dksX2_onward_2 : cX2_onward.data.toList.drop 47 = dktX2_onward_2 := dk_seg dksX2_onward_1 23 rfl rfl
theorem dksX2_onward_3 : cX2_onward.data.toList.drop 71 = dktX2_onward_3 := dk_seg dksX2_onward_2 24 rfl rfl
theorem dksX2_onward_4 : cX2_onward.data.toList.drop 93 = dktX2_onward_4 := dk_seg dksX2_onward_3 22 rfl rfl
theorem dksX2_onward_5 : cX2_onward.data.toList.drop 117 = dktX2_onward_5 := dk_seg dksX2_onward_4 24 rfl rfl
theorem dksX2_onward_6 : cX2_onward.data.toList.drop 141 = dktX2_onward_6 := dk_seg dksX2_onward_5 24 rfl rfl
theorem dksX2_onward_7 : cX2_onward.data.toList.drop 164 = dktX2_onward_7 := dk_seg dksX2_onward_6 23 rfl rfl
theorem dksX2_onward_8 : cX2_onward.data.toList.drop 188 = dktX2_onward_8 := dk_seg dksX2_onward_7 24 rfl rfl
theorem dksX2_onward_9 : cX2_onward.data.toList.drop 210 = dktX2_onward_9 := dk_seg dksX2_onward_8 22 rfl rfl
theorem dX2_onward_0 : decode cX2_onward 0 = .ok (.iload 4, 2) := dk_21 4 (dk_at dksX2_onward_0 0 rfl rfl)
theorem dX2_onward_2 : decode cX2_onward 2 = .ok (.ifCond .lt 48, 3) := dk_155 0 48 (dk_at dksX2_onward_0 2 rfl rfl)
theorem dX2_onward_5 : decode cX2_onward 5 = .ok (.iload 4, 2) := dk_21 4 (dk_at dksX2_onward_0 5 rfl rfl)
theorem dX2_onward_7 : decode cX2_onward 7 = .ok (.iload_n 2, 1) := dk_28 (dk_at dksX2_onward_0 7 rfl rfl)
theorem dX2_onward_8 : decode cX2_onward 8 = .ok (.iadd, 1) := dk_96 (dk_at dksX2_onward_0 8 rfl rfl)
theorem dX2_onward_9 : decode cX2_onward 9 = .ok (.aload_n 0, 1) := dk_42 (dk_at dksX2_onward_0 9 rfl rfl)
theorem dX2_onward_10 : decode cX2_onward 10 = .ok (.iload_n 3, 1) := dk_29 (dk_at dksX2_onward_0 10 rfl rfl)
theorem dX2_onward_11 : decode cX2_onward 11 = .ok (.invokevirtual 57, 3) := dk_182 0 57 (dk_at dksX2_onward_0 11 rfl rfl)
theorem dX2_onward_14 : decode cX2_onward 14 = .ok (.if_icmp .gt 36, 3) := dk_163 0 36 (dk_at dksX2_onward_0 14 rfl rfl)
theorem dX2_onward_17 : decode cX2_onward 17 = .ok (.aload_n 0, 1) := dk_42 (dk_at dksX2_onward_0 17 rfl rfl)
theorem dX2_onward_18 : decode cX2_onward 18 = .ok (.iload_n 3, 1) := dk_29 (dk_at dksX2_onward_0 18 rfl rfl)
theorem dX2_onward_19 : decode cX2_onward 19 = .ok (.invokevirtual 107, 3) := dk_182 0 107 (dk_at dksX2_onward_0 19 rfl rfl)
theorem dX2_onward_22 : decode cX2_onward 22 = .ok (.aload_n 0, 1) := dk_42 (dk_at dksX2_onward_0 22 rfl rfl)
theorem dX2_onward_23 : decode cX2_onward 23 = .ok (.iload_n 1, 1) := dk_27 (dk_at dksX2_onward_0 23 rfl rfl)
theorem dX2_onward_24 : decode cX2_onward 24 = .ok (.iconst 1, 1) := dk_4 (dk_at dksX2_onward_1 0 rfl rfl)
theorem dX2_onward_25 : decode cX2_onward 25 = .ok (.invokevirtual 79, 3) := dk_182 0 79 (dk_at dksX2_onward_1 1 rfl rfl)
theorem dX2_onward_28 : decode cX2_onward 28 = .ok (.if_icmp .lt 22, 3) := dk_161 0 22 (dk_at dksX2_onward_1 4 rfl rfl)
theorem dX2_onward_31 : decode cX2_onward 31 = .ok (.aload_n 0, 1) := dk_42 (dk_at dksX2_onward_1 7 rfl rfl)
theorem dX2_onward_32 : decode cX2_onward 32 = .ok (.getfield 9, 3) := dk_180 0 9 (dk_at dksX2_onward_1 8 rfl rfl)
theorem dX2_onward_35 : decode cX2_onward 35 = .ok (.iconst 3, 1) := dk_6 (dk_at dksX2_onward_1 11 rfl rfl)
theorem dX2_onward_36 : decode cX2_onward 36 = .ok (.iload_n 3, 1) := dk_29 (dk_at dksX2_onward_1 12 rfl rfl)
theorem dX2_onward_37 : decode cX2_onward 37 = .ok (.imul, 1) := dk_104 (dk_at dksX2_onward_1 13 rfl rfl)
theorem dX2_onward_38 : decode cX2_onward 38 = .ok (.iconst 2, 1) := dk_5 (dk_at dksX2_onward_1 14 rfl rfl)
theorem dX2_onward_39 : decode cX2_onward 39 = .ok (.iadd, 1) := dk_96 (dk_at dksX2_onward_1 15 rfl rfl)
theorem dX2_onward_40 : decode cX2_onward 40 = .ok (.iaload, 1) := dk_46 (dk_at dksX2_onward_1 16 rfl rfl)
theorem dX2_onward_41 : decode cX2_onward 41 = .ok (.aload_n 0, 1) := dk_42 (dk_at dksX2_onward_1 17 rfl rfl)
theorem dX2_onward_42 : decode cX2_onward 42 = .ok (.iload_n 1, 1) := dk_27 (dk_at dksX2_onward_1 18 rfl rfl)
theorem dX2_onward_43 : decode cX2_onward 43 = .ok (.iconst 2, 1) := dk_5 (dk_at dksX2_onward_1 19 rfl rfl)
theorem dX2_onward_44 : decode cX2_onward 44 = .ok (.invokevirtual 79, 3) := dk_182 0 79 (dk_at dksX2_onward_1 20 rfl rfl)
theorem dX2_onward_47 : decode cX2_onward 47 = .ok (.if_icmp .le 7, 3) := dk_164 0 7 (dk_at dksX2_onward_2 0 rfl rfl)
theorem dX2_onward_50 : decode cX2_onward 50 = .ok (.sipush 3000, 3) := dk_17 11 184 (dk_at dksX2_onward_2 3 rfl rfl)
theorem dX2_onward_53 : decode cX2_onward 53 = .ok (.ireturn, 1) := dk_172 (dk_at dksX2_onward_2 6 rfl rfl)
theorem dX2_onward_54 : decode cX2_onward 54 = .ok (.iconst 0, 1) := dk_3 (dk_at dksX2_onward_2 7 rfl rfl)
theorem dX2_onward_55 : decode cX2_onward 55 = .ok (.istore 5, 2) := dk_54 5 (dk_at dksX2_onward_2 8 rfl rfl)
theorem dX2_onward_57 : decode cX2_onward 57 = .ok (.iload 5, 2) := dk_21 5 (dk_at dksX2_onward_2 10 rfl rfl)
theorem dX2_onward_59 : decode cX2_onward 59 = .ok (.aload_n 0, 1) := dk_42 (dk_at dksX2_onward_2 12 rfl rfl)
theorem dX2_onward_60 : decode cX2_onward 60 = .ok (.getfield 60, 3) := dk_180 0 60 (dk_at dksX2_onward_2 13 rfl rfl)
theorem dX2_onward_63 : decode cX2_onward 63 = .ok (.if_icmp .ge 88, 3) := dk_162 0 88 (dk_at dksX2_onward_2 16 rfl rfl)
theorem dX2_onward_66 : decode cX2_onward 66 = .ok (.aload_n 0, 1) := dk_42 (dk_at dksX2_onward_2 19 rfl rfl)
theorem dX2_onward_67 : decode cX2_onward 67 = .ok (.getfield 13, 3) := dk_180 0 13 (dk_at dksX2_onward_2 20 rfl rfl)
theorem dX2_onward_70 : decode cX2_onward 70 = .ok (.iconst 4, 1) := dk_7 (dk_at dksX2_onward_2 23 rfl rfl)
theorem dX2_onward_71 : decode cX2_onward 71 = .ok (.iload 5, 2) := dk_21 5 (dk_at dksX2_onward_3 0 rfl rfl)
theorem dX2_onward_73 : decode cX2_onward 73 = .ok (.imul, 1) := dk_104 (dk_at dksX2_onward_3 2 rfl rfl)
theorem dX2_onward_74 : decode cX2_onward 74 = .ok (.iaload, 1) := dk_46 (dk_at dksX2_onward_3 3 rfl rfl)
theorem dX2_onward_75 : decode cX2_onward 75 = .ok (.iload_n 3, 1) := dk_29 (dk_at dksX2_onward_3 4 rfl rfl)
theorem dX2_onward_76 : decode cX2_onward 76 = .ok (.if_icmp .ne 69, 3) := dk_160 0 69 (dk_at dksX2_onward_3 5 rfl rfl)
theorem dX2_onward_79 : decode cX2_onward 79 = .ok (.aload_n 0, 1) := dk_42 (dk_at dksX2_onward_3 8 rfl rfl)
theorem dX2_onward_80 : decode cX2_onward 80 = .ok (.getfield 13, 3) := dk_180 0 13 (dk_at dksX2_onward_3 9 rfl rfl)
theorem dX2_onward_83 : decode cX2_onward 83 = .ok (.iconst 4, 1) := dk_7 (dk_at dksX2_onward_3 12 rfl rfl)
theorem dX2_onward_84 : decode cX2_onward 84 = .ok (.iload 5, 2) := dk_21 5 (dk_at dksX2_onward_3 13 rfl rfl)
theorem dX2_onward_86 : decode cX2_onward 86 = .ok (.imul, 1) := dk_104 (dk_at dksX2_onward_3 15 rfl rfl)
theorem dX2_onward_87 : decode cX2_onward 87 = .ok (.iconst 3, 1) := dk_6 (dk_at dksX2_onward_3 16 rfl rfl)
theorem dX2_onward_88 : decode cX2_onward 88 = .ok (.iadd, 1) := dk_96 (dk_at dksX2_onward_3 17 rfl rfl)
theorem dX2_onward_89 : decode cX2_onward 89 = .ok (.iaload, 1) := dk_46 (dk_at dksX2_onward_3 18 rfl rfl)
theorem dX2_onward_90 : decode cX2_onward 90 = .ok (.aload_n 0, 1) := dk_42 (dk_at dksX2_onward_3 19 rfl rfl)
theorem dX2_onward_91 : decode cX2_onward 91 = .ok (.iload_n 1, 1) := dk_27 (dk_at dksX2_onward_3 20 rfl rfl)
theorem dX2_onward_92 : decode cX2_onward 92 = .ok (.iconst 2, 1) := dk_5 (dk_at dksX2_onward_3 21 rfl rfl)
theorem dX2_onward_93 : decode cX2_onward 93 = .ok (.invokevirtual 79, 3) := dk_182 0 79 (dk_at dksX2_onward_4 0 rfl rfl)
theorem dX2_onward_96 : decode cX2_onward 96 = .ok (.if_icmp .le 49, 3) := dk_164 0 49 (dk_at dksX2_onward_4 3 rfl rfl)
theorem dX2_onward_99 : decode cX2_onward 99 = .ok (.aload_n 0, 1) := dk_42 (dk_at dksX2_onward_4 6 rfl rfl)
theorem dX2_onward_100 : decode cX2_onward 100 = .ok (.getfield 13, 3) := dk_180 0 13 (dk_at dksX2_onward_4 7 rfl rfl)
theorem dX2_onward_103 : decode cX2_onward 103 = .ok (.iconst 4, 1) := dk_7 (dk_at dksX2_onward_4 10 rfl rfl)
theorem dX2_onward_104 : decode cX2_onward 104 = .ok (.iload 5, 2) := dk_21 5 (dk_at dksX2_onward_4 11 rfl rfl)
theorem dX2_onward_106 : decode cX2_onward 106 = .ok (.imul, 1) := dk_104 (dk_at dksX2_onward_4 13 rfl rfl)
theorem dX2_onward_107 : decode cX2_onward 107 = .ok (.iconst 1, 1) := dk_4 (dk_at dksX2_onward_4 14 rfl rfl)
theorem dX2_onward_108 : decode cX2_onward 108 = .ok (.iadd, 1) := dk_96 (dk_at dksX2_onward_4 15 rfl rfl)
theorem dX2_onward_109 : decode cX2_onward 109 = .ok (.iaload, 1) := dk_46 (dk_at dksX2_onward_4 16 rfl rfl)
theorem dX2_onward_110 : decode cX2_onward 110 = .ok (.iload 4, 2) := dk_21 4 (dk_at dksX2_onward_4 17 rfl rfl)
theorem dX2_onward_112 : decode cX2_onward 112 = .ok (.iload_n 2, 1) := dk_28 (dk_at dksX2_onward_4 19 rfl rfl)
theorem dX2_onward_113 : decode cX2_onward 113 = .ok (.iadd, 1) := dk_96 (dk_at dksX2_onward_4 20 rfl rfl)
theorem dX2_onward_114 : decode cX2_onward 114 = .ok (.if_icmp .ge 31, 3) := dk_162 0 31 (dk_at dksX2_onward_4 21 rfl rfl)
theorem dX2_onward_117 : decode cX2_onward 117 = .ok (.aload_n 0, 1) := dk_42 (dk_at dksX2_onward_5 0 rfl rfl)
theorem dX2_onward_118 : decode cX2_onward 118 = .ok (.getfield 13, 3) := dk_180 0 13 (dk_at dksX2_onward_5 1 rfl rfl)
theorem dX2_onward_121 : decode cX2_onward 121 = .ok (.iconst 4, 1) := dk_7 (dk_at dksX2_onward_5 4 rfl rfl)
theorem dX2_onward_122 : decode cX2_onward 122 = .ok (.iload 5, 2) := dk_21 5 (dk_at dksX2_onward_5 5 rfl rfl)
theorem dX2_onward_124 : decode cX2_onward 124 = .ok (.imul, 1) := dk_104 (dk_at dksX2_onward_5 7 rfl rfl)
theorem dX2_onward_125 : decode cX2_onward 125 = .ok (.iconst 2, 1) := dk_5 (dk_at dksX2_onward_5 8 rfl rfl)
theorem dX2_onward_126 : decode cX2_onward 126 = .ok (.iadd, 1) := dk_96 (dk_at dksX2_onward_5 9 rfl rfl)
theorem dX2_onward_127 : decode cX2_onward 127 = .ok (.iaload, 1) := dk_46 (dk_at dksX2_onward_5 10 rfl rfl)
theorem dX2_onward_128 : decode cX2_onward 128 = .ok (.iload 4, 2) := dk_21 4 (dk_at dksX2_onward_5 11 rfl rfl)
theorem dX2_onward_130 : decode cX2_onward 130 = .ok (.if_icmp .le 15, 3) := dk_164 0 15 (dk_at dksX2_onward_5 13 rfl rfl)
theorem dX2_onward_133 : decode cX2_onward 133 = .ok (.aload_n 0, 1) := dk_42 (dk_at dksX2_onward_5 16 rfl rfl)
theorem dX2_onward_134 : decode cX2_onward 134 = .ok (.getfield 13, 3) := dk_180 0 13 (dk_at dksX2_onward_5 17 rfl rfl)
theorem dX2_onward_137 : decode cX2_onward 137 = .ok (.iconst 4, 1) := dk_7 (dk_at dksX2_onward_5 20 rfl rfl)
theorem dX2_onward_138 : decode cX2_onward 138 = .ok (.iload 5, 2) := dk_21 5 (dk_at dksX2_onward_5 21 rfl rfl)
theorem dX2_onward_140 : decode cX2_onward 140 = .ok (.imul, 1) := dk_104 (dk_at dksX2_onward_5 23 rfl rfl)
theorem dX2_onward_141 : decode cX2_onward 141 = .ok (.iconst 2, 1) := dk_5 (dk_at dksX2_onward_6 0 rfl rfl)
theorem dX2_onward_142 : decode cX2_onward 142 = .ok (.iadd, 1) := dk_96 (dk_at dksX2_onward_6 1 rfl rfl)
theorem dX2_onward_143 : decode cX2_onward 143 = .ok (.iaload, 1) := dk_46 (dk_at dksX2_onward_6 2 rfl rfl)
theorem dX2_onward_144 : decode cX2_onward 144 = .ok (.ireturn, 1) := dk_172 (dk_at dksX2_onward_6 3 rfl rfl)
theorem dX2_onward_145 : decode cX2_onward 145 = .ok (.iinc 5 1, 3) := dk_132 5 1 (dk_at dksX2_onward_6 4 rfl rfl)
theorem dX2_onward_148 : decode cX2_onward 148 = .ok (.goto (-91), 3) := dk_167 255 165 (dk_at dksX2_onward_6 7 rfl rfl)
theorem dX2_onward_151 : decode cX2_onward 151 = .ok (.iconst 0, 1) := dk_3 (dk_at dksX2_onward_6 10 rfl rfl)
theorem dX2_onward_152 : decode cX2_onward 152 = .ok (.istore 5, 2) := dk_54 5 (dk_at dksX2_onward_6 11 rfl rfl)
theorem dX2_onward_154 : decode cX2_onward 154 = .ok (.iload 5, 2) := dk_21 5 (dk_at dksX2_onward_6 13 rfl rfl)
theorem dX2_onward_156 : decode cX2_onward 156 = .ok (.aload_n 0, 1) := dk_42 (dk_at dksX2_onward_6 15 rfl rfl)
theorem dX2_onward_157 : decode cX2_onward 157 = .ok (.getfield 63, 3) := dk_180 0 63 (dk_at dksX2_onward_6 16 rfl rfl)
theorem dX2_onward_160 : decode cX2_onward 160 = .ok (.if_icmp .ge 65, 3) := dk_162 0 65 (dk_at dksX2_onward_6 19 rfl rfl)
theorem dX2_onward_163 : decode cX2_onward 163 = .ok (.aload_n 0, 1) := dk_42 (dk_at dksX2_onward_6 22 rfl rfl)
theorem dX2_onward_164 : decode cX2_onward 164 = .ok (.iload 5, 2) := dk_21 5 (dk_at dksX2_onward_7 0 rfl rfl)
theorem dX2_onward_166 : decode cX2_onward 166 = .ok (.iload_n 3, 1) := dk_29 (dk_at dksX2_onward_7 2 rfl rfl)
theorem dX2_onward_167 : decode cX2_onward 167 = .ok (.invokevirtual 66, 3) := dk_182 0 66 (dk_at dksX2_onward_7 3 rfl rfl)
theorem dX2_onward_170 : decode cX2_onward 170 = .ok (.ifCond .eq 49, 3) := dk_153 0 49 (dk_at dksX2_onward_7 6 rfl rfl)
theorem dX2_onward_173 : decode cX2_onward 173 = .ok (.aload_n 0, 1) := dk_42 (dk_at dksX2_onward_7 9 rfl rfl)
theorem dX2_onward_174 : decode cX2_onward 174 = .ok (.iload 5, 2) := dk_21 5 (dk_at dksX2_onward_7 10 rfl rfl)
theorem dX2_onward_176 : decode cX2_onward 176 = .ok (.invokevirtual 70, 3) := dk_182 0 70 (dk_at dksX2_onward_7 12 rfl rfl)
theorem dX2_onward_179 : decode cX2_onward 179 = .ok (.iload 4, 2) := dk_21 4 (dk_at dksX2_onward_7 15 rfl rfl)
theorem dX2_onward_181 : decode cX2_onward 181 = .ok (.iload_n 2, 1) := dk_28 (dk_at dksX2_onward_7 17 rfl rfl)
theorem dX2_onward_182 : decode cX2_onward 182 = .ok (.iadd, 1) := dk_96 (dk_at dksX2_onward_7 18 rfl rfl)
theorem dX2_onward_183 : decode cX2_onward 183 = .ok (.aload_n 0, 1) := dk_42 (dk_at dksX2_onward_7 19 rfl rfl)
theorem dX2_onward_184 : decode cX2_onward 184 = .ok (.getfield 23, 3) := dk_180 0 23 (dk_at dksX2_onward_7 20 rfl rfl)
theorem dX2_onward_187 : decode cX2_onward 187 = .ok (.iadd, 1) := dk_96 (dk_at dksX2_onward_7 23 rfl rfl)
theorem dX2_onward_188 : decode cX2_onward 188 = .ok (.if_icmp .ge 31, 3) := dk_162 0 31 (dk_at dksX2_onward_8 0 rfl rfl)
theorem dX2_onward_191 : decode cX2_onward 191 = .ok (.aload_n 0, 1) := dk_42 (dk_at dksX2_onward_8 3 rfl rfl)
theorem dX2_onward_192 : decode cX2_onward 192 = .ok (.iload 5, 2) := dk_21 5 (dk_at dksX2_onward_8 4 rfl rfl)
theorem dX2_onward_194 : decode cX2_onward 194 = .ok (.invokevirtual 73, 3) := dk_182 0 73 (dk_at dksX2_onward_8 6 rfl rfl)
theorem dX2_onward_197 : decode cX2_onward 197 = .ok (.aload_n 0, 1) := dk_42 (dk_at dksX2_onward_8 9 rfl rfl)
theorem dX2_onward_198 : decode cX2_onward 198 = .ok (.getfield 23, 3) := dk_180 0 23 (dk_at dksX2_onward_8 10 rfl rfl)
theorem dX2_onward_201 : decode cX2_onward 201 = .ok (.iadd, 1) := dk_96 (dk_at dksX2_onward_8 13 rfl rfl)
theorem dX2_onward_202 : decode cX2_onward 202 = .ok (.iload 4, 2) := dk_21 4 (dk_at dksX2_onward_8 14 rfl rfl)
theorem dX2_onward_204 : decode cX2_onward 204 = .ok (.if_icmp .le 15, 3) := dk_164 0 15 (dk_at dksX2_onward_8 16 rfl rfl)
theorem dX2_onward_207 : decode cX2_onward 207 = .ok (.aload_n 0, 1) := dk_42 (dk_at dksX2_onward_8 19 rfl rfl)
theorem dX2_onward_208 : decode cX2_onward 208 = .ok (.iload 5, 2) := dk_21 5 (dk_at dksX2_onward_8 20 rfl rfl)
theorem dX2_onward_210 : decode cX2_onward 210 = .ok (.invokevirtual 73, 3) := dk_182 0 73 (dk_at dksX2_onward_9 0 rfl rfl)
theorem dX2_onward_213 : decode cX2_onward 213 = .ok (.aload_n 0, 1) := dk_42 (dk_at dksX2_onward_9 3 rfl rfl)
theorem dX2_onward_214 : decode cX2_onward 214 = .ok (.getfield 23, 3) := dk_180 0 23 (dk_at dksX2_onward_9 4 rfl rfl)
theorem dX2_onward_217 : decode cX2_onward 217 = .ok (.iadd, 1) := dk_96 (dk_at dksX2_onward_9 7 rfl rfl)
theorem dX2_onward_218 : decode cX2_onward 218 = .ok (.ireturn, 1) := dk_172 (dk_at dksX2_onward_9 8 rfl rfl)
theorem dX2_onward_219 : decode cX2_onward 219 = .ok (.iinc 5 1, 3) := dk_132 5 1 (dk_at dksX2_onward_9 9 rfl rfl)
theorem dX2_onward_222 : decode cX2_onward 222 = .ok (.goto (-68), 3) := dk_167 255 188 (dk_at dksX2_onward_9 12 rfl rfl)
theorem dX2_onward_225 : decode cX2_onward 225 = .ok (.iload 4, 2) := dk_21 4 (dk_at dksX2_onward_9 15 rfl rfl)
theorem dX2_onward_227 : decode cX2_onward 227 = .ok (.ireturn, 1) := dk_172 (dk_at dksX2_onward_9 17 rfl rfl)
abbrev cX2_width : ByteArray := prog_10_method_8_code
def yX2_width : MethodName := ⟨RX2, "width", "(I)I"⟩
def dkwX2_width_0 : List UInt8 := [42, 180, 0, 9, 6, 27, 104, 4, 96, 46, 172]
abbrev dktX2_width_0 : List UInt8 := dkwX2_width_0 ++ []
theorem dksX2_width_0 : cX2_width.data.toList.drop 0 = dktX2_width_0 := by decide +kernel
theorem dX2_width_0 : decode cX2_width 0 = .ok (.aload_n 0, 1) := dk_42 (dk_at dksX2_width_0 0 rfl rfl)
theorem dX2_width_1 : decode cX2_width 1 = .ok (.getfield 9, 3) := dk_180 0 9 (dk_at dksX2_width_0 1 rfl rfl)
theorem dX2_width_4 : decode cX2_width 4 = .ok (.iconst 3, 1) := dk_6 (dk_at dksX2_width_0 4 rfl rfl)
theorem dX2_width_5 : decode cX2_width 5 = .ok (.iload_n 1, 1) := dk_27 (dk_at dksX2_width_0 5 rfl rfl)
theorem dX2_width_6 : decode cX2_width 6 = .ok (.imul, 1) := dk_104 (dk_at dksX2_width_0 6 rfl rfl)
theorem dX2_width_7 : decode cX2_width 7 = .ok (.iconst 1, 1) := dk_4 (dk_at dksX2_width_0 7 rfl rfl)
theorem dX2_width_8 : decode cX2_width 8 = .ok (.iadd, 1) := dk_96 (dk_at dksX2_width_0 8 rfl rfl)
theorem dX2_width_9 : decode cX2_width 9 = .ok (.iaload, 1) := dk_46 (dk_at dksX2_width_0 9 rfl rfl)
theorem dX2_width_10 : decode cX2_width 10 = .ok (.ireturn, 1) := dk_172 (dk_at dksX2_width_0 10 rfl rfl)
abbrev cX2_earliest : ByteArray := prog_10_method_29_code
def yX2_earliest : MethodName := ⟨RX2, "earliest", "(II)I"⟩
def dkwX2_earliest_1 : List UInt8 := [182, 0, 121, 167, 0, 8, 42, 4, 182, 0, 49, 172]
abbrev dktX2_earliest_1 : List UInt8 := dkwX2_earliest_1 ++ []
def dkwX2_earliest_0 : List UInt8 := [42, 3, 181, 0, 36, 42, 27, 182, 0, 114, 153, 0, 20, 42, 28, 182, 0, 53, 153, 0, 12, 42, 27, 28]
abbrev dktX2_earliest_0 : List UInt8 := dkwX2_earliest_0 ++ dktX2_earliest_1
theorem dksX2_earliest_0 : cX2_earliest.data.toList.drop 0 = dktX2_earliest_0 := by decide +kernel
theorem dksX2_earliest_1 : cX2_earliest.data.toList.drop 24 = dktX2_earliest_1 := dk_seg dksX2_earliest_0 24 rfl rfl
theorem dX2_earliest_0 : decode cX2_earliest 0 = .ok (.aload_n 0, 1) := dk_42 (dk_at dksX2_earliest_0 0 rfl rfl)
theorem dX2_earliest_1 : decode cX2_earliest 1 = .ok (.iconst 0, 1) := dk_3 (dk_at dksX2_earliest_0 1 rfl rfl)
theorem dX2_earliest_2 : decode cX2_earliest 2 = .ok (.putfield 36, 3) := dk_181 0 36 (dk_at dksX2_earliest_0 2 rfl rfl)
theorem dX2_earliest_5 : decode cX2_earliest 5 = .ok (.aload_n 0, 1) := dk_42 (dk_at dksX2_earliest_0 5 rfl rfl)
theorem dX2_earliest_6 : decode cX2_earliest 6 = .ok (.iload_n 1, 1) := dk_27 (dk_at dksX2_earliest_0 6 rfl rfl)
theorem dX2_earliest_7 : decode cX2_earliest 7 = .ok (.invokevirtual 114, 3) := dk_182 0 114 (dk_at dksX2_earliest_0 7 rfl rfl)
theorem dX2_earliest_10 : decode cX2_earliest 10 = .ok (.ifCond .eq 20, 3) := dk_153 0 20 (dk_at dksX2_earliest_0 10 rfl rfl)
theorem dX2_earliest_13 : decode cX2_earliest 13 = .ok (.aload_n 0, 1) := dk_42 (dk_at dksX2_earliest_0 13 rfl rfl)
theorem dX2_earliest_14 : decode cX2_earliest 14 = .ok (.iload_n 2, 1) := dk_28 (dk_at dksX2_earliest_0 14 rfl rfl)
theorem dX2_earliest_15 : decode cX2_earliest 15 = .ok (.invokevirtual 53, 3) := dk_182 0 53 (dk_at dksX2_earliest_0 15 rfl rfl)
theorem dX2_earliest_18 : decode cX2_earliest 18 = .ok (.ifCond .eq 12, 3) := dk_153 0 12 (dk_at dksX2_earliest_0 18 rfl rfl)
theorem dX2_earliest_21 : decode cX2_earliest 21 = .ok (.aload_n 0, 1) := dk_42 (dk_at dksX2_earliest_0 21 rfl rfl)
theorem dX2_earliest_22 : decode cX2_earliest 22 = .ok (.iload_n 1, 1) := dk_27 (dk_at dksX2_earliest_0 22 rfl rfl)
theorem dX2_earliest_23 : decode cX2_earliest 23 = .ok (.iload_n 2, 1) := dk_28 (dk_at dksX2_earliest_0 23 rfl rfl)
theorem dX2_earliest_24 : decode cX2_earliest 24 = .ok (.invokevirtual 121, 3) := dk_182 0 121 (dk_at dksX2_earliest_1 0 rfl rfl)
theorem dX2_earliest_27 : decode cX2_earliest 27 = .ok (.goto 8, 3) := dk_167 0 8 (dk_at dksX2_earliest_1 3 rfl rfl)
theorem dX2_earliest_30 : decode cX2_earliest 30 = .ok (.aload_n 0, 1) := dk_42 (dk_at dksX2_earliest_1 6 rfl rfl)
theorem dX2_earliest_31 : decode cX2_earliest 31 = .ok (.iconst 1, 1) := dk_4 (dk_at dksX2_earliest_1 7 rfl rfl)
theorem dX2_earliest_32 : decode cX2_earliest 32 = .ok (.invokevirtual 49, 3) := dk_182 0 49 (dk_at dksX2_earliest_1 8 rfl rfl)
theorem dX2_earliest_35 : decode cX2_earliest 35 = .ok (.ireturn, 1) := dk_172 (dk_at dksX2_earliest_1 11 rfl rfl)
abbrev cX2_earliestOn : ByteArray := prog_10_method_27_code
def yX2_earliestOn : MethodName := ⟨RX2, "earliestOn", "(II)I"⟩
def dkwX2_earliestOn_1 : List UInt8 := [21, 4, 29, 160, 0, 5, 29, 172, 21, 4, 62, 167, 255, 223, 2, 172]
abbrev dktX2_earliestOn_1 : List UInt8 := dkwX2_earliestOn_1 ++ []
def dkwX2_earliestOn_0 : List UInt8 := [3, 62, 29, 17, 11, 184, 162, 0, 32, 42, 27, 42, 27, 3, 182, 0, 79, 28, 29, 182, 0, 110, 54, 4]
abbrev dktX2_earliestOn_0 : List UInt8 := dkwX2_earliestOn_0 ++ dktX2_earliestOn_1
theorem dksX2_earliestOn_0 : cX2_earliestOn.data.toList.drop 0 = dktX2_earliestOn_0 := by decide +kernel
theorem dksX2_earliestOn_1 : cX2_earliestOn.data.toList.drop 24 = dktX2_earliestOn_1 := dk_seg dksX2_earliestOn_0 24 rfl rfl
theorem dX2_earliestOn_0 : decode cX2_earliestOn 0 = .ok (.iconst 0, 1) := dk_3 (dk_at dksX2_earliestOn_0 0 rfl rfl)
theorem dX2_earliestOn_1 : decode cX2_earliestOn 1 = .ok (.istore_n 3, 1) := dk_62 (dk_at dksX2_earliestOn_0 1 rfl rfl)
theorem dX2_earliestOn_2 : decode cX2_earliestOn 2 = .ok (.iload_n 3, 1) := dk_29 (dk_at dksX2_earliestOn_0 2 rfl rfl)
theorem dX2_earliestOn_3 : decode cX2_earliestOn 3 = .ok (.sipush 3000, 3) := dk_17 11 184 (dk_at dksX2_earliestOn_0 3 rfl rfl)
theorem dX2_earliestOn_6 : decode cX2_earliestOn 6 = .ok (.if_icmp .ge 32, 3) := dk_162 0 32 (dk_at dksX2_earliestOn_0 6 rfl rfl)
theorem dX2_earliestOn_9 : decode cX2_earliestOn 9 = .ok (.aload_n 0, 1) := dk_42 (dk_at dksX2_earliestOn_0 9 rfl rfl)
theorem dX2_earliestOn_10 : decode cX2_earliestOn 10 = .ok (.iload_n 1, 1) := dk_27 (dk_at dksX2_earliestOn_0 10 rfl rfl)
theorem dX2_earliestOn_11 : decode cX2_earliestOn 11 = .ok (.aload_n 0, 1) := dk_42 (dk_at dksX2_earliestOn_0 11 rfl rfl)
theorem dX2_earliestOn_12 : decode cX2_earliestOn 12 = .ok (.iload_n 1, 1) := dk_27 (dk_at dksX2_earliestOn_0 12 rfl rfl)
theorem dX2_earliestOn_13 : decode cX2_earliestOn 13 = .ok (.iconst 0, 1) := dk_3 (dk_at dksX2_earliestOn_0 13 rfl rfl)
theorem dX2_earliestOn_14 : decode cX2_earliestOn 14 = .ok (.invokevirtual 79, 3) := dk_182 0 79 (dk_at dksX2_earliestOn_0 14 rfl rfl)
theorem dX2_earliestOn_17 : decode cX2_earliestOn 17 = .ok (.iload_n 2, 1) := dk_28 (dk_at dksX2_earliestOn_0 17 rfl rfl)
theorem dX2_earliestOn_18 : decode cX2_earliestOn 18 = .ok (.iload_n 3, 1) := dk_29 (dk_at dksX2_earliestOn_0 18 rfl rfl)
theorem dX2_earliestOn_19 : decode cX2_earliestOn 19 = .ok (.invokevirtual 110, 3) := dk_182 0 110 (dk_at dksX2_earliestOn_0 19 rfl rfl)
theorem dX2_earliestOn_22 : decode cX2_earliestOn 22 = .ok (.istore 4, 2) := dk_54 4 (dk_at dksX2_earliestOn_0 22 rfl rfl)
theorem dX2_earliestOn_24 : decode cX2_earliestOn 24 = .ok (.iload 4, 2) := dk_21 4 (dk_at dksX2_earliestOn_1 0 rfl rfl)
theorem dX2_earliestOn_26 : decode cX2_earliestOn 26 = .ok (.iload_n 3, 1) := dk_29 (dk_at dksX2_earliestOn_1 2 rfl rfl)
theorem dX2_earliestOn_27 : decode cX2_earliestOn 27 = .ok (.if_icmp .ne 5, 3) := dk_160 0 5 (dk_at dksX2_earliestOn_1 3 rfl rfl)
theorem dX2_earliestOn_30 : decode cX2_earliestOn 30 = .ok (.iload_n 3, 1) := dk_29 (dk_at dksX2_earliestOn_1 6 rfl rfl)
theorem dX2_earliestOn_31 : decode cX2_earliestOn 31 = .ok (.ireturn, 1) := dk_172 (dk_at dksX2_earliestOn_1 7 rfl rfl)
theorem dX2_earliestOn_32 : decode cX2_earliestOn 32 = .ok (.iload 4, 2) := dk_21 4 (dk_at dksX2_earliestOn_1 8 rfl rfl)
theorem dX2_earliestOn_34 : decode cX2_earliestOn 34 = .ok (.istore_n 3, 1) := dk_62 (dk_at dksX2_earliestOn_1 10 rfl rfl)
theorem dX2_earliestOn_35 : decode cX2_earliestOn 35 = .ok (.goto (-33), 3) := dk_167 255 223 (dk_at dksX2_earliestOn_1 11 rfl rfl)
theorem dX2_earliestOn_38 : decode cX2_earliestOn 38 = .ok (.iconst (-1), 1) := dk_2 (dk_at dksX2_earliestOn_1 14 rfl rfl)
theorem dX2_earliestOn_39 : decode cX2_earliestOn 39 = .ok (.ireturn, 1) := dk_172 (dk_at dksX2_earliestOn_1 15 rfl rfl)
abbrev cX2_cut : ByteArray := prog_10_method_32_code
def yX2_cut : MethodName := ⟨RX2, "cut", "(III)I"⟩
def dkwX2_cut_3 : List UInt8 := [28, 29, 42, 27, 3, 182, 0, 79, 3, 182, 0, 124, 42, 27, 182, 0, 128, 172]
abbrev dktX2_cut_3 : List UInt8 := dkwX2_cut_3 ++ []
def dkwX2_cut_2 : List UInt8 := [42, 27, 42, 27, 3, 182, 0, 79, 28, 29, 182, 0, 117, 154, 0, 9, 42, 5, 182, 0, 49, 172, 42, 27]
abbrev dktX2_cut_2 : List UInt8 := dkwX2_cut_2 ++ dktX2_cut_3
def dkwX2_cut_1 : List UInt8 := [182, 0, 49, 172, 42, 27, 6, 182, 0, 79, 153, 0, 30, 29, 3, 17, 11, 184, 184, 0, 42, 153, 0, 19]
abbrev dktX2_cut_1 : List UInt8 := dkwX2_cut_1 ++ dktX2_cut_2
def dkwX2_cut_0 : List UInt8 := [42, 3, 181, 0, 36, 42, 27, 182, 0, 114, 153, 0, 11, 42, 28, 182, 0, 53, 154, 0, 9, 42, 4]
abbrev dktX2_cut_0 : List UInt8 := dkwX2_cut_0 ++ dktX2_cut_1
theorem dksX2_cut_0 : cX2_cut.data.toList.drop 0 = dktX2_cut_0 := by decide +kernel
theorem dksX2_cut_1 : cX2_cut.data.toList.drop 23 = dktX2_cut_1 := dk_seg dksX2_cut_0 23 rfl rfl
theorem dksX2_cut_2 : cX2_cut.data.toList.drop 47 = dktX2_cut_2 := dk_seg dksX2_cut_1 24 rfl rfl
theorem dksX2_cut_3 : cX2_cut.data.toList.drop 71 = dktX2_cut_3 := dk_seg dksX2_cut_2 24 rfl rfl
theorem dX2_cut_0 : decode cX2_cut 0 = .ok (.aload_n 0, 1) := dk_42 (dk_at dksX2_cut_0 0 rfl rfl)
theorem dX2_cut_1 : decode cX2_cut 1 = .ok (.iconst 0, 1) := dk_3 (dk_at dksX2_cut_0 1 rfl rfl)
theorem dX2_cut_2 : decode cX2_cut 2 = .ok (.putfield 36, 3) := dk_181 0 36 (dk_at dksX2_cut_0 2 rfl rfl)
theorem dX2_cut_5 : decode cX2_cut 5 = .ok (.aload_n 0, 1) := dk_42 (dk_at dksX2_cut_0 5 rfl rfl)
theorem dX2_cut_6 : decode cX2_cut 6 = .ok (.iload_n 1, 1) := dk_27 (dk_at dksX2_cut_0 6 rfl rfl)
theorem dX2_cut_7 : decode cX2_cut 7 = .ok (.invokevirtual 114, 3) := dk_182 0 114 (dk_at dksX2_cut_0 7 rfl rfl)
theorem dX2_cut_10 : decode cX2_cut 10 = .ok (.ifCond .eq 11, 3) := dk_153 0 11 (dk_at dksX2_cut_0 10 rfl rfl)
theorem dX2_cut_13 : decode cX2_cut 13 = .ok (.aload_n 0, 1) := dk_42 (dk_at dksX2_cut_0 13 rfl rfl)
theorem dX2_cut_14 : decode cX2_cut 14 = .ok (.iload_n 2, 1) := dk_28 (dk_at dksX2_cut_0 14 rfl rfl)
theorem dX2_cut_15 : decode cX2_cut 15 = .ok (.invokevirtual 53, 3) := dk_182 0 53 (dk_at dksX2_cut_0 15 rfl rfl)
theorem dX2_cut_18 : decode cX2_cut 18 = .ok (.ifCond .ne 9, 3) := dk_154 0 9 (dk_at dksX2_cut_0 18 rfl rfl)
theorem dX2_cut_21 : decode cX2_cut 21 = .ok (.aload_n 0, 1) := dk_42 (dk_at dksX2_cut_0 21 rfl rfl)
theorem dX2_cut_22 : decode cX2_cut 22 = .ok (.iconst 1, 1) := dk_4 (dk_at dksX2_cut_0 22 rfl rfl)
theorem dX2_cut_23 : decode cX2_cut 23 = .ok (.invokevirtual 49, 3) := dk_182 0 49 (dk_at dksX2_cut_1 0 rfl rfl)
theorem dX2_cut_26 : decode cX2_cut 26 = .ok (.ireturn, 1) := dk_172 (dk_at dksX2_cut_1 3 rfl rfl)
theorem dX2_cut_27 : decode cX2_cut 27 = .ok (.aload_n 0, 1) := dk_42 (dk_at dksX2_cut_1 4 rfl rfl)
theorem dX2_cut_28 : decode cX2_cut 28 = .ok (.iload_n 1, 1) := dk_27 (dk_at dksX2_cut_1 5 rfl rfl)
theorem dX2_cut_29 : decode cX2_cut 29 = .ok (.iconst 3, 1) := dk_6 (dk_at dksX2_cut_1 6 rfl rfl)
theorem dX2_cut_30 : decode cX2_cut 30 = .ok (.invokevirtual 79, 3) := dk_182 0 79 (dk_at dksX2_cut_1 7 rfl rfl)
theorem dX2_cut_33 : decode cX2_cut 33 = .ok (.ifCond .eq 30, 3) := dk_153 0 30 (dk_at dksX2_cut_1 10 rfl rfl)
theorem dX2_cut_36 : decode cX2_cut 36 = .ok (.iload_n 3, 1) := dk_29 (dk_at dksX2_cut_1 13 rfl rfl)
theorem dX2_cut_37 : decode cX2_cut 37 = .ok (.iconst 0, 1) := dk_3 (dk_at dksX2_cut_1 14 rfl rfl)
theorem dX2_cut_38 : decode cX2_cut 38 = .ok (.sipush 3000, 3) := dk_17 11 184 (dk_at dksX2_cut_1 15 rfl rfl)
theorem dX2_cut_41 : decode cX2_cut 41 = .ok (.invokestatic 42, 3) := dk_184 0 42 (dk_at dksX2_cut_1 18 rfl rfl)
theorem dX2_cut_44 : decode cX2_cut 44 = .ok (.ifCond .eq 19, 3) := dk_153 0 19 (dk_at dksX2_cut_1 21 rfl rfl)
theorem dX2_cut_47 : decode cX2_cut 47 = .ok (.aload_n 0, 1) := dk_42 (dk_at dksX2_cut_2 0 rfl rfl)
theorem dX2_cut_48 : decode cX2_cut 48 = .ok (.iload_n 1, 1) := dk_27 (dk_at dksX2_cut_2 1 rfl rfl)
theorem dX2_cut_49 : decode cX2_cut 49 = .ok (.aload_n 0, 1) := dk_42 (dk_at dksX2_cut_2 2 rfl rfl)
theorem dX2_cut_50 : decode cX2_cut 50 = .ok (.iload_n 1, 1) := dk_27 (dk_at dksX2_cut_2 3 rfl rfl)
theorem dX2_cut_51 : decode cX2_cut 51 = .ok (.iconst 0, 1) := dk_3 (dk_at dksX2_cut_2 4 rfl rfl)
theorem dX2_cut_52 : decode cX2_cut 52 = .ok (.invokevirtual 79, 3) := dk_182 0 79 (dk_at dksX2_cut_2 5 rfl rfl)
theorem dX2_cut_55 : decode cX2_cut 55 = .ok (.iload_n 2, 1) := dk_28 (dk_at dksX2_cut_2 8 rfl rfl)
theorem dX2_cut_56 : decode cX2_cut 56 = .ok (.iload_n 3, 1) := dk_29 (dk_at dksX2_cut_2 9 rfl rfl)
theorem dX2_cut_57 : decode cX2_cut 57 = .ok (.invokevirtual 117, 3) := dk_182 0 117 (dk_at dksX2_cut_2 10 rfl rfl)
theorem dX2_cut_60 : decode cX2_cut 60 = .ok (.ifCond .ne 9, 3) := dk_154 0 9 (dk_at dksX2_cut_2 13 rfl rfl)
theorem dX2_cut_63 : decode cX2_cut 63 = .ok (.aload_n 0, 1) := dk_42 (dk_at dksX2_cut_2 16 rfl rfl)
theorem dX2_cut_64 : decode cX2_cut 64 = .ok (.iconst 2, 1) := dk_5 (dk_at dksX2_cut_2 17 rfl rfl)
theorem dX2_cut_65 : decode cX2_cut 65 = .ok (.invokevirtual 49, 3) := dk_182 0 49 (dk_at dksX2_cut_2 18 rfl rfl)
theorem dX2_cut_68 : decode cX2_cut 68 = .ok (.ireturn, 1) := dk_172 (dk_at dksX2_cut_2 21 rfl rfl)
theorem dX2_cut_69 : decode cX2_cut 69 = .ok (.aload_n 0, 1) := dk_42 (dk_at dksX2_cut_2 22 rfl rfl)
theorem dX2_cut_70 : decode cX2_cut 70 = .ok (.iload_n 1, 1) := dk_27 (dk_at dksX2_cut_2 23 rfl rfl)
theorem dX2_cut_71 : decode cX2_cut 71 = .ok (.iload_n 2, 1) := dk_28 (dk_at dksX2_cut_3 0 rfl rfl)
theorem dX2_cut_72 : decode cX2_cut 72 = .ok (.iload_n 3, 1) := dk_29 (dk_at dksX2_cut_3 1 rfl rfl)
theorem dX2_cut_73 : decode cX2_cut 73 = .ok (.aload_n 0, 1) := dk_42 (dk_at dksX2_cut_3 2 rfl rfl)
theorem dX2_cut_74 : decode cX2_cut 74 = .ok (.iload_n 1, 1) := dk_27 (dk_at dksX2_cut_3 3 rfl rfl)
theorem dX2_cut_75 : decode cX2_cut 75 = .ok (.iconst 0, 1) := dk_3 (dk_at dksX2_cut_3 4 rfl rfl)
theorem dX2_cut_76 : decode cX2_cut 76 = .ok (.invokevirtual 79, 3) := dk_182 0 79 (dk_at dksX2_cut_3 5 rfl rfl)
theorem dX2_cut_79 : decode cX2_cut 79 = .ok (.iconst 0, 1) := dk_3 (dk_at dksX2_cut_3 8 rfl rfl)
theorem dX2_cut_80 : decode cX2_cut 80 = .ok (.invokevirtual 124, 3) := dk_182 0 124 (dk_at dksX2_cut_3 9 rfl rfl)
theorem dX2_cut_83 : decode cX2_cut 83 = .ok (.aload_n 0, 1) := dk_42 (dk_at dksX2_cut_3 12 rfl rfl)
theorem dX2_cut_84 : decode cX2_cut 84 = .ok (.iload_n 1, 1) := dk_27 (dk_at dksX2_cut_3 13 rfl rfl)
theorem dX2_cut_85 : decode cX2_cut 85 = .ok (.invokevirtual 128, 3) := dk_182 0 128 (dk_at dksX2_cut_3 14 rfl rfl)
theorem dX2_cut_88 : decode cX2_cut 88 = .ok (.ireturn, 1) := dk_172 (dk_at dksX2_cut_3 17 rfl rfl)
abbrev cX2_add : ByteArray := prog_10_method_30_code
def yX2_add : MethodName := ⟨RX2, "add", "(IIIIZ)V"⟩
def dkwX2_add_3 : List UInt8 := [180, 0, 63, 4, 96, 181, 0, 63, 177]
abbrev dktX2_add_3 : List UInt8 := dkwX2_add_3 ++ []
def dkwX2_add_2 : List UInt8 := [42, 180, 0, 63, 104, 6, 96, 27, 79, 42, 180, 0, 33, 42, 180, 0, 63, 21, 5, 84, 42, 89]
abbrev dktX2_add_2 : List UInt8 := dkwX2_add_2 ++ dktX2_add_3
def dkwX2_add_1 : List UInt8 := [29, 79, 42, 180, 0, 30, 7, 42, 180, 0, 63, 104, 5, 96, 29, 21, 4, 96, 79, 42, 180, 0, 30, 7]
abbrev dktX2_add_1 : List UInt8 := dkwX2_add_1 ++ dktX2_add_2
def dkwX2_add_0 : List UInt8 := [42, 180, 0, 30, 7, 42, 180, 0, 63, 104, 28, 79, 42, 180, 0, 30, 7, 42, 180, 0, 63, 104, 4, 96]
abbrev dktX2_add_0 : List UInt8 := dkwX2_add_0 ++ dktX2_add_1
theorem dksX2_add_0 : cX2_add.data.toList.drop 0 = dktX2_add_0 := by decide +kernel
theorem dksX2_add_1 : cX2_add.data.toList.drop 24 = dktX2_add_1 := dk_seg dksX2_add_0 24 rfl rfl
theorem dksX2_add_2 : cX2_add.data.toList.drop 48 = dktX2_add_2 := dk_seg dksX2_add_1 24 rfl rfl
theorem dksX2_add_3 : cX2_add.data.toList.drop 70 = dktX2_add_3 := dk_seg dksX2_add_2 22 rfl rfl
theorem dX2_add_0 : decode cX2_add 0 = .ok (.aload_n 0, 1) := dk_42 (dk_at dksX2_add_0 0 rfl rfl)
theorem dX2_add_1 : decode cX2_add 1 = .ok (.getfield 30, 3) := dk_180 0 30 (dk_at dksX2_add_0 1 rfl rfl)
theorem dX2_add_4 : decode cX2_add 4 = .ok (.iconst 4, 1) := dk_7 (dk_at dksX2_add_0 4 rfl rfl)
theorem dX2_add_5 : decode cX2_add 5 = .ok (.aload_n 0, 1) := dk_42 (dk_at dksX2_add_0 5 rfl rfl)
theorem dX2_add_6 : decode cX2_add 6 = .ok (.getfield 63, 3) := dk_180 0 63 (dk_at dksX2_add_0 6 rfl rfl)
theorem dX2_add_9 : decode cX2_add 9 = .ok (.imul, 1) := dk_104 (dk_at dksX2_add_0 9 rfl rfl)
theorem dX2_add_10 : decode cX2_add 10 = .ok (.iload_n 2, 1) := dk_28 (dk_at dksX2_add_0 10 rfl rfl)
theorem dX2_add_11 : decode cX2_add 11 = .ok (.iastore, 1) := dk_79 (dk_at dksX2_add_0 11 rfl rfl)
theorem dX2_add_12 : decode cX2_add 12 = .ok (.aload_n 0, 1) := dk_42 (dk_at dksX2_add_0 12 rfl rfl)
theorem dX2_add_13 : decode cX2_add 13 = .ok (.getfield 30, 3) := dk_180 0 30 (dk_at dksX2_add_0 13 rfl rfl)
theorem dX2_add_16 : decode cX2_add 16 = .ok (.iconst 4, 1) := dk_7 (dk_at dksX2_add_0 16 rfl rfl)
theorem dX2_add_17 : decode cX2_add 17 = .ok (.aload_n 0, 1) := dk_42 (dk_at dksX2_add_0 17 rfl rfl)
theorem dX2_add_18 : decode cX2_add 18 = .ok (.getfield 63, 3) := dk_180 0 63 (dk_at dksX2_add_0 18 rfl rfl)
theorem dX2_add_21 : decode cX2_add 21 = .ok (.imul, 1) := dk_104 (dk_at dksX2_add_0 21 rfl rfl)
theorem dX2_add_22 : decode cX2_add 22 = .ok (.iconst 1, 1) := dk_4 (dk_at dksX2_add_0 22 rfl rfl)
theorem dX2_add_23 : decode cX2_add 23 = .ok (.iadd, 1) := dk_96 (dk_at dksX2_add_0 23 rfl rfl)
theorem dX2_add_24 : decode cX2_add 24 = .ok (.iload_n 3, 1) := dk_29 (dk_at dksX2_add_1 0 rfl rfl)
theorem dX2_add_25 : decode cX2_add 25 = .ok (.iastore, 1) := dk_79 (dk_at dksX2_add_1 1 rfl rfl)
theorem dX2_add_26 : decode cX2_add 26 = .ok (.aload_n 0, 1) := dk_42 (dk_at dksX2_add_1 2 rfl rfl)
theorem dX2_add_27 : decode cX2_add 27 = .ok (.getfield 30, 3) := dk_180 0 30 (dk_at dksX2_add_1 3 rfl rfl)
theorem dX2_add_30 : decode cX2_add 30 = .ok (.iconst 4, 1) := dk_7 (dk_at dksX2_add_1 6 rfl rfl)
theorem dX2_add_31 : decode cX2_add 31 = .ok (.aload_n 0, 1) := dk_42 (dk_at dksX2_add_1 7 rfl rfl)
theorem dX2_add_32 : decode cX2_add 32 = .ok (.getfield 63, 3) := dk_180 0 63 (dk_at dksX2_add_1 8 rfl rfl)
theorem dX2_add_35 : decode cX2_add 35 = .ok (.imul, 1) := dk_104 (dk_at dksX2_add_1 11 rfl rfl)
theorem dX2_add_36 : decode cX2_add 36 = .ok (.iconst 2, 1) := dk_5 (dk_at dksX2_add_1 12 rfl rfl)
theorem dX2_add_37 : decode cX2_add 37 = .ok (.iadd, 1) := dk_96 (dk_at dksX2_add_1 13 rfl rfl)
theorem dX2_add_38 : decode cX2_add 38 = .ok (.iload_n 3, 1) := dk_29 (dk_at dksX2_add_1 14 rfl rfl)
theorem dX2_add_39 : decode cX2_add 39 = .ok (.iload 4, 2) := dk_21 4 (dk_at dksX2_add_1 15 rfl rfl)
theorem dX2_add_41 : decode cX2_add 41 = .ok (.iadd, 1) := dk_96 (dk_at dksX2_add_1 17 rfl rfl)
theorem dX2_add_42 : decode cX2_add 42 = .ok (.iastore, 1) := dk_79 (dk_at dksX2_add_1 18 rfl rfl)
theorem dX2_add_43 : decode cX2_add 43 = .ok (.aload_n 0, 1) := dk_42 (dk_at dksX2_add_1 19 rfl rfl)
theorem dX2_add_44 : decode cX2_add 44 = .ok (.getfield 30, 3) := dk_180 0 30 (dk_at dksX2_add_1 20 rfl rfl)
theorem dX2_add_47 : decode cX2_add 47 = .ok (.iconst 4, 1) := dk_7 (dk_at dksX2_add_1 23 rfl rfl)
theorem dX2_add_48 : decode cX2_add 48 = .ok (.aload_n 0, 1) := dk_42 (dk_at dksX2_add_2 0 rfl rfl)
theorem dX2_add_49 : decode cX2_add 49 = .ok (.getfield 63, 3) := dk_180 0 63 (dk_at dksX2_add_2 1 rfl rfl)
theorem dX2_add_52 : decode cX2_add 52 = .ok (.imul, 1) := dk_104 (dk_at dksX2_add_2 4 rfl rfl)
theorem dX2_add_53 : decode cX2_add 53 = .ok (.iconst 3, 1) := dk_6 (dk_at dksX2_add_2 5 rfl rfl)
theorem dX2_add_54 : decode cX2_add 54 = .ok (.iadd, 1) := dk_96 (dk_at dksX2_add_2 6 rfl rfl)
theorem dX2_add_55 : decode cX2_add 55 = .ok (.iload_n 1, 1) := dk_27 (dk_at dksX2_add_2 7 rfl rfl)
theorem dX2_add_56 : decode cX2_add 56 = .ok (.iastore, 1) := dk_79 (dk_at dksX2_add_2 8 rfl rfl)
theorem dX2_add_57 : decode cX2_add 57 = .ok (.aload_n 0, 1) := dk_42 (dk_at dksX2_add_2 9 rfl rfl)
theorem dX2_add_58 : decode cX2_add 58 = .ok (.getfield 33, 3) := dk_180 0 33 (dk_at dksX2_add_2 10 rfl rfl)
theorem dX2_add_61 : decode cX2_add 61 = .ok (.aload_n 0, 1) := dk_42 (dk_at dksX2_add_2 13 rfl rfl)
theorem dX2_add_62 : decode cX2_add 62 = .ok (.getfield 63, 3) := dk_180 0 63 (dk_at dksX2_add_2 14 rfl rfl)
theorem dX2_add_65 : decode cX2_add 65 = .ok (.iload 5, 2) := dk_21 5 (dk_at dksX2_add_2 17 rfl rfl)
theorem dX2_add_67 : decode cX2_add 67 = .ok (.bastore, 1) := dk_84 (dk_at dksX2_add_2 19 rfl rfl)
theorem dX2_add_68 : decode cX2_add 68 = .ok (.aload_n 0, 1) := dk_42 (dk_at dksX2_add_2 20 rfl rfl)
theorem dX2_add_69 : decode cX2_add 69 = .ok (.dup, 1) := dk_89 (dk_at dksX2_add_2 21 rfl rfl)
theorem dX2_add_70 : decode cX2_add 70 = .ok (.getfield 63, 3) := dk_180 0 63 (dk_at dksX2_add_3 0 rfl rfl)
theorem dX2_add_73 : decode cX2_add 73 = .ok (.iconst 1, 1) := dk_4 (dk_at dksX2_add_3 3 rfl rfl)
theorem dX2_add_74 : decode cX2_add 74 = .ok (.iadd, 1) := dk_96 (dk_at dksX2_add_3 4 rfl rfl)
theorem dX2_add_75 : decode cX2_add 75 = .ok (.putfield 63, 3) := dk_181 0 63 (dk_at dksX2_add_3 5 rfl rfl)
theorem dX2_add_78 : decode cX2_add 78 = .ok (.return_, 1) := dk_177 (dk_at dksX2_add_3 8 rfl rfl)
abbrev cX2_lessLeft : ByteArray := prog_10_method_31_code
def yX2_lessLeft : MethodName := ⟨RX2, "lessLeft", "(I)I"⟩
def dkwX2_lessLeft_1 : List UInt8 := [172]
abbrev dktX2_lessLeft_1 : List UInt8 := dkwX2_lessLeft_1 ++ []
def dkwX2_lessLeft_0 : List UInt8 := [42, 180, 0, 16, 7, 27, 104, 6, 96, 92, 46, 4, 100, 79, 42, 180, 0, 16, 7, 27, 104, 6, 96, 46]
abbrev dktX2_lessLeft_0 : List UInt8 := dkwX2_lessLeft_0 ++ dktX2_lessLeft_1
theorem dksX2_lessLeft_0 : cX2_lessLeft.data.toList.drop 0 = dktX2_lessLeft_0 := by decide +kernel
theorem dksX2_lessLeft_1 : cX2_lessLeft.data.toList.drop 24 = dktX2_lessLeft_1 := dk_seg dksX2_lessLeft_0 24 rfl rfl
theorem dX2_lessLeft_0 : decode cX2_lessLeft 0 = .ok (.aload_n 0, 1) := dk_42 (dk_at dksX2_lessLeft_0 0 rfl rfl)
theorem dX2_lessLeft_1 : decode cX2_lessLeft 1 = .ok (.getfield 16, 3) := dk_180 0 16 (dk_at dksX2_lessLeft_0 1 rfl rfl)
theorem dX2_lessLeft_4 : decode cX2_lessLeft 4 = .ok (.iconst 4, 1) := dk_7 (dk_at dksX2_lessLeft_0 4 rfl rfl)
theorem dX2_lessLeft_5 : decode cX2_lessLeft 5 = .ok (.iload_n 1, 1) := dk_27 (dk_at dksX2_lessLeft_0 5 rfl rfl)
theorem dX2_lessLeft_6 : decode cX2_lessLeft 6 = .ok (.imul, 1) := dk_104 (dk_at dksX2_lessLeft_0 6 rfl rfl)
theorem dX2_lessLeft_7 : decode cX2_lessLeft 7 = .ok (.iconst 3, 1) := dk_6 (dk_at dksX2_lessLeft_0 7 rfl rfl)
theorem dX2_lessLeft_8 : decode cX2_lessLeft 8 = .ok (.iadd, 1) := dk_96 (dk_at dksX2_lessLeft_0 8 rfl rfl)
theorem dX2_lessLeft_9 : decode cX2_lessLeft 9 = .ok (.dup2, 1) := dk_92 (dk_at dksX2_lessLeft_0 9 rfl rfl)
theorem dX2_lessLeft_10 : decode cX2_lessLeft 10 = .ok (.iaload, 1) := dk_46 (dk_at dksX2_lessLeft_0 10 rfl rfl)
theorem dX2_lessLeft_11 : decode cX2_lessLeft 11 = .ok (.iconst 1, 1) := dk_4 (dk_at dksX2_lessLeft_0 11 rfl rfl)
theorem dX2_lessLeft_12 : decode cX2_lessLeft 12 = .ok (.isub, 1) := dk_100 (dk_at dksX2_lessLeft_0 12 rfl rfl)
theorem dX2_lessLeft_13 : decode cX2_lessLeft 13 = .ok (.iastore, 1) := dk_79 (dk_at dksX2_lessLeft_0 13 rfl rfl)
theorem dX2_lessLeft_14 : decode cX2_lessLeft 14 = .ok (.aload_n 0, 1) := dk_42 (dk_at dksX2_lessLeft_0 14 rfl rfl)
theorem dX2_lessLeft_15 : decode cX2_lessLeft 15 = .ok (.getfield 16, 3) := dk_180 0 16 (dk_at dksX2_lessLeft_0 15 rfl rfl)
theorem dX2_lessLeft_18 : decode cX2_lessLeft 18 = .ok (.iconst 4, 1) := dk_7 (dk_at dksX2_lessLeft_0 18 rfl rfl)
theorem dX2_lessLeft_19 : decode cX2_lessLeft 19 = .ok (.iload_n 1, 1) := dk_27 (dk_at dksX2_lessLeft_0 19 rfl rfl)
theorem dX2_lessLeft_20 : decode cX2_lessLeft 20 = .ok (.imul, 1) := dk_104 (dk_at dksX2_lessLeft_0 20 rfl rfl)
theorem dX2_lessLeft_21 : decode cX2_lessLeft 21 = .ok (.iconst 3, 1) := dk_6 (dk_at dksX2_lessLeft_0 21 rfl rfl)
theorem dX2_lessLeft_22 : decode cX2_lessLeft 22 = .ok (.iadd, 1) := dk_96 (dk_at dksX2_lessLeft_0 22 rfl rfl)
theorem dX2_lessLeft_23 : decode cX2_lessLeft 23 = .ok (.iaload, 1) := dk_46 (dk_at dksX2_lessLeft_0 23 rfl rfl)
theorem dX2_lessLeft_24 : decode cX2_lessLeft 24 = .ok (.ireturn, 1) := dk_172 (dk_at dksX2_lessLeft_1 0 rfl rfl)
abbrev cX2_join : ByteArray := prog_10_method_33_code
def yX2_join : MethodName := ⟨RX2, "join", "(IIIIII)I"⟩
def dkwX2_join_8 : List UInt8 := [21, 5, 21, 6, 21, 7, 4, 182, 0, 124, 42, 27, 182, 0, 128, 172]
abbrev dktX2_join_8 : List UInt8 := dkwX2_join_8 ++ []
def dkwX2_join_7 : List UInt8 := [182, 0, 117, 154, 0, 19, 42, 89, 180, 0, 63, 4, 100, 181, 0, 63, 42, 6, 182, 0, 49, 172, 42, 27]
abbrev dktX2_join_7 : List UInt8 := dkwX2_join_7 ++ dktX2_join_8
def dkwX2_join_6 : List UInt8 := [182, 0, 49, 172, 42, 27, 28, 29, 21, 4, 4, 182, 0, 124, 42, 27, 21, 7, 21, 5, 21, 6]
abbrev dktX2_join_6 : List UInt8 := dkwX2_join_6 ++ dktX2_join_7
def dkwX2_join_5 : List UInt8 := [17, 11, 184, 184, 0, 42, 153, 0, 15, 42, 27, 21, 4, 28, 29, 182, 0, 117, 154, 0, 9, 42, 6]
abbrev dktX2_join_5 : List UInt8 := dkwX2_join_5 ++ dktX2_join_6
def dkwX2_join_4 : List UInt8 := [180, 0, 19, 27, 51, 153, 0, 38, 29, 3, 17, 11, 184, 184, 0, 42, 153, 0, 27, 21, 6, 3]
abbrev dktX2_join_4 : List UInt8 := dkwX2_join_4 ++ dktX2_join_5
def dkwX2_join_3 : List UInt8 := [182, 0, 79, 42, 180, 0, 27, 96, 21, 4, 100, 54, 7, 42, 27, 6, 182, 0, 79, 153, 0, 47, 42]
abbrev dktX2_join_3 : List UInt8 := dkwX2_join_3 ++ dktX2_join_4
def dkwX2_join_2 : List UInt8 := [182, 0, 79, 42, 180, 0, 27, 96, 16, 50, 100, 164, 0, 9, 42, 5, 182, 0, 49, 172, 42, 27, 3]
abbrev dktX2_join_2 : List UInt8 := dkwX2_join_2 ++ dktX2_join_3
def dkwX2_join_1 : List UInt8 := [182, 0, 53, 154, 0, 9, 42, 4, 182, 0, 49, 172, 21, 4, 16, 50, 161, 0, 22, 21, 4, 42, 27, 3]
abbrev dktX2_join_1 : List UInt8 := dkwX2_join_1 ++ dktX2_join_2
def dkwX2_join_0 : List UInt8 := [42, 3, 181, 0, 36, 42, 27, 182, 0, 114, 153, 0, 20, 42, 28, 182, 0, 53, 153, 0, 12, 42, 21, 5]
abbrev dktX2_join_0 : List UInt8 := dkwX2_join_0 ++ dktX2_join_1
theorem dksX2_join_0 : cX2_join.data.toList.drop 0 = dktX2_join_0 := by decide +kernel
theorem dksX2_join_1 : cX2_join.data.toList.drop 24 = dktX2_join_1 := dk_seg dksX2_join_0 24 rfl rfl
theorem dksX2_join_2 : cX2_join.data.toList.drop 48 = dktX2_join_2 := dk_seg dksX2_join_1 24 rfl rfl
theorem dksX2_join_3 : cX2_join.data.toList.drop 71 = dktX2_join_3 := dk_seg dksX2_join_2 23 rfl rfl
theorem dksX2_join_4 : cX2_join.data.toList.drop 94 = dktX2_join_4 := dk_seg dksX2_join_3 23 rfl rfl
theorem dksX2_join_5 : cX2_join.data.toList.drop 116 = dktX2_join_5 := dk_seg dksX2_join_4 22 rfl rfl
theorem dksX2_join_6 : cX2_join.data.toList.drop 139 = dktX2_join_6 := dk_seg dksX2_join_5 23 rfl rfl
theorem dksX2_join_7 : cX2_join.data.toList.drop 161 = dktX2_join_7 := dk_seg dksX2_join_6 22 rfl rfl
theorem dksX2_join_8 : cX2_join.data.toList.drop 185 = dktX2_join_8 := dk_seg dksX2_join_7 24 rfl rfl
theorem dX2_join_0 : decode cX2_join 0 = .ok (.aload_n 0, 1) := dk_42 (dk_at dksX2_join_0 0 rfl rfl)
theorem dX2_join_1 : decode cX2_join 1 = .ok (.iconst 0, 1) := dk_3 (dk_at dksX2_join_0 1 rfl rfl)
theorem dX2_join_2 : decode cX2_join 2 = .ok (.putfield 36, 3) := dk_181 0 36 (dk_at dksX2_join_0 2 rfl rfl)
theorem dX2_join_5 : decode cX2_join 5 = .ok (.aload_n 0, 1) := dk_42 (dk_at dksX2_join_0 5 rfl rfl)
theorem dX2_join_6 : decode cX2_join 6 = .ok (.iload_n 1, 1) := dk_27 (dk_at dksX2_join_0 6 rfl rfl)
theorem dX2_join_7 : decode cX2_join 7 = .ok (.invokevirtual 114, 3) := dk_182 0 114 (dk_at dksX2_join_0 7 rfl rfl)
theorem dX2_join_10 : decode cX2_join 10 = .ok (.ifCond .eq 20, 3) := dk_153 0 20 (dk_at dksX2_join_0 10 rfl rfl)
theorem dX2_join_13 : decode cX2_join 13 = .ok (.aload_n 0, 1) := dk_42 (dk_at dksX2_join_0 13 rfl rfl)
theorem dX2_join_14 : decode cX2_join 14 = .ok (.iload_n 2, 1) := dk_28 (dk_at dksX2_join_0 14 rfl rfl)
theorem dX2_join_15 : decode cX2_join 15 = .ok (.invokevirtual 53, 3) := dk_182 0 53 (dk_at dksX2_join_0 15 rfl rfl)
theorem dX2_join_18 : decode cX2_join 18 = .ok (.ifCond .eq 12, 3) := dk_153 0 12 (dk_at dksX2_join_0 18 rfl rfl)
theorem dX2_join_21 : decode cX2_join 21 = .ok (.aload_n 0, 1) := dk_42 (dk_at dksX2_join_0 21 rfl rfl)
theorem dX2_join_22 : decode cX2_join 22 = .ok (.iload 5, 2) := dk_21 5 (dk_at dksX2_join_0 22 rfl rfl)
theorem dX2_join_24 : decode cX2_join 24 = .ok (.invokevirtual 53, 3) := dk_182 0 53 (dk_at dksX2_join_1 0 rfl rfl)
theorem dX2_join_27 : decode cX2_join 27 = .ok (.ifCond .ne 9, 3) := dk_154 0 9 (dk_at dksX2_join_1 3 rfl rfl)
theorem dX2_join_30 : decode cX2_join 30 = .ok (.aload_n 0, 1) := dk_42 (dk_at dksX2_join_1 6 rfl rfl)
theorem dX2_join_31 : decode cX2_join 31 = .ok (.iconst 1, 1) := dk_4 (dk_at dksX2_join_1 7 rfl rfl)
theorem dX2_join_32 : decode cX2_join 32 = .ok (.invokevirtual 49, 3) := dk_182 0 49 (dk_at dksX2_join_1 8 rfl rfl)
theorem dX2_join_35 : decode cX2_join 35 = .ok (.ireturn, 1) := dk_172 (dk_at dksX2_join_1 11 rfl rfl)
theorem dX2_join_36 : decode cX2_join 36 = .ok (.iload 4, 2) := dk_21 4 (dk_at dksX2_join_1 12 rfl rfl)
theorem dX2_join_38 : decode cX2_join 38 = .ok (.bipush 50, 2) := dk_16 50 (dk_at dksX2_join_1 14 rfl rfl)
theorem dX2_join_40 : decode cX2_join 40 = .ok (.if_icmp .lt 22, 3) := dk_161 0 22 (dk_at dksX2_join_1 16 rfl rfl)
theorem dX2_join_43 : decode cX2_join 43 = .ok (.iload 4, 2) := dk_21 4 (dk_at dksX2_join_1 19 rfl rfl)
theorem dX2_join_45 : decode cX2_join 45 = .ok (.aload_n 0, 1) := dk_42 (dk_at dksX2_join_1 21 rfl rfl)
theorem dX2_join_46 : decode cX2_join 46 = .ok (.iload_n 1, 1) := dk_27 (dk_at dksX2_join_1 22 rfl rfl)
theorem dX2_join_47 : decode cX2_join 47 = .ok (.iconst 0, 1) := dk_3 (dk_at dksX2_join_1 23 rfl rfl)
theorem dX2_join_48 : decode cX2_join 48 = .ok (.invokevirtual 79, 3) := dk_182 0 79 (dk_at dksX2_join_2 0 rfl rfl)
theorem dX2_join_51 : decode cX2_join 51 = .ok (.aload_n 0, 1) := dk_42 (dk_at dksX2_join_2 3 rfl rfl)
theorem dX2_join_52 : decode cX2_join 52 = .ok (.getfield 27, 3) := dk_180 0 27 (dk_at dksX2_join_2 4 rfl rfl)
theorem dX2_join_55 : decode cX2_join 55 = .ok (.iadd, 1) := dk_96 (dk_at dksX2_join_2 7 rfl rfl)
theorem dX2_join_56 : decode cX2_join 56 = .ok (.bipush 50, 2) := dk_16 50 (dk_at dksX2_join_2 8 rfl rfl)
theorem dX2_join_58 : decode cX2_join 58 = .ok (.isub, 1) := dk_100 (dk_at dksX2_join_2 10 rfl rfl)
theorem dX2_join_59 : decode cX2_join 59 = .ok (.if_icmp .le 9, 3) := dk_164 0 9 (dk_at dksX2_join_2 11 rfl rfl)
theorem dX2_join_62 : decode cX2_join 62 = .ok (.aload_n 0, 1) := dk_42 (dk_at dksX2_join_2 14 rfl rfl)
theorem dX2_join_63 : decode cX2_join 63 = .ok (.iconst 2, 1) := dk_5 (dk_at dksX2_join_2 15 rfl rfl)
theorem dX2_join_64 : decode cX2_join 64 = .ok (.invokevirtual 49, 3) := dk_182 0 49 (dk_at dksX2_join_2 16 rfl rfl)
theorem dX2_join_67 : decode cX2_join 67 = .ok (.ireturn, 1) := dk_172 (dk_at dksX2_join_2 19 rfl rfl)
theorem dX2_join_68 : decode cX2_join 68 = .ok (.aload_n 0, 1) := dk_42 (dk_at dksX2_join_2 20 rfl rfl)
theorem dX2_join_69 : decode cX2_join 69 = .ok (.iload_n 1, 1) := dk_27 (dk_at dksX2_join_2 21 rfl rfl)
theorem dX2_join_70 : decode cX2_join 70 = .ok (.iconst 0, 1) := dk_3 (dk_at dksX2_join_2 22 rfl rfl)
theorem dX2_join_71 : decode cX2_join 71 = .ok (.invokevirtual 79, 3) := dk_182 0 79 (dk_at dksX2_join_3 0 rfl rfl)
theorem dX2_join_74 : decode cX2_join 74 = .ok (.aload_n 0, 1) := dk_42 (dk_at dksX2_join_3 3 rfl rfl)
theorem dX2_join_75 : decode cX2_join 75 = .ok (.getfield 27, 3) := dk_180 0 27 (dk_at dksX2_join_3 4 rfl rfl)
theorem dX2_join_78 : decode cX2_join 78 = .ok (.iadd, 1) := dk_96 (dk_at dksX2_join_3 7 rfl rfl)
theorem dX2_join_79 : decode cX2_join 79 = .ok (.iload 4, 2) := dk_21 4 (dk_at dksX2_join_3 8 rfl rfl)
theorem dX2_join_81 : decode cX2_join 81 = .ok (.isub, 1) := dk_100 (dk_at dksX2_join_3 10 rfl rfl)
theorem dX2_join_82 : decode cX2_join 82 = .ok (.istore 7, 2) := dk_54 7 (dk_at dksX2_join_3 11 rfl rfl)
theorem dX2_join_84 : decode cX2_join 84 = .ok (.aload_n 0, 1) := dk_42 (dk_at dksX2_join_3 13 rfl rfl)
theorem dX2_join_85 : decode cX2_join 85 = .ok (.iload_n 1, 1) := dk_27 (dk_at dksX2_join_3 14 rfl rfl)
theorem dX2_join_86 : decode cX2_join 86 = .ok (.iconst 3, 1) := dk_6 (dk_at dksX2_join_3 15 rfl rfl)
theorem dX2_join_87 : decode cX2_join 87 = .ok (.invokevirtual 79, 3) := dk_182 0 79 (dk_at dksX2_join_3 16 rfl rfl)
theorem dX2_join_90 : decode cX2_join 90 = .ok (.ifCond .eq 47, 3) := dk_153 0 47 (dk_at dksX2_join_3 19 rfl rfl)
theorem dX2_join_93 : decode cX2_join 93 = .ok (.aload_n 0, 1) := dk_42 (dk_at dksX2_join_3 22 rfl rfl)
theorem dX2_join_94 : decode cX2_join 94 = .ok (.getfield 19, 3) := dk_180 0 19 (dk_at dksX2_join_4 0 rfl rfl)
theorem dX2_join_97 : decode cX2_join 97 = .ok (.iload_n 1, 1) := dk_27 (dk_at dksX2_join_4 3 rfl rfl)
theorem dX2_join_98 : decode cX2_join 98 = .ok (.baload, 1) := dk_51 (dk_at dksX2_join_4 4 rfl rfl)
theorem dX2_join_99 : decode cX2_join 99 = .ok (.ifCond .eq 38, 3) := dk_153 0 38 (dk_at dksX2_join_4 5 rfl rfl)
theorem dX2_join_102 : decode cX2_join 102 = .ok (.iload_n 3, 1) := dk_29 (dk_at dksX2_join_4 8 rfl rfl)
theorem dX2_join_103 : decode cX2_join 103 = .ok (.iconst 0, 1) := dk_3 (dk_at dksX2_join_4 9 rfl rfl)
theorem dX2_join_104 : decode cX2_join 104 = .ok (.sipush 3000, 3) := dk_17 11 184 (dk_at dksX2_join_4 10 rfl rfl)
theorem dX2_join_107 : decode cX2_join 107 = .ok (.invokestatic 42, 3) := dk_184 0 42 (dk_at dksX2_join_4 13 rfl rfl)
theorem dX2_join_110 : decode cX2_join 110 = .ok (.ifCond .eq 27, 3) := dk_153 0 27 (dk_at dksX2_join_4 16 rfl rfl)
theorem dX2_join_113 : decode cX2_join 113 = .ok (.iload 6, 2) := dk_21 6 (dk_at dksX2_join_4 19 rfl rfl)
theorem dX2_join_115 : decode cX2_join 115 = .ok (.iconst 0, 1) := dk_3 (dk_at dksX2_join_4 21 rfl rfl)
theorem dX2_join_116 : decode cX2_join 116 = .ok (.sipush 3000, 3) := dk_17 11 184 (dk_at dksX2_join_5 0 rfl rfl)
theorem dX2_join_119 : decode cX2_join 119 = .ok (.invokestatic 42, 3) := dk_184 0 42 (dk_at dksX2_join_5 3 rfl rfl)
theorem dX2_join_122 : decode cX2_join 122 = .ok (.ifCond .eq 15, 3) := dk_153 0 15 (dk_at dksX2_join_5 6 rfl rfl)
theorem dX2_join_125 : decode cX2_join 125 = .ok (.aload_n 0, 1) := dk_42 (dk_at dksX2_join_5 9 rfl rfl)
theorem dX2_join_126 : decode cX2_join 126 = .ok (.iload_n 1, 1) := dk_27 (dk_at dksX2_join_5 10 rfl rfl)
theorem dX2_join_127 : decode cX2_join 127 = .ok (.iload 4, 2) := dk_21 4 (dk_at dksX2_join_5 11 rfl rfl)
theorem dX2_join_129 : decode cX2_join 129 = .ok (.iload_n 2, 1) := dk_28 (dk_at dksX2_join_5 13 rfl rfl)
theorem dX2_join_130 : decode cX2_join 130 = .ok (.iload_n 3, 1) := dk_29 (dk_at dksX2_join_5 14 rfl rfl)
theorem dX2_join_131 : decode cX2_join 131 = .ok (.invokevirtual 117, 3) := dk_182 0 117 (dk_at dksX2_join_5 15 rfl rfl)
theorem dX2_join_134 : decode cX2_join 134 = .ok (.ifCond .ne 9, 3) := dk_154 0 9 (dk_at dksX2_join_5 18 rfl rfl)
theorem dX2_join_137 : decode cX2_join 137 = .ok (.aload_n 0, 1) := dk_42 (dk_at dksX2_join_5 21 rfl rfl)
theorem dX2_join_138 : decode cX2_join 138 = .ok (.iconst 3, 1) := dk_6 (dk_at dksX2_join_5 22 rfl rfl)
theorem dX2_join_139 : decode cX2_join 139 = .ok (.invokevirtual 49, 3) := dk_182 0 49 (dk_at dksX2_join_6 0 rfl rfl)
theorem dX2_join_142 : decode cX2_join 142 = .ok (.ireturn, 1) := dk_172 (dk_at dksX2_join_6 3 rfl rfl)
theorem dX2_join_143 : decode cX2_join 143 = .ok (.aload_n 0, 1) := dk_42 (dk_at dksX2_join_6 4 rfl rfl)
theorem dX2_join_144 : decode cX2_join 144 = .ok (.iload_n 1, 1) := dk_27 (dk_at dksX2_join_6 5 rfl rfl)
theorem dX2_join_145 : decode cX2_join 145 = .ok (.iload_n 2, 1) := dk_28 (dk_at dksX2_join_6 6 rfl rfl)
theorem dX2_join_146 : decode cX2_join 146 = .ok (.iload_n 3, 1) := dk_29 (dk_at dksX2_join_6 7 rfl rfl)
theorem dX2_join_147 : decode cX2_join 147 = .ok (.iload 4, 2) := dk_21 4 (dk_at dksX2_join_6 8 rfl rfl)
theorem dX2_join_149 : decode cX2_join 149 = .ok (.iconst 1, 1) := dk_4 (dk_at dksX2_join_6 10 rfl rfl)
theorem dX2_join_150 : decode cX2_join 150 = .ok (.invokevirtual 124, 3) := dk_182 0 124 (dk_at dksX2_join_6 11 rfl rfl)
theorem dX2_join_153 : decode cX2_join 153 = .ok (.aload_n 0, 1) := dk_42 (dk_at dksX2_join_6 14 rfl rfl)
theorem dX2_join_154 : decode cX2_join 154 = .ok (.iload_n 1, 1) := dk_27 (dk_at dksX2_join_6 15 rfl rfl)
theorem dX2_join_155 : decode cX2_join 155 = .ok (.iload 7, 2) := dk_21 7 (dk_at dksX2_join_6 16 rfl rfl)
theorem dX2_join_157 : decode cX2_join 157 = .ok (.iload 5, 2) := dk_21 5 (dk_at dksX2_join_6 18 rfl rfl)
theorem dX2_join_159 : decode cX2_join 159 = .ok (.iload 6, 2) := dk_21 6 (dk_at dksX2_join_6 20 rfl rfl)
theorem dX2_join_161 : decode cX2_join 161 = .ok (.invokevirtual 117, 3) := dk_182 0 117 (dk_at dksX2_join_7 0 rfl rfl)
theorem dX2_join_164 : decode cX2_join 164 = .ok (.ifCond .ne 19, 3) := dk_154 0 19 (dk_at dksX2_join_7 3 rfl rfl)
theorem dX2_join_167 : decode cX2_join 167 = .ok (.aload_n 0, 1) := dk_42 (dk_at dksX2_join_7 6 rfl rfl)
theorem dX2_join_168 : decode cX2_join 168 = .ok (.dup, 1) := dk_89 (dk_at dksX2_join_7 7 rfl rfl)
theorem dX2_join_169 : decode cX2_join 169 = .ok (.getfield 63, 3) := dk_180 0 63 (dk_at dksX2_join_7 8 rfl rfl)
theorem dX2_join_172 : decode cX2_join 172 = .ok (.iconst 1, 1) := dk_4 (dk_at dksX2_join_7 11 rfl rfl)
theorem dX2_join_173 : decode cX2_join 173 = .ok (.isub, 1) := dk_100 (dk_at dksX2_join_7 12 rfl rfl)
theorem dX2_join_174 : decode cX2_join 174 = .ok (.putfield 63, 3) := dk_181 0 63 (dk_at dksX2_join_7 13 rfl rfl)
theorem dX2_join_177 : decode cX2_join 177 = .ok (.aload_n 0, 1) := dk_42 (dk_at dksX2_join_7 16 rfl rfl)
theorem dX2_join_178 : decode cX2_join 178 = .ok (.iconst 3, 1) := dk_6 (dk_at dksX2_join_7 17 rfl rfl)
theorem dX2_join_179 : decode cX2_join 179 = .ok (.invokevirtual 49, 3) := dk_182 0 49 (dk_at dksX2_join_7 18 rfl rfl)
theorem dX2_join_182 : decode cX2_join 182 = .ok (.ireturn, 1) := dk_172 (dk_at dksX2_join_7 21 rfl rfl)
theorem dX2_join_183 : decode cX2_join 183 = .ok (.aload_n 0, 1) := dk_42 (dk_at dksX2_join_7 22 rfl rfl)
theorem dX2_join_184 : decode cX2_join 184 = .ok (.iload_n 1, 1) := dk_27 (dk_at dksX2_join_7 23 rfl rfl)
theorem dX2_join_185 : decode cX2_join 185 = .ok (.iload 5, 2) := dk_21 5 (dk_at dksX2_join_8 0 rfl rfl)
theorem dX2_join_187 : decode cX2_join 187 = .ok (.iload 6, 2) := dk_21 6 (dk_at dksX2_join_8 2 rfl rfl)
theorem dX2_join_189 : decode cX2_join 189 = .ok (.iload 7, 2) := dk_21 7 (dk_at dksX2_join_8 4 rfl rfl)
theorem dX2_join_191 : decode cX2_join 191 = .ok (.iconst 1, 1) := dk_4 (dk_at dksX2_join_8 6 rfl rfl)
theorem dX2_join_192 : decode cX2_join 192 = .ok (.invokevirtual 124, 3) := dk_182 0 124 (dk_at dksX2_join_8 7 rfl rfl)
theorem dX2_join_195 : decode cX2_join 195 = .ok (.aload_n 0, 1) := dk_42 (dk_at dksX2_join_8 10 rfl rfl)
theorem dX2_join_196 : decode cX2_join 196 = .ok (.iload_n 1, 1) := dk_27 (dk_at dksX2_join_8 11 rfl rfl)
theorem dX2_join_197 : decode cX2_join 197 = .ok (.invokevirtual 128, 3) := dk_182 0 128 (dk_at dksX2_join_8 12 rfl rfl)
theorem dX2_join_200 : decode cX2_join 200 = .ok (.ireturn, 1) := dk_172 (dk_at dksX2_join_8 15 rfl rfl)
abbrev cX2_undo : ByteArray := prog_10_method_34_code
def yX2_undo : MethodName := ⟨RX2, "undo", "()I"⟩
def dkwX2_undo_3 : List UInt8 := [172]
abbrev dktX2_undo_3 : List UInt8 := dkwX2_undo_3 ++ []
def dkwX2_undo_2 : List UInt8 := [5, 167, 0, 4, 4, 100, 181, 0, 63, 42, 180, 0, 16, 7, 27, 104, 6, 96, 92, 46, 4, 96, 79, 27]
abbrev dktX2_undo_2 : List UInt8 := dkwX2_undo_2 ++ dktX2_undo_3
def dkwX2_undo_1 : List UInt8 := [100, 182, 0, 76, 60, 42, 89, 180, 0, 63, 42, 180, 0, 33, 42, 180, 0, 63, 4, 100, 51, 153, 0, 7]
abbrev dktX2_undo_1 : List UInt8 := dkwX2_undo_1 ++ dktX2_undo_2
def dkwX2_undo_0 : List UInt8 := [42, 3, 181, 0, 36, 42, 180, 0, 63, 154, 0, 9, 42, 4, 182, 0, 49, 172, 42, 42, 180, 0, 63, 4]
abbrev dktX2_undo_0 : List UInt8 := dkwX2_undo_0 ++ dktX2_undo_1
theorem dksX2_undo_0 : cX2_undo.data.toList.drop 0 = dktX2_undo_0 := by decide +kernel
theorem dksX2_undo_1 : cX2_undo.data.toList.drop 24 = dktX2_undo_1 := dk_seg dksX2_undo_0 24 rfl rfl
theorem dksX2_undo_2 : cX2_undo.data.toList.drop 48 = dktX2_undo_2 := dk_seg dksX2_undo_1 24 rfl rfl
theorem dksX2_undo_3 : cX2_undo.data.toList.drop 72 = dktX2_undo_3 := dk_seg dksX2_undo_2 24 rfl rfl
theorem dX2_undo_0 : decode cX2_undo 0 = .ok (.aload_n 0, 1) := dk_42 (dk_at dksX2_undo_0 0 rfl rfl)
theorem dX2_undo_1 : decode cX2_undo 1 = .ok (.iconst 0, 1) := dk_3 (dk_at dksX2_undo_0 1 rfl rfl)
theorem dX2_undo_2 : decode cX2_undo 2 = .ok (.putfield 36, 3) := dk_181 0 36 (dk_at dksX2_undo_0 2 rfl rfl)
theorem dX2_undo_5 : decode cX2_undo 5 = .ok (.aload_n 0, 1) := dk_42 (dk_at dksX2_undo_0 5 rfl rfl)
theorem dX2_undo_6 : decode cX2_undo 6 = .ok (.getfield 63, 3) := dk_180 0 63 (dk_at dksX2_undo_0 6 rfl rfl)
theorem dX2_undo_9 : decode cX2_undo 9 = .ok (.ifCond .ne 9, 3) := dk_154 0 9 (dk_at dksX2_undo_0 9 rfl rfl)
theorem dX2_undo_12 : decode cX2_undo 12 = .ok (.aload_n 0, 1) := dk_42 (dk_at dksX2_undo_0 12 rfl rfl)
theorem dX2_undo_13 : decode cX2_undo 13 = .ok (.iconst 1, 1) := dk_4 (dk_at dksX2_undo_0 13 rfl rfl)
theorem dX2_undo_14 : decode cX2_undo 14 = .ok (.invokevirtual 49, 3) := dk_182 0 49 (dk_at dksX2_undo_0 14 rfl rfl)
theorem dX2_undo_17 : decode cX2_undo 17 = .ok (.ireturn, 1) := dk_172 (dk_at dksX2_undo_0 17 rfl rfl)
theorem dX2_undo_18 : decode cX2_undo 18 = .ok (.aload_n 0, 1) := dk_42 (dk_at dksX2_undo_0 18 rfl rfl)
theorem dX2_undo_19 : decode cX2_undo 19 = .ok (.aload_n 0, 1) := dk_42 (dk_at dksX2_undo_0 19 rfl rfl)
theorem dX2_undo_20 : decode cX2_undo 20 = .ok (.getfield 63, 3) := dk_180 0 63 (dk_at dksX2_undo_0 20 rfl rfl)
theorem dX2_undo_23 : decode cX2_undo 23 = .ok (.iconst 1, 1) := dk_4 (dk_at dksX2_undo_0 23 rfl rfl)
theorem dX2_undo_24 : decode cX2_undo 24 = .ok (.isub, 1) := dk_100 (dk_at dksX2_undo_1 0 rfl rfl)
theorem dX2_undo_25 : decode cX2_undo 25 = .ok (.invokevirtual 76, 3) := dk_182 0 76 (dk_at dksX2_undo_1 1 rfl rfl)
theorem dX2_undo_28 : decode cX2_undo 28 = .ok (.istore_n 1, 1) := dk_60 (dk_at dksX2_undo_1 4 rfl rfl)
theorem dX2_undo_29 : decode cX2_undo 29 = .ok (.aload_n 0, 1) := dk_42 (dk_at dksX2_undo_1 5 rfl rfl)
theorem dX2_undo_30 : decode cX2_undo 30 = .ok (.dup, 1) := dk_89 (dk_at dksX2_undo_1 6 rfl rfl)
theorem dX2_undo_31 : decode cX2_undo 31 = .ok (.getfield 63, 3) := dk_180 0 63 (dk_at dksX2_undo_1 7 rfl rfl)
theorem dX2_undo_34 : decode cX2_undo 34 = .ok (.aload_n 0, 1) := dk_42 (dk_at dksX2_undo_1 10 rfl rfl)
theorem dX2_undo_35 : decode cX2_undo 35 = .ok (.getfield 33, 3) := dk_180 0 33 (dk_at dksX2_undo_1 11 rfl rfl)
theorem dX2_undo_38 : decode cX2_undo 38 = .ok (.aload_n 0, 1) := dk_42 (dk_at dksX2_undo_1 14 rfl rfl)
theorem dX2_undo_39 : decode cX2_undo 39 = .ok (.getfield 63, 3) := dk_180 0 63 (dk_at dksX2_undo_1 15 rfl rfl)
theorem dX2_undo_42 : decode cX2_undo 42 = .ok (.iconst 1, 1) := dk_4 (dk_at dksX2_undo_1 18 rfl rfl)
theorem dX2_undo_43 : decode cX2_undo 43 = .ok (.isub, 1) := dk_100 (dk_at dksX2_undo_1 19 rfl rfl)
theorem dX2_undo_44 : decode cX2_undo 44 = .ok (.baload, 1) := dk_51 (dk_at dksX2_undo_1 20 rfl rfl)
theorem dX2_undo_45 : decode cX2_undo 45 = .ok (.ifCond .eq 7, 3) := dk_153 0 7 (dk_at dksX2_undo_1 21 rfl rfl)
theorem dX2_undo_48 : decode cX2_undo 48 = .ok (.iconst 2, 1) := dk_5 (dk_at dksX2_undo_2 0 rfl rfl)
theorem dX2_undo_49 : decode cX2_undo 49 = .ok (.goto 4, 3) := dk_167 0 4 (dk_at dksX2_undo_2 1 rfl rfl)
theorem dX2_undo_52 : decode cX2_undo 52 = .ok (.iconst 1, 1) := dk_4 (dk_at dksX2_undo_2 4 rfl rfl)
theorem dX2_undo_53 : decode cX2_undo 53 = .ok (.isub, 1) := dk_100 (dk_at dksX2_undo_2 5 rfl rfl)
theorem dX2_undo_54 : decode cX2_undo 54 = .ok (.putfield 63, 3) := dk_181 0 63 (dk_at dksX2_undo_2 6 rfl rfl)
theorem dX2_undo_57 : decode cX2_undo 57 = .ok (.aload_n 0, 1) := dk_42 (dk_at dksX2_undo_2 9 rfl rfl)
theorem dX2_undo_58 : decode cX2_undo 58 = .ok (.getfield 16, 3) := dk_180 0 16 (dk_at dksX2_undo_2 10 rfl rfl)
theorem dX2_undo_61 : decode cX2_undo 61 = .ok (.iconst 4, 1) := dk_7 (dk_at dksX2_undo_2 13 rfl rfl)
theorem dX2_undo_62 : decode cX2_undo 62 = .ok (.iload_n 1, 1) := dk_27 (dk_at dksX2_undo_2 14 rfl rfl)
theorem dX2_undo_63 : decode cX2_undo 63 = .ok (.imul, 1) := dk_104 (dk_at dksX2_undo_2 15 rfl rfl)
theorem dX2_undo_64 : decode cX2_undo 64 = .ok (.iconst 3, 1) := dk_6 (dk_at dksX2_undo_2 16 rfl rfl)
theorem dX2_undo_65 : decode cX2_undo 65 = .ok (.iadd, 1) := dk_96 (dk_at dksX2_undo_2 17 rfl rfl)
theorem dX2_undo_66 : decode cX2_undo 66 = .ok (.dup2, 1) := dk_92 (dk_at dksX2_undo_2 18 rfl rfl)
theorem dX2_undo_67 : decode cX2_undo 67 = .ok (.iaload, 1) := dk_46 (dk_at dksX2_undo_2 19 rfl rfl)
theorem dX2_undo_68 : decode cX2_undo 68 = .ok (.iconst 1, 1) := dk_4 (dk_at dksX2_undo_2 20 rfl rfl)
theorem dX2_undo_69 : decode cX2_undo 69 = .ok (.iadd, 1) := dk_96 (dk_at dksX2_undo_2 21 rfl rfl)
theorem dX2_undo_70 : decode cX2_undo 70 = .ok (.iastore, 1) := dk_79 (dk_at dksX2_undo_2 22 rfl rfl)
theorem dX2_undo_71 : decode cX2_undo 71 = .ok (.iload_n 1, 1) := dk_27 (dk_at dksX2_undo_2 23 rfl rfl)
theorem dX2_undo_72 : decode cX2_undo 72 = .ok (.ireturn, 1) := dk_172 (dk_at dksX2_undo_3 0 rfl rfl)
abbrev cX2_plan : ByteArray := prog_10_method_39_code
def yX2_plan : MethodName := ⟨RX2, "plan", "()I"⟩
def dkwX2_plan_0 : List UInt8 := [42, 3, 181, 0, 36, 3, 60, 42, 182, 0, 140, 153, 0, 9, 132, 1, 1, 167, 255, 246, 27, 172]
abbrev dktX2_plan_0 : List UInt8 := dkwX2_plan_0 ++ []
theorem dksX2_plan_0 : cX2_plan.data.toList.drop 0 = dktX2_plan_0 := by decide +kernel
theorem dX2_plan_0 : decode cX2_plan 0 = .ok (.aload_n 0, 1) := dk_42 (dk_at dksX2_plan_0 0 rfl rfl)
theorem dX2_plan_1 : decode cX2_plan 1 = .ok (.iconst 0, 1) := dk_3 (dk_at dksX2_plan_0 1 rfl rfl)
theorem dX2_plan_2 : decode cX2_plan 2 = .ok (.putfield 36, 3) := dk_181 0 36 (dk_at dksX2_plan_0 2 rfl rfl)
theorem dX2_plan_5 : decode cX2_plan 5 = .ok (.iconst 0, 1) := dk_3 (dk_at dksX2_plan_0 5 rfl rfl)
theorem dX2_plan_6 : decode cX2_plan 6 = .ok (.istore_n 1, 1) := dk_60 (dk_at dksX2_plan_0 6 rfl rfl)
theorem dX2_plan_7 : decode cX2_plan 7 = .ok (.aload_n 0, 1) := dk_42 (dk_at dksX2_plan_0 7 rfl rfl)
theorem dX2_plan_8 : decode cX2_plan 8 = .ok (.invokevirtual 140, 3) := dk_182 0 140 (dk_at dksX2_plan_0 8 rfl rfl)
theorem dX2_plan_11 : decode cX2_plan 11 = .ok (.ifCond .eq 9, 3) := dk_153 0 9 (dk_at dksX2_plan_0 11 rfl rfl)
theorem dX2_plan_14 : decode cX2_plan 14 = .ok (.iinc 1 1, 3) := dk_132 1 1 (dk_at dksX2_plan_0 14 rfl rfl)
theorem dX2_plan_17 : decode cX2_plan 17 = .ok (.goto (-10), 3) := dk_167 255 246 (dk_at dksX2_plan_0 17 rfl rfl)
theorem dX2_plan_20 : decode cX2_plan 20 = .ok (.iload_n 1, 1) := dk_27 (dk_at dksX2_plan_0 20 rfl rfl)
theorem dX2_plan_21 : decode cX2_plan 21 = .ok (.ireturn, 1) := dk_172 (dk_at dksX2_plan_0 21 rfl rfl)
abbrev cX2_planOne : ByteArray := prog_10_method_38_code
def yX2_planOne : MethodName := ⟨RX2, "planOne", "()Z"⟩
def dkwX2_planOne_8 : List UInt8 := [3, 182, 0, 124, 42, 27, 182, 0, 128, 155, 0, 7, 4, 167, 0, 4, 3, 172]
abbrev dktX2_planOne_8 : List UInt8 := dkwX2_planOne_8 ++ []
def dkwX2_planOne_7 : List UInt8 := [21, 6, 62, 132, 4, 1, 167, 255, 187, 42, 27, 28, 42, 27, 28, 182, 0, 121, 42, 27, 3, 182, 0, 79]
abbrev dktX2_planOne_7 : List UInt8 := dkwX2_planOne_7 ++ dktX2_planOne_8
def dkwX2_planOne_6 : List UInt8 := [182, 0, 137, 100, 54, 6, 28, 2, 159, 0, 12, 21, 6, 29, 161, 0, 6, 167, 0, 9, 21, 4, 61]
abbrev dktX2_planOne_6 : List UInt8 := dkwX2_planOne_6 ++ dktX2_planOne_7
def dkwX2_planOne_5 : List UInt8 := [54, 5, 21, 5, 2, 160, 0, 6, 167, 0, 42, 42, 21, 4, 21, 5, 182, 0, 134, 42, 21, 4, 21, 5]
abbrev dktX2_planOne_5 : List UInt8 := dkwX2_planOne_5 ++ dktX2_planOne_6
def dkwX2_planOne_4 : List UInt8 := [2, 61, 3, 62, 3, 54, 4, 21, 4, 42, 180, 0, 39, 162, 0, 66, 42, 27, 21, 4, 182, 0, 121]
abbrev dktX2_planOne_4 : List UInt8 := dkwX2_planOne_4 ++ dktX2_planOne_5
def dkwX2_planOne_3 : List UInt8 := [42, 28, 27, 182, 0, 131, 153, 0, 5, 28, 60, 132, 2, 1, 167, 255, 175, 27, 2, 160, 0, 5, 3, 172]
abbrev dktX2_planOne_3 : List UInt8 := dkwX2_planOne_3 ++ dktX2_planOne_4
def dkwX2_planOne_2 : List UInt8 := [159, 0, 7, 4, 167, 0, 4, 3, 62, 132, 4, 1, 167, 255, 214, 29, 153, 0, 19, 27, 2, 159, 0, 12]
abbrev dktX2_planOne_2 : List UInt8 := dkwX2_planOne_2 ++ dktX2_planOne_3
def dkwX2_planOne_1 : List UInt8 := [162, 0, 39, 42, 28, 6, 182, 0, 79, 158, 0, 30, 29, 154, 0, 26, 42, 28, 21, 4, 182, 0, 121, 2]
abbrev dktX2_planOne_1 : List UInt8 := dkwX2_planOne_1 ++ dktX2_planOne_2
def dkwX2_planOne_0 : List UInt8 := [2, 60, 3, 61, 28, 42, 180, 0, 46, 162, 0, 79, 3, 62, 3, 54, 4, 21, 4, 42, 180, 0, 39]
abbrev dktX2_planOne_0 : List UInt8 := dkwX2_planOne_0 ++ dktX2_planOne_1
theorem dksX2_planOne_0 : cX2_planOne.data.toList.drop 0 = dktX2_planOne_0 := by decide +kernel
theorem dksX2_planOne_1 : cX2_planOne.data.toList.drop 23 = dktX2_planOne_1 := dk_seg dksX2_planOne_0 23 rfl rfl
theorem dksX2_planOne_2 : cX2_planOne.data.toList.drop 47 = dktX2_planOne_2 := dk_seg dksX2_planOne_1 24 rfl rfl
theorem dksX2_planOne_3 : cX2_planOne.data.toList.drop 71 = dktX2_planOne_3 := dk_seg dksX2_planOne_2 24 rfl rfl
theorem dksX2_planOne_4 : cX2_planOne.data.toList.drop 95 = dktX2_planOne_4 := dk_seg dksX2_planOne_3 24 rfl rfl
theorem dksX2_planOne_5 : cX2_planOne.data.toList.drop 118 = dktX2_planOne_5 := dk_seg dksX2_planOne_4 23 rfl rfl
theorem dksX2_planOne_6 : cX2_planOne.data.toList.drop 142 = dktX2_planOne_6 := dk_seg dksX2_planOne_5 24 rfl rfl
theorem dksX2_planOne_7 : cX2_planOne.data.toList.drop 165 = dktX2_planOne_7 := dk_seg dksX2_planOne_6 23 rfl rfl
theorem dksX2_planOne_8 : cX2_planOne.data.toList.drop 189 = dktX2_planOne_8 := dk_seg dksX2_planOne_7 24 rfl rfl
theorem dX2_planOne_0 : decode cX2_planOne 0 = .ok (.iconst (-1), 1) := dk_2 (dk_at dksX2_planOne_0 0 rfl rfl)
theorem dX2_planOne_1 : decode cX2_planOne 1 = .ok (.istore_n 1, 1) := dk_60 (dk_at dksX2_planOne_0 1 rfl rfl)
theorem dX2_planOne_2 : decode cX2_planOne 2 = .ok (.iconst 0, 1) := dk_3 (dk_at dksX2_planOne_0 2 rfl rfl)
theorem dX2_planOne_3 : decode cX2_planOne 3 = .ok (.istore_n 2, 1) := dk_61 (dk_at dksX2_planOne_0 3 rfl rfl)
theorem dX2_planOne_4 : decode cX2_planOne 4 = .ok (.iload_n 2, 1) := dk_28 (dk_at dksX2_planOne_0 4 rfl rfl)
theorem dX2_planOne_5 : decode cX2_planOne 5 = .ok (.aload_n 0, 1) := dk_42 (dk_at dksX2_planOne_0 5 rfl rfl)
theorem dX2_planOne_6 : decode cX2_planOne 6 = .ok (.getfield 46, 3) := dk_180 0 46 (dk_at dksX2_planOne_0 6 rfl rfl)
theorem dX2_planOne_9 : decode cX2_planOne 9 = .ok (.if_icmp .ge 79, 3) := dk_162 0 79 (dk_at dksX2_planOne_0 9 rfl rfl)
theorem dX2_planOne_12 : decode cX2_planOne 12 = .ok (.iconst 0, 1) := dk_3 (dk_at dksX2_planOne_0 12 rfl rfl)
theorem dX2_planOne_13 : decode cX2_planOne 13 = .ok (.istore_n 3, 1) := dk_62 (dk_at dksX2_planOne_0 13 rfl rfl)
theorem dX2_planOne_14 : decode cX2_planOne 14 = .ok (.iconst 0, 1) := dk_3 (dk_at dksX2_planOne_0 14 rfl rfl)
theorem dX2_planOne_15 : decode cX2_planOne 15 = .ok (.istore 4, 2) := dk_54 4 (dk_at dksX2_planOne_0 15 rfl rfl)
theorem dX2_planOne_17 : decode cX2_planOne 17 = .ok (.iload 4, 2) := dk_21 4 (dk_at dksX2_planOne_0 17 rfl rfl)
theorem dX2_planOne_19 : decode cX2_planOne 19 = .ok (.aload_n 0, 1) := dk_42 (dk_at dksX2_planOne_0 19 rfl rfl)
theorem dX2_planOne_20 : decode cX2_planOne 20 = .ok (.getfield 39, 3) := dk_180 0 39 (dk_at dksX2_planOne_0 20 rfl rfl)
theorem dX2_planOne_23 : decode cX2_planOne 23 = .ok (.if_icmp .ge 39, 3) := dk_162 0 39 (dk_at dksX2_planOne_1 0 rfl rfl)
theorem dX2_planOne_26 : decode cX2_planOne 26 = .ok (.aload_n 0, 1) := dk_42 (dk_at dksX2_planOne_1 3 rfl rfl)
theorem dX2_planOne_27 : decode cX2_planOne 27 = .ok (.iload_n 2, 1) := dk_28 (dk_at dksX2_planOne_1 4 rfl rfl)
theorem dX2_planOne_28 : decode cX2_planOne 28 = .ok (.iconst 3, 1) := dk_6 (dk_at dksX2_planOne_1 5 rfl rfl)
theorem dX2_planOne_29 : decode cX2_planOne 29 = .ok (.invokevirtual 79, 3) := dk_182 0 79 (dk_at dksX2_planOne_1 6 rfl rfl)
theorem dX2_planOne_32 : decode cX2_planOne 32 = .ok (.ifCond .le 30, 3) := dk_158 0 30 (dk_at dksX2_planOne_1 9 rfl rfl)
theorem dX2_planOne_35 : decode cX2_planOne 35 = .ok (.iload_n 3, 1) := dk_29 (dk_at dksX2_planOne_1 12 rfl rfl)
theorem dX2_planOne_36 : decode cX2_planOne 36 = .ok (.ifCond .ne 26, 3) := dk_154 0 26 (dk_at dksX2_planOne_1 13 rfl rfl)
theorem dX2_planOne_39 : decode cX2_planOne 39 = .ok (.aload_n 0, 1) := dk_42 (dk_at dksX2_planOne_1 16 rfl rfl)
theorem dX2_planOne_40 : decode cX2_planOne 40 = .ok (.iload_n 2, 1) := dk_28 (dk_at dksX2_planOne_1 17 rfl rfl)
theorem dX2_planOne_41 : decode cX2_planOne 41 = .ok (.iload 4, 2) := dk_21 4 (dk_at dksX2_planOne_1 18 rfl rfl)
theorem dX2_planOne_43 : decode cX2_planOne 43 = .ok (.invokevirtual 121, 3) := dk_182 0 121 (dk_at dksX2_planOne_1 20 rfl rfl)
theorem dX2_planOne_46 : decode cX2_planOne 46 = .ok (.iconst (-1), 1) := dk_2 (dk_at dksX2_planOne_1 23 rfl rfl)
theorem dX2_planOne_47 : decode cX2_planOne 47 = .ok (.if_icmp .eq 7, 3) := dk_159 0 7 (dk_at dksX2_planOne_2 0 rfl rfl)
theorem dX2_planOne_50 : decode cX2_planOne 50 = .ok (.iconst 1, 1) := dk_4 (dk_at dksX2_planOne_2 3 rfl rfl)
theorem dX2_planOne_51 : decode cX2_planOne 51 = .ok (.goto 4, 3) := dk_167 0 4 (dk_at dksX2_planOne_2 4 rfl rfl)
theorem dX2_planOne_54 : decode cX2_planOne 54 = .ok (.iconst 0, 1) := dk_3 (dk_at dksX2_planOne_2 7 rfl rfl)
theorem dX2_planOne_55 : decode cX2_planOne 55 = .ok (.istore_n 3, 1) := dk_62 (dk_at dksX2_planOne_2 8 rfl rfl)
theorem dX2_planOne_56 : decode cX2_planOne 56 = .ok (.iinc 4 1, 3) := dk_132 4 1 (dk_at dksX2_planOne_2 9 rfl rfl)
theorem dX2_planOne_59 : decode cX2_planOne 59 = .ok (.goto (-42), 3) := dk_167 255 214 (dk_at dksX2_planOne_2 12 rfl rfl)
theorem dX2_planOne_62 : decode cX2_planOne 62 = .ok (.iload_n 3, 1) := dk_29 (dk_at dksX2_planOne_2 15 rfl rfl)
theorem dX2_planOne_63 : decode cX2_planOne 63 = .ok (.ifCond .eq 19, 3) := dk_153 0 19 (dk_at dksX2_planOne_2 16 rfl rfl)
theorem dX2_planOne_66 : decode cX2_planOne 66 = .ok (.iload_n 1, 1) := dk_27 (dk_at dksX2_planOne_2 19 rfl rfl)
theorem dX2_planOne_67 : decode cX2_planOne 67 = .ok (.iconst (-1), 1) := dk_2 (dk_at dksX2_planOne_2 20 rfl rfl)
theorem dX2_planOne_68 : decode cX2_planOne 68 = .ok (.if_icmp .eq 12, 3) := dk_159 0 12 (dk_at dksX2_planOne_2 21 rfl rfl)
theorem dX2_planOne_71 : decode cX2_planOne 71 = .ok (.aload_n 0, 1) := dk_42 (dk_at dksX2_planOne_3 0 rfl rfl)
theorem dX2_planOne_72 : decode cX2_planOne 72 = .ok (.iload_n 2, 1) := dk_28 (dk_at dksX2_planOne_3 1 rfl rfl)
theorem dX2_planOne_73 : decode cX2_planOne 73 = .ok (.iload_n 1, 1) := dk_27 (dk_at dksX2_planOne_3 2 rfl rfl)
theorem dX2_planOne_74 : decode cX2_planOne 74 = .ok (.invokevirtual 131, 3) := dk_182 0 131 (dk_at dksX2_planOne_3 3 rfl rfl)
theorem dX2_planOne_77 : decode cX2_planOne 77 = .ok (.ifCond .eq 5, 3) := dk_153 0 5 (dk_at dksX2_planOne_3 6 rfl rfl)
theorem dX2_planOne_80 : decode cX2_planOne 80 = .ok (.iload_n 2, 1) := dk_28 (dk_at dksX2_planOne_3 9 rfl rfl)
theorem dX2_planOne_81 : decode cX2_planOne 81 = .ok (.istore_n 1, 1) := dk_60 (dk_at dksX2_planOne_3 10 rfl rfl)
theorem dX2_planOne_82 : decode cX2_planOne 82 = .ok (.iinc 2 1, 3) := dk_132 2 1 (dk_at dksX2_planOne_3 11 rfl rfl)
theorem dX2_planOne_85 : decode cX2_planOne 85 = .ok (.goto (-81), 3) := dk_167 255 175 (dk_at dksX2_planOne_3 14 rfl rfl)
theorem dX2_planOne_88 : decode cX2_planOne 88 = .ok (.iload_n 1, 1) := dk_27 (dk_at dksX2_planOne_3 17 rfl rfl)
theorem dX2_planOne_89 : decode cX2_planOne 89 = .ok (.iconst (-1), 1) := dk_2 (dk_at dksX2_planOne_3 18 rfl rfl)
theorem dX2_planOne_90 : decode cX2_planOne 90 = .ok (.if_icmp .ne 5, 3) := dk_160 0 5 (dk_at dksX2_planOne_3 19 rfl rfl)
theorem dX2_planOne_93 : decode cX2_planOne 93 = .ok (.iconst 0, 1) := dk_3 (dk_at dksX2_planOne_3 22 rfl rfl)
theorem dX2_planOne_94 : decode cX2_planOne 94 = .ok (.ireturn, 1) := dk_172 (dk_at dksX2_planOne_3 23 rfl rfl)
theorem dX2_planOne_95 : decode cX2_planOne 95 = .ok (.iconst (-1), 1) := dk_2 (dk_at dksX2_planOne_4 0 rfl rfl)
theorem dX2_planOne_96 : decode cX2_planOne 96 = .ok (.istore_n 2, 1) := dk_61 (dk_at dksX2_planOne_4 1 rfl rfl)
theorem dX2_planOne_97 : decode cX2_planOne 97 = .ok (.iconst 0, 1) := dk_3 (dk_at dksX2_planOne_4 2 rfl rfl)
theorem dX2_planOne_98 : decode cX2_planOne 98 = .ok (.istore_n 3, 1) := dk_62 (dk_at dksX2_planOne_4 3 rfl rfl)
theorem dX2_planOne_99 : decode cX2_planOne 99 = .ok (.iconst 0, 1) := dk_3 (dk_at dksX2_planOne_4 4 rfl rfl)
theorem dX2_planOne_100 : decode cX2_planOne 100 = .ok (.istore 4, 2) := dk_54 4 (dk_at dksX2_planOne_4 5 rfl rfl)
theorem dX2_planOne_102 : decode cX2_planOne 102 = .ok (.iload 4, 2) := dk_21 4 (dk_at dksX2_planOne_4 7 rfl rfl)
theorem dX2_planOne_104 : decode cX2_planOne 104 = .ok (.aload_n 0, 1) := dk_42 (dk_at dksX2_planOne_4 9 rfl rfl)
theorem dX2_planOne_105 : decode cX2_planOne 105 = .ok (.getfield 39, 3) := dk_180 0 39 (dk_at dksX2_planOne_4 10 rfl rfl)
theorem dX2_planOne_108 : decode cX2_planOne 108 = .ok (.if_icmp .ge 66, 3) := dk_162 0 66 (dk_at dksX2_planOne_4 13 rfl rfl)
theorem dX2_planOne_111 : decode cX2_planOne 111 = .ok (.aload_n 0, 1) := dk_42 (dk_at dksX2_planOne_4 16 rfl rfl)
theorem dX2_planOne_112 : decode cX2_planOne 112 = .ok (.iload_n 1, 1) := dk_27 (dk_at dksX2_planOne_4 17 rfl rfl)
theorem dX2_planOne_113 : decode cX2_planOne 113 = .ok (.iload 4, 2) := dk_21 4 (dk_at dksX2_planOne_4 18 rfl rfl)
theorem dX2_planOne_115 : decode cX2_planOne 115 = .ok (.invokevirtual 121, 3) := dk_182 0 121 (dk_at dksX2_planOne_4 20 rfl rfl)
theorem dX2_planOne_118 : decode cX2_planOne 118 = .ok (.istore 5, 2) := dk_54 5 (dk_at dksX2_planOne_5 0 rfl rfl)
theorem dX2_planOne_120 : decode cX2_planOne 120 = .ok (.iload 5, 2) := dk_21 5 (dk_at dksX2_planOne_5 2 rfl rfl)
theorem dX2_planOne_122 : decode cX2_planOne 122 = .ok (.iconst (-1), 1) := dk_2 (dk_at dksX2_planOne_5 4 rfl rfl)
theorem dX2_planOne_123 : decode cX2_planOne 123 = .ok (.if_icmp .ne 6, 3) := dk_160 0 6 (dk_at dksX2_planOne_5 5 rfl rfl)
theorem dX2_planOne_126 : decode cX2_planOne 126 = .ok (.goto 42, 3) := dk_167 0 42 (dk_at dksX2_planOne_5 8 rfl rfl)
theorem dX2_planOne_129 : decode cX2_planOne 129 = .ok (.aload_n 0, 1) := dk_42 (dk_at dksX2_planOne_5 11 rfl rfl)
theorem dX2_planOne_130 : decode cX2_planOne 130 = .ok (.iload 4, 2) := dk_21 4 (dk_at dksX2_planOne_5 12 rfl rfl)
theorem dX2_planOne_132 : decode cX2_planOne 132 = .ok (.iload 5, 2) := dk_21 5 (dk_at dksX2_planOne_5 14 rfl rfl)
theorem dX2_planOne_134 : decode cX2_planOne 134 = .ok (.invokevirtual 134, 3) := dk_182 0 134 (dk_at dksX2_planOne_5 16 rfl rfl)
theorem dX2_planOne_137 : decode cX2_planOne 137 = .ok (.aload_n 0, 1) := dk_42 (dk_at dksX2_planOne_5 19 rfl rfl)
theorem dX2_planOne_138 : decode cX2_planOne 138 = .ok (.iload 4, 2) := dk_21 4 (dk_at dksX2_planOne_5 20 rfl rfl)
theorem dX2_planOne_140 : decode cX2_planOne 140 = .ok (.iload 5, 2) := dk_21 5 (dk_at dksX2_planOne_5 22 rfl rfl)
theorem dX2_planOne_142 : decode cX2_planOne 142 = .ok (.invokevirtual 137, 3) := dk_182 0 137 (dk_at dksX2_planOne_6 0 rfl rfl)
theorem dX2_planOne_145 : decode cX2_planOne 145 = .ok (.isub, 1) := dk_100 (dk_at dksX2_planOne_6 3 rfl rfl)
theorem dX2_planOne_146 : decode cX2_planOne 146 = .ok (.istore 6, 2) := dk_54 6 (dk_at dksX2_planOne_6 4 rfl rfl)
theorem dX2_planOne_148 : decode cX2_planOne 148 = .ok (.iload_n 2, 1) := dk_28 (dk_at dksX2_planOne_6 6 rfl rfl)
theorem dX2_planOne_149 : decode cX2_planOne 149 = .ok (.iconst (-1), 1) := dk_2 (dk_at dksX2_planOne_6 7 rfl rfl)
theorem dX2_planOne_150 : decode cX2_planOne 150 = .ok (.if_icmp .eq 12, 3) := dk_159 0 12 (dk_at dksX2_planOne_6 8 rfl rfl)
theorem dX2_planOne_153 : decode cX2_planOne 153 = .ok (.iload 6, 2) := dk_21 6 (dk_at dksX2_planOne_6 11 rfl rfl)
theorem dX2_planOne_155 : decode cX2_planOne 155 = .ok (.iload_n 3, 1) := dk_29 (dk_at dksX2_planOne_6 13 rfl rfl)
theorem dX2_planOne_156 : decode cX2_planOne 156 = .ok (.if_icmp .lt 6, 3) := dk_161 0 6 (dk_at dksX2_planOne_6 14 rfl rfl)
theorem dX2_planOne_159 : decode cX2_planOne 159 = .ok (.goto 9, 3) := dk_167 0 9 (dk_at dksX2_planOne_6 17 rfl rfl)
theorem dX2_planOne_162 : decode cX2_planOne 162 = .ok (.iload 4, 2) := dk_21 4 (dk_at dksX2_planOne_6 20 rfl rfl)
theorem dX2_planOne_164 : decode cX2_planOne 164 = .ok (.istore_n 2, 1) := dk_61 (dk_at dksX2_planOne_6 22 rfl rfl)
theorem dX2_planOne_165 : decode cX2_planOne 165 = .ok (.iload 6, 2) := dk_21 6 (dk_at dksX2_planOne_7 0 rfl rfl)
theorem dX2_planOne_167 : decode cX2_planOne 167 = .ok (.istore_n 3, 1) := dk_62 (dk_at dksX2_planOne_7 2 rfl rfl)
theorem dX2_planOne_168 : decode cX2_planOne 168 = .ok (.iinc 4 1, 3) := dk_132 4 1 (dk_at dksX2_planOne_7 3 rfl rfl)
theorem dX2_planOne_171 : decode cX2_planOne 171 = .ok (.goto (-69), 3) := dk_167 255 187 (dk_at dksX2_planOne_7 6 rfl rfl)
theorem dX2_planOne_174 : decode cX2_planOne 174 = .ok (.aload_n 0, 1) := dk_42 (dk_at dksX2_planOne_7 9 rfl rfl)
theorem dX2_planOne_175 : decode cX2_planOne 175 = .ok (.iload_n 1, 1) := dk_27 (dk_at dksX2_planOne_7 10 rfl rfl)
theorem dX2_planOne_176 : decode cX2_planOne 176 = .ok (.iload_n 2, 1) := dk_28 (dk_at dksX2_planOne_7 11 rfl rfl)
theorem dX2_planOne_177 : decode cX2_planOne 177 = .ok (.aload_n 0, 1) := dk_42 (dk_at dksX2_planOne_7 12 rfl rfl)
theorem dX2_planOne_178 : decode cX2_planOne 178 = .ok (.iload_n 1, 1) := dk_27 (dk_at dksX2_planOne_7 13 rfl rfl)
theorem dX2_planOne_179 : decode cX2_planOne 179 = .ok (.iload_n 2, 1) := dk_28 (dk_at dksX2_planOne_7 14 rfl rfl)
theorem dX2_planOne_180 : decode cX2_planOne 180 = .ok (.invokevirtual 121, 3) := dk_182 0 121 (dk_at dksX2_planOne_7 15 rfl rfl)
theorem dX2_planOne_183 : decode cX2_planOne 183 = .ok (.aload_n 0, 1) := dk_42 (dk_at dksX2_planOne_7 18 rfl rfl)
theorem dX2_planOne_184 : decode cX2_planOne 184 = .ok (.iload_n 1, 1) := dk_27 (dk_at dksX2_planOne_7 19 rfl rfl)
theorem dX2_planOne_185 : decode cX2_planOne 185 = .ok (.iconst 0, 1) := dk_3 (dk_at dksX2_planOne_7 20 rfl rfl)
theorem dX2_planOne_186 : decode cX2_planOne 186 = .ok (.invokevirtual 79, 3) := dk_182 0 79 (dk_at dksX2_planOne_7 21 rfl rfl)
theorem dX2_planOne_189 : decode cX2_planOne 189 = .ok (.iconst 0, 1) := dk_3 (dk_at dksX2_planOne_8 0 rfl rfl)
theorem dX2_planOne_190 : decode cX2_planOne 190 = .ok (.invokevirtual 124, 3) := dk_182 0 124 (dk_at dksX2_planOne_8 1 rfl rfl)
theorem dX2_planOne_193 : decode cX2_planOne 193 = .ok (.aload_n 0, 1) := dk_42 (dk_at dksX2_planOne_8 4 rfl rfl)
theorem dX2_planOne_194 : decode cX2_planOne 194 = .ok (.iload_n 1, 1) := dk_27 (dk_at dksX2_planOne_8 5 rfl rfl)
theorem dX2_planOne_195 : decode cX2_planOne 195 = .ok (.invokevirtual 128, 3) := dk_182 0 128 (dk_at dksX2_planOne_8 6 rfl rfl)
theorem dX2_planOne_198 : decode cX2_planOne 198 = .ok (.ifCond .lt 7, 3) := dk_155 0 7 (dk_at dksX2_planOne_8 9 rfl rfl)
theorem dX2_planOne_201 : decode cX2_planOne 201 = .ok (.iconst 1, 1) := dk_4 (dk_at dksX2_planOne_8 12 rfl rfl)
theorem dX2_planOne_202 : decode cX2_planOne 202 = .ok (.goto 4, 3) := dk_167 0 4 (dk_at dksX2_planOne_8 13 rfl rfl)
theorem dX2_planOne_205 : decode cX2_planOne 205 = .ok (.iconst 0, 1) := dk_3 (dk_at dksX2_planOne_8 16 rfl rfl)
theorem dX2_planOne_206 : decode cX2_planOne 206 = .ok (.ireturn, 1) := dk_172 (dk_at dksX2_planOne_8 17 rfl rfl)
abbrev cX2_isAhead : ByteArray := prog_10_method_37_code
def yX2_isAhead : MethodName := ⟨RX2, "isAhead", "(II)Z"⟩
def dkwX2_isAhead_2 : List UInt8 := [162, 0, 7, 4, 167, 0, 4, 3, 172]
abbrev dktX2_isAhead_2 : List UInt8 := dkwX2_isAhead_2 ++ []
def dkwX2_isAhead_1 : List UInt8 := [182, 0, 79, 164, 0, 7, 4, 167, 0, 4, 3, 172, 42, 27, 5, 182, 0, 79, 42, 28, 5, 182, 0, 79]
abbrev dktX2_isAhead_1 : List UInt8 := dkwX2_isAhead_1 ++ dktX2_isAhead_2
def dkwX2_isAhead_0 : List UInt8 := [42, 27, 3, 182, 0, 79, 42, 28, 3, 182, 0, 79, 159, 0, 24, 42, 27, 3, 182, 0, 79, 42, 28, 3]
abbrev dktX2_isAhead_0 : List UInt8 := dkwX2_isAhead_0 ++ dktX2_isAhead_1
theorem dksX2_isAhead_0 : cX2_isAhead.data.toList.drop 0 = dktX2_isAhead_0 := by decide +kernel
theorem dksX2_isAhead_1 : cX2_isAhead.data.toList.drop 24 = dktX2_isAhead_1 := dk_seg dksX2_isAhead_0 24 rfl rfl
theorem dksX2_isAhead_2 : cX2_isAhead.data.toList.drop 48 = dktX2_isAhead_2 := dk_seg dksX2_isAhead_1 24 rfl rfl
theorem dX2_isAhead_0 : decode cX2_isAhead 0 = .ok (.aload_n 0, 1) := dk_42 (dk_at dksX2_isAhead_0 0 rfl rfl)
theorem dX2_isAhead_1 : decode cX2_isAhead 1 = .ok (.iload_n 1, 1) := dk_27 (dk_at dksX2_isAhead_0 1 rfl rfl)
theorem dX2_isAhead_2 : decode cX2_isAhead 2 = .ok (.iconst 0, 1) := dk_3 (dk_at dksX2_isAhead_0 2 rfl rfl)
theorem dX2_isAhead_3 : decode cX2_isAhead 3 = .ok (.invokevirtual 79, 3) := dk_182 0 79 (dk_at dksX2_isAhead_0 3 rfl rfl)
theorem dX2_isAhead_6 : decode cX2_isAhead 6 = .ok (.aload_n 0, 1) := dk_42 (dk_at dksX2_isAhead_0 6 rfl rfl)
theorem dX2_isAhead_7 : decode cX2_isAhead 7 = .ok (.iload_n 2, 1) := dk_28 (dk_at dksX2_isAhead_0 7 rfl rfl)
theorem dX2_isAhead_8 : decode cX2_isAhead 8 = .ok (.iconst 0, 1) := dk_3 (dk_at dksX2_isAhead_0 8 rfl rfl)
theorem dX2_isAhead_9 : decode cX2_isAhead 9 = .ok (.invokevirtual 79, 3) := dk_182 0 79 (dk_at dksX2_isAhead_0 9 rfl rfl)
theorem dX2_isAhead_12 : decode cX2_isAhead 12 = .ok (.if_icmp .eq 24, 3) := dk_159 0 24 (dk_at dksX2_isAhead_0 12 rfl rfl)
theorem dX2_isAhead_15 : decode cX2_isAhead 15 = .ok (.aload_n 0, 1) := dk_42 (dk_at dksX2_isAhead_0 15 rfl rfl)
theorem dX2_isAhead_16 : decode cX2_isAhead 16 = .ok (.iload_n 1, 1) := dk_27 (dk_at dksX2_isAhead_0 16 rfl rfl)
theorem dX2_isAhead_17 : decode cX2_isAhead 17 = .ok (.iconst 0, 1) := dk_3 (dk_at dksX2_isAhead_0 17 rfl rfl)
theorem dX2_isAhead_18 : decode cX2_isAhead 18 = .ok (.invokevirtual 79, 3) := dk_182 0 79 (dk_at dksX2_isAhead_0 18 rfl rfl)
theorem dX2_isAhead_21 : decode cX2_isAhead 21 = .ok (.aload_n 0, 1) := dk_42 (dk_at dksX2_isAhead_0 21 rfl rfl)
theorem dX2_isAhead_22 : decode cX2_isAhead 22 = .ok (.iload_n 2, 1) := dk_28 (dk_at dksX2_isAhead_0 22 rfl rfl)
theorem dX2_isAhead_23 : decode cX2_isAhead 23 = .ok (.iconst 0, 1) := dk_3 (dk_at dksX2_isAhead_0 23 rfl rfl)
theorem dX2_isAhead_24 : decode cX2_isAhead 24 = .ok (.invokevirtual 79, 3) := dk_182 0 79 (dk_at dksX2_isAhead_1 0 rfl rfl)
theorem dX2_isAhead_27 : decode cX2_isAhead 27 = .ok (.if_icmp .le 7, 3) := dk_164 0 7 (dk_at dksX2_isAhead_1 3 rfl rfl)
theorem dX2_isAhead_30 : decode cX2_isAhead 30 = .ok (.iconst 1, 1) := dk_4 (dk_at dksX2_isAhead_1 6 rfl rfl)
theorem dX2_isAhead_31 : decode cX2_isAhead 31 = .ok (.goto 4, 3) := dk_167 0 4 (dk_at dksX2_isAhead_1 7 rfl rfl)
theorem dX2_isAhead_34 : decode cX2_isAhead 34 = .ok (.iconst 0, 1) := dk_3 (dk_at dksX2_isAhead_1 10 rfl rfl)
theorem dX2_isAhead_35 : decode cX2_isAhead 35 = .ok (.ireturn, 1) := dk_172 (dk_at dksX2_isAhead_1 11 rfl rfl)
theorem dX2_isAhead_36 : decode cX2_isAhead 36 = .ok (.aload_n 0, 1) := dk_42 (dk_at dksX2_isAhead_1 12 rfl rfl)
theorem dX2_isAhead_37 : decode cX2_isAhead 37 = .ok (.iload_n 1, 1) := dk_27 (dk_at dksX2_isAhead_1 13 rfl rfl)
theorem dX2_isAhead_38 : decode cX2_isAhead 38 = .ok (.iconst 2, 1) := dk_5 (dk_at dksX2_isAhead_1 14 rfl rfl)
theorem dX2_isAhead_39 : decode cX2_isAhead 39 = .ok (.invokevirtual 79, 3) := dk_182 0 79 (dk_at dksX2_isAhead_1 15 rfl rfl)
theorem dX2_isAhead_42 : decode cX2_isAhead 42 = .ok (.aload_n 0, 1) := dk_42 (dk_at dksX2_isAhead_1 18 rfl rfl)
theorem dX2_isAhead_43 : decode cX2_isAhead 43 = .ok (.iload_n 2, 1) := dk_28 (dk_at dksX2_isAhead_1 19 rfl rfl)
theorem dX2_isAhead_44 : decode cX2_isAhead 44 = .ok (.iconst 2, 1) := dk_5 (dk_at dksX2_isAhead_1 20 rfl rfl)
theorem dX2_isAhead_45 : decode cX2_isAhead 45 = .ok (.invokevirtual 79, 3) := dk_182 0 79 (dk_at dksX2_isAhead_1 21 rfl rfl)
theorem dX2_isAhead_48 : decode cX2_isAhead 48 = .ok (.if_icmp .ge 7, 3) := dk_162 0 7 (dk_at dksX2_isAhead_2 0 rfl rfl)
theorem dX2_isAhead_51 : decode cX2_isAhead 51 = .ok (.iconst 1, 1) := dk_4 (dk_at dksX2_isAhead_2 3 rfl rfl)
theorem dX2_isAhead_52 : decode cX2_isAhead 52 = .ok (.goto 4, 3) := dk_167 0 4 (dk_at dksX2_isAhead_2 4 rfl rfl)
theorem dX2_isAhead_55 : decode cX2_isAhead 55 = .ok (.iconst 0, 1) := dk_3 (dk_at dksX2_isAhead_2 7 rfl rfl)
theorem dX2_isAhead_56 : decode cX2_isAhead 56 = .ok (.ireturn, 1) := dk_172 (dk_at dksX2_isAhead_2 8 rfl rfl)
abbrev cX2_roomTo : ByteArray := prog_10_method_36_code
def yX2_roomTo : MethodName := ⟨RX2, "roomTo", "(II)I"⟩
def dkwX2_roomTo_2 : List UInt8 := [180, 0, 23, 100, 184, 0, 91, 62, 132, 4, 1, 167, 255, 208, 29, 172]
abbrev dktX2_roomTo_2 : List UInt8 := dkwX2_roomTo_2 ++ []
def dkwX2_roomTo_1 : List UInt8 := [182, 0, 66, 153, 0, 29, 42, 21, 4, 182, 0, 70, 28, 164, 0, 19, 29, 42, 21, 4, 182, 0, 70, 42]
abbrev dktX2_roomTo_1 : List UInt8 := dkwX2_roomTo_1 ++ dktX2_roomTo_2
def dkwX2_roomTo_0 : List UInt8 := [42, 27, 182, 0, 57, 62, 3, 54, 4, 21, 4, 42, 180, 0, 63, 162, 0, 45, 42, 21, 4, 27]
abbrev dktX2_roomTo_0 : List UInt8 := dkwX2_roomTo_0 ++ dktX2_roomTo_1
theorem dksX2_roomTo_0 : cX2_roomTo.data.toList.drop 0 = dktX2_roomTo_0 := by decide +kernel
theorem dksX2_roomTo_1 : cX2_roomTo.data.toList.drop 22 = dktX2_roomTo_1 := dk_seg dksX2_roomTo_0 22 rfl rfl
theorem dksX2_roomTo_2 : cX2_roomTo.data.toList.drop 46 = dktX2_roomTo_2 := dk_seg dksX2_roomTo_1 24 rfl rfl
theorem dX2_roomTo_0 : decode cX2_roomTo 0 = .ok (.aload_n 0, 1) := dk_42 (dk_at dksX2_roomTo_0 0 rfl rfl)
theorem dX2_roomTo_1 : decode cX2_roomTo 1 = .ok (.iload_n 1, 1) := dk_27 (dk_at dksX2_roomTo_0 1 rfl rfl)
theorem dX2_roomTo_2 : decode cX2_roomTo 2 = .ok (.invokevirtual 57, 3) := dk_182 0 57 (dk_at dksX2_roomTo_0 2 rfl rfl)
theorem dX2_roomTo_5 : decode cX2_roomTo 5 = .ok (.istore_n 3, 1) := dk_62 (dk_at dksX2_roomTo_0 5 rfl rfl)
theorem dX2_roomTo_6 : decode cX2_roomTo 6 = .ok (.iconst 0, 1) := dk_3 (dk_at dksX2_roomTo_0 6 rfl rfl)
theorem dX2_roomTo_7 : decode cX2_roomTo 7 = .ok (.istore 4, 2) := dk_54 4 (dk_at dksX2_roomTo_0 7 rfl rfl)
theorem dX2_roomTo_9 : decode cX2_roomTo 9 = .ok (.iload 4, 2) := dk_21 4 (dk_at dksX2_roomTo_0 9 rfl rfl)
theorem dX2_roomTo_11 : decode cX2_roomTo 11 = .ok (.aload_n 0, 1) := dk_42 (dk_at dksX2_roomTo_0 11 rfl rfl)
theorem dX2_roomTo_12 : decode cX2_roomTo 12 = .ok (.getfield 63, 3) := dk_180 0 63 (dk_at dksX2_roomTo_0 12 rfl rfl)
theorem dX2_roomTo_15 : decode cX2_roomTo 15 = .ok (.if_icmp .ge 45, 3) := dk_162 0 45 (dk_at dksX2_roomTo_0 15 rfl rfl)
theorem dX2_roomTo_18 : decode cX2_roomTo 18 = .ok (.aload_n 0, 1) := dk_42 (dk_at dksX2_roomTo_0 18 rfl rfl)
theorem dX2_roomTo_19 : decode cX2_roomTo 19 = .ok (.iload 4, 2) := dk_21 4 (dk_at dksX2_roomTo_0 19 rfl rfl)
theorem dX2_roomTo_21 : decode cX2_roomTo 21 = .ok (.iload_n 1, 1) := dk_27 (dk_at dksX2_roomTo_0 21 rfl rfl)
theorem dX2_roomTo_22 : decode cX2_roomTo 22 = .ok (.invokevirtual 66, 3) := dk_182 0 66 (dk_at dksX2_roomTo_1 0 rfl rfl)
theorem dX2_roomTo_25 : decode cX2_roomTo 25 = .ok (.ifCond .eq 29, 3) := dk_153 0 29 (dk_at dksX2_roomTo_1 3 rfl rfl)
theorem dX2_roomTo_28 : decode cX2_roomTo 28 = .ok (.aload_n 0, 1) := dk_42 (dk_at dksX2_roomTo_1 6 rfl rfl)
theorem dX2_roomTo_29 : decode cX2_roomTo 29 = .ok (.iload 4, 2) := dk_21 4 (dk_at dksX2_roomTo_1 7 rfl rfl)
theorem dX2_roomTo_31 : decode cX2_roomTo 31 = .ok (.invokevirtual 70, 3) := dk_182 0 70 (dk_at dksX2_roomTo_1 9 rfl rfl)
theorem dX2_roomTo_34 : decode cX2_roomTo 34 = .ok (.iload_n 2, 1) := dk_28 (dk_at dksX2_roomTo_1 12 rfl rfl)
theorem dX2_roomTo_35 : decode cX2_roomTo 35 = .ok (.if_icmp .le 19, 3) := dk_164 0 19 (dk_at dksX2_roomTo_1 13 rfl rfl)
theorem dX2_roomTo_38 : decode cX2_roomTo 38 = .ok (.iload_n 3, 1) := dk_29 (dk_at dksX2_roomTo_1 16 rfl rfl)
theorem dX2_roomTo_39 : decode cX2_roomTo 39 = .ok (.aload_n 0, 1) := dk_42 (dk_at dksX2_roomTo_1 17 rfl rfl)
theorem dX2_roomTo_40 : decode cX2_roomTo 40 = .ok (.iload 4, 2) := dk_21 4 (dk_at dksX2_roomTo_1 18 rfl rfl)
theorem dX2_roomTo_42 : decode cX2_roomTo 42 = .ok (.invokevirtual 70, 3) := dk_182 0 70 (dk_at dksX2_roomTo_1 20 rfl rfl)
theorem dX2_roomTo_45 : decode cX2_roomTo 45 = .ok (.aload_n 0, 1) := dk_42 (dk_at dksX2_roomTo_1 23 rfl rfl)
theorem dX2_roomTo_46 : decode cX2_roomTo 46 = .ok (.getfield 23, 3) := dk_180 0 23 (dk_at dksX2_roomTo_2 0 rfl rfl)
theorem dX2_roomTo_49 : decode cX2_roomTo 49 = .ok (.isub, 1) := dk_100 (dk_at dksX2_roomTo_2 3 rfl rfl)
theorem dX2_roomTo_50 : decode cX2_roomTo 50 = .ok (.invokestatic 91, 3) := dk_184 0 91 (dk_at dksX2_roomTo_2 4 rfl rfl)
theorem dX2_roomTo_53 : decode cX2_roomTo 53 = .ok (.istore_n 3, 1) := dk_62 (dk_at dksX2_roomTo_2 7 rfl rfl)
theorem dX2_roomTo_54 : decode cX2_roomTo 54 = .ok (.iinc 4 1, 3) := dk_132 4 1 (dk_at dksX2_roomTo_2 8 rfl rfl)
theorem dX2_roomTo_57 : decode cX2_roomTo 57 = .ok (.goto (-48), 3) := dk_167 255 208 (dk_at dksX2_roomTo_2 11 rfl rfl)
theorem dX2_roomTo_60 : decode cX2_roomTo 60 = .ok (.iload_n 3, 1) := dk_29 (dk_at dksX2_roomTo_2 14 rfl rfl)
theorem dX2_roomTo_61 : decode cX2_roomTo 61 = .ok (.ireturn, 1) := dk_172 (dk_at dksX2_roomTo_2 15 rfl rfl)
abbrev cX2_roomFrom : ByteArray := prog_10_method_35_code
def yX2_roomFrom : MethodName := ⟨RX2, "roomFrom", "(II)I"⟩
def dkwX2_roomFrom_2 : List UInt8 := [184, 0, 83, 62, 132, 4, 1, 167, 255, 208, 29, 172]
abbrev dktX2_roomFrom_2 : List UInt8 := dkwX2_roomFrom_2 ++ []
def dkwX2_roomFrom_1 : List UInt8 := [42, 21, 4, 182, 0, 73, 28, 163, 0, 19, 29, 42, 21, 4, 182, 0, 73, 42, 180, 0, 23, 96]
abbrev dktX2_roomFrom_1 : List UInt8 := dkwX2_roomFrom_1 ++ dktX2_roomFrom_2
def dkwX2_roomFrom_0 : List UInt8 := [3, 62, 3, 54, 4, 21, 4, 42, 180, 0, 63, 162, 0, 45, 42, 21, 4, 27, 182, 0, 66, 153, 0, 29]
abbrev dktX2_roomFrom_0 : List UInt8 := dkwX2_roomFrom_0 ++ dktX2_roomFrom_1
theorem dksX2_roomFrom_0 : cX2_roomFrom.data.toList.drop 0 = dktX2_roomFrom_0 := by decide +kernel
theorem dksX2_roomFrom_1 : cX2_roomFrom.data.toList.drop 24 = dktX2_roomFrom_1 := dk_seg dksX2_roomFrom_0 24 rfl rfl
theorem dksX2_roomFrom_2 : cX2_roomFrom.data.toList.drop 46 = dktX2_roomFrom_2 := dk_seg dksX2_roomFrom_1 22 rfl rfl
theorem dX2_roomFrom_0 : decode cX2_roomFrom 0 = .ok (.iconst 0, 1) := dk_3 (dk_at dksX2_roomFrom_0 0 rfl rfl)
theorem dX2_roomFrom_1 : decode cX2_roomFrom 1 = .ok (.istore_n 3, 1) := dk_62 (dk_at dksX2_roomFrom_0 1 rfl rfl)
theorem dX2_roomFrom_2 : decode cX2_roomFrom 2 = .ok (.iconst 0, 1) := dk_3 (dk_at dksX2_roomFrom_0 2 rfl rfl)
theorem dX2_roomFrom_3 : decode cX2_roomFrom 3 = .ok (.istore 4, 2) := dk_54 4 (dk_at dksX2_roomFrom_0 3 rfl rfl)
theorem dX2_roomFrom_5 : decode cX2_roomFrom 5 = .ok (.iload 4, 2) := dk_21 4 (dk_at dksX2_roomFrom_0 5 rfl rfl)
theorem dX2_roomFrom_7 : decode cX2_roomFrom 7 = .ok (.aload_n 0, 1) := dk_42 (dk_at dksX2_roomFrom_0 7 rfl rfl)
theorem dX2_roomFrom_8 : decode cX2_roomFrom 8 = .ok (.getfield 63, 3) := dk_180 0 63 (dk_at dksX2_roomFrom_0 8 rfl rfl)
theorem dX2_roomFrom_11 : decode cX2_roomFrom 11 = .ok (.if_icmp .ge 45, 3) := dk_162 0 45 (dk_at dksX2_roomFrom_0 11 rfl rfl)
theorem dX2_roomFrom_14 : decode cX2_roomFrom 14 = .ok (.aload_n 0, 1) := dk_42 (dk_at dksX2_roomFrom_0 14 rfl rfl)
theorem dX2_roomFrom_15 : decode cX2_roomFrom 15 = .ok (.iload 4, 2) := dk_21 4 (dk_at dksX2_roomFrom_0 15 rfl rfl)
theorem dX2_roomFrom_17 : decode cX2_roomFrom 17 = .ok (.iload_n 1, 1) := dk_27 (dk_at dksX2_roomFrom_0 17 rfl rfl)
theorem dX2_roomFrom_18 : decode cX2_roomFrom 18 = .ok (.invokevirtual 66, 3) := dk_182 0 66 (dk_at dksX2_roomFrom_0 18 rfl rfl)
theorem dX2_roomFrom_21 : decode cX2_roomFrom 21 = .ok (.ifCond .eq 29, 3) := dk_153 0 29 (dk_at dksX2_roomFrom_0 21 rfl rfl)
theorem dX2_roomFrom_24 : decode cX2_roomFrom 24 = .ok (.aload_n 0, 1) := dk_42 (dk_at dksX2_roomFrom_1 0 rfl rfl)
theorem dX2_roomFrom_25 : decode cX2_roomFrom 25 = .ok (.iload 4, 2) := dk_21 4 (dk_at dksX2_roomFrom_1 1 rfl rfl)
theorem dX2_roomFrom_27 : decode cX2_roomFrom 27 = .ok (.invokevirtual 73, 3) := dk_182 0 73 (dk_at dksX2_roomFrom_1 3 rfl rfl)
theorem dX2_roomFrom_30 : decode cX2_roomFrom 30 = .ok (.iload_n 2, 1) := dk_28 (dk_at dksX2_roomFrom_1 6 rfl rfl)
theorem dX2_roomFrom_31 : decode cX2_roomFrom 31 = .ok (.if_icmp .gt 19, 3) := dk_163 0 19 (dk_at dksX2_roomFrom_1 7 rfl rfl)
theorem dX2_roomFrom_34 : decode cX2_roomFrom 34 = .ok (.iload_n 3, 1) := dk_29 (dk_at dksX2_roomFrom_1 10 rfl rfl)
theorem dX2_roomFrom_35 : decode cX2_roomFrom 35 = .ok (.aload_n 0, 1) := dk_42 (dk_at dksX2_roomFrom_1 11 rfl rfl)
theorem dX2_roomFrom_36 : decode cX2_roomFrom 36 = .ok (.iload 4, 2) := dk_21 4 (dk_at dksX2_roomFrom_1 12 rfl rfl)
theorem dX2_roomFrom_38 : decode cX2_roomFrom 38 = .ok (.invokevirtual 73, 3) := dk_182 0 73 (dk_at dksX2_roomFrom_1 14 rfl rfl)
theorem dX2_roomFrom_41 : decode cX2_roomFrom 41 = .ok (.aload_n 0, 1) := dk_42 (dk_at dksX2_roomFrom_1 17 rfl rfl)
theorem dX2_roomFrom_42 : decode cX2_roomFrom 42 = .ok (.getfield 23, 3) := dk_180 0 23 (dk_at dksX2_roomFrom_1 18 rfl rfl)
theorem dX2_roomFrom_45 : decode cX2_roomFrom 45 = .ok (.iadd, 1) := dk_96 (dk_at dksX2_roomFrom_1 21 rfl rfl)
theorem dX2_roomFrom_46 : decode cX2_roomFrom 46 = .ok (.invokestatic 83, 3) := dk_184 0 83 (dk_at dksX2_roomFrom_2 0 rfl rfl)
theorem dX2_roomFrom_49 : decode cX2_roomFrom 49 = .ok (.istore_n 3, 1) := dk_62 (dk_at dksX2_roomFrom_2 3 rfl rfl)
theorem dX2_roomFrom_50 : decode cX2_roomFrom 50 = .ok (.iinc 4 1, 3) := dk_132 4 1 (dk_at dksX2_roomFrom_2 4 rfl rfl)
theorem dX2_roomFrom_53 : decode cX2_roomFrom 53 = .ok (.goto (-48), 3) := dk_167 255 208 (dk_at dksX2_roomFrom_2 7 rfl rfl)
theorem dX2_roomFrom_56 : decode cX2_roomFrom 56 = .ok (.iload_n 3, 1) := dk_29 (dk_at dksX2_roomFrom_2 10 rfl rfl)
theorem dX2_roomFrom_57 : decode cX2_roomFrom 57 = .ok (.ireturn, 1) := dk_172 (dk_at dksX2_roomFrom_2 11 rfl rfl)
abbrev cX2_left : ByteArray := prog_10_method_40_code
def yX2_left : MethodName := ⟨RX2, "left", "(I)I"⟩
def dkwX2_left_1 : List UInt8 := [182, 0, 49, 172]
abbrev dktX2_left_1 : List UInt8 := dkwX2_left_1 ++ []
def dkwX2_left_0 : List UInt8 := [42, 3, 181, 0, 36, 42, 27, 182, 0, 114, 153, 0, 12, 42, 27, 6, 182, 0, 79, 167, 0, 8, 42, 4]
abbrev dktX2_left_0 : List UInt8 := dkwX2_left_0 ++ dktX2_left_1
theorem dksX2_left_0 : cX2_left.data.toList.drop 0 = dktX2_left_0 := by decide +kernel
theorem dksX2_left_1 : cX2_left.data.toList.drop 24 = dktX2_left_1 := dk_seg dksX2_left_0 24 rfl rfl
theorem dX2_left_0 : decode cX2_left 0 = .ok (.aload_n 0, 1) := dk_42 (dk_at dksX2_left_0 0 rfl rfl)
theorem dX2_left_1 : decode cX2_left 1 = .ok (.iconst 0, 1) := dk_3 (dk_at dksX2_left_0 1 rfl rfl)
theorem dX2_left_2 : decode cX2_left 2 = .ok (.putfield 36, 3) := dk_181 0 36 (dk_at dksX2_left_0 2 rfl rfl)
theorem dX2_left_5 : decode cX2_left 5 = .ok (.aload_n 0, 1) := dk_42 (dk_at dksX2_left_0 5 rfl rfl)
theorem dX2_left_6 : decode cX2_left 6 = .ok (.iload_n 1, 1) := dk_27 (dk_at dksX2_left_0 6 rfl rfl)
theorem dX2_left_7 : decode cX2_left 7 = .ok (.invokevirtual 114, 3) := dk_182 0 114 (dk_at dksX2_left_0 7 rfl rfl)
theorem dX2_left_10 : decode cX2_left 10 = .ok (.ifCond .eq 12, 3) := dk_153 0 12 (dk_at dksX2_left_0 10 rfl rfl)
theorem dX2_left_13 : decode cX2_left 13 = .ok (.aload_n 0, 1) := dk_42 (dk_at dksX2_left_0 13 rfl rfl)
theorem dX2_left_14 : decode cX2_left 14 = .ok (.iload_n 1, 1) := dk_27 (dk_at dksX2_left_0 14 rfl rfl)
theorem dX2_left_15 : decode cX2_left 15 = .ok (.iconst 3, 1) := dk_6 (dk_at dksX2_left_0 15 rfl rfl)
theorem dX2_left_16 : decode cX2_left 16 = .ok (.invokevirtual 79, 3) := dk_182 0 79 (dk_at dksX2_left_0 16 rfl rfl)
theorem dX2_left_19 : decode cX2_left 19 = .ok (.goto 8, 3) := dk_167 0 8 (dk_at dksX2_left_0 19 rfl rfl)
theorem dX2_left_22 : decode cX2_left 22 = .ok (.aload_n 0, 1) := dk_42 (dk_at dksX2_left_0 22 rfl rfl)
theorem dX2_left_23 : decode cX2_left 23 = .ok (.iconst 1, 1) := dk_4 (dk_at dksX2_left_0 23 rfl rfl)
theorem dX2_left_24 : decode cX2_left 24 = .ok (.invokevirtual 49, 3) := dk_182 0 49 (dk_at dksX2_left_1 0 rfl rfl)
theorem dX2_left_27 : decode cX2_left 27 = .ok (.ireturn, 1) := dk_172 (dk_at dksX2_left_1 3 rfl rfl)
abbrev cX2_pieces : ByteArray := prog_10_method_42_code
def yX2_pieces : MethodName := ⟨RX2, "pieces", "(I)I"⟩
def dkwX2_pieces_1 : List UInt8 := [182, 0, 49, 172]
abbrev dktX2_pieces_1 : List UInt8 := dkwX2_pieces_1 ++ []
def dkwX2_pieces_0 : List UInt8 := [42, 3, 181, 0, 36, 42, 27, 182, 0, 53, 153, 0, 11, 42, 27, 182, 0, 144, 167, 0, 8, 42, 4]
abbrev dktX2_pieces_0 : List UInt8 := dkwX2_pieces_0 ++ dktX2_pieces_1
theorem dksX2_pieces_0 : cX2_pieces.data.toList.drop 0 = dktX2_pieces_0 := by decide +kernel
theorem dksX2_pieces_1 : cX2_pieces.data.toList.drop 23 = dktX2_pieces_1 := dk_seg dksX2_pieces_0 23 rfl rfl
theorem dX2_pieces_0 : decode cX2_pieces 0 = .ok (.aload_n 0, 1) := dk_42 (dk_at dksX2_pieces_0 0 rfl rfl)
theorem dX2_pieces_1 : decode cX2_pieces 1 = .ok (.iconst 0, 1) := dk_3 (dk_at dksX2_pieces_0 1 rfl rfl)
theorem dX2_pieces_2 : decode cX2_pieces 2 = .ok (.putfield 36, 3) := dk_181 0 36 (dk_at dksX2_pieces_0 2 rfl rfl)
theorem dX2_pieces_5 : decode cX2_pieces 5 = .ok (.aload_n 0, 1) := dk_42 (dk_at dksX2_pieces_0 5 rfl rfl)
theorem dX2_pieces_6 : decode cX2_pieces 6 = .ok (.iload_n 1, 1) := dk_27 (dk_at dksX2_pieces_0 6 rfl rfl)
theorem dX2_pieces_7 : decode cX2_pieces 7 = .ok (.invokevirtual 53, 3) := dk_182 0 53 (dk_at dksX2_pieces_0 7 rfl rfl)
theorem dX2_pieces_10 : decode cX2_pieces 10 = .ok (.ifCond .eq 11, 3) := dk_153 0 11 (dk_at dksX2_pieces_0 10 rfl rfl)
theorem dX2_pieces_13 : decode cX2_pieces 13 = .ok (.aload_n 0, 1) := dk_42 (dk_at dksX2_pieces_0 13 rfl rfl)
theorem dX2_pieces_14 : decode cX2_pieces 14 = .ok (.iload_n 1, 1) := dk_27 (dk_at dksX2_pieces_0 14 rfl rfl)
theorem dX2_pieces_15 : decode cX2_pieces 15 = .ok (.invokevirtual 144, 3) := dk_182 0 144 (dk_at dksX2_pieces_0 15 rfl rfl)
theorem dX2_pieces_18 : decode cX2_pieces 18 = .ok (.goto 8, 3) := dk_167 0 8 (dk_at dksX2_pieces_0 18 rfl rfl)
theorem dX2_pieces_21 : decode cX2_pieces 21 = .ok (.aload_n 0, 1) := dk_42 (dk_at dksX2_pieces_0 21 rfl rfl)
theorem dX2_pieces_22 : decode cX2_pieces 22 = .ok (.iconst 1, 1) := dk_4 (dk_at dksX2_pieces_0 22 rfl rfl)
theorem dX2_pieces_23 : decode cX2_pieces 23 = .ok (.invokevirtual 49, 3) := dk_182 0 49 (dk_at dksX2_pieces_1 0 rfl rfl)
theorem dX2_pieces_26 : decode cX2_pieces 26 = .ok (.ireturn, 1) := dk_172 (dk_at dksX2_pieces_1 3 rfl rfl)
abbrev cX2_piecesOf : ByteArray := prog_10_method_41_code
def yX2_piecesOf : MethodName := ⟨RX2, "piecesOf", "(I)I"⟩
def dkwX2_piecesOf_1 : List UInt8 := [167, 0, 4, 3, 96, 61, 132, 3, 1, 167, 255, 228, 28, 172]
abbrev dktX2_piecesOf_1 : List UInt8 := dkwX2_piecesOf_1 ++ []
def dkwX2_piecesOf_0 : List UInt8 := [3, 61, 3, 62, 29, 42, 180, 0, 63, 162, 0, 26, 28, 42, 29, 27, 182, 0, 66, 153, 0, 7, 4]
abbrev dktX2_piecesOf_0 : List UInt8 := dkwX2_piecesOf_0 ++ dktX2_piecesOf_1
theorem dksX2_piecesOf_0 : cX2_piecesOf.data.toList.drop 0 = dktX2_piecesOf_0 := by decide +kernel
theorem dksX2_piecesOf_1 : cX2_piecesOf.data.toList.drop 23 = dktX2_piecesOf_1 := dk_seg dksX2_piecesOf_0 23 rfl rfl
theorem dX2_piecesOf_0 : decode cX2_piecesOf 0 = .ok (.iconst 0, 1) := dk_3 (dk_at dksX2_piecesOf_0 0 rfl rfl)
theorem dX2_piecesOf_1 : decode cX2_piecesOf 1 = .ok (.istore_n 2, 1) := dk_61 (dk_at dksX2_piecesOf_0 1 rfl rfl)
theorem dX2_piecesOf_2 : decode cX2_piecesOf 2 = .ok (.iconst 0, 1) := dk_3 (dk_at dksX2_piecesOf_0 2 rfl rfl)
theorem dX2_piecesOf_3 : decode cX2_piecesOf 3 = .ok (.istore_n 3, 1) := dk_62 (dk_at dksX2_piecesOf_0 3 rfl rfl)
theorem dX2_piecesOf_4 : decode cX2_piecesOf 4 = .ok (.iload_n 3, 1) := dk_29 (dk_at dksX2_piecesOf_0 4 rfl rfl)
theorem dX2_piecesOf_5 : decode cX2_piecesOf 5 = .ok (.aload_n 0, 1) := dk_42 (dk_at dksX2_piecesOf_0 5 rfl rfl)
theorem dX2_piecesOf_6 : decode cX2_piecesOf 6 = .ok (.getfield 63, 3) := dk_180 0 63 (dk_at dksX2_piecesOf_0 6 rfl rfl)
theorem dX2_piecesOf_9 : decode cX2_piecesOf 9 = .ok (.if_icmp .ge 26, 3) := dk_162 0 26 (dk_at dksX2_piecesOf_0 9 rfl rfl)
theorem dX2_piecesOf_12 : decode cX2_piecesOf 12 = .ok (.iload_n 2, 1) := dk_28 (dk_at dksX2_piecesOf_0 12 rfl rfl)
theorem dX2_piecesOf_13 : decode cX2_piecesOf 13 = .ok (.aload_n 0, 1) := dk_42 (dk_at dksX2_piecesOf_0 13 rfl rfl)
theorem dX2_piecesOf_14 : decode cX2_piecesOf 14 = .ok (.iload_n 3, 1) := dk_29 (dk_at dksX2_piecesOf_0 14 rfl rfl)
theorem dX2_piecesOf_15 : decode cX2_piecesOf 15 = .ok (.iload_n 1, 1) := dk_27 (dk_at dksX2_piecesOf_0 15 rfl rfl)
theorem dX2_piecesOf_16 : decode cX2_piecesOf 16 = .ok (.invokevirtual 66, 3) := dk_182 0 66 (dk_at dksX2_piecesOf_0 16 rfl rfl)
theorem dX2_piecesOf_19 : decode cX2_piecesOf 19 = .ok (.ifCond .eq 7, 3) := dk_153 0 7 (dk_at dksX2_piecesOf_0 19 rfl rfl)
theorem dX2_piecesOf_22 : decode cX2_piecesOf 22 = .ok (.iconst 1, 1) := dk_4 (dk_at dksX2_piecesOf_0 22 rfl rfl)
theorem dX2_piecesOf_23 : decode cX2_piecesOf 23 = .ok (.goto 4, 3) := dk_167 0 4 (dk_at dksX2_piecesOf_1 0 rfl rfl)
theorem dX2_piecesOf_26 : decode cX2_piecesOf 26 = .ok (.iconst 0, 1) := dk_3 (dk_at dksX2_piecesOf_1 3 rfl rfl)
theorem dX2_piecesOf_27 : decode cX2_piecesOf 27 = .ok (.iadd, 1) := dk_96 (dk_at dksX2_piecesOf_1 4 rfl rfl)
theorem dX2_piecesOf_28 : decode cX2_piecesOf 28 = .ok (.istore_n 2, 1) := dk_61 (dk_at dksX2_piecesOf_1 5 rfl rfl)
theorem dX2_piecesOf_29 : decode cX2_piecesOf 29 = .ok (.iinc 3 1, 3) := dk_132 3 1 (dk_at dksX2_piecesOf_1 6 rfl rfl)
theorem dX2_piecesOf_32 : decode cX2_piecesOf 32 = .ok (.goto (-28), 3) := dk_167 255 228 (dk_at dksX2_piecesOf_1 9 rfl rfl)
theorem dX2_piecesOf_35 : decode cX2_piecesOf 35 = .ok (.iload_n 2, 1) := dk_28 (dk_at dksX2_piecesOf_1 12 rfl rfl)
theorem dX2_piecesOf_36 : decode cX2_piecesOf 36 = .ok (.ireturn, 1) := dk_172 (dk_at dksX2_piecesOf_1 13 rfl rfl)
abbrev cX2_piece : ByteArray := prog_10_method_45_code
def yX2_piece : MethodName := ⟨RX2, "piece", "(III)I"⟩
def dkwX2_piece_3 : List UInt8 := [182, 0, 147, 54, 4, 132, 5, 1, 167, 255, 234, 42, 21, 4, 29, 182, 0, 150, 172]
abbrev dktX2_piece_3 : List UInt8 := dkwX2_piece_3 ++ []
def dkwX2_piece_2 : List UInt8 := [182, 0, 147, 54, 4, 3, 54, 5, 21, 5, 28, 162, 0, 22, 42, 27, 42, 21, 4, 182, 0, 73]
abbrev dktX2_piece_2 : List UInt8 := dkwX2_piece_2 ++ dktX2_piece_3
def dkwX2_piece_1 : List UInt8 := [184, 0, 42, 153, 0, 12, 29, 3, 6, 184, 0, 42, 154, 0, 9, 42, 4, 182, 0, 49, 172, 42, 27, 3]
abbrev dktX2_piece_1 : List UInt8 := dkwX2_piece_1 ++ dktX2_piece_2
def dkwX2_piece_0 : List UInt8 := [42, 3, 181, 0, 36, 42, 27, 182, 0, 53, 153, 0, 27, 28, 3, 42, 27, 182, 0, 144, 4, 100]
abbrev dktX2_piece_0 : List UInt8 := dkwX2_piece_0 ++ dktX2_piece_1
theorem dksX2_piece_0 : cX2_piece.data.toList.drop 0 = dktX2_piece_0 := by decide +kernel
theorem dksX2_piece_1 : cX2_piece.data.toList.drop 22 = dktX2_piece_1 := dk_seg dksX2_piece_0 22 rfl rfl
theorem dksX2_piece_2 : cX2_piece.data.toList.drop 46 = dktX2_piece_2 := dk_seg dksX2_piece_1 24 rfl rfl
theorem dksX2_piece_3 : cX2_piece.data.toList.drop 68 = dktX2_piece_3 := dk_seg dksX2_piece_2 22 rfl rfl
theorem dX2_piece_0 : decode cX2_piece 0 = .ok (.aload_n 0, 1) := dk_42 (dk_at dksX2_piece_0 0 rfl rfl)
theorem dX2_piece_1 : decode cX2_piece 1 = .ok (.iconst 0, 1) := dk_3 (dk_at dksX2_piece_0 1 rfl rfl)
theorem dX2_piece_2 : decode cX2_piece 2 = .ok (.putfield 36, 3) := dk_181 0 36 (dk_at dksX2_piece_0 2 rfl rfl)
theorem dX2_piece_5 : decode cX2_piece 5 = .ok (.aload_n 0, 1) := dk_42 (dk_at dksX2_piece_0 5 rfl rfl)
theorem dX2_piece_6 : decode cX2_piece 6 = .ok (.iload_n 1, 1) := dk_27 (dk_at dksX2_piece_0 6 rfl rfl)
theorem dX2_piece_7 : decode cX2_piece 7 = .ok (.invokevirtual 53, 3) := dk_182 0 53 (dk_at dksX2_piece_0 7 rfl rfl)
theorem dX2_piece_10 : decode cX2_piece 10 = .ok (.ifCond .eq 27, 3) := dk_153 0 27 (dk_at dksX2_piece_0 10 rfl rfl)
theorem dX2_piece_13 : decode cX2_piece 13 = .ok (.iload_n 2, 1) := dk_28 (dk_at dksX2_piece_0 13 rfl rfl)
theorem dX2_piece_14 : decode cX2_piece 14 = .ok (.iconst 0, 1) := dk_3 (dk_at dksX2_piece_0 14 rfl rfl)
theorem dX2_piece_15 : decode cX2_piece 15 = .ok (.aload_n 0, 1) := dk_42 (dk_at dksX2_piece_0 15 rfl rfl)
theorem dX2_piece_16 : decode cX2_piece 16 = .ok (.iload_n 1, 1) := dk_27 (dk_at dksX2_piece_0 16 rfl rfl)
theorem dX2_piece_17 : decode cX2_piece 17 = .ok (.invokevirtual 144, 3) := dk_182 0 144 (dk_at dksX2_piece_0 17 rfl rfl)
theorem dX2_piece_20 : decode cX2_piece 20 = .ok (.iconst 1, 1) := dk_4 (dk_at dksX2_piece_0 20 rfl rfl)
theorem dX2_piece_21 : decode cX2_piece 21 = .ok (.isub, 1) := dk_100 (dk_at dksX2_piece_0 21 rfl rfl)
theorem dX2_piece_22 : decode cX2_piece 22 = .ok (.invokestatic 42, 3) := dk_184 0 42 (dk_at dksX2_piece_1 0 rfl rfl)
theorem dX2_piece_25 : decode cX2_piece 25 = .ok (.ifCond .eq 12, 3) := dk_153 0 12 (dk_at dksX2_piece_1 3 rfl rfl)
theorem dX2_piece_28 : decode cX2_piece 28 = .ok (.iload_n 3, 1) := dk_29 (dk_at dksX2_piece_1 6 rfl rfl)
theorem dX2_piece_29 : decode cX2_piece 29 = .ok (.iconst 0, 1) := dk_3 (dk_at dksX2_piece_1 7 rfl rfl)
theorem dX2_piece_30 : decode cX2_piece 30 = .ok (.iconst 3, 1) := dk_6 (dk_at dksX2_piece_1 8 rfl rfl)
theorem dX2_piece_31 : decode cX2_piece 31 = .ok (.invokestatic 42, 3) := dk_184 0 42 (dk_at dksX2_piece_1 9 rfl rfl)
theorem dX2_piece_34 : decode cX2_piece 34 = .ok (.ifCond .ne 9, 3) := dk_154 0 9 (dk_at dksX2_piece_1 12 rfl rfl)
theorem dX2_piece_37 : decode cX2_piece 37 = .ok (.aload_n 0, 1) := dk_42 (dk_at dksX2_piece_1 15 rfl rfl)
theorem dX2_piece_38 : decode cX2_piece 38 = .ok (.iconst 1, 1) := dk_4 (dk_at dksX2_piece_1 16 rfl rfl)
theorem dX2_piece_39 : decode cX2_piece 39 = .ok (.invokevirtual 49, 3) := dk_182 0 49 (dk_at dksX2_piece_1 17 rfl rfl)
theorem dX2_piece_42 : decode cX2_piece 42 = .ok (.ireturn, 1) := dk_172 (dk_at dksX2_piece_1 20 rfl rfl)
theorem dX2_piece_43 : decode cX2_piece 43 = .ok (.aload_n 0, 1) := dk_42 (dk_at dksX2_piece_1 21 rfl rfl)
theorem dX2_piece_44 : decode cX2_piece 44 = .ok (.iload_n 1, 1) := dk_27 (dk_at dksX2_piece_1 22 rfl rfl)
theorem dX2_piece_45 : decode cX2_piece 45 = .ok (.iconst 0, 1) := dk_3 (dk_at dksX2_piece_1 23 rfl rfl)
theorem dX2_piece_46 : decode cX2_piece 46 = .ok (.invokevirtual 147, 3) := dk_182 0 147 (dk_at dksX2_piece_2 0 rfl rfl)
theorem dX2_piece_49 : decode cX2_piece 49 = .ok (.istore 4, 2) := dk_54 4 (dk_at dksX2_piece_2 3 rfl rfl)
theorem dX2_piece_51 : decode cX2_piece 51 = .ok (.iconst 0, 1) := dk_3 (dk_at dksX2_piece_2 5 rfl rfl)
theorem dX2_piece_52 : decode cX2_piece 52 = .ok (.istore 5, 2) := dk_54 5 (dk_at dksX2_piece_2 6 rfl rfl)
theorem dX2_piece_54 : decode cX2_piece 54 = .ok (.iload 5, 2) := dk_21 5 (dk_at dksX2_piece_2 8 rfl rfl)
theorem dX2_piece_56 : decode cX2_piece 56 = .ok (.iload_n 2, 1) := dk_28 (dk_at dksX2_piece_2 10 rfl rfl)
theorem dX2_piece_57 : decode cX2_piece 57 = .ok (.if_icmp .ge 22, 3) := dk_162 0 22 (dk_at dksX2_piece_2 11 rfl rfl)
theorem dX2_piece_60 : decode cX2_piece 60 = .ok (.aload_n 0, 1) := dk_42 (dk_at dksX2_piece_2 14 rfl rfl)
theorem dX2_piece_61 : decode cX2_piece 61 = .ok (.iload_n 1, 1) := dk_27 (dk_at dksX2_piece_2 15 rfl rfl)
theorem dX2_piece_62 : decode cX2_piece 62 = .ok (.aload_n 0, 1) := dk_42 (dk_at dksX2_piece_2 16 rfl rfl)
theorem dX2_piece_63 : decode cX2_piece 63 = .ok (.iload 4, 2) := dk_21 4 (dk_at dksX2_piece_2 17 rfl rfl)
theorem dX2_piece_65 : decode cX2_piece 65 = .ok (.invokevirtual 73, 3) := dk_182 0 73 (dk_at dksX2_piece_2 19 rfl rfl)
theorem dX2_piece_68 : decode cX2_piece 68 = .ok (.invokevirtual 147, 3) := dk_182 0 147 (dk_at dksX2_piece_3 0 rfl rfl)
theorem dX2_piece_71 : decode cX2_piece 71 = .ok (.istore 4, 2) := dk_54 4 (dk_at dksX2_piece_3 3 rfl rfl)
theorem dX2_piece_73 : decode cX2_piece 73 = .ok (.iinc 5 1, 3) := dk_132 5 1 (dk_at dksX2_piece_3 5 rfl rfl)
theorem dX2_piece_76 : decode cX2_piece 76 = .ok (.goto (-22), 3) := dk_167 255 234 (dk_at dksX2_piece_3 8 rfl rfl)
theorem dX2_piece_79 : decode cX2_piece 79 = .ok (.aload_n 0, 1) := dk_42 (dk_at dksX2_piece_3 11 rfl rfl)
theorem dX2_piece_80 : decode cX2_piece 80 = .ok (.iload 4, 2) := dk_21 4 (dk_at dksX2_piece_3 12 rfl rfl)
theorem dX2_piece_82 : decode cX2_piece 82 = .ok (.iload_n 3, 1) := dk_29 (dk_at dksX2_piece_3 14 rfl rfl)
theorem dX2_piece_83 : decode cX2_piece 83 = .ok (.invokevirtual 150, 3) := dk_182 0 150 (dk_at dksX2_piece_3 15 rfl rfl)
theorem dX2_piece_86 : decode cX2_piece 86 = .ok (.ireturn, 1) := dk_172 (dk_at dksX2_piece_3 18 rfl rfl)
abbrev cX2_pieceFrom : ByteArray := prog_10_method_43_code
def yX2_pieceFrom : MethodName := ⟨RX2, "pieceFrom", "(II)I"⟩
def dkwX2_pieceFrom_2 : List UInt8 := [182, 0, 70, 162, 0, 6, 21, 4, 62, 132, 4, 1, 167, 255, 202, 29, 172]
abbrev dktX2_pieceFrom_2 : List UInt8 := dkwX2_pieceFrom_2 ++ []
def dkwX2_pieceFrom_1 : List UInt8 := [42, 21, 4, 182, 0, 70, 28, 161, 0, 25, 29, 2, 159, 0, 17, 42, 21, 4, 182, 0, 70, 42, 29]
abbrev dktX2_pieceFrom_1 : List UInt8 := dkwX2_pieceFrom_1 ++ dktX2_pieceFrom_2
def dkwX2_pieceFrom_0 : List UInt8 := [2, 62, 3, 54, 4, 21, 4, 42, 180, 0, 63, 162, 0, 51, 42, 21, 4, 27, 182, 0, 66, 153, 0, 35]
abbrev dktX2_pieceFrom_0 : List UInt8 := dkwX2_pieceFrom_0 ++ dktX2_pieceFrom_1
theorem dksX2_pieceFrom_0 : cX2_pieceFrom.data.toList.drop 0 = dktX2_pieceFrom_0 := by decide +kernel
theorem dksX2_pieceFrom_1 : cX2_pieceFrom.data.toList.drop 24 = dktX2_pieceFrom_1 := dk_seg dksX2_pieceFrom_0 24 rfl rfl
theorem dksX2_pieceFrom_2 : cX2_pieceFrom.data.toList.drop 47 = dktX2_pieceFrom_2 := dk_seg dksX2_pieceFrom_1 23 rfl rfl
theorem dX2_pieceFrom_0 : decode cX2_pieceFrom 0 = .ok (.iconst (-1), 1) := dk_2 (dk_at dksX2_pieceFrom_0 0 rfl rfl)
theorem dX2_pieceFrom_1 : decode cX2_pieceFrom 1 = .ok (.istore_n 3, 1) := dk_62 (dk_at dksX2_pieceFrom_0 1 rfl rfl)
theorem dX2_pieceFrom_2 : decode cX2_pieceFrom 2 = .ok (.iconst 0, 1) := dk_3 (dk_at dksX2_pieceFrom_0 2 rfl rfl)
theorem dX2_pieceFrom_3 : decode cX2_pieceFrom 3 = .ok (.istore 4, 2) := dk_54 4 (dk_at dksX2_pieceFrom_0 3 rfl rfl)
theorem dX2_pieceFrom_5 : decode cX2_pieceFrom 5 = .ok (.iload 4, 2) := dk_21 4 (dk_at dksX2_pieceFrom_0 5 rfl rfl)
theorem dX2_pieceFrom_7 : decode cX2_pieceFrom 7 = .ok (.aload_n 0, 1) := dk_42 (dk_at dksX2_pieceFrom_0 7 rfl rfl)
theorem dX2_pieceFrom_8 : decode cX2_pieceFrom 8 = .ok (.getfield 63, 3) := dk_180 0 63 (dk_at dksX2_pieceFrom_0 8 rfl rfl)
theorem dX2_pieceFrom_11 : decode cX2_pieceFrom 11 = .ok (.if_icmp .ge 51, 3) := dk_162 0 51 (dk_at dksX2_pieceFrom_0 11 rfl rfl)
theorem dX2_pieceFrom_14 : decode cX2_pieceFrom 14 = .ok (.aload_n 0, 1) := dk_42 (dk_at dksX2_pieceFrom_0 14 rfl rfl)
theorem dX2_pieceFrom_15 : decode cX2_pieceFrom 15 = .ok (.iload 4, 2) := dk_21 4 (dk_at dksX2_pieceFrom_0 15 rfl rfl)
theorem dX2_pieceFrom_17 : decode cX2_pieceFrom 17 = .ok (.iload_n 1, 1) := dk_27 (dk_at dksX2_pieceFrom_0 17 rfl rfl)
theorem dX2_pieceFrom_18 : decode cX2_pieceFrom 18 = .ok (.invokevirtual 66, 3) := dk_182 0 66 (dk_at dksX2_pieceFrom_0 18 rfl rfl)
theorem dX2_pieceFrom_21 : decode cX2_pieceFrom 21 = .ok (.ifCond .eq 35, 3) := dk_153 0 35 (dk_at dksX2_pieceFrom_0 21 rfl rfl)
theorem dX2_pieceFrom_24 : decode cX2_pieceFrom 24 = .ok (.aload_n 0, 1) := dk_42 (dk_at dksX2_pieceFrom_1 0 rfl rfl)
theorem dX2_pieceFrom_25 : decode cX2_pieceFrom 25 = .ok (.iload 4, 2) := dk_21 4 (dk_at dksX2_pieceFrom_1 1 rfl rfl)
theorem dX2_pieceFrom_27 : decode cX2_pieceFrom 27 = .ok (.invokevirtual 70, 3) := dk_182 0 70 (dk_at dksX2_pieceFrom_1 3 rfl rfl)
theorem dX2_pieceFrom_30 : decode cX2_pieceFrom 30 = .ok (.iload_n 2, 1) := dk_28 (dk_at dksX2_pieceFrom_1 6 rfl rfl)
theorem dX2_pieceFrom_31 : decode cX2_pieceFrom 31 = .ok (.if_icmp .lt 25, 3) := dk_161 0 25 (dk_at dksX2_pieceFrom_1 7 rfl rfl)
theorem dX2_pieceFrom_34 : decode cX2_pieceFrom 34 = .ok (.iload_n 3, 1) := dk_29 (dk_at dksX2_pieceFrom_1 10 rfl rfl)
theorem dX2_pieceFrom_35 : decode cX2_pieceFrom 35 = .ok (.iconst (-1), 1) := dk_2 (dk_at dksX2_pieceFrom_1 11 rfl rfl)
theorem dX2_pieceFrom_36 : decode cX2_pieceFrom 36 = .ok (.if_icmp .eq 17, 3) := dk_159 0 17 (dk_at dksX2_pieceFrom_1 12 rfl rfl)
theorem dX2_pieceFrom_39 : decode cX2_pieceFrom 39 = .ok (.aload_n 0, 1) := dk_42 (dk_at dksX2_pieceFrom_1 15 rfl rfl)
theorem dX2_pieceFrom_40 : decode cX2_pieceFrom 40 = .ok (.iload 4, 2) := dk_21 4 (dk_at dksX2_pieceFrom_1 16 rfl rfl)
theorem dX2_pieceFrom_42 : decode cX2_pieceFrom 42 = .ok (.invokevirtual 70, 3) := dk_182 0 70 (dk_at dksX2_pieceFrom_1 18 rfl rfl)
theorem dX2_pieceFrom_45 : decode cX2_pieceFrom 45 = .ok (.aload_n 0, 1) := dk_42 (dk_at dksX2_pieceFrom_1 21 rfl rfl)
theorem dX2_pieceFrom_46 : decode cX2_pieceFrom 46 = .ok (.iload_n 3, 1) := dk_29 (dk_at dksX2_pieceFrom_1 22 rfl rfl)
theorem dX2_pieceFrom_47 : decode cX2_pieceFrom 47 = .ok (.invokevirtual 70, 3) := dk_182 0 70 (dk_at dksX2_pieceFrom_2 0 rfl rfl)
theorem dX2_pieceFrom_50 : decode cX2_pieceFrom 50 = .ok (.if_icmp .ge 6, 3) := dk_162 0 6 (dk_at dksX2_pieceFrom_2 3 rfl rfl)
theorem dX2_pieceFrom_53 : decode cX2_pieceFrom 53 = .ok (.iload 4, 2) := dk_21 4 (dk_at dksX2_pieceFrom_2 6 rfl rfl)
theorem dX2_pieceFrom_55 : decode cX2_pieceFrom 55 = .ok (.istore_n 3, 1) := dk_62 (dk_at dksX2_pieceFrom_2 8 rfl rfl)
theorem dX2_pieceFrom_56 : decode cX2_pieceFrom 56 = .ok (.iinc 4 1, 3) := dk_132 4 1 (dk_at dksX2_pieceFrom_2 9 rfl rfl)
theorem dX2_pieceFrom_59 : decode cX2_pieceFrom 59 = .ok (.goto (-54), 3) := dk_167 255 202 (dk_at dksX2_pieceFrom_2 12 rfl rfl)
theorem dX2_pieceFrom_62 : decode cX2_pieceFrom 62 = .ok (.iload_n 3, 1) := dk_29 (dk_at dksX2_pieceFrom_2 15 rfl rfl)
theorem dX2_pieceFrom_63 : decode cX2_pieceFrom 63 = .ok (.ireturn, 1) := dk_172 (dk_at dksX2_pieceFrom_2 16 rfl rfl)
abbrev cX2_told : ByteArray := prog_10_method_44_code
def yX2_told : MethodName := ⟨RX2, "told", "(II)I"⟩
def dkwX2_told_1 : List UInt8 := [28, 96, 46, 167, 0, 17, 42, 180, 0, 33, 27, 51, 153, 0, 7, 4, 167, 0, 4, 3, 172]
abbrev dktX2_told_1 : List UInt8 := dkwX2_told_1 ++ []
def dkwX2_told_0 : List UInt8 := [28, 154, 0, 11, 42, 27, 182, 0, 76, 167, 0, 35, 28, 6, 162, 0, 16, 42, 180, 0, 30, 7, 27, 104]
abbrev dktX2_told_0 : List UInt8 := dkwX2_told_0 ++ dktX2_told_1
theorem dksX2_told_0 : cX2_told.data.toList.drop 0 = dktX2_told_0 := by decide +kernel
theorem dksX2_told_1 : cX2_told.data.toList.drop 24 = dktX2_told_1 := dk_seg dksX2_told_0 24 rfl rfl
theorem dX2_told_0 : decode cX2_told 0 = .ok (.iload_n 2, 1) := dk_28 (dk_at dksX2_told_0 0 rfl rfl)
theorem dX2_told_1 : decode cX2_told 1 = .ok (.ifCond .ne 11, 3) := dk_154 0 11 (dk_at dksX2_told_0 1 rfl rfl)
theorem dX2_told_4 : decode cX2_told 4 = .ok (.aload_n 0, 1) := dk_42 (dk_at dksX2_told_0 4 rfl rfl)
theorem dX2_told_5 : decode cX2_told 5 = .ok (.iload_n 1, 1) := dk_27 (dk_at dksX2_told_0 5 rfl rfl)
theorem dX2_told_6 : decode cX2_told 6 = .ok (.invokevirtual 76, 3) := dk_182 0 76 (dk_at dksX2_told_0 6 rfl rfl)
theorem dX2_told_9 : decode cX2_told 9 = .ok (.goto 35, 3) := dk_167 0 35 (dk_at dksX2_told_0 9 rfl rfl)
theorem dX2_told_12 : decode cX2_told 12 = .ok (.iload_n 2, 1) := dk_28 (dk_at dksX2_told_0 12 rfl rfl)
theorem dX2_told_13 : decode cX2_told 13 = .ok (.iconst 3, 1) := dk_6 (dk_at dksX2_told_0 13 rfl rfl)
theorem dX2_told_14 : decode cX2_told 14 = .ok (.if_icmp .ge 16, 3) := dk_162 0 16 (dk_at dksX2_told_0 14 rfl rfl)
theorem dX2_told_17 : decode cX2_told 17 = .ok (.aload_n 0, 1) := dk_42 (dk_at dksX2_told_0 17 rfl rfl)
theorem dX2_told_18 : decode cX2_told 18 = .ok (.getfield 30, 3) := dk_180 0 30 (dk_at dksX2_told_0 18 rfl rfl)
theorem dX2_told_21 : decode cX2_told 21 = .ok (.iconst 4, 1) := dk_7 (dk_at dksX2_told_0 21 rfl rfl)
theorem dX2_told_22 : decode cX2_told 22 = .ok (.iload_n 1, 1) := dk_27 (dk_at dksX2_told_0 22 rfl rfl)
theorem dX2_told_23 : decode cX2_told 23 = .ok (.imul, 1) := dk_104 (dk_at dksX2_told_0 23 rfl rfl)
theorem dX2_told_24 : decode cX2_told 24 = .ok (.iload_n 2, 1) := dk_28 (dk_at dksX2_told_1 0 rfl rfl)
theorem dX2_told_25 : decode cX2_told 25 = .ok (.iadd, 1) := dk_96 (dk_at dksX2_told_1 1 rfl rfl)
theorem dX2_told_26 : decode cX2_told 26 = .ok (.iaload, 1) := dk_46 (dk_at dksX2_told_1 2 rfl rfl)
theorem dX2_told_27 : decode cX2_told 27 = .ok (.goto 17, 3) := dk_167 0 17 (dk_at dksX2_told_1 3 rfl rfl)
theorem dX2_told_30 : decode cX2_told 30 = .ok (.aload_n 0, 1) := dk_42 (dk_at dksX2_told_1 6 rfl rfl)
theorem dX2_told_31 : decode cX2_told 31 = .ok (.getfield 33, 3) := dk_180 0 33 (dk_at dksX2_told_1 7 rfl rfl)
theorem dX2_told_34 : decode cX2_told 34 = .ok (.iload_n 1, 1) := dk_27 (dk_at dksX2_told_1 10 rfl rfl)
theorem dX2_told_35 : decode cX2_told 35 = .ok (.baload, 1) := dk_51 (dk_at dksX2_told_1 11 rfl rfl)
theorem dX2_told_36 : decode cX2_told 36 = .ok (.ifCond .eq 7, 3) := dk_153 0 7 (dk_at dksX2_told_1 12 rfl rfl)
theorem dX2_told_39 : decode cX2_told 39 = .ok (.iconst 1, 1) := dk_4 (dk_at dksX2_told_1 15 rfl rfl)
theorem dX2_told_40 : decode cX2_told 40 = .ok (.goto 4, 3) := dk_167 0 4 (dk_at dksX2_told_1 16 rfl rfl)
theorem dX2_told_43 : decode cX2_told 43 = .ok (.iconst 0, 1) := dk_3 (dk_at dksX2_told_1 19 rfl rfl)
theorem dX2_told_44 : decode cX2_told 44 = .ok (.ireturn, 1) := dk_172 (dk_at dksX2_told_1 20 rfl rfl)
abbrev cX2_cuts : ByteArray := prog_10_method_46_code
def yX2_cuts : MethodName := ⟨RX2, "cuts", "(I)I"⟩
def dkwX2_cuts_4 : List UInt8 := [27, 42, 21, 4, 182, 0, 73, 182, 0, 147, 54, 4, 167, 255, 181, 28, 172]
abbrev dktX2_cuts_4 : List UInt8 := dkwX2_cuts_4 ++ []
def dkwX2_cuts_3 : List UInt8 := [132, 2, 1, 42, 21, 4, 182, 0, 73, 42, 27, 182, 0, 57, 162, 0, 6, 132, 2, 1, 21, 4, 62, 42]
abbrev dktX2_cuts_3 : List UInt8 := dkwX2_cuts_3 ++ dktX2_cuts_4
def dkwX2_cuts_2 : List UInt8 := [159, 0, 22, 42, 21, 4, 182, 0, 70, 42, 29, 182, 0, 73, 100, 42, 180, 0, 23, 159, 0, 6]
abbrev dktX2_cuts_2 : List UInt8 := dkwX2_cuts_2 ++ dktX2_cuts_3
def dkwX2_cuts_1 : List UInt8 := [27, 3, 182, 0, 147, 54, 4, 21, 4, 2, 159, 0, 75, 42, 21, 4, 182, 0, 70, 158, 0, 30, 29, 2]
abbrev dktX2_cuts_1 : List UInt8 := dkwX2_cuts_1 ++ dktX2_cuts_2
def dkwX2_cuts_0 : List UInt8 := [42, 3, 181, 0, 36, 42, 27, 182, 0, 53, 154, 0, 9, 42, 4, 182, 0, 49, 172, 3, 61, 2, 62, 42]
abbrev dktX2_cuts_0 : List UInt8 := dkwX2_cuts_0 ++ dktX2_cuts_1
theorem dksX2_cuts_0 : cX2_cuts.data.toList.drop 0 = dktX2_cuts_0 := by decide +kernel
theorem dksX2_cuts_1 : cX2_cuts.data.toList.drop 24 = dktX2_cuts_1 := dk_seg dksX2_cuts_0 24 rfl rfl
theorem dksX2_cuts_2 : cX2_cuts.data.toList.drop 48 = dktX2_cuts_2 := dk_seg dksX2_cuts_1 24 rfl rfl
theorem dksX2_cuts_3 : cX2_cuts.data.toList.drop 70 = dktX2_cuts_3 := dk_seg dksX2_cuts_2 22 rfl rfl
theorem dksX2_cuts_4 : cX2_cuts.data.toList.drop 94 = dktX2_cuts_4 := dk_seg dksX2_cuts_3 24 rfl rfl
theorem dX2_cuts_0 : decode cX2_cuts 0 = .ok (.aload_n 0, 1) := dk_42 (dk_at dksX2_cuts_0 0 rfl rfl)
theorem dX2_cuts_1 : decode cX2_cuts 1 = .ok (.iconst 0, 1) := dk_3 (dk_at dksX2_cuts_0 1 rfl rfl)
theorem dX2_cuts_2 : decode cX2_cuts 2 = .ok (.putfield 36, 3) := dk_181 0 36 (dk_at dksX2_cuts_0 2 rfl rfl)
theorem dX2_cuts_5 : decode cX2_cuts 5 = .ok (.aload_n 0, 1) := dk_42 (dk_at dksX2_cuts_0 5 rfl rfl)
theorem dX2_cuts_6 : decode cX2_cuts 6 = .ok (.iload_n 1, 1) := dk_27 (dk_at dksX2_cuts_0 6 rfl rfl)
theorem dX2_cuts_7 : decode cX2_cuts 7 = .ok (.invokevirtual 53, 3) := dk_182 0 53 (dk_at dksX2_cuts_0 7 rfl rfl)
theorem dX2_cuts_10 : decode cX2_cuts 10 = .ok (.ifCond .ne 9, 3) := dk_154 0 9 (dk_at dksX2_cuts_0 10 rfl rfl)
theorem dX2_cuts_13 : decode cX2_cuts 13 = .ok (.aload_n 0, 1) := dk_42 (dk_at dksX2_cuts_0 13 rfl rfl)
theorem dX2_cuts_14 : decode cX2_cuts 14 = .ok (.iconst 1, 1) := dk_4 (dk_at dksX2_cuts_0 14 rfl rfl)
theorem dX2_cuts_15 : decode cX2_cuts 15 = .ok (.invokevirtual 49, 3) := dk_182 0 49 (dk_at dksX2_cuts_0 15 rfl rfl)
theorem dX2_cuts_18 : decode cX2_cuts 18 = .ok (.ireturn, 1) := dk_172 (dk_at dksX2_cuts_0 18 rfl rfl)
theorem dX2_cuts_19 : decode cX2_cuts 19 = .ok (.iconst 0, 1) := dk_3 (dk_at dksX2_cuts_0 19 rfl rfl)
theorem dX2_cuts_20 : decode cX2_cuts 20 = .ok (.istore_n 2, 1) := dk_61 (dk_at dksX2_cuts_0 20 rfl rfl)
theorem dX2_cuts_21 : decode cX2_cuts 21 = .ok (.iconst (-1), 1) := dk_2 (dk_at dksX2_cuts_0 21 rfl rfl)
theorem dX2_cuts_22 : decode cX2_cuts 22 = .ok (.istore_n 3, 1) := dk_62 (dk_at dksX2_cuts_0 22 rfl rfl)
theorem dX2_cuts_23 : decode cX2_cuts 23 = .ok (.aload_n 0, 1) := dk_42 (dk_at dksX2_cuts_0 23 rfl rfl)
theorem dX2_cuts_24 : decode cX2_cuts 24 = .ok (.iload_n 1, 1) := dk_27 (dk_at dksX2_cuts_1 0 rfl rfl)
theorem dX2_cuts_25 : decode cX2_cuts 25 = .ok (.iconst 0, 1) := dk_3 (dk_at dksX2_cuts_1 1 rfl rfl)
theorem dX2_cuts_26 : decode cX2_cuts 26 = .ok (.invokevirtual 147, 3) := dk_182 0 147 (dk_at dksX2_cuts_1 2 rfl rfl)
theorem dX2_cuts_29 : decode cX2_cuts 29 = .ok (.istore 4, 2) := dk_54 4 (dk_at dksX2_cuts_1 5 rfl rfl)
theorem dX2_cuts_31 : decode cX2_cuts 31 = .ok (.iload 4, 2) := dk_21 4 (dk_at dksX2_cuts_1 7 rfl rfl)
theorem dX2_cuts_33 : decode cX2_cuts 33 = .ok (.iconst (-1), 1) := dk_2 (dk_at dksX2_cuts_1 9 rfl rfl)
theorem dX2_cuts_34 : decode cX2_cuts 34 = .ok (.if_icmp .eq 75, 3) := dk_159 0 75 (dk_at dksX2_cuts_1 10 rfl rfl)
theorem dX2_cuts_37 : decode cX2_cuts 37 = .ok (.aload_n 0, 1) := dk_42 (dk_at dksX2_cuts_1 13 rfl rfl)
theorem dX2_cuts_38 : decode cX2_cuts 38 = .ok (.iload 4, 2) := dk_21 4 (dk_at dksX2_cuts_1 14 rfl rfl)
theorem dX2_cuts_40 : decode cX2_cuts 40 = .ok (.invokevirtual 70, 3) := dk_182 0 70 (dk_at dksX2_cuts_1 16 rfl rfl)
theorem dX2_cuts_43 : decode cX2_cuts 43 = .ok (.ifCond .le 30, 3) := dk_158 0 30 (dk_at dksX2_cuts_1 19 rfl rfl)
theorem dX2_cuts_46 : decode cX2_cuts 46 = .ok (.iload_n 3, 1) := dk_29 (dk_at dksX2_cuts_1 22 rfl rfl)
theorem dX2_cuts_47 : decode cX2_cuts 47 = .ok (.iconst (-1), 1) := dk_2 (dk_at dksX2_cuts_1 23 rfl rfl)
theorem dX2_cuts_48 : decode cX2_cuts 48 = .ok (.if_icmp .eq 22, 3) := dk_159 0 22 (dk_at dksX2_cuts_2 0 rfl rfl)
theorem dX2_cuts_51 : decode cX2_cuts 51 = .ok (.aload_n 0, 1) := dk_42 (dk_at dksX2_cuts_2 3 rfl rfl)
theorem dX2_cuts_52 : decode cX2_cuts 52 = .ok (.iload 4, 2) := dk_21 4 (dk_at dksX2_cuts_2 4 rfl rfl)
theorem dX2_cuts_54 : decode cX2_cuts 54 = .ok (.invokevirtual 70, 3) := dk_182 0 70 (dk_at dksX2_cuts_2 6 rfl rfl)
theorem dX2_cuts_57 : decode cX2_cuts 57 = .ok (.aload_n 0, 1) := dk_42 (dk_at dksX2_cuts_2 9 rfl rfl)
theorem dX2_cuts_58 : decode cX2_cuts 58 = .ok (.iload_n 3, 1) := dk_29 (dk_at dksX2_cuts_2 10 rfl rfl)
theorem dX2_cuts_59 : decode cX2_cuts 59 = .ok (.invokevirtual 73, 3) := dk_182 0 73 (dk_at dksX2_cuts_2 11 rfl rfl)
theorem dX2_cuts_62 : decode cX2_cuts 62 = .ok (.isub, 1) := dk_100 (dk_at dksX2_cuts_2 14 rfl rfl)
theorem dX2_cuts_63 : decode cX2_cuts 63 = .ok (.aload_n 0, 1) := dk_42 (dk_at dksX2_cuts_2 15 rfl rfl)
theorem dX2_cuts_64 : decode cX2_cuts 64 = .ok (.getfield 23, 3) := dk_180 0 23 (dk_at dksX2_cuts_2 16 rfl rfl)
theorem dX2_cuts_67 : decode cX2_cuts 67 = .ok (.if_icmp .eq 6, 3) := dk_159 0 6 (dk_at dksX2_cuts_2 19 rfl rfl)
theorem dX2_cuts_70 : decode cX2_cuts 70 = .ok (.iinc 2 1, 3) := dk_132 2 1 (dk_at dksX2_cuts_3 0 rfl rfl)
theorem dX2_cuts_73 : decode cX2_cuts 73 = .ok (.aload_n 0, 1) := dk_42 (dk_at dksX2_cuts_3 3 rfl rfl)
theorem dX2_cuts_74 : decode cX2_cuts 74 = .ok (.iload 4, 2) := dk_21 4 (dk_at dksX2_cuts_3 4 rfl rfl)
theorem dX2_cuts_76 : decode cX2_cuts 76 = .ok (.invokevirtual 73, 3) := dk_182 0 73 (dk_at dksX2_cuts_3 6 rfl rfl)
theorem dX2_cuts_79 : decode cX2_cuts 79 = .ok (.aload_n 0, 1) := dk_42 (dk_at dksX2_cuts_3 9 rfl rfl)
theorem dX2_cuts_80 : decode cX2_cuts 80 = .ok (.iload_n 1, 1) := dk_27 (dk_at dksX2_cuts_3 10 rfl rfl)
theorem dX2_cuts_81 : decode cX2_cuts 81 = .ok (.invokevirtual 57, 3) := dk_182 0 57 (dk_at dksX2_cuts_3 11 rfl rfl)
theorem dX2_cuts_84 : decode cX2_cuts 84 = .ok (.if_icmp .ge 6, 3) := dk_162 0 6 (dk_at dksX2_cuts_3 14 rfl rfl)
theorem dX2_cuts_87 : decode cX2_cuts 87 = .ok (.iinc 2 1, 3) := dk_132 2 1 (dk_at dksX2_cuts_3 17 rfl rfl)
theorem dX2_cuts_90 : decode cX2_cuts 90 = .ok (.iload 4, 2) := dk_21 4 (dk_at dksX2_cuts_3 20 rfl rfl)
theorem dX2_cuts_92 : decode cX2_cuts 92 = .ok (.istore_n 3, 1) := dk_62 (dk_at dksX2_cuts_3 22 rfl rfl)
theorem dX2_cuts_93 : decode cX2_cuts 93 = .ok (.aload_n 0, 1) := dk_42 (dk_at dksX2_cuts_3 23 rfl rfl)
theorem dX2_cuts_94 : decode cX2_cuts 94 = .ok (.iload_n 1, 1) := dk_27 (dk_at dksX2_cuts_4 0 rfl rfl)
theorem dX2_cuts_95 : decode cX2_cuts 95 = .ok (.aload_n 0, 1) := dk_42 (dk_at dksX2_cuts_4 1 rfl rfl)
theorem dX2_cuts_96 : decode cX2_cuts 96 = .ok (.iload 4, 2) := dk_21 4 (dk_at dksX2_cuts_4 2 rfl rfl)
theorem dX2_cuts_98 : decode cX2_cuts 98 = .ok (.invokevirtual 73, 3) := dk_182 0 73 (dk_at dksX2_cuts_4 4 rfl rfl)
theorem dX2_cuts_101 : decode cX2_cuts 101 = .ok (.invokevirtual 147, 3) := dk_182 0 147 (dk_at dksX2_cuts_4 7 rfl rfl)
theorem dX2_cuts_104 : decode cX2_cuts 104 = .ok (.istore 4, 2) := dk_54 4 (dk_at dksX2_cuts_4 10 rfl rfl)
theorem dX2_cuts_106 : decode cX2_cuts 106 = .ok (.goto (-75), 3) := dk_167 255 181 (dk_at dksX2_cuts_4 12 rfl rfl)
theorem dX2_cuts_109 : decode cX2_cuts 109 = .ok (.iload_n 2, 1) := dk_28 (dk_at dksX2_cuts_4 15 rfl rfl)
theorem dX2_cuts_110 : decode cX2_cuts 110 = .ok (.ireturn, 1) := dk_172 (dk_at dksX2_cuts_4 16 rfl rfl)
abbrev cX2_longestRoom : ByteArray := prog_10_method_47_code
def yX2_longestRoom : MethodName := ⟨RX2, "longestRoom", "(I)I"⟩
def dkwX2_longestRoom_3 : List UInt8 := [182, 0, 73, 182, 0, 147, 54, 4, 167, 255, 207, 28, 42, 27, 182, 0, 57, 29, 100, 184, 0, 83, 172]
abbrev dktX2_longestRoom_3 : List UInt8 := dkwX2_longestRoom_3 ++ []
def dkwX2_longestRoom_2 : List UInt8 := [100, 29, 100, 184, 0, 83, 61, 42, 21, 4, 182, 0, 73, 42, 180, 0, 23, 96, 62, 42, 27, 42, 21, 4]
abbrev dktX2_longestRoom_2 : List UInt8 := dkwX2_longestRoom_2 ++ dktX2_longestRoom_3
def dkwX2_longestRoom_1 : List UInt8 := [27, 3, 182, 0, 147, 54, 4, 21, 4, 2, 159, 0, 49, 28, 42, 21, 4, 182, 0, 70, 42, 180, 0, 23]
abbrev dktX2_longestRoom_1 : List UInt8 := dkwX2_longestRoom_1 ++ dktX2_longestRoom_2
def dkwX2_longestRoom_0 : List UInt8 := [42, 3, 181, 0, 36, 42, 27, 182, 0, 53, 154, 0, 9, 42, 4, 182, 0, 49, 172, 3, 61, 3, 62, 42]
abbrev dktX2_longestRoom_0 : List UInt8 := dkwX2_longestRoom_0 ++ dktX2_longestRoom_1
theorem dksX2_longestRoom_0 : cX2_longestRoom.data.toList.drop 0 = dktX2_longestRoom_0 := by decide +kernel
theorem dksX2_longestRoom_1 : cX2_longestRoom.data.toList.drop 24 = dktX2_longestRoom_1 := dk_seg dksX2_longestRoom_0 24 rfl rfl
theorem dksX2_longestRoom_2 : cX2_longestRoom.data.toList.drop 48 = dktX2_longestRoom_2 := dk_seg dksX2_longestRoom_1 24 rfl rfl
theorem dksX2_longestRoom_3 : cX2_longestRoom.data.toList.drop 72 = dktX2_longestRoom_3 := dk_seg dksX2_longestRoom_2 24 rfl rfl
theorem dX2_longestRoom_0 : decode cX2_longestRoom 0 = .ok (.aload_n 0, 1) := dk_42 (dk_at dksX2_longestRoom_0 0 rfl rfl)
theorem dX2_longestRoom_1 : decode cX2_longestRoom 1 = .ok (.iconst 0, 1) := dk_3 (dk_at dksX2_longestRoom_0 1 rfl rfl)
theorem dX2_longestRoom_2 : decode cX2_longestRoom 2 = .ok (.putfield 36, 3) := dk_181 0 36 (dk_at dksX2_longestRoom_0 2 rfl rfl)
theorem dX2_longestRoom_5 : decode cX2_longestRoom 5 = .ok (.aload_n 0, 1) := dk_42 (dk_at dksX2_longestRoom_0 5 rfl rfl)
theorem dX2_longestRoom_6 : decode cX2_longestRoom 6 = .ok (.iload_n 1, 1) := dk_27 (dk_at dksX2_longestRoom_0 6 rfl rfl)
theorem dX2_longestRoom_7 : decode cX2_longestRoom 7 = .ok (.invokevirtual 53, 3) := dk_182 0 53 (dk_at dksX2_longestRoom_0 7 rfl rfl)
theorem dX2_longestRoom_10 : decode cX2_longestRoom 10 = .ok (.ifCond .ne 9, 3) := dk_154 0 9 (dk_at dksX2_longestRoom_0 10 rfl rfl)
theorem dX2_longestRoom_13 : decode cX2_longestRoom 13 = .ok (.aload_n 0, 1) := dk_42 (dk_at dksX2_longestRoom_0 13 rfl rfl)
theorem dX2_longestRoom_14 : decode cX2_longestRoom 14 = .ok (.iconst 1, 1) := dk_4 (dk_at dksX2_longestRoom_0 14 rfl rfl)
theorem dX2_longestRoom_15 : decode cX2_longestRoom 15 = .ok (.invokevirtual 49, 3) := dk_182 0 49 (dk_at dksX2_longestRoom_0 15 rfl rfl)
theorem dX2_longestRoom_18 : decode cX2_longestRoom 18 = .ok (.ireturn, 1) := dk_172 (dk_at dksX2_longestRoom_0 18 rfl rfl)
theorem dX2_longestRoom_19 : decode cX2_longestRoom 19 = .ok (.iconst 0, 1) := dk_3 (dk_at dksX2_longestRoom_0 19 rfl rfl)
theorem dX2_longestRoom_20 : decode cX2_longestRoom 20 = .ok (.istore_n 2, 1) := dk_61 (dk_at dksX2_longestRoom_0 20 rfl rfl)
theorem dX2_longestRoom_21 : decode cX2_longestRoom 21 = .ok (.iconst 0, 1) := dk_3 (dk_at dksX2_longestRoom_0 21 rfl rfl)
theorem dX2_longestRoom_22 : decode cX2_longestRoom 22 = .ok (.istore_n 3, 1) := dk_62 (dk_at dksX2_longestRoom_0 22 rfl rfl)
theorem dX2_longestRoom_23 : decode cX2_longestRoom 23 = .ok (.aload_n 0, 1) := dk_42 (dk_at dksX2_longestRoom_0 23 rfl rfl)
theorem dX2_longestRoom_24 : decode cX2_longestRoom 24 = .ok (.iload_n 1, 1) := dk_27 (dk_at dksX2_longestRoom_1 0 rfl rfl)
theorem dX2_longestRoom_25 : decode cX2_longestRoom 25 = .ok (.iconst 0, 1) := dk_3 (dk_at dksX2_longestRoom_1 1 rfl rfl)
theorem dX2_longestRoom_26 : decode cX2_longestRoom 26 = .ok (.invokevirtual 147, 3) := dk_182 0 147 (dk_at dksX2_longestRoom_1 2 rfl rfl)
theorem dX2_longestRoom_29 : decode cX2_longestRoom 29 = .ok (.istore 4, 2) := dk_54 4 (dk_at dksX2_longestRoom_1 5 rfl rfl)
theorem dX2_longestRoom_31 : decode cX2_longestRoom 31 = .ok (.iload 4, 2) := dk_21 4 (dk_at dksX2_longestRoom_1 7 rfl rfl)
theorem dX2_longestRoom_33 : decode cX2_longestRoom 33 = .ok (.iconst (-1), 1) := dk_2 (dk_at dksX2_longestRoom_1 9 rfl rfl)
theorem dX2_longestRoom_34 : decode cX2_longestRoom 34 = .ok (.if_icmp .eq 49, 3) := dk_159 0 49 (dk_at dksX2_longestRoom_1 10 rfl rfl)
theorem dX2_longestRoom_37 : decode cX2_longestRoom 37 = .ok (.iload_n 2, 1) := dk_28 (dk_at dksX2_longestRoom_1 13 rfl rfl)
theorem dX2_longestRoom_38 : decode cX2_longestRoom 38 = .ok (.aload_n 0, 1) := dk_42 (dk_at dksX2_longestRoom_1 14 rfl rfl)
theorem dX2_longestRoom_39 : decode cX2_longestRoom 39 = .ok (.iload 4, 2) := dk_21 4 (dk_at dksX2_longestRoom_1 15 rfl rfl)
theorem dX2_longestRoom_41 : decode cX2_longestRoom 41 = .ok (.invokevirtual 70, 3) := dk_182 0 70 (dk_at dksX2_longestRoom_1 17 rfl rfl)
theorem dX2_longestRoom_44 : decode cX2_longestRoom 44 = .ok (.aload_n 0, 1) := dk_42 (dk_at dksX2_longestRoom_1 20 rfl rfl)
theorem dX2_longestRoom_45 : decode cX2_longestRoom 45 = .ok (.getfield 23, 3) := dk_180 0 23 (dk_at dksX2_longestRoom_1 21 rfl rfl)
theorem dX2_longestRoom_48 : decode cX2_longestRoom 48 = .ok (.isub, 1) := dk_100 (dk_at dksX2_longestRoom_2 0 rfl rfl)
theorem dX2_longestRoom_49 : decode cX2_longestRoom 49 = .ok (.iload_n 3, 1) := dk_29 (dk_at dksX2_longestRoom_2 1 rfl rfl)
theorem dX2_longestRoom_50 : decode cX2_longestRoom 50 = .ok (.isub, 1) := dk_100 (dk_at dksX2_longestRoom_2 2 rfl rfl)
theorem dX2_longestRoom_51 : decode cX2_longestRoom 51 = .ok (.invokestatic 83, 3) := dk_184 0 83 (dk_at dksX2_longestRoom_2 3 rfl rfl)
theorem dX2_longestRoom_54 : decode cX2_longestRoom 54 = .ok (.istore_n 2, 1) := dk_61 (dk_at dksX2_longestRoom_2 6 rfl rfl)
theorem dX2_longestRoom_55 : decode cX2_longestRoom 55 = .ok (.aload_n 0, 1) := dk_42 (dk_at dksX2_longestRoom_2 7 rfl rfl)
theorem dX2_longestRoom_56 : decode cX2_longestRoom 56 = .ok (.iload 4, 2) := dk_21 4 (dk_at dksX2_longestRoom_2 8 rfl rfl)
theorem dX2_longestRoom_58 : decode cX2_longestRoom 58 = .ok (.invokevirtual 73, 3) := dk_182 0 73 (dk_at dksX2_longestRoom_2 10 rfl rfl)
theorem dX2_longestRoom_61 : decode cX2_longestRoom 61 = .ok (.aload_n 0, 1) := dk_42 (dk_at dksX2_longestRoom_2 13 rfl rfl)
theorem dX2_longestRoom_62 : decode cX2_longestRoom 62 = .ok (.getfield 23, 3) := dk_180 0 23 (dk_at dksX2_longestRoom_2 14 rfl rfl)
theorem dX2_longestRoom_65 : decode cX2_longestRoom 65 = .ok (.iadd, 1) := dk_96 (dk_at dksX2_longestRoom_2 17 rfl rfl)
theorem dX2_longestRoom_66 : decode cX2_longestRoom 66 = .ok (.istore_n 3, 1) := dk_62 (dk_at dksX2_longestRoom_2 18 rfl rfl)
theorem dX2_longestRoom_67 : decode cX2_longestRoom 67 = .ok (.aload_n 0, 1) := dk_42 (dk_at dksX2_longestRoom_2 19 rfl rfl)
theorem dX2_longestRoom_68 : decode cX2_longestRoom 68 = .ok (.iload_n 1, 1) := dk_27 (dk_at dksX2_longestRoom_2 20 rfl rfl)
theorem dX2_longestRoom_69 : decode cX2_longestRoom 69 = .ok (.aload_n 0, 1) := dk_42 (dk_at dksX2_longestRoom_2 21 rfl rfl)
theorem dX2_longestRoom_70 : decode cX2_longestRoom 70 = .ok (.iload 4, 2) := dk_21 4 (dk_at dksX2_longestRoom_2 22 rfl rfl)
theorem dX2_longestRoom_72 : decode cX2_longestRoom 72 = .ok (.invokevirtual 73, 3) := dk_182 0 73 (dk_at dksX2_longestRoom_3 0 rfl rfl)
theorem dX2_longestRoom_75 : decode cX2_longestRoom 75 = .ok (.invokevirtual 147, 3) := dk_182 0 147 (dk_at dksX2_longestRoom_3 3 rfl rfl)
theorem dX2_longestRoom_78 : decode cX2_longestRoom 78 = .ok (.istore 4, 2) := dk_54 4 (dk_at dksX2_longestRoom_3 6 rfl rfl)
theorem dX2_longestRoom_80 : decode cX2_longestRoom 80 = .ok (.goto (-49), 3) := dk_167 255 207 (dk_at dksX2_longestRoom_3 8 rfl rfl)
theorem dX2_longestRoom_83 : decode cX2_longestRoom 83 = .ok (.iload_n 2, 1) := dk_28 (dk_at dksX2_longestRoom_3 11 rfl rfl)
theorem dX2_longestRoom_84 : decode cX2_longestRoom 84 = .ok (.aload_n 0, 1) := dk_42 (dk_at dksX2_longestRoom_3 12 rfl rfl)
theorem dX2_longestRoom_85 : decode cX2_longestRoom 85 = .ok (.iload_n 1, 1) := dk_27 (dk_at dksX2_longestRoom_3 13 rfl rfl)
theorem dX2_longestRoom_86 : decode cX2_longestRoom 86 = .ok (.invokevirtual 57, 3) := dk_182 0 57 (dk_at dksX2_longestRoom_3 14 rfl rfl)
theorem dX2_longestRoom_89 : decode cX2_longestRoom 89 = .ok (.iload_n 3, 1) := dk_29 (dk_at dksX2_longestRoom_3 17 rfl rfl)
theorem dX2_longestRoom_90 : decode cX2_longestRoom 90 = .ok (.isub, 1) := dk_100 (dk_at dksX2_longestRoom_3 18 rfl rfl)
theorem dX2_longestRoom_91 : decode cX2_longestRoom 91 = .ok (.invokestatic 83, 3) := dk_184 0 83 (dk_at dksX2_longestRoom_3 19 rfl rfl)
theorem dX2_longestRoom_94 : decode cX2_longestRoom 94 = .ok (.ireturn, 1) := dk_172 (dk_at dksX2_longestRoom_3 22 rfl rfl)
abbrev cX2_bestUse : ByteArray := prog_10_method_48_code
def yX2_bestUse : MethodName := ⟨RX2, "bestUse", "(III)I"⟩
def dkwX2_bestUse_8 : List UInt8 := [167, 255, 134, 25, 5, 21, 4, 46, 172]
abbrev dktX2_bestUse_8 : List UInt8 := dkwX2_bestUse_8 ++ []
def dkwX2_bestUse_7 : List UInt8 := [182, 0, 79, 96, 184, 0, 83, 79, 132, 9, 255, 167, 255, 217, 132, 8, 1, 167, 255, 195, 132, 6, 1]
abbrev dktX2_bestUse_7 : List UInt8 := dkwX2_bestUse_7 ++ dktX2_bestUse_8
def dkwX2_bestUse_6 : List UInt8 := [161, 0, 38, 25, 5, 21, 9, 25, 5, 21, 9, 46, 25, 5, 21, 9, 21, 7, 100, 46, 42, 21, 6, 3]
abbrev dktX2_bestUse_6 : List UInt8 := dkwX2_bestUse_6 ++ dktX2_bestUse_7
def dkwX2_bestUse_5 : List UInt8 := [3, 54, 8, 21, 8, 42, 21, 6, 6, 182, 0, 79, 162, 0, 55, 21, 4, 54, 9, 21, 9, 21, 7]
abbrev dktX2_bestUse_5 : List UInt8 := dkwX2_bestUse_5 ++ dktX2_bestUse_6
def dkwX2_bestUse_4 : List UInt8 := [182, 0, 79, 28, 162, 0, 6, 167, 0, 84, 42, 21, 6, 3, 182, 0, 79, 42, 180, 0, 23, 96, 54, 7]
abbrev dktX2_bestUse_4 : List UInt8 := dkwX2_bestUse_4 ++ dktX2_bestUse_5
def dkwX2_bestUse_3 : List UInt8 := [162, 0, 119, 42, 21, 6, 4, 182, 0, 79, 42, 27, 182, 0, 107, 163, 0, 98, 42, 21, 6, 5]
abbrev dktX2_bestUse_3 : List UInt8 := dkwX2_bestUse_3 ++ dktX2_bestUse_4
def dkwX2_bestUse_2 : List UInt8 := [42, 180, 0, 23, 96, 54, 4, 21, 4, 4, 96, 188, 10, 58, 5, 3, 54, 6, 21, 6, 42, 180, 0, 46]
abbrev dktX2_bestUse_2 : List UInt8 := dkwX2_bestUse_2 ++ dktX2_bestUse_3
def dkwX2_bestUse_1 : List UInt8 := [184, 0, 42, 153, 0, 14, 29, 3, 17, 11, 184, 184, 0, 42, 154, 0, 9, 42, 5, 182, 0, 49, 172, 29]
abbrev dktX2_bestUse_1 : List UInt8 := dkwX2_bestUse_1 ++ dktX2_bestUse_2
def dkwX2_bestUse_0 : List UInt8 := [42, 3, 181, 0, 36, 42, 27, 182, 0, 53, 154, 0, 9, 42, 4, 182, 0, 49, 172, 28, 3, 6]
abbrev dktX2_bestUse_0 : List UInt8 := dkwX2_bestUse_0 ++ dktX2_bestUse_1
theorem dksX2_bestUse_0 : cX2_bestUse.data.toList.drop 0 = dktX2_bestUse_0 := by decide +kernel
theorem dksX2_bestUse_1 : cX2_bestUse.data.toList.drop 22 = dktX2_bestUse_1 := dk_seg dksX2_bestUse_0 22 rfl rfl
theorem dksX2_bestUse_2 : cX2_bestUse.data.toList.drop 46 = dktX2_bestUse_2 := dk_seg dksX2_bestUse_1 24 rfl rfl
theorem dksX2_bestUse_3 : cX2_bestUse.data.toList.drop 70 = dktX2_bestUse_3 := dk_seg dksX2_bestUse_2 24 rfl rfl
theorem dksX2_bestUse_4 : cX2_bestUse.data.toList.drop 92 = dktX2_bestUse_4 := dk_seg dksX2_bestUse_3 22 rfl rfl
theorem dksX2_bestUse_5 : cX2_bestUse.data.toList.drop 116 = dktX2_bestUse_5 := dk_seg dksX2_bestUse_4 24 rfl rfl
theorem dksX2_bestUse_6 : cX2_bestUse.data.toList.drop 139 = dktX2_bestUse_6 := dk_seg dksX2_bestUse_5 23 rfl rfl
theorem dksX2_bestUse_7 : cX2_bestUse.data.toList.drop 163 = dktX2_bestUse_7 := dk_seg dksX2_bestUse_6 24 rfl rfl
theorem dksX2_bestUse_8 : cX2_bestUse.data.toList.drop 186 = dktX2_bestUse_8 := dk_seg dksX2_bestUse_7 23 rfl rfl
theorem dX2_bestUse_0 : decode cX2_bestUse 0 = .ok (.aload_n 0, 1) := dk_42 (dk_at dksX2_bestUse_0 0 rfl rfl)
theorem dX2_bestUse_1 : decode cX2_bestUse 1 = .ok (.iconst 0, 1) := dk_3 (dk_at dksX2_bestUse_0 1 rfl rfl)
theorem dX2_bestUse_2 : decode cX2_bestUse 2 = .ok (.putfield 36, 3) := dk_181 0 36 (dk_at dksX2_bestUse_0 2 rfl rfl)
theorem dX2_bestUse_5 : decode cX2_bestUse 5 = .ok (.aload_n 0, 1) := dk_42 (dk_at dksX2_bestUse_0 5 rfl rfl)
theorem dX2_bestUse_6 : decode cX2_bestUse 6 = .ok (.iload_n 1, 1) := dk_27 (dk_at dksX2_bestUse_0 6 rfl rfl)
theorem dX2_bestUse_7 : decode cX2_bestUse 7 = .ok (.invokevirtual 53, 3) := dk_182 0 53 (dk_at dksX2_bestUse_0 7 rfl rfl)
theorem dX2_bestUse_10 : decode cX2_bestUse 10 = .ok (.ifCond .ne 9, 3) := dk_154 0 9 (dk_at dksX2_bestUse_0 10 rfl rfl)
theorem dX2_bestUse_13 : decode cX2_bestUse 13 = .ok (.aload_n 0, 1) := dk_42 (dk_at dksX2_bestUse_0 13 rfl rfl)
theorem dX2_bestUse_14 : decode cX2_bestUse 14 = .ok (.iconst 1, 1) := dk_4 (dk_at dksX2_bestUse_0 14 rfl rfl)
theorem dX2_bestUse_15 : decode cX2_bestUse 15 = .ok (.invokevirtual 49, 3) := dk_182 0 49 (dk_at dksX2_bestUse_0 15 rfl rfl)
theorem dX2_bestUse_18 : decode cX2_bestUse 18 = .ok (.ireturn, 1) := dk_172 (dk_at dksX2_bestUse_0 18 rfl rfl)
theorem dX2_bestUse_19 : decode cX2_bestUse 19 = .ok (.iload_n 2, 1) := dk_28 (dk_at dksX2_bestUse_0 19 rfl rfl)
theorem dX2_bestUse_20 : decode cX2_bestUse 20 = .ok (.iconst 0, 1) := dk_3 (dk_at dksX2_bestUse_0 20 rfl rfl)
theorem dX2_bestUse_21 : decode cX2_bestUse 21 = .ok (.iconst 3, 1) := dk_6 (dk_at dksX2_bestUse_0 21 rfl rfl)
theorem dX2_bestUse_22 : decode cX2_bestUse 22 = .ok (.invokestatic 42, 3) := dk_184 0 42 (dk_at dksX2_bestUse_1 0 rfl rfl)
theorem dX2_bestUse_25 : decode cX2_bestUse 25 = .ok (.ifCond .eq 14, 3) := dk_153 0 14 (dk_at dksX2_bestUse_1 3 rfl rfl)
theorem dX2_bestUse_28 : decode cX2_bestUse 28 = .ok (.iload_n 3, 1) := dk_29 (dk_at dksX2_bestUse_1 6 rfl rfl)
theorem dX2_bestUse_29 : decode cX2_bestUse 29 = .ok (.iconst 0, 1) := dk_3 (dk_at dksX2_bestUse_1 7 rfl rfl)
theorem dX2_bestUse_30 : decode cX2_bestUse 30 = .ok (.sipush 3000, 3) := dk_17 11 184 (dk_at dksX2_bestUse_1 8 rfl rfl)
theorem dX2_bestUse_33 : decode cX2_bestUse 33 = .ok (.invokestatic 42, 3) := dk_184 0 42 (dk_at dksX2_bestUse_1 11 rfl rfl)
theorem dX2_bestUse_36 : decode cX2_bestUse 36 = .ok (.ifCond .ne 9, 3) := dk_154 0 9 (dk_at dksX2_bestUse_1 14 rfl rfl)
theorem dX2_bestUse_39 : decode cX2_bestUse 39 = .ok (.aload_n 0, 1) := dk_42 (dk_at dksX2_bestUse_1 17 rfl rfl)
theorem dX2_bestUse_40 : decode cX2_bestUse 40 = .ok (.iconst 2, 1) := dk_5 (dk_at dksX2_bestUse_1 18 rfl rfl)
theorem dX2_bestUse_41 : decode cX2_bestUse 41 = .ok (.invokevirtual 49, 3) := dk_182 0 49 (dk_at dksX2_bestUse_1 19 rfl rfl)
theorem dX2_bestUse_44 : decode cX2_bestUse 44 = .ok (.ireturn, 1) := dk_172 (dk_at dksX2_bestUse_1 22 rfl rfl)
theorem dX2_bestUse_45 : decode cX2_bestUse 45 = .ok (.iload_n 3, 1) := dk_29 (dk_at dksX2_bestUse_1 23 rfl rfl)
theorem dX2_bestUse_46 : decode cX2_bestUse 46 = .ok (.aload_n 0, 1) := dk_42 (dk_at dksX2_bestUse_2 0 rfl rfl)
theorem dX2_bestUse_47 : decode cX2_bestUse 47 = .ok (.getfield 23, 3) := dk_180 0 23 (dk_at dksX2_bestUse_2 1 rfl rfl)
theorem dX2_bestUse_50 : decode cX2_bestUse 50 = .ok (.iadd, 1) := dk_96 (dk_at dksX2_bestUse_2 4 rfl rfl)
theorem dX2_bestUse_51 : decode cX2_bestUse 51 = .ok (.istore 4, 2) := dk_54 4 (dk_at dksX2_bestUse_2 5 rfl rfl)
theorem dX2_bestUse_53 : decode cX2_bestUse 53 = .ok (.iload 4, 2) := dk_21 4 (dk_at dksX2_bestUse_2 7 rfl rfl)
theorem dX2_bestUse_55 : decode cX2_bestUse 55 = .ok (.iconst 1, 1) := dk_4 (dk_at dksX2_bestUse_2 9 rfl rfl)
theorem dX2_bestUse_56 : decode cX2_bestUse 56 = .ok (.iadd, 1) := dk_96 (dk_at dksX2_bestUse_2 10 rfl rfl)
theorem dX2_bestUse_57 : decode cX2_bestUse 57 = .ok (.newarray .int, 2) := dk_188_10 (dk_at dksX2_bestUse_2 11 rfl rfl)
theorem dX2_bestUse_59 : decode cX2_bestUse 59 = .ok (.astore 5, 2) := dk_58 5 (dk_at dksX2_bestUse_2 13 rfl rfl)
theorem dX2_bestUse_61 : decode cX2_bestUse 61 = .ok (.iconst 0, 1) := dk_3 (dk_at dksX2_bestUse_2 15 rfl rfl)
theorem dX2_bestUse_62 : decode cX2_bestUse 62 = .ok (.istore 6, 2) := dk_54 6 (dk_at dksX2_bestUse_2 16 rfl rfl)
theorem dX2_bestUse_64 : decode cX2_bestUse 64 = .ok (.iload 6, 2) := dk_21 6 (dk_at dksX2_bestUse_2 18 rfl rfl)
theorem dX2_bestUse_66 : decode cX2_bestUse 66 = .ok (.aload_n 0, 1) := dk_42 (dk_at dksX2_bestUse_2 20 rfl rfl)
theorem dX2_bestUse_67 : decode cX2_bestUse 67 = .ok (.getfield 46, 3) := dk_180 0 46 (dk_at dksX2_bestUse_2 21 rfl rfl)
theorem dX2_bestUse_70 : decode cX2_bestUse 70 = .ok (.if_icmp .ge 119, 3) := dk_162 0 119 (dk_at dksX2_bestUse_3 0 rfl rfl)
theorem dX2_bestUse_73 : decode cX2_bestUse 73 = .ok (.aload_n 0, 1) := dk_42 (dk_at dksX2_bestUse_3 3 rfl rfl)
theorem dX2_bestUse_74 : decode cX2_bestUse 74 = .ok (.iload 6, 2) := dk_21 6 (dk_at dksX2_bestUse_3 4 rfl rfl)
theorem dX2_bestUse_76 : decode cX2_bestUse 76 = .ok (.iconst 1, 1) := dk_4 (dk_at dksX2_bestUse_3 6 rfl rfl)
theorem dX2_bestUse_77 : decode cX2_bestUse 77 = .ok (.invokevirtual 79, 3) := dk_182 0 79 (dk_at dksX2_bestUse_3 7 rfl rfl)
theorem dX2_bestUse_80 : decode cX2_bestUse 80 = .ok (.aload_n 0, 1) := dk_42 (dk_at dksX2_bestUse_3 10 rfl rfl)
theorem dX2_bestUse_81 : decode cX2_bestUse 81 = .ok (.iload_n 1, 1) := dk_27 (dk_at dksX2_bestUse_3 11 rfl rfl)
theorem dX2_bestUse_82 : decode cX2_bestUse 82 = .ok (.invokevirtual 107, 3) := dk_182 0 107 (dk_at dksX2_bestUse_3 12 rfl rfl)
theorem dX2_bestUse_85 : decode cX2_bestUse 85 = .ok (.if_icmp .gt 98, 3) := dk_163 0 98 (dk_at dksX2_bestUse_3 15 rfl rfl)
theorem dX2_bestUse_88 : decode cX2_bestUse 88 = .ok (.aload_n 0, 1) := dk_42 (dk_at dksX2_bestUse_3 18 rfl rfl)
theorem dX2_bestUse_89 : decode cX2_bestUse 89 = .ok (.iload 6, 2) := dk_21 6 (dk_at dksX2_bestUse_3 19 rfl rfl)
theorem dX2_bestUse_91 : decode cX2_bestUse 91 = .ok (.iconst 2, 1) := dk_5 (dk_at dksX2_bestUse_3 21 rfl rfl)
theorem dX2_bestUse_92 : decode cX2_bestUse 92 = .ok (.invokevirtual 79, 3) := dk_182 0 79 (dk_at dksX2_bestUse_4 0 rfl rfl)
theorem dX2_bestUse_95 : decode cX2_bestUse 95 = .ok (.iload_n 2, 1) := dk_28 (dk_at dksX2_bestUse_4 3 rfl rfl)
theorem dX2_bestUse_96 : decode cX2_bestUse 96 = .ok (.if_icmp .ge 6, 3) := dk_162 0 6 (dk_at dksX2_bestUse_4 4 rfl rfl)
theorem dX2_bestUse_99 : decode cX2_bestUse 99 = .ok (.goto 84, 3) := dk_167 0 84 (dk_at dksX2_bestUse_4 7 rfl rfl)
theorem dX2_bestUse_102 : decode cX2_bestUse 102 = .ok (.aload_n 0, 1) := dk_42 (dk_at dksX2_bestUse_4 10 rfl rfl)
theorem dX2_bestUse_103 : decode cX2_bestUse 103 = .ok (.iload 6, 2) := dk_21 6 (dk_at dksX2_bestUse_4 11 rfl rfl)
theorem dX2_bestUse_105 : decode cX2_bestUse 105 = .ok (.iconst 0, 1) := dk_3 (dk_at dksX2_bestUse_4 13 rfl rfl)
theorem dX2_bestUse_106 : decode cX2_bestUse 106 = .ok (.invokevirtual 79, 3) := dk_182 0 79 (dk_at dksX2_bestUse_4 14 rfl rfl)
theorem dX2_bestUse_109 : decode cX2_bestUse 109 = .ok (.aload_n 0, 1) := dk_42 (dk_at dksX2_bestUse_4 17 rfl rfl)
theorem dX2_bestUse_110 : decode cX2_bestUse 110 = .ok (.getfield 23, 3) := dk_180 0 23 (dk_at dksX2_bestUse_4 18 rfl rfl)
theorem dX2_bestUse_113 : decode cX2_bestUse 113 = .ok (.iadd, 1) := dk_96 (dk_at dksX2_bestUse_4 21 rfl rfl)
theorem dX2_bestUse_114 : decode cX2_bestUse 114 = .ok (.istore 7, 2) := dk_54 7 (dk_at dksX2_bestUse_4 22 rfl rfl)
theorem dX2_bestUse_116 : decode cX2_bestUse 116 = .ok (.iconst 0, 1) := dk_3 (dk_at dksX2_bestUse_5 0 rfl rfl)
theorem dX2_bestUse_117 : decode cX2_bestUse 117 = .ok (.istore 8, 2) := dk_54 8 (dk_at dksX2_bestUse_5 1 rfl rfl)
theorem dX2_bestUse_119 : decode cX2_bestUse 119 = .ok (.iload 8, 2) := dk_21 8 (dk_at dksX2_bestUse_5 3 rfl rfl)
theorem dX2_bestUse_121 : decode cX2_bestUse 121 = .ok (.aload_n 0, 1) := dk_42 (dk_at dksX2_bestUse_5 5 rfl rfl)
theorem dX2_bestUse_122 : decode cX2_bestUse 122 = .ok (.iload 6, 2) := dk_21 6 (dk_at dksX2_bestUse_5 6 rfl rfl)
theorem dX2_bestUse_124 : decode cX2_bestUse 124 = .ok (.iconst 3, 1) := dk_6 (dk_at dksX2_bestUse_5 8 rfl rfl)
theorem dX2_bestUse_125 : decode cX2_bestUse 125 = .ok (.invokevirtual 79, 3) := dk_182 0 79 (dk_at dksX2_bestUse_5 9 rfl rfl)
theorem dX2_bestUse_128 : decode cX2_bestUse 128 = .ok (.if_icmp .ge 55, 3) := dk_162 0 55 (dk_at dksX2_bestUse_5 12 rfl rfl)
theorem dX2_bestUse_131 : decode cX2_bestUse 131 = .ok (.iload 4, 2) := dk_21 4 (dk_at dksX2_bestUse_5 15 rfl rfl)
theorem dX2_bestUse_133 : decode cX2_bestUse 133 = .ok (.istore 9, 2) := dk_54 9 (dk_at dksX2_bestUse_5 17 rfl rfl)
theorem dX2_bestUse_135 : decode cX2_bestUse 135 = .ok (.iload 9, 2) := dk_21 9 (dk_at dksX2_bestUse_5 19 rfl rfl)
theorem dX2_bestUse_137 : decode cX2_bestUse 137 = .ok (.iload 7, 2) := dk_21 7 (dk_at dksX2_bestUse_5 21 rfl rfl)
theorem dX2_bestUse_139 : decode cX2_bestUse 139 = .ok (.if_icmp .lt 38, 3) := dk_161 0 38 (dk_at dksX2_bestUse_6 0 rfl rfl)
theorem dX2_bestUse_142 : decode cX2_bestUse 142 = .ok (.aload 5, 2) := dk_25 5 (dk_at dksX2_bestUse_6 3 rfl rfl)
theorem dX2_bestUse_144 : decode cX2_bestUse 144 = .ok (.iload 9, 2) := dk_21 9 (dk_at dksX2_bestUse_6 5 rfl rfl)
theorem dX2_bestUse_146 : decode cX2_bestUse 146 = .ok (.aload 5, 2) := dk_25 5 (dk_at dksX2_bestUse_6 7 rfl rfl)
theorem dX2_bestUse_148 : decode cX2_bestUse 148 = .ok (.iload 9, 2) := dk_21 9 (dk_at dksX2_bestUse_6 9 rfl rfl)
theorem dX2_bestUse_150 : decode cX2_bestUse 150 = .ok (.iaload, 1) := dk_46 (dk_at dksX2_bestUse_6 11 rfl rfl)
theorem dX2_bestUse_151 : decode cX2_bestUse 151 = .ok (.aload 5, 2) := dk_25 5 (dk_at dksX2_bestUse_6 12 rfl rfl)
theorem dX2_bestUse_153 : decode cX2_bestUse 153 = .ok (.iload 9, 2) := dk_21 9 (dk_at dksX2_bestUse_6 14 rfl rfl)
theorem dX2_bestUse_155 : decode cX2_bestUse 155 = .ok (.iload 7, 2) := dk_21 7 (dk_at dksX2_bestUse_6 16 rfl rfl)
theorem dX2_bestUse_157 : decode cX2_bestUse 157 = .ok (.isub, 1) := dk_100 (dk_at dksX2_bestUse_6 18 rfl rfl)
theorem dX2_bestUse_158 : decode cX2_bestUse 158 = .ok (.iaload, 1) := dk_46 (dk_at dksX2_bestUse_6 19 rfl rfl)
theorem dX2_bestUse_159 : decode cX2_bestUse 159 = .ok (.aload_n 0, 1) := dk_42 (dk_at dksX2_bestUse_6 20 rfl rfl)
theorem dX2_bestUse_160 : decode cX2_bestUse 160 = .ok (.iload 6, 2) := dk_21 6 (dk_at dksX2_bestUse_6 21 rfl rfl)
theorem dX2_bestUse_162 : decode cX2_bestUse 162 = .ok (.iconst 0, 1) := dk_3 (dk_at dksX2_bestUse_6 23 rfl rfl)
theorem dX2_bestUse_163 : decode cX2_bestUse 163 = .ok (.invokevirtual 79, 3) := dk_182 0 79 (dk_at dksX2_bestUse_7 0 rfl rfl)
theorem dX2_bestUse_166 : decode cX2_bestUse 166 = .ok (.iadd, 1) := dk_96 (dk_at dksX2_bestUse_7 3 rfl rfl)
theorem dX2_bestUse_167 : decode cX2_bestUse 167 = .ok (.invokestatic 83, 3) := dk_184 0 83 (dk_at dksX2_bestUse_7 4 rfl rfl)
theorem dX2_bestUse_170 : decode cX2_bestUse 170 = .ok (.iastore, 1) := dk_79 (dk_at dksX2_bestUse_7 7 rfl rfl)
theorem dX2_bestUse_171 : decode cX2_bestUse 171 = .ok (.iinc 9 (-1), 3) := dk_132 9 255 (dk_at dksX2_bestUse_7 8 rfl rfl)
theorem dX2_bestUse_174 : decode cX2_bestUse 174 = .ok (.goto (-39), 3) := dk_167 255 217 (dk_at dksX2_bestUse_7 11 rfl rfl)
theorem dX2_bestUse_177 : decode cX2_bestUse 177 = .ok (.iinc 8 1, 3) := dk_132 8 1 (dk_at dksX2_bestUse_7 14 rfl rfl)
theorem dX2_bestUse_180 : decode cX2_bestUse 180 = .ok (.goto (-61), 3) := dk_167 255 195 (dk_at dksX2_bestUse_7 17 rfl rfl)
theorem dX2_bestUse_183 : decode cX2_bestUse 183 = .ok (.iinc 6 1, 3) := dk_132 6 1 (dk_at dksX2_bestUse_7 20 rfl rfl)
theorem dX2_bestUse_186 : decode cX2_bestUse 186 = .ok (.goto (-122), 3) := dk_167 255 134 (dk_at dksX2_bestUse_8 0 rfl rfl)
theorem dX2_bestUse_189 : decode cX2_bestUse 189 = .ok (.aload 5, 2) := dk_25 5 (dk_at dksX2_bestUse_8 3 rfl rfl)
theorem dX2_bestUse_191 : decode cX2_bestUse 191 = .ok (.iload 4, 2) := dk_21 4 (dk_at dksX2_bestUse_8 5 rfl rfl)
theorem dX2_bestUse_193 : decode cX2_bestUse 193 = .ok (.iaload, 1) := dk_46 (dk_at dksX2_bestUse_8 7 rfl rfl)
theorem dX2_bestUse_194 : decode cX2_bestUse 194 = .ok (.ireturn, 1) := dk_172 (dk_at dksX2_bestUse_8 8 rfl rfl)
abbrev cX2_used : ByteArray := prog_10_method_49_code
def yX2_used : MethodName := ⟨RX2, "used", "()D"⟩
def dkwX2_used_5 : List UInt8 := [33, 9, 148, 154, 0, 7, 14, 167, 0, 8, 31, 138, 33, 138, 111, 175]
abbrev dktX2_used_5 : List UInt8 := dkwX2_used_5 ++ []
def dkwX2_used_4 : List UInt8 := [4, 182, 0, 79, 133, 105, 167, 0, 4, 9, 97, 64, 132, 6, 1, 167, 255, 199, 132, 5, 1, 167, 255, 151]
abbrev dktX2_used_4 : List UInt8 := dkwX2_used_4 ++ dktX2_used_5
def dkwX2_used_3 : List UInt8 := [153, 0, 33, 42, 21, 6, 182, 0, 73, 42, 21, 6, 182, 0, 70, 100, 133, 42, 42, 21, 6, 182, 0, 76]
abbrev dktX2_used_3 : List UInt8 := dkwX2_used_3 ++ dktX2_used_4
def dkwX2_used_2 : List UInt8 := [105, 97, 66, 3, 54, 6, 21, 6, 42, 180, 0, 63, 162, 0, 54, 31, 42, 21, 6, 21, 5, 182, 0, 66]
abbrev dktX2_used_2 : List UInt8 := dkwX2_used_2 ++ dktX2_used_3
def dkwX2_used_1 : List UInt8 := [182, 0, 144, 154, 0, 6, 167, 0, 84, 33, 42, 21, 5, 182, 0, 57, 133, 42, 21, 5, 182, 0, 107, 133]
abbrev dktX2_used_1 : List UInt8 := dkwX2_used_1 ++ dktX2_used_2
def dkwX2_used_0 : List UInt8 := [42, 3, 181, 0, 36, 9, 64, 9, 66, 3, 54, 5, 21, 5, 42, 180, 0, 39, 162, 0, 102, 42, 21, 5]
abbrev dktX2_used_0 : List UInt8 := dkwX2_used_0 ++ dktX2_used_1
theorem dksX2_used_0 : cX2_used.data.toList.drop 0 = dktX2_used_0 := by decide +kernel
theorem dksX2_used_1 : cX2_used.data.toList.drop 24 = dktX2_used_1 := dk_seg dksX2_used_0 24 rfl rfl
theorem dksX2_used_2 : cX2_used.data.toList.drop 48 = dktX2_used_2 := dk_seg dksX2_used_1 24 rfl rfl
theorem dksX2_used_3 : cX2_used.data.toList.drop 72 = dktX2_used_3 := dk_seg dksX2_used_2 24 rfl rfl
theorem dksX2_used_4 : cX2_used.data.toList.drop 96 = dktX2_used_4 := dk_seg dksX2_used_3 24 rfl rfl
theorem dksX2_used_5 : cX2_used.data.toList.drop 120 = dktX2_used_5 := dk_seg dksX2_used_4 24 rfl rfl
theorem dX2_used_0 : decode cX2_used 0 = .ok (.aload_n 0, 1) := dk_42 (dk_at dksX2_used_0 0 rfl rfl)
theorem dX2_used_1 : decode cX2_used 1 = .ok (.iconst 0, 1) := dk_3 (dk_at dksX2_used_0 1 rfl rfl)
theorem dX2_used_2 : decode cX2_used 2 = .ok (.putfield 36, 3) := dk_181 0 36 (dk_at dksX2_used_0 2 rfl rfl)
theorem dX2_used_5 : decode cX2_used 5 = .ok (.lconst 0, 1) := dk_9 (dk_at dksX2_used_0 5 rfl rfl)
theorem dX2_used_6 : decode cX2_used 6 = .ok (.lstore_n 1, 1) := dk_64 (dk_at dksX2_used_0 6 rfl rfl)
theorem dX2_used_7 : decode cX2_used 7 = .ok (.lconst 0, 1) := dk_9 (dk_at dksX2_used_0 7 rfl rfl)
theorem dX2_used_8 : decode cX2_used 8 = .ok (.lstore_n 3, 1) := dk_66 (dk_at dksX2_used_0 8 rfl rfl)
theorem dX2_used_9 : decode cX2_used 9 = .ok (.iconst 0, 1) := dk_3 (dk_at dksX2_used_0 9 rfl rfl)
theorem dX2_used_10 : decode cX2_used 10 = .ok (.istore 5, 2) := dk_54 5 (dk_at dksX2_used_0 10 rfl rfl)
theorem dX2_used_12 : decode cX2_used 12 = .ok (.iload 5, 2) := dk_21 5 (dk_at dksX2_used_0 12 rfl rfl)
theorem dX2_used_14 : decode cX2_used 14 = .ok (.aload_n 0, 1) := dk_42 (dk_at dksX2_used_0 14 rfl rfl)
theorem dX2_used_15 : decode cX2_used 15 = .ok (.getfield 39, 3) := dk_180 0 39 (dk_at dksX2_used_0 15 rfl rfl)
theorem dX2_used_18 : decode cX2_used 18 = .ok (.if_icmp .ge 102, 3) := dk_162 0 102 (dk_at dksX2_used_0 18 rfl rfl)
theorem dX2_used_21 : decode cX2_used 21 = .ok (.aload_n 0, 1) := dk_42 (dk_at dksX2_used_0 21 rfl rfl)
theorem dX2_used_22 : decode cX2_used 22 = .ok (.iload 5, 2) := dk_21 5 (dk_at dksX2_used_0 22 rfl rfl)
theorem dX2_used_24 : decode cX2_used 24 = .ok (.invokevirtual 144, 3) := dk_182 0 144 (dk_at dksX2_used_1 0 rfl rfl)
theorem dX2_used_27 : decode cX2_used 27 = .ok (.ifCond .ne 6, 3) := dk_154 0 6 (dk_at dksX2_used_1 3 rfl rfl)
theorem dX2_used_30 : decode cX2_used 30 = .ok (.goto 84, 3) := dk_167 0 84 (dk_at dksX2_used_1 6 rfl rfl)
theorem dX2_used_33 : decode cX2_used 33 = .ok (.lload_n 3, 1) := dk_33 (dk_at dksX2_used_1 9 rfl rfl)
theorem dX2_used_34 : decode cX2_used 34 = .ok (.aload_n 0, 1) := dk_42 (dk_at dksX2_used_1 10 rfl rfl)
theorem dX2_used_35 : decode cX2_used 35 = .ok (.iload 5, 2) := dk_21 5 (dk_at dksX2_used_1 11 rfl rfl)
theorem dX2_used_37 : decode cX2_used 37 = .ok (.invokevirtual 57, 3) := dk_182 0 57 (dk_at dksX2_used_1 13 rfl rfl)
theorem dX2_used_40 : decode cX2_used 40 = .ok (.i2l, 1) := dk_133 (dk_at dksX2_used_1 16 rfl rfl)
theorem dX2_used_41 : decode cX2_used 41 = .ok (.aload_n 0, 1) := dk_42 (dk_at dksX2_used_1 17 rfl rfl)
theorem dX2_used_42 : decode cX2_used 42 = .ok (.iload 5, 2) := dk_21 5 (dk_at dksX2_used_1 18 rfl rfl)
theorem dX2_used_44 : decode cX2_used 44 = .ok (.invokevirtual 107, 3) := dk_182 0 107 (dk_at dksX2_used_1 20 rfl rfl)
theorem dX2_used_47 : decode cX2_used 47 = .ok (.i2l, 1) := dk_133 (dk_at dksX2_used_1 23 rfl rfl)
theorem dX2_used_48 : decode cX2_used 48 = .ok (.lmul, 1) := dk_105 (dk_at dksX2_used_2 0 rfl rfl)
theorem dX2_used_49 : decode cX2_used 49 = .ok (.ladd, 1) := dk_97 (dk_at dksX2_used_2 1 rfl rfl)
theorem dX2_used_50 : decode cX2_used 50 = .ok (.lstore_n 3, 1) := dk_66 (dk_at dksX2_used_2 2 rfl rfl)
theorem dX2_used_51 : decode cX2_used 51 = .ok (.iconst 0, 1) := dk_3 (dk_at dksX2_used_2 3 rfl rfl)
theorem dX2_used_52 : decode cX2_used 52 = .ok (.istore 6, 2) := dk_54 6 (dk_at dksX2_used_2 4 rfl rfl)
theorem dX2_used_54 : decode cX2_used 54 = .ok (.iload 6, 2) := dk_21 6 (dk_at dksX2_used_2 6 rfl rfl)
theorem dX2_used_56 : decode cX2_used 56 = .ok (.aload_n 0, 1) := dk_42 (dk_at dksX2_used_2 8 rfl rfl)
theorem dX2_used_57 : decode cX2_used 57 = .ok (.getfield 63, 3) := dk_180 0 63 (dk_at dksX2_used_2 9 rfl rfl)
theorem dX2_used_60 : decode cX2_used 60 = .ok (.if_icmp .ge 54, 3) := dk_162 0 54 (dk_at dksX2_used_2 12 rfl rfl)
theorem dX2_used_63 : decode cX2_used 63 = .ok (.lload_n 1, 1) := dk_31 (dk_at dksX2_used_2 15 rfl rfl)
theorem dX2_used_64 : decode cX2_used 64 = .ok (.aload_n 0, 1) := dk_42 (dk_at dksX2_used_2 16 rfl rfl)
theorem dX2_used_65 : decode cX2_used 65 = .ok (.iload 6, 2) := dk_21 6 (dk_at dksX2_used_2 17 rfl rfl)
theorem dX2_used_67 : decode cX2_used 67 = .ok (.iload 5, 2) := dk_21 5 (dk_at dksX2_used_2 19 rfl rfl)
theorem dX2_used_69 : decode cX2_used 69 = .ok (.invokevirtual 66, 3) := dk_182 0 66 (dk_at dksX2_used_2 21 rfl rfl)
theorem dX2_used_72 : decode cX2_used 72 = .ok (.ifCond .eq 33, 3) := dk_153 0 33 (dk_at dksX2_used_3 0 rfl rfl)
theorem dX2_used_75 : decode cX2_used 75 = .ok (.aload_n 0, 1) := dk_42 (dk_at dksX2_used_3 3 rfl rfl)
theorem dX2_used_76 : decode cX2_used 76 = .ok (.iload 6, 2) := dk_21 6 (dk_at dksX2_used_3 4 rfl rfl)
theorem dX2_used_78 : decode cX2_used 78 = .ok (.invokevirtual 73, 3) := dk_182 0 73 (dk_at dksX2_used_3 6 rfl rfl)
theorem dX2_used_81 : decode cX2_used 81 = .ok (.aload_n 0, 1) := dk_42 (dk_at dksX2_used_3 9 rfl rfl)
theorem dX2_used_82 : decode cX2_used 82 = .ok (.iload 6, 2) := dk_21 6 (dk_at dksX2_used_3 10 rfl rfl)
theorem dX2_used_84 : decode cX2_used 84 = .ok (.invokevirtual 70, 3) := dk_182 0 70 (dk_at dksX2_used_3 12 rfl rfl)
theorem dX2_used_87 : decode cX2_used 87 = .ok (.isub, 1) := dk_100 (dk_at dksX2_used_3 15 rfl rfl)
theorem dX2_used_88 : decode cX2_used 88 = .ok (.i2l, 1) := dk_133 (dk_at dksX2_used_3 16 rfl rfl)
theorem dX2_used_89 : decode cX2_used 89 = .ok (.aload_n 0, 1) := dk_42 (dk_at dksX2_used_3 17 rfl rfl)
theorem dX2_used_90 : decode cX2_used 90 = .ok (.aload_n 0, 1) := dk_42 (dk_at dksX2_used_3 18 rfl rfl)
theorem dX2_used_91 : decode cX2_used 91 = .ok (.iload 6, 2) := dk_21 6 (dk_at dksX2_used_3 19 rfl rfl)
theorem dX2_used_93 : decode cX2_used 93 = .ok (.invokevirtual 76, 3) := dk_182 0 76 (dk_at dksX2_used_3 21 rfl rfl)
theorem dX2_used_96 : decode cX2_used 96 = .ok (.iconst 1, 1) := dk_4 (dk_at dksX2_used_4 0 rfl rfl)
theorem dX2_used_97 : decode cX2_used 97 = .ok (.invokevirtual 79, 3) := dk_182 0 79 (dk_at dksX2_used_4 1 rfl rfl)
theorem dX2_used_100 : decode cX2_used 100 = .ok (.i2l, 1) := dk_133 (dk_at dksX2_used_4 4 rfl rfl)
theorem dX2_used_101 : decode cX2_used 101 = .ok (.lmul, 1) := dk_105 (dk_at dksX2_used_4 5 rfl rfl)
theorem dX2_used_102 : decode cX2_used 102 = .ok (.goto 4, 3) := dk_167 0 4 (dk_at dksX2_used_4 6 rfl rfl)
theorem dX2_used_105 : decode cX2_used 105 = .ok (.lconst 0, 1) := dk_9 (dk_at dksX2_used_4 9 rfl rfl)
theorem dX2_used_106 : decode cX2_used 106 = .ok (.ladd, 1) := dk_97 (dk_at dksX2_used_4 10 rfl rfl)
theorem dX2_used_107 : decode cX2_used 107 = .ok (.lstore_n 1, 1) := dk_64 (dk_at dksX2_used_4 11 rfl rfl)
theorem dX2_used_108 : decode cX2_used 108 = .ok (.iinc 6 1, 3) := dk_132 6 1 (dk_at dksX2_used_4 12 rfl rfl)
theorem dX2_used_111 : decode cX2_used 111 = .ok (.goto (-57), 3) := dk_167 255 199 (dk_at dksX2_used_4 15 rfl rfl)
theorem dX2_used_114 : decode cX2_used 114 = .ok (.iinc 5 1, 3) := dk_132 5 1 (dk_at dksX2_used_4 18 rfl rfl)
theorem dX2_used_117 : decode cX2_used 117 = .ok (.goto (-105), 3) := dk_167 255 151 (dk_at dksX2_used_4 21 rfl rfl)
theorem dX2_used_120 : decode cX2_used 120 = .ok (.lload_n 3, 1) := dk_33 (dk_at dksX2_used_5 0 rfl rfl)
theorem dX2_used_121 : decode cX2_used 121 = .ok (.lconst 0, 1) := dk_9 (dk_at dksX2_used_5 1 rfl rfl)
theorem dX2_used_122 : decode cX2_used 122 = .ok (.lcmp, 1) := dk_148 (dk_at dksX2_used_5 2 rfl rfl)
theorem dX2_used_123 : decode cX2_used 123 = .ok (.ifCond .ne 7, 3) := dk_154 0 7 (dk_at dksX2_used_5 3 rfl rfl)
theorem dX2_used_126 : decode cX2_used 126 = .ok (.dconst 0, 1) := dk_14 (dk_at dksX2_used_5 6 rfl rfl)
theorem dX2_used_127 : decode cX2_used 127 = .ok (.goto 8, 3) := dk_167 0 8 (dk_at dksX2_used_5 7 rfl rfl)
theorem dX2_used_130 : decode cX2_used 130 = .ok (.lload_n 1, 1) := dk_31 (dk_at dksX2_used_5 10 rfl rfl)
theorem dX2_used_131 : decode cX2_used 131 = .ok (.l2d, 1) := dk_138 (dk_at dksX2_used_5 11 rfl rfl)
theorem dX2_used_132 : decode cX2_used 132 = .ok (.lload_n 3, 1) := dk_33 (dk_at dksX2_used_5 12 rfl rfl)
theorem dX2_used_133 : decode cX2_used 133 = .ok (.l2d, 1) := dk_138 (dk_at dksX2_used_5 13 rfl rfl)
theorem dX2_used_134 : decode cX2_used 134 = .ok (.ddiv, 1) := dk_111 (dk_at dksX2_used_5 14 rfl rfl)
theorem dX2_used_135 : decode cX2_used 135 = .ok (.dreturn, 1) := dk_175 (dk_at dksX2_used_5 15 rfl rfl)
abbrev cX2_digest : ByteArray := prog_10_method_50_code
def yX2_digest : MethodName := ⟨RX2, "digest", "()J"⟩
def dkwX2_digest_7 : List UInt8 := [182, 0, 73, 182, 0, 147, 54, 4, 167, 255, 206, 132, 3, 1, 167, 255, 171, 31, 173]
abbrev dktX2_digest_7 : List UInt8 := dkwX2_digest_7 ++ []
def dkwX2_digest_6 : List UInt8 := [105, 42, 21, 4, 21, 5, 182, 0, 150, 133, 97, 64, 132, 5, 1, 167, 255, 231, 42, 29, 42, 21, 4]
abbrev dktX2_digest_6 : List UInt8 := dkwX2_digest_6 ++ dktX2_digest_7
def dkwX2_digest_5 : List UInt8 := [182, 0, 147, 54, 4, 21, 4, 2, 159, 0, 50, 3, 54, 5, 21, 5, 7, 162, 0, 25, 31, 20, 0, 155]
abbrev dktX2_digest_5 : List UInt8 := dkwX2_digest_5 ++ dktX2_digest_6
def dkwX2_digest_4 : List UInt8 := [180, 0, 39, 162, 0, 83, 31, 20, 0, 155, 105, 42, 29, 182, 0, 144, 133, 97, 64, 42, 29, 3]
abbrev dktX2_digest_4 : List UInt8 := dkwX2_digest_4 ++ dktX2_digest_5
def dkwX2_digest_3 : List UInt8 := [132, 3, 1, 167, 255, 231, 31, 20, 0, 155, 105, 42, 180, 0, 39, 133, 97, 64, 3, 62, 29, 42]
abbrev dktX2_digest_3 : List UInt8 := dkwX2_digest_3 ++ dktX2_digest_4
def dkwX2_digest_2 : List UInt8 := [62, 29, 42, 180, 0, 46, 162, 0, 23, 31, 20, 0, 155, 105, 42, 29, 6, 182, 0, 79, 133, 97, 64]
abbrev dktX2_digest_2 : List UInt8 := dkwX2_digest_2 ++ dktX2_digest_3
def dkwX2_digest_1 : List UInt8 := [20, 0, 155, 105, 42, 180, 0, 60, 133, 97, 64, 31, 20, 0, 155, 105, 42, 180, 0, 46, 133, 97, 64, 3]
abbrev dktX2_digest_1 : List UInt8 := dkwX2_digest_1 ++ dktX2_digest_2
def dkwX2_digest_0 : List UInt8 := [42, 3, 181, 0, 36, 20, 0, 153, 42, 180, 0, 23, 133, 97, 20, 0, 155, 105, 42, 180, 0, 27, 133, 97]
abbrev dktX2_digest_0 : List UInt8 := dkwX2_digest_0 ++ dktX2_digest_1
theorem dksX2_digest_0 : cX2_digest.data.toList.drop 0 = dktX2_digest_0 := by decide +kernel
theorem dksX2_digest_1 : cX2_digest.data.toList.drop 24 = dktX2_digest_1 := dk_seg dksX2_digest_0 24 rfl rfl
theorem dksX2_digest_2 : cX2_digest.data.toList.drop 48 = dktX2_digest_2 := dk_seg dksX2_digest_1 24 rfl rfl
theorem dksX2_digest_3 : cX2_digest.data.toList.drop 71 = dktX2_digest_3 := dk_seg dksX2_digest_2 23 rfl rfl
theorem dksX2_digest_4 : cX2_digest.data.toList.drop 93 = dktX2_digest_4 := dk_seg dksX2_digest_3 22 rfl rfl
theorem dksX2_digest_5 : cX2_digest.data.toList.drop 115 = dktX2_digest_5 := dk_seg dksX2_digest_4 22 rfl rfl
theorem dksX2_digest_6 : cX2_digest.data.toList.drop 139 = dktX2_digest_6 := dk_seg dksX2_digest_5 24 rfl rfl
theorem dksX2_digest_7 : cX2_digest.data.toList.drop 162 = dktX2_digest_7 := dk_seg dksX2_digest_6 23 rfl rfl
theorem dX2_digest_0 : decode cX2_digest 0 = .ok (.aload_n 0, 1) := dk_42 (dk_at dksX2_digest_0 0 rfl rfl)
theorem dX2_digest_1 : decode cX2_digest 1 = .ok (.iconst 0, 1) := dk_3 (dk_at dksX2_digest_0 1 rfl rfl)
theorem dX2_digest_2 : decode cX2_digest 2 = .ok (.putfield 36, 3) := dk_181 0 36 (dk_at dksX2_digest_0 2 rfl rfl)
theorem dX2_digest_5 : decode cX2_digest 5 = .ok (.ldc2_w 153, 3) := dk_20 0 153 (dk_at dksX2_digest_0 5 rfl rfl)
theorem dX2_digest_8 : decode cX2_digest 8 = .ok (.aload_n 0, 1) := dk_42 (dk_at dksX2_digest_0 8 rfl rfl)
theorem dX2_digest_9 : decode cX2_digest 9 = .ok (.getfield 23, 3) := dk_180 0 23 (dk_at dksX2_digest_0 9 rfl rfl)
theorem dX2_digest_12 : decode cX2_digest 12 = .ok (.i2l, 1) := dk_133 (dk_at dksX2_digest_0 12 rfl rfl)
theorem dX2_digest_13 : decode cX2_digest 13 = .ok (.ladd, 1) := dk_97 (dk_at dksX2_digest_0 13 rfl rfl)
theorem dX2_digest_14 : decode cX2_digest 14 = .ok (.ldc2_w 155, 3) := dk_20 0 155 (dk_at dksX2_digest_0 14 rfl rfl)
theorem dX2_digest_17 : decode cX2_digest 17 = .ok (.lmul, 1) := dk_105 (dk_at dksX2_digest_0 17 rfl rfl)
theorem dX2_digest_18 : decode cX2_digest 18 = .ok (.aload_n 0, 1) := dk_42 (dk_at dksX2_digest_0 18 rfl rfl)
theorem dX2_digest_19 : decode cX2_digest 19 = .ok (.getfield 27, 3) := dk_180 0 27 (dk_at dksX2_digest_0 19 rfl rfl)
theorem dX2_digest_22 : decode cX2_digest 22 = .ok (.i2l, 1) := dk_133 (dk_at dksX2_digest_0 22 rfl rfl)
theorem dX2_digest_23 : decode cX2_digest 23 = .ok (.ladd, 1) := dk_97 (dk_at dksX2_digest_0 23 rfl rfl)
theorem dX2_digest_24 : decode cX2_digest 24 = .ok (.ldc2_w 155, 3) := dk_20 0 155 (dk_at dksX2_digest_1 0 rfl rfl)
theorem dX2_digest_27 : decode cX2_digest 27 = .ok (.lmul, 1) := dk_105 (dk_at dksX2_digest_1 3 rfl rfl)
theorem dX2_digest_28 : decode cX2_digest 28 = .ok (.aload_n 0, 1) := dk_42 (dk_at dksX2_digest_1 4 rfl rfl)
theorem dX2_digest_29 : decode cX2_digest 29 = .ok (.getfield 60, 3) := dk_180 0 60 (dk_at dksX2_digest_1 5 rfl rfl)
theorem dX2_digest_32 : decode cX2_digest 32 = .ok (.i2l, 1) := dk_133 (dk_at dksX2_digest_1 8 rfl rfl)
theorem dX2_digest_33 : decode cX2_digest 33 = .ok (.ladd, 1) := dk_97 (dk_at dksX2_digest_1 9 rfl rfl)
theorem dX2_digest_34 : decode cX2_digest 34 = .ok (.lstore_n 1, 1) := dk_64 (dk_at dksX2_digest_1 10 rfl rfl)
theorem dX2_digest_35 : decode cX2_digest 35 = .ok (.lload_n 1, 1) := dk_31 (dk_at dksX2_digest_1 11 rfl rfl)
theorem dX2_digest_36 : decode cX2_digest 36 = .ok (.ldc2_w 155, 3) := dk_20 0 155 (dk_at dksX2_digest_1 12 rfl rfl)
theorem dX2_digest_39 : decode cX2_digest 39 = .ok (.lmul, 1) := dk_105 (dk_at dksX2_digest_1 15 rfl rfl)
theorem dX2_digest_40 : decode cX2_digest 40 = .ok (.aload_n 0, 1) := dk_42 (dk_at dksX2_digest_1 16 rfl rfl)
theorem dX2_digest_41 : decode cX2_digest 41 = .ok (.getfield 46, 3) := dk_180 0 46 (dk_at dksX2_digest_1 17 rfl rfl)
theorem dX2_digest_44 : decode cX2_digest 44 = .ok (.i2l, 1) := dk_133 (dk_at dksX2_digest_1 20 rfl rfl)
theorem dX2_digest_45 : decode cX2_digest 45 = .ok (.ladd, 1) := dk_97 (dk_at dksX2_digest_1 21 rfl rfl)
theorem dX2_digest_46 : decode cX2_digest 46 = .ok (.lstore_n 1, 1) := dk_64 (dk_at dksX2_digest_1 22 rfl rfl)
theorem dX2_digest_47 : decode cX2_digest 47 = .ok (.iconst 0, 1) := dk_3 (dk_at dksX2_digest_1 23 rfl rfl)
theorem dX2_digest_48 : decode cX2_digest 48 = .ok (.istore_n 3, 1) := dk_62 (dk_at dksX2_digest_2 0 rfl rfl)
theorem dX2_digest_49 : decode cX2_digest 49 = .ok (.iload_n 3, 1) := dk_29 (dk_at dksX2_digest_2 1 rfl rfl)
theorem dX2_digest_50 : decode cX2_digest 50 = .ok (.aload_n 0, 1) := dk_42 (dk_at dksX2_digest_2 2 rfl rfl)
theorem dX2_digest_51 : decode cX2_digest 51 = .ok (.getfield 46, 3) := dk_180 0 46 (dk_at dksX2_digest_2 3 rfl rfl)
theorem dX2_digest_54 : decode cX2_digest 54 = .ok (.if_icmp .ge 23, 3) := dk_162 0 23 (dk_at dksX2_digest_2 6 rfl rfl)
theorem dX2_digest_57 : decode cX2_digest 57 = .ok (.lload_n 1, 1) := dk_31 (dk_at dksX2_digest_2 9 rfl rfl)
theorem dX2_digest_58 : decode cX2_digest 58 = .ok (.ldc2_w 155, 3) := dk_20 0 155 (dk_at dksX2_digest_2 10 rfl rfl)
theorem dX2_digest_61 : decode cX2_digest 61 = .ok (.lmul, 1) := dk_105 (dk_at dksX2_digest_2 13 rfl rfl)
theorem dX2_digest_62 : decode cX2_digest 62 = .ok (.aload_n 0, 1) := dk_42 (dk_at dksX2_digest_2 14 rfl rfl)
theorem dX2_digest_63 : decode cX2_digest 63 = .ok (.iload_n 3, 1) := dk_29 (dk_at dksX2_digest_2 15 rfl rfl)
theorem dX2_digest_64 : decode cX2_digest 64 = .ok (.iconst 3, 1) := dk_6 (dk_at dksX2_digest_2 16 rfl rfl)
theorem dX2_digest_65 : decode cX2_digest 65 = .ok (.invokevirtual 79, 3) := dk_182 0 79 (dk_at dksX2_digest_2 17 rfl rfl)
theorem dX2_digest_68 : decode cX2_digest 68 = .ok (.i2l, 1) := dk_133 (dk_at dksX2_digest_2 20 rfl rfl)
theorem dX2_digest_69 : decode cX2_digest 69 = .ok (.ladd, 1) := dk_97 (dk_at dksX2_digest_2 21 rfl rfl)
theorem dX2_digest_70 : decode cX2_digest 70 = .ok (.lstore_n 1, 1) := dk_64 (dk_at dksX2_digest_2 22 rfl rfl)
theorem dX2_digest_71 : decode cX2_digest 71 = .ok (.iinc 3 1, 3) := dk_132 3 1 (dk_at dksX2_digest_3 0 rfl rfl)
theorem dX2_digest_74 : decode cX2_digest 74 = .ok (.goto (-25), 3) := dk_167 255 231 (dk_at dksX2_digest_3 3 rfl rfl)
theorem dX2_digest_77 : decode cX2_digest 77 = .ok (.lload_n 1, 1) := dk_31 (dk_at dksX2_digest_3 6 rfl rfl)
theorem dX2_digest_78 : decode cX2_digest 78 = .ok (.ldc2_w 155, 3) := dk_20 0 155 (dk_at dksX2_digest_3 7 rfl rfl)
theorem dX2_digest_81 : decode cX2_digest 81 = .ok (.lmul, 1) := dk_105 (dk_at dksX2_digest_3 10 rfl rfl)
theorem dX2_digest_82 : decode cX2_digest 82 = .ok (.aload_n 0, 1) := dk_42 (dk_at dksX2_digest_3 11 rfl rfl)
theorem dX2_digest_83 : decode cX2_digest 83 = .ok (.getfield 39, 3) := dk_180 0 39 (dk_at dksX2_digest_3 12 rfl rfl)
theorem dX2_digest_86 : decode cX2_digest 86 = .ok (.i2l, 1) := dk_133 (dk_at dksX2_digest_3 15 rfl rfl)
theorem dX2_digest_87 : decode cX2_digest 87 = .ok (.ladd, 1) := dk_97 (dk_at dksX2_digest_3 16 rfl rfl)
theorem dX2_digest_88 : decode cX2_digest 88 = .ok (.lstore_n 1, 1) := dk_64 (dk_at dksX2_digest_3 17 rfl rfl)
theorem dX2_digest_89 : decode cX2_digest 89 = .ok (.iconst 0, 1) := dk_3 (dk_at dksX2_digest_3 18 rfl rfl)
theorem dX2_digest_90 : decode cX2_digest 90 = .ok (.istore_n 3, 1) := dk_62 (dk_at dksX2_digest_3 19 rfl rfl)
theorem dX2_digest_91 : decode cX2_digest 91 = .ok (.iload_n 3, 1) := dk_29 (dk_at dksX2_digest_3 20 rfl rfl)
theorem dX2_digest_92 : decode cX2_digest 92 = .ok (.aload_n 0, 1) := dk_42 (dk_at dksX2_digest_3 21 rfl rfl)
theorem dX2_digest_93 : decode cX2_digest 93 = .ok (.getfield 39, 3) := dk_180 0 39 (dk_at dksX2_digest_4 0 rfl rfl)
theorem dX2_digest_96 : decode cX2_digest 96 = .ok (.if_icmp .ge 83, 3) := dk_162 0 83 (dk_at dksX2_digest_4 3 rfl rfl)
theorem dX2_digest_99 : decode cX2_digest 99 = .ok (.lload_n 1, 1) := dk_31 (dk_at dksX2_digest_4 6 rfl rfl)
theorem dX2_digest_100 : decode cX2_digest 100 = .ok (.ldc2_w 155, 3) := dk_20 0 155 (dk_at dksX2_digest_4 7 rfl rfl)
theorem dX2_digest_103 : decode cX2_digest 103 = .ok (.lmul, 1) := dk_105 (dk_at dksX2_digest_4 10 rfl rfl)
theorem dX2_digest_104 : decode cX2_digest 104 = .ok (.aload_n 0, 1) := dk_42 (dk_at dksX2_digest_4 11 rfl rfl)
theorem dX2_digest_105 : decode cX2_digest 105 = .ok (.iload_n 3, 1) := dk_29 (dk_at dksX2_digest_4 12 rfl rfl)
theorem dX2_digest_106 : decode cX2_digest 106 = .ok (.invokevirtual 144, 3) := dk_182 0 144 (dk_at dksX2_digest_4 13 rfl rfl)
theorem dX2_digest_109 : decode cX2_digest 109 = .ok (.i2l, 1) := dk_133 (dk_at dksX2_digest_4 16 rfl rfl)
theorem dX2_digest_110 : decode cX2_digest 110 = .ok (.ladd, 1) := dk_97 (dk_at dksX2_digest_4 17 rfl rfl)
theorem dX2_digest_111 : decode cX2_digest 111 = .ok (.lstore_n 1, 1) := dk_64 (dk_at dksX2_digest_4 18 rfl rfl)
theorem dX2_digest_112 : decode cX2_digest 112 = .ok (.aload_n 0, 1) := dk_42 (dk_at dksX2_digest_4 19 rfl rfl)
theorem dX2_digest_113 : decode cX2_digest 113 = .ok (.iload_n 3, 1) := dk_29 (dk_at dksX2_digest_4 20 rfl rfl)
theorem dX2_digest_114 : decode cX2_digest 114 = .ok (.iconst 0, 1) := dk_3 (dk_at dksX2_digest_4 21 rfl rfl)
theorem dX2_digest_115 : decode cX2_digest 115 = .ok (.invokevirtual 147, 3) := dk_182 0 147 (dk_at dksX2_digest_5 0 rfl rfl)
theorem dX2_digest_118 : decode cX2_digest 118 = .ok (.istore 4, 2) := dk_54 4 (dk_at dksX2_digest_5 3 rfl rfl)
theorem dX2_digest_120 : decode cX2_digest 120 = .ok (.iload 4, 2) := dk_21 4 (dk_at dksX2_digest_5 5 rfl rfl)
theorem dX2_digest_122 : decode cX2_digest 122 = .ok (.iconst (-1), 1) := dk_2 (dk_at dksX2_digest_5 7 rfl rfl)
theorem dX2_digest_123 : decode cX2_digest 123 = .ok (.if_icmp .eq 50, 3) := dk_159 0 50 (dk_at dksX2_digest_5 8 rfl rfl)
theorem dX2_digest_126 : decode cX2_digest 126 = .ok (.iconst 0, 1) := dk_3 (dk_at dksX2_digest_5 11 rfl rfl)
theorem dX2_digest_127 : decode cX2_digest 127 = .ok (.istore 5, 2) := dk_54 5 (dk_at dksX2_digest_5 12 rfl rfl)
theorem dX2_digest_129 : decode cX2_digest 129 = .ok (.iload 5, 2) := dk_21 5 (dk_at dksX2_digest_5 14 rfl rfl)
theorem dX2_digest_131 : decode cX2_digest 131 = .ok (.iconst 4, 1) := dk_7 (dk_at dksX2_digest_5 16 rfl rfl)
theorem dX2_digest_132 : decode cX2_digest 132 = .ok (.if_icmp .ge 25, 3) := dk_162 0 25 (dk_at dksX2_digest_5 17 rfl rfl)
theorem dX2_digest_135 : decode cX2_digest 135 = .ok (.lload_n 1, 1) := dk_31 (dk_at dksX2_digest_5 20 rfl rfl)
theorem dX2_digest_136 : decode cX2_digest 136 = .ok (.ldc2_w 155, 3) := dk_20 0 155 (dk_at dksX2_digest_5 21 rfl rfl)
theorem dX2_digest_139 : decode cX2_digest 139 = .ok (.lmul, 1) := dk_105 (dk_at dksX2_digest_6 0 rfl rfl)
theorem dX2_digest_140 : decode cX2_digest 140 = .ok (.aload_n 0, 1) := dk_42 (dk_at dksX2_digest_6 1 rfl rfl)
theorem dX2_digest_141 : decode cX2_digest 141 = .ok (.iload 4, 2) := dk_21 4 (dk_at dksX2_digest_6 2 rfl rfl)
theorem dX2_digest_143 : decode cX2_digest 143 = .ok (.iload 5, 2) := dk_21 5 (dk_at dksX2_digest_6 4 rfl rfl)
theorem dX2_digest_145 : decode cX2_digest 145 = .ok (.invokevirtual 150, 3) := dk_182 0 150 (dk_at dksX2_digest_6 6 rfl rfl)
theorem dX2_digest_148 : decode cX2_digest 148 = .ok (.i2l, 1) := dk_133 (dk_at dksX2_digest_6 9 rfl rfl)
theorem dX2_digest_149 : decode cX2_digest 149 = .ok (.ladd, 1) := dk_97 (dk_at dksX2_digest_6 10 rfl rfl)
theorem dX2_digest_150 : decode cX2_digest 150 = .ok (.lstore_n 1, 1) := dk_64 (dk_at dksX2_digest_6 11 rfl rfl)
theorem dX2_digest_151 : decode cX2_digest 151 = .ok (.iinc 5 1, 3) := dk_132 5 1 (dk_at dksX2_digest_6 12 rfl rfl)
theorem dX2_digest_154 : decode cX2_digest 154 = .ok (.goto (-25), 3) := dk_167 255 231 (dk_at dksX2_digest_6 15 rfl rfl)
theorem dX2_digest_157 : decode cX2_digest 157 = .ok (.aload_n 0, 1) := dk_42 (dk_at dksX2_digest_6 18 rfl rfl)
theorem dX2_digest_158 : decode cX2_digest 158 = .ok (.iload_n 3, 1) := dk_29 (dk_at dksX2_digest_6 19 rfl rfl)
theorem dX2_digest_159 : decode cX2_digest 159 = .ok (.aload_n 0, 1) := dk_42 (dk_at dksX2_digest_6 20 rfl rfl)
theorem dX2_digest_160 : decode cX2_digest 160 = .ok (.iload 4, 2) := dk_21 4 (dk_at dksX2_digest_6 21 rfl rfl)
theorem dX2_digest_162 : decode cX2_digest 162 = .ok (.invokevirtual 73, 3) := dk_182 0 73 (dk_at dksX2_digest_7 0 rfl rfl)
theorem dX2_digest_165 : decode cX2_digest 165 = .ok (.invokevirtual 147, 3) := dk_182 0 147 (dk_at dksX2_digest_7 3 rfl rfl)
theorem dX2_digest_168 : decode cX2_digest 168 = .ok (.istore 4, 2) := dk_54 4 (dk_at dksX2_digest_7 6 rfl rfl)
theorem dX2_digest_170 : decode cX2_digest 170 = .ok (.goto (-50), 3) := dk_167 255 206 (dk_at dksX2_digest_7 8 rfl rfl)
theorem dX2_digest_173 : decode cX2_digest 173 = .ok (.iinc 3 1, 3) := dk_132 3 1 (dk_at dksX2_digest_7 11 rfl rfl)
theorem dX2_digest_176 : decode cX2_digest 176 = .ok (.goto (-85), 3) := dk_167 255 171 (dk_at dksX2_digest_7 14 rfl rfl)
theorem dX2_digest_179 : decode cX2_digest 179 = .ok (.lload_n 1, 1) := dk_31 (dk_at dksX2_digest_7 17 rfl rfl)
theorem dX2_digest_180 : decode cX2_digest 180 = .ok (.lreturn, 1) := dk_173 (dk_at dksX2_digest_7 18 rfl rfl)
theorem q53 : (Jvm.Cond.initialized "TimberListModel") ∈ lw_all := lw_g (lw_at lw_m1 7 rfl) rfl
theorem q984 : (Jvm.Cond.selects "TimberListModel" ({ cls := "java/lang/Object", name := "getClass", desc := "()Ljava/lang/Class;" } : Jvm.MethodName) ({ cls := "java/lang/Object", name := "getClass", desc := "()Ljava/lang/Class;" } : Jvm.MethodName)) ∈ lw_all := lw_g (lw_at lw_m4 218 rfl) rfl
theorem q1647 : (Jvm.Cond.selects "TimberListModel" ({ cls := "java/lang/Object", name := "equals", desc := "(Ljava/lang/Object;)Z" } : Jvm.MethodName) ({ cls := "java/lang/Object", name := "equals", desc := "(Ljava/lang/Object;)Z" } : Jvm.MethodName)) ∈ lw_all := lw_g (lw_at lw_m7 161 rfl) rfl
theorem q1722 : (Jvm.Cond.instantiable "TimberListModel" (15 : Nat)) ∈ lw_all := lw_g (lw_at lw_m7 236 rfl) rfl
theorem q1724 : (Jvm.Cond.instanceMethod ({ cls := "TimberListModel", name := "<init>", desc := "()V" } : Jvm.MethodName)) ∈ lw_all := lw_g (lw_at lw_m7 238 rfl) rfl
theorem q1725 : (Jvm.Cond.code ({ cls := "TimberListModel", name := "<init>", desc := "()V" } : Jvm.MethodName) prog_10_method_1_code (1 : Nat) (Option.none : Option Jvm.ClassFile.FieldType)) ∈ lw_all := lw_g (lw_at lw_m7 239 rfl) rfl
theorem q1726 : (Jvm.Cond.methodLink "TimberListModel" (3 : Nat) ({ cls := "java/lang/Object", name := "<init>", desc := "()V" } : Jvm.MethodName)) ∈ lw_all := lw_g (lw_at lw_m8 0 rfl) rfl
theorem q1727 : (Jvm.Cond.fieldLink "TimberListModel" (36 : Nat) "TimberListModel" "thrown" "I") ∈ lw_all := lw_g (lw_at lw_m8 1 rfl) rfl
theorem q1728 : (Jvm.Cond.fieldLink "TimberListModel" (39 : Nat) "TimberListModel" "boards" "I") ∈ lw_all := lw_g (lw_at lw_m8 2 rfl) rfl
theorem q1729 : (Jvm.Cond.fieldLink "TimberListModel" (9 : Nat) "TimberListModel" "wood" "[I") ∈ lw_all := lw_g (lw_at lw_m8 3 rfl) rfl
theorem q1730 : (Jvm.Cond.fieldLink "TimberListModel" (60 : Nat) "TimberListModel" "defects" "I") ∈ lw_all := lw_g (lw_at lw_m8 4 rfl) rfl
theorem q1731 : (Jvm.Cond.fieldLink "TimberListModel" (13 : Nat) "TimberListModel" "flaws" "[I") ∈ lw_all := lw_g (lw_at lw_m8 5 rfl) rfl
theorem q1732 : (Jvm.Cond.fieldLink "TimberListModel" (46 : Nat) "TimberListModel" "parts" "I") ∈ lw_all := lw_g (lw_at lw_m8 6 rfl) rfl
theorem q1733 : (Jvm.Cond.fieldLink "TimberListModel" (16 : Nat) "TimberListModel" "wants" "[I") ∈ lw_all := lw_g (lw_at lw_m8 7 rfl) rfl
theorem q1734 : (Jvm.Cond.fieldLink "TimberListModel" (19 : Nat) "TimberListModel" "mayBeJoined" "[Z") ∈ lw_all := lw_g (lw_at lw_m8 8 rfl) rfl
theorem q1735 : (Jvm.Cond.fieldLink "TimberListModel" (23 : Nat) "TimberListModel" "saw" "I") ∈ lw_all := lw_g (lw_at lw_m8 9 rfl) rfl
theorem q1736 : (Jvm.Cond.fieldLink "TimberListModel" (27 : Nat) "TimberListModel" "joint" "I") ∈ lw_all := lw_g (lw_at lw_m8 10 rfl) rfl
theorem q1737 : (Jvm.Cond.fieldLink "TimberListModel" (63 : Nat) "TimberListModel" "made" "I") ∈ lw_all := lw_g (lw_at lw_m8 11 rfl) rfl
theorem q1738 : (Jvm.Cond.fieldLink "TimberListModel" (30 : Nat) "TimberListModel" "cuts" "[I") ∈ lw_all := lw_g (lw_at lw_m8 12 rfl) rfl
theorem q1739 : (Jvm.Cond.fieldLink "TimberListModel" (33 : Nat) "TimberListModel" "areJoined" "[Z") ∈ lw_all := lw_g (lw_at lw_m8 13 rfl) rfl
theorem q1740 : (Jvm.Cond.fieldLink "TimberListModel" (94 : Nat) "TimberListModel" "stretchFrom" "I") ∈ lw_all := lw_g (lw_at lw_m8 14 rfl) rfl
theorem q1741 : (Jvm.Cond.fieldLink "TimberListModel" (100 : Nat) "TimberListModel" "stretchTo" "I") ∈ lw_all := lw_g (lw_at lw_m8 15 rfl) rfl
theorem q1742 : (Jvm.Cond.lays "TimberListModel" "TimberListModel" "thrown" "I") ∈ lw_all := lw_g (lw_at lw_m8 16 rfl) rfl
theorem q1743 : (Jvm.Cond.soleField "TimberListModel" "thrown") ∈ lw_all := lw_g (lw_at lw_m8 17 rfl) rfl
theorem q1744 : (Jvm.Cond.lays "TimberListModel" "TimberListModel" "boards" "I") ∈ lw_all := lw_g (lw_at lw_m8 18 rfl) rfl
theorem q1745 : (Jvm.Cond.soleField "TimberListModel" "boards") ∈ lw_all := lw_g (lw_at lw_m8 19 rfl) rfl
theorem q1746 : (Jvm.Cond.laysFinal "TimberListModel" "TimberListModel" "wood" "[I") ∈ lw_all := lw_g (lw_at lw_m8 20 rfl) rfl
theorem q1747 : (Jvm.Cond.soleField "TimberListModel" "wood") ∈ lw_all := lw_g (lw_at lw_m8 21 rfl) rfl
theorem q1748 : (Jvm.Cond.lays "TimberListModel" "TimberListModel" "defects" "I") ∈ lw_all := lw_g (lw_at lw_m8 22 rfl) rfl
theorem q1749 : (Jvm.Cond.soleField "TimberListModel" "defects") ∈ lw_all := lw_g (lw_at lw_m8 23 rfl) rfl
theorem q1750 : (Jvm.Cond.laysFinal "TimberListModel" "TimberListModel" "flaws" "[I") ∈ lw_all := lw_g (lw_at lw_m8 24 rfl) rfl
theorem q1751 : (Jvm.Cond.soleField "TimberListModel" "flaws") ∈ lw_all := lw_g (lw_at lw_m8 25 rfl) rfl
theorem q1752 : (Jvm.Cond.lays "TimberListModel" "TimberListModel" "parts" "I") ∈ lw_all := lw_g (lw_at lw_m8 26 rfl) rfl
theorem q1753 : (Jvm.Cond.soleField "TimberListModel" "parts") ∈ lw_all := lw_g (lw_at lw_m8 27 rfl) rfl
theorem q1754 : (Jvm.Cond.laysFinal "TimberListModel" "TimberListModel" "wants" "[I") ∈ lw_all := lw_g (lw_at lw_m8 28 rfl) rfl
theorem q1755 : (Jvm.Cond.soleField "TimberListModel" "wants") ∈ lw_all := lw_g (lw_at lw_m8 29 rfl) rfl
theorem q1756 : (Jvm.Cond.laysFinal "TimberListModel" "TimberListModel" "mayBeJoined" "[Z") ∈ lw_all := lw_g (lw_at lw_m8 30 rfl) rfl
theorem q1757 : (Jvm.Cond.soleField "TimberListModel" "mayBeJoined") ∈ lw_all := lw_g (lw_at lw_m8 31 rfl) rfl
theorem q1758 : (Jvm.Cond.lays "TimberListModel" "TimberListModel" "saw" "I") ∈ lw_all := lw_g (lw_at lw_m8 32 rfl) rfl
theorem q1759 : (Jvm.Cond.soleField "TimberListModel" "saw") ∈ lw_all := lw_g (lw_at lw_m8 33 rfl) rfl
theorem q1760 : (Jvm.Cond.lays "TimberListModel" "TimberListModel" "joint" "I") ∈ lw_all := lw_g (lw_at lw_m8 34 rfl) rfl
theorem q1761 : (Jvm.Cond.soleField "TimberListModel" "joint") ∈ lw_all := lw_g (lw_at lw_m8 35 rfl) rfl
theorem q1762 : (Jvm.Cond.lays "TimberListModel" "TimberListModel" "made" "I") ∈ lw_all := lw_g (lw_at lw_m8 36 rfl) rfl
theorem q1763 : (Jvm.Cond.soleField "TimberListModel" "made") ∈ lw_all := lw_g (lw_at lw_m8 37 rfl) rfl
theorem q1764 : (Jvm.Cond.laysFinal "TimberListModel" "TimberListModel" "cuts" "[I") ∈ lw_all := lw_g (lw_at lw_m8 38 rfl) rfl
theorem q1765 : (Jvm.Cond.soleField "TimberListModel" "cuts") ∈ lw_all := lw_g (lw_at lw_m8 39 rfl) rfl
theorem q1766 : (Jvm.Cond.laysFinal "TimberListModel" "TimberListModel" "areJoined" "[Z") ∈ lw_all := lw_g (lw_at lw_m8 40 rfl) rfl
theorem q1767 : (Jvm.Cond.soleField "TimberListModel" "areJoined") ∈ lw_all := lw_g (lw_at lw_m8 41 rfl) rfl
theorem q1768 : (Jvm.Cond.lays "TimberListModel" "TimberListModel" "stretchFrom" "I") ∈ lw_all := lw_g (lw_at lw_m8 42 rfl) rfl
theorem q1769 : (Jvm.Cond.soleField "TimberListModel" "stretchFrom") ∈ lw_all := lw_g (lw_at lw_m8 43 rfl) rfl
theorem q1770 : (Jvm.Cond.lays "TimberListModel" "TimberListModel" "stretchTo" "I") ∈ lw_all := lw_g (lw_at lw_m8 44 rfl) rfl
theorem q1771 : (Jvm.Cond.soleField "TimberListModel" "stretchTo") ∈ lw_all := lw_g (lw_at lw_m8 45 rfl) rfl
theorem q1772 : (Jvm.Cond.superclass "TimberListModel" "java/lang/Object") ∈ lw_all := lw_g (lw_at lw_m8 46 rfl) rfl
theorem q1775 : (Jvm.Cond.instanceMethod ({ cls := "TimberListModel", name := "thrown", desc := "()I" } : Jvm.MethodName)) ∈ lw_all := lw_g (lw_at lw_m8 49 rfl) rfl
theorem q1776 : (Jvm.Cond.selects "TimberListModel" ({ cls := "TimberListModel", name := "thrown", desc := "()I" } : Jvm.MethodName) ({ cls := "TimberListModel", name := "thrown", desc := "()I" } : Jvm.MethodName)) ∈ lw_all := lw_g (lw_at lw_m8 50 rfl) rfl
theorem q1777 : (Jvm.Cond.code ({ cls := "TimberListModel", name := "thrown", desc := "()I" } : Jvm.MethodName) prog_10_method_2_code (1 : Nat) (Option.some Jvm.ClassFile.FieldType.int)) ∈ lw_all := lw_g (lw_at lw_m8 51 rfl) rfl
theorem q1779 : (Jvm.Cond.instanceMethod ({ cls := "TimberListModel", name := "addBoard", desc := "(III)I" } : Jvm.MethodName)) ∈ lw_all := lw_g (lw_at lw_m8 53 rfl) rfl
theorem q1780 : (Jvm.Cond.selects "TimberListModel" ({ cls := "TimberListModel", name := "addBoard", desc := "(III)I" } : Jvm.MethodName) ({ cls := "TimberListModel", name := "addBoard", desc := "(III)I" } : Jvm.MethodName)) ∈ lw_all := lw_g (lw_at lw_m8 54 rfl) rfl
theorem q1781 : (Jvm.Cond.code ({ cls := "TimberListModel", name := "addBoard", desc := "(III)I" } : Jvm.MethodName) prog_10_method_10_code (4 : Nat) (Option.some Jvm.ClassFile.FieldType.int)) ∈ lw_all := lw_g (lw_at lw_m8 55 rfl) rfl
theorem q1782 : (Jvm.Cond.methodLink "TimberListModel" (42 : Nat) ({ cls := "TimberListModel", name := "isIn", desc := "(III)Z" } : Jvm.MethodName)) ∈ lw_all := lw_g (lw_at lw_m8 56 rfl) rfl
theorem q1783 : (Jvm.Cond.static ({ cls := "TimberListModel", name := "isIn", desc := "(III)Z" } : Jvm.MethodName)) ∈ lw_all := lw_g (lw_at lw_m8 57 rfl) rfl
theorem q1784 : (Jvm.Cond.code ({ cls := "TimberListModel", name := "isIn", desc := "(III)Z" } : Jvm.MethodName) prog_10_method_4_code (3 : Nat) (Option.some Jvm.ClassFile.FieldType.boolean)) ∈ lw_all := lw_g (lw_at lw_m8 58 rfl) rfl
theorem q1785 : (Jvm.Cond.methodLink "TimberListModel" (49 : Nat) ({ cls := "TimberListModel", name := "fail", desc := "(I)I" } : Jvm.MethodName)) ∈ lw_all := lw_g (lw_at lw_m8 59 rfl) rfl
theorem q1786 : (Jvm.Cond.privateMethod ({ cls := "TimberListModel", name := "fail", desc := "(I)I" } : Jvm.MethodName)) ∈ lw_tbl := lw_at lw_m8 60 rfl
theorem q1787 : (Jvm.Cond.instanceMethod ({ cls := "TimberListModel", name := "fail", desc := "(I)I" } : Jvm.MethodName)) ∈ lw_all := lw_g (lw_at lw_m8 61 rfl) rfl
theorem q1788 : (Jvm.Cond.code ({ cls := "TimberListModel", name := "fail", desc := "(I)I" } : Jvm.MethodName) prog_10_method_3_code (2 : Nat) (Option.some Jvm.ClassFile.FieldType.int)) ∈ lw_all := lw_g (lw_at lw_m8 62 rfl) rfl
theorem q1790 : (Jvm.Cond.instanceMethod ({ cls := "TimberListModel", name := "addDefect", desc := "(IIII)I" } : Jvm.MethodName)) ∈ lw_all := lw_g (lw_at lw_m8 64 rfl) rfl
theorem q1791 : (Jvm.Cond.selects "TimberListModel" ({ cls := "TimberListModel", name := "addDefect", desc := "(IIII)I" } : Jvm.MethodName) ({ cls := "TimberListModel", name := "addDefect", desc := "(IIII)I" } : Jvm.MethodName)) ∈ lw_all := lw_g (lw_at lw_m8 65 rfl) rfl
theorem q1792 : (Jvm.Cond.code ({ cls := "TimberListModel", name := "addDefect", desc := "(IIII)I" } : Jvm.MethodName) prog_10_method_15_code (7 : Nat) (Option.some Jvm.ClassFile.FieldType.int)) ∈ lw_all := lw_g (lw_at lw_m8 66 rfl) rfl
theorem q1793 : (Jvm.Cond.methodLink "TimberListModel" (53 : Nat) ({ cls := "TimberListModel", name := "isBoard", desc := "(I)Z" } : Jvm.MethodName)) ∈ lw_all := lw_g (lw_at lw_m8 67 rfl) rfl
theorem q1794 : (Jvm.Cond.privateMethod ({ cls := "TimberListModel", name := "isBoard", desc := "(I)Z" } : Jvm.MethodName)) ∈ lw_tbl := lw_at lw_m8 68 rfl
theorem q1795 : (Jvm.Cond.instanceMethod ({ cls := "TimberListModel", name := "isBoard", desc := "(I)Z" } : Jvm.MethodName)) ∈ lw_all := lw_g (lw_at lw_m8 69 rfl) rfl
theorem q1796 : (Jvm.Cond.code ({ cls := "TimberListModel", name := "isBoard", desc := "(I)Z" } : Jvm.MethodName) prog_10_method_5_code (2 : Nat) (Option.some Jvm.ClassFile.FieldType.boolean)) ∈ lw_all := lw_g (lw_at lw_m8 70 rfl) rfl
theorem q1797 : (Jvm.Cond.methodLink "TimberListModel" (57 : Nat) ({ cls := "TimberListModel", name := "length", desc := "(I)I" } : Jvm.MethodName)) ∈ lw_all := lw_g (lw_at lw_m8 71 rfl) rfl
theorem q1798 : (Jvm.Cond.privateMethod ({ cls := "TimberListModel", name := "length", desc := "(I)I" } : Jvm.MethodName)) ∈ lw_tbl := lw_at lw_m8 72 rfl
theorem q1799 : (Jvm.Cond.instanceMethod ({ cls := "TimberListModel", name := "length", desc := "(I)I" } : Jvm.MethodName)) ∈ lw_all := lw_g (lw_at lw_m8 73 rfl) rfl
theorem q1800 : (Jvm.Cond.code ({ cls := "TimberListModel", name := "length", desc := "(I)I" } : Jvm.MethodName) prog_10_method_7_code (2 : Nat) (Option.some Jvm.ClassFile.FieldType.int)) ∈ lw_all := lw_g (lw_at lw_m8 74 rfl) rfl
theorem q1801 : (Jvm.Cond.methodLink "TimberListModel" (66 : Nat) ({ cls := "TimberListModel", name := "isOn", desc := "(II)Z" } : Jvm.MethodName)) ∈ lw_all := lw_g (lw_at lw_m8 75 rfl) rfl
theorem q1802 : (Jvm.Cond.privateMethod ({ cls := "TimberListModel", name := "isOn", desc := "(II)Z" } : Jvm.MethodName)) ∈ lw_tbl := lw_at lw_m8 76 rfl
theorem q1803 : (Jvm.Cond.instanceMethod ({ cls := "TimberListModel", name := "isOn", desc := "(II)Z" } : Jvm.MethodName)) ∈ lw_all := lw_g (lw_at lw_m8 77 rfl) rfl
theorem q1804 : (Jvm.Cond.code ({ cls := "TimberListModel", name := "isOn", desc := "(II)Z" } : Jvm.MethodName) prog_10_method_11_code (3 : Nat) (Option.some Jvm.ClassFile.FieldType.boolean)) ∈ lw_all := lw_g (lw_at lw_m8 78 rfl) rfl
theorem q1805 : (Jvm.Cond.methodLink "TimberListModel" (70 : Nat) ({ cls := "TimberListModel", name := "from", desc := "(I)I" } : Jvm.MethodName)) ∈ lw_all := lw_g (lw_at lw_m8 79 rfl) rfl
theorem q1806 : (Jvm.Cond.privateMethod ({ cls := "TimberListModel", name := "from", desc := "(I)I" } : Jvm.MethodName)) ∈ lw_tbl := lw_at lw_m8 80 rfl
theorem q1807 : (Jvm.Cond.instanceMethod ({ cls := "TimberListModel", name := "from", desc := "(I)I" } : Jvm.MethodName)) ∈ lw_all := lw_g (lw_at lw_m8 81 rfl) rfl
theorem q1808 : (Jvm.Cond.code ({ cls := "TimberListModel", name := "from", desc := "(I)I" } : Jvm.MethodName) prog_10_method_12_code (2 : Nat) (Option.some Jvm.ClassFile.FieldType.int)) ∈ lw_all := lw_g (lw_at lw_m8 82 rfl) rfl
theorem q1809 : (Jvm.Cond.methodLink "TimberListModel" (73 : Nat) ({ cls := "TimberListModel", name := "to", desc := "(I)I" } : Jvm.MethodName)) ∈ lw_all := lw_g (lw_at lw_m8 83 rfl) rfl
theorem q1810 : (Jvm.Cond.privateMethod ({ cls := "TimberListModel", name := "to", desc := "(I)I" } : Jvm.MethodName)) ∈ lw_tbl := lw_at lw_m8 84 rfl
theorem q1811 : (Jvm.Cond.instanceMethod ({ cls := "TimberListModel", name := "to", desc := "(I)I" } : Jvm.MethodName)) ∈ lw_all := lw_g (lw_at lw_m8 85 rfl) rfl
theorem q1812 : (Jvm.Cond.code ({ cls := "TimberListModel", name := "to", desc := "(I)I" } : Jvm.MethodName) prog_10_method_13_code (2 : Nat) (Option.some Jvm.ClassFile.FieldType.int)) ∈ lw_all := lw_g (lw_at lw_m8 86 rfl) rfl
theorem q1813 : (Jvm.Cond.methodLink "TimberListModel" (76 : Nat) ({ cls := "TimberListModel", name := "partOf", desc := "(I)I" } : Jvm.MethodName)) ∈ lw_all := lw_g (lw_at lw_m8 87 rfl) rfl
theorem q1814 : (Jvm.Cond.privateMethod ({ cls := "TimberListModel", name := "partOf", desc := "(I)I" } : Jvm.MethodName)) ∈ lw_tbl := lw_at lw_m8 88 rfl
theorem q1815 : (Jvm.Cond.instanceMethod ({ cls := "TimberListModel", name := "partOf", desc := "(I)I" } : Jvm.MethodName)) ∈ lw_all := lw_g (lw_at lw_m8 89 rfl) rfl
theorem q1816 : (Jvm.Cond.code ({ cls := "TimberListModel", name := "partOf", desc := "(I)I" } : Jvm.MethodName) prog_10_method_14_code (2 : Nat) (Option.some Jvm.ClassFile.FieldType.int)) ∈ lw_all := lw_g (lw_at lw_m8 90 rfl) rfl
theorem q1817 : (Jvm.Cond.methodLink "TimberListModel" (79 : Nat) ({ cls := "TimberListModel", name := "want", desc := "(II)I" } : Jvm.MethodName)) ∈ lw_all := lw_g (lw_at lw_m8 91 rfl) rfl
theorem q1818 : (Jvm.Cond.privateMethod ({ cls := "TimberListModel", name := "want", desc := "(II)I" } : Jvm.MethodName)) ∈ lw_tbl := lw_at lw_m8 92 rfl
theorem q1819 : (Jvm.Cond.instanceMethod ({ cls := "TimberListModel", name := "want", desc := "(II)I" } : Jvm.MethodName)) ∈ lw_all := lw_g (lw_at lw_m8 93 rfl) rfl
theorem q1820 : (Jvm.Cond.code ({ cls := "TimberListModel", name := "want", desc := "(II)I" } : Jvm.MethodName) prog_10_method_9_code (3 : Nat) (Option.some Jvm.ClassFile.FieldType.int)) ∈ lw_all := lw_g (lw_at lw_m8 94 rfl) rfl
theorem q1822 : (Jvm.Cond.instanceMethod ({ cls := "TimberListModel", name := "addPart", desc := "(IIIIZ)I" } : Jvm.MethodName)) ∈ lw_all := lw_g (lw_at lw_m8 96 rfl) rfl
theorem q1823 : (Jvm.Cond.selects "TimberListModel" ({ cls := "TimberListModel", name := "addPart", desc := "(IIIIZ)I" } : Jvm.MethodName) ({ cls := "TimberListModel", name := "addPart", desc := "(IIIIZ)I" } : Jvm.MethodName)) ∈ lw_all := lw_g (lw_at lw_m8 97 rfl) rfl
theorem q1824 : (Jvm.Cond.code ({ cls := "TimberListModel", name := "addPart", desc := "(IIIIZ)I" } : Jvm.MethodName) prog_10_method_16_code (6 : Nat) (Option.some Jvm.ClassFile.FieldType.int)) ∈ lw_all := lw_g (lw_at lw_m8 98 rfl) rfl
theorem q1826 : (Jvm.Cond.instanceMethod ({ cls := "TimberListModel", name := "setSaw", desc := "(I)I" } : Jvm.MethodName)) ∈ lw_all := lw_g (lw_at lw_m8 100 rfl) rfl
theorem q1827 : (Jvm.Cond.selects "TimberListModel" ({ cls := "TimberListModel", name := "setSaw", desc := "(I)I" } : Jvm.MethodName) ({ cls := "TimberListModel", name := "setSaw", desc := "(I)I" } : Jvm.MethodName)) ∈ lw_all := lw_g (lw_at lw_m8 101 rfl) rfl
theorem q1828 : (Jvm.Cond.code ({ cls := "TimberListModel", name := "setSaw", desc := "(I)I" } : Jvm.MethodName) prog_10_method_17_code (3 : Nat) (Option.some Jvm.ClassFile.FieldType.int)) ∈ lw_all := lw_g (lw_at lw_m8 102 rfl) rfl
theorem q1830 : (Jvm.Cond.instanceMethod ({ cls := "TimberListModel", name := "setJoint", desc := "(I)I" } : Jvm.MethodName)) ∈ lw_all := lw_g (lw_at lw_m8 104 rfl) rfl
theorem q1831 : (Jvm.Cond.selects "TimberListModel" ({ cls := "TimberListModel", name := "setJoint", desc := "(I)I" } : Jvm.MethodName) ({ cls := "TimberListModel", name := "setJoint", desc := "(I)I" } : Jvm.MethodName)) ∈ lw_all := lw_g (lw_at lw_m8 105 rfl) rfl
theorem q1832 : (Jvm.Cond.code ({ cls := "TimberListModel", name := "setJoint", desc := "(I)I" } : Jvm.MethodName) prog_10_method_18_code (3 : Nat) (Option.some Jvm.ClassFile.FieldType.int)) ∈ lw_all := lw_g (lw_at lw_m8 106 rfl) rfl
theorem q1834 : (Jvm.Cond.instanceMethod ({ cls := "TimberListModel", name := "grade", desc := "(II)I" } : Jvm.MethodName)) ∈ lw_all := lw_g (lw_at lw_m8 108 rfl) rfl
theorem q1835 : (Jvm.Cond.selects "TimberListModel" ({ cls := "TimberListModel", name := "grade", desc := "(II)I" } : Jvm.MethodName) ({ cls := "TimberListModel", name := "grade", desc := "(II)I" } : Jvm.MethodName)) ∈ lw_all := lw_g (lw_at lw_m8 109 rfl) rfl
theorem q1836 : (Jvm.Cond.code ({ cls := "TimberListModel", name := "grade", desc := "(II)I" } : Jvm.MethodName) prog_10_method_20_code (3 : Nat) (Option.some Jvm.ClassFile.FieldType.int)) ∈ lw_all := lw_g (lw_at lw_m8 110 rfl) rfl
theorem q1837 : (Jvm.Cond.methodLink "TimberListModel" (88 : Nat) ({ cls := "TimberListModel", name := "gradeAt", desc := "(II)I" } : Jvm.MethodName)) ∈ lw_all := lw_g (lw_at lw_m8 111 rfl) rfl
theorem q1838 : (Jvm.Cond.privateMethod ({ cls := "TimberListModel", name := "gradeAt", desc := "(II)I" } : Jvm.MethodName)) ∈ lw_tbl := lw_at lw_m8 112 rfl
theorem q1839 : (Jvm.Cond.instanceMethod ({ cls := "TimberListModel", name := "gradeAt", desc := "(II)I" } : Jvm.MethodName)) ∈ lw_all := lw_g (lw_at lw_m8 113 rfl) rfl
theorem q1840 : (Jvm.Cond.code ({ cls := "TimberListModel", name := "gradeAt", desc := "(II)I" } : Jvm.MethodName) prog_10_method_19_code (5 : Nat) (Option.some Jvm.ClassFile.FieldType.int)) ∈ lw_all := lw_g (lw_at lw_m8 114 rfl) rfl
theorem q1841 : (Jvm.Cond.methodLink "TimberListModel" (83 : Nat) ({ cls := "java/lang/Math", name := "max", desc := "(II)I" } : Jvm.MethodName)) ∈ lw_all := lw_g (lw_at lw_m8 115 rfl) rfl
theorem q1843 : (Jvm.Cond.instanceMethod ({ cls := "TimberListModel", name := "stretches", desc := "(II)I" } : Jvm.MethodName)) ∈ lw_all := lw_g (lw_at lw_m8 117 rfl) rfl
theorem q1844 : (Jvm.Cond.selects "TimberListModel" ({ cls := "TimberListModel", name := "stretches", desc := "(II)I" } : Jvm.MethodName) ({ cls := "TimberListModel", name := "stretches", desc := "(II)I" } : Jvm.MethodName)) ∈ lw_all := lw_g (lw_at lw_m8 118 rfl) rfl
theorem q1845 : (Jvm.Cond.code ({ cls := "TimberListModel", name := "stretches", desc := "(II)I" } : Jvm.MethodName) prog_10_method_23_code (3 : Nat) (Option.some Jvm.ClassFile.FieldType.int)) ∈ lw_all := lw_g (lw_at lw_m8 119 rfl) rfl
theorem q1846 : (Jvm.Cond.methodLink "TimberListModel" (103 : Nat) ({ cls := "TimberListModel", name := "goOver", desc := "(III)I" } : Jvm.MethodName)) ∈ lw_all := lw_g (lw_at lw_m8 120 rfl) rfl
theorem q1847 : (Jvm.Cond.privateMethod ({ cls := "TimberListModel", name := "goOver", desc := "(III)I" } : Jvm.MethodName)) ∈ lw_tbl := lw_at lw_m8 121 rfl
theorem q1848 : (Jvm.Cond.instanceMethod ({ cls := "TimberListModel", name := "goOver", desc := "(III)I" } : Jvm.MethodName)) ∈ lw_all := lw_g (lw_at lw_m8 122 rfl) rfl
theorem q1849 : (Jvm.Cond.code ({ cls := "TimberListModel", name := "goOver", desc := "(III)I" } : Jvm.MethodName) prog_10_method_22_code (8 : Nat) (Option.some Jvm.ClassFile.FieldType.int)) ∈ lw_all := lw_g (lw_at lw_m8 123 rfl) rfl
theorem q1850 : (Jvm.Cond.methodLink "TimberListModel" (97 : Nat) ({ cls := "TimberListModel", name := "nextChange", desc := "(II)I" } : Jvm.MethodName)) ∈ lw_all := lw_g (lw_at lw_m8 124 rfl) rfl
theorem q1851 : (Jvm.Cond.privateMethod ({ cls := "TimberListModel", name := "nextChange", desc := "(II)I" } : Jvm.MethodName)) ∈ lw_tbl := lw_at lw_m8 125 rfl
theorem q1852 : (Jvm.Cond.instanceMethod ({ cls := "TimberListModel", name := "nextChange", desc := "(II)I" } : Jvm.MethodName)) ∈ lw_all := lw_g (lw_at lw_m8 126 rfl) rfl
theorem q1853 : (Jvm.Cond.code ({ cls := "TimberListModel", name := "nextChange", desc := "(II)I" } : Jvm.MethodName) prog_10_method_21_code (5 : Nat) (Option.some Jvm.ClassFile.FieldType.int)) ∈ lw_all := lw_g (lw_at lw_m8 127 rfl) rfl
theorem q1854 : (Jvm.Cond.methodLink "TimberListModel" (91 : Nat) ({ cls := "java/lang/Math", name := "min", desc := "(II)I" } : Jvm.MethodName)) ∈ lw_all := lw_g (lw_at lw_m8 128 rfl) rfl
theorem q1856 : (Jvm.Cond.instanceMethod ({ cls := "TimberListModel", name := "stretch", desc := "(IIIZ)I" } : Jvm.MethodName)) ∈ lw_all := lw_g (lw_at lw_m8 130 rfl) rfl
theorem q1857 : (Jvm.Cond.selects "TimberListModel" ({ cls := "TimberListModel", name := "stretch", desc := "(IIIZ)I" } : Jvm.MethodName) ({ cls := "TimberListModel", name := "stretch", desc := "(IIIZ)I" } : Jvm.MethodName)) ∈ lw_all := lw_g (lw_at lw_m8 131 rfl) rfl
theorem q1858 : (Jvm.Cond.code ({ cls := "TimberListModel", name := "stretch", desc := "(IIIZ)I" } : Jvm.MethodName) prog_10_method_24_code (5 : Nat) (Option.some Jvm.ClassFile.FieldType.int)) ∈ lw_all := lw_g (lw_at lw_m8 132 rfl) rfl
theorem q1860 : (Jvm.Cond.instanceMethod ({ cls := "TimberListModel", name := "fits", desc := "(III)Z" } : Jvm.MethodName)) ∈ lw_all := lw_g (lw_at lw_m8 134 rfl) rfl
theorem q1861 : (Jvm.Cond.selects "TimberListModel" ({ cls := "TimberListModel", name := "fits", desc := "(III)Z" } : Jvm.MethodName) ({ cls := "TimberListModel", name := "fits", desc := "(III)Z" } : Jvm.MethodName)) ∈ lw_all := lw_g (lw_at lw_m8 135 rfl) rfl
theorem q1862 : (Jvm.Cond.code ({ cls := "TimberListModel", name := "fits", desc := "(III)Z" } : Jvm.MethodName) prog_10_method_28_code (4 : Nat) (Option.some Jvm.ClassFile.FieldType.boolean)) ∈ lw_all := lw_g (lw_at lw_m8 136 rfl) rfl
theorem q1863 : (Jvm.Cond.methodLink "TimberListModel" (114 : Nat) ({ cls := "TimberListModel", name := "isPart", desc := "(I)Z" } : Jvm.MethodName)) ∈ lw_all := lw_g (lw_at lw_m8 137 rfl) rfl
theorem q1864 : (Jvm.Cond.privateMethod ({ cls := "TimberListModel", name := "isPart", desc := "(I)Z" } : Jvm.MethodName)) ∈ lw_tbl := lw_at lw_m8 138 rfl
theorem q1865 : (Jvm.Cond.instanceMethod ({ cls := "TimberListModel", name := "isPart", desc := "(I)Z" } : Jvm.MethodName)) ∈ lw_all := lw_g (lw_at lw_m8 139 rfl) rfl
theorem q1866 : (Jvm.Cond.code ({ cls := "TimberListModel", name := "isPart", desc := "(I)Z" } : Jvm.MethodName) prog_10_method_6_code (2 : Nat) (Option.some Jvm.ClassFile.FieldType.boolean)) ∈ lw_all := lw_g (lw_at lw_m8 140 rfl) rfl
theorem q1867 : (Jvm.Cond.methodLink "TimberListModel" (117 : Nat) ({ cls := "TimberListModel", name := "isPossible", desc := "(IIII)Z" } : Jvm.MethodName)) ∈ lw_all := lw_g (lw_at lw_m8 141 rfl) rfl
theorem q1868 : (Jvm.Cond.privateMethod ({ cls := "TimberListModel", name := "isPossible", desc := "(IIII)Z" } : Jvm.MethodName)) ∈ lw_tbl := lw_at lw_m8 142 rfl
theorem q1869 : (Jvm.Cond.instanceMethod ({ cls := "TimberListModel", name := "isPossible", desc := "(IIII)Z" } : Jvm.MethodName)) ∈ lw_all := lw_g (lw_at lw_m8 143 rfl) rfl
theorem q1870 : (Jvm.Cond.code ({ cls := "TimberListModel", name := "isPossible", desc := "(IIII)Z" } : Jvm.MethodName) prog_10_method_26_code (5 : Nat) (Option.some Jvm.ClassFile.FieldType.boolean)) ∈ lw_all := lw_g (lw_at lw_m8 144 rfl) rfl
theorem q1871 : (Jvm.Cond.methodLink "TimberListModel" (110 : Nat) ({ cls := "TimberListModel", name := "onward", desc := "(IIII)I" } : Jvm.MethodName)) ∈ lw_all := lw_g (lw_at lw_m8 145 rfl) rfl
theorem q1872 : (Jvm.Cond.privateMethod ({ cls := "TimberListModel", name := "onward", desc := "(IIII)I" } : Jvm.MethodName)) ∈ lw_tbl := lw_at lw_m8 146 rfl
theorem q1873 : (Jvm.Cond.instanceMethod ({ cls := "TimberListModel", name := "onward", desc := "(IIII)I" } : Jvm.MethodName)) ∈ lw_all := lw_g (lw_at lw_m8 147 rfl) rfl
theorem q1874 : (Jvm.Cond.code ({ cls := "TimberListModel", name := "onward", desc := "(IIII)I" } : Jvm.MethodName) prog_10_method_25_code (6 : Nat) (Option.some Jvm.ClassFile.FieldType.int)) ∈ lw_all := lw_g (lw_at lw_m8 148 rfl) rfl
theorem q1875 : (Jvm.Cond.methodLink "TimberListModel" (107 : Nat) ({ cls := "TimberListModel", name := "width", desc := "(I)I" } : Jvm.MethodName)) ∈ lw_all := lw_g (lw_at lw_m8 149 rfl) rfl
theorem q1876 : (Jvm.Cond.privateMethod ({ cls := "TimberListModel", name := "width", desc := "(I)I" } : Jvm.MethodName)) ∈ lw_tbl := lw_at lw_m8 150 rfl
theorem q1877 : (Jvm.Cond.instanceMethod ({ cls := "TimberListModel", name := "width", desc := "(I)I" } : Jvm.MethodName)) ∈ lw_all := lw_g (lw_at lw_m8 151 rfl) rfl
theorem q1878 : (Jvm.Cond.code ({ cls := "TimberListModel", name := "width", desc := "(I)I" } : Jvm.MethodName) prog_10_method_8_code (2 : Nat) (Option.some Jvm.ClassFile.FieldType.int)) ∈ lw_all := lw_g (lw_at lw_m8 152 rfl) rfl
theorem q1880 : (Jvm.Cond.instanceMethod ({ cls := "TimberListModel", name := "earliest", desc := "(II)I" } : Jvm.MethodName)) ∈ lw_all := lw_g (lw_at lw_m8 154 rfl) rfl
theorem q1881 : (Jvm.Cond.selects "TimberListModel" ({ cls := "TimberListModel", name := "earliest", desc := "(II)I" } : Jvm.MethodName) ({ cls := "TimberListModel", name := "earliest", desc := "(II)I" } : Jvm.MethodName)) ∈ lw_all := lw_g (lw_at lw_m8 155 rfl) rfl
theorem q1882 : (Jvm.Cond.code ({ cls := "TimberListModel", name := "earliest", desc := "(II)I" } : Jvm.MethodName) prog_10_method_29_code (3 : Nat) (Option.some Jvm.ClassFile.FieldType.int)) ∈ lw_all := lw_g (lw_at lw_m8 156 rfl) rfl
theorem q1883 : (Jvm.Cond.methodLink "TimberListModel" (121 : Nat) ({ cls := "TimberListModel", name := "earliestOn", desc := "(II)I" } : Jvm.MethodName)) ∈ lw_all := lw_g (lw_at lw_m8 157 rfl) rfl
theorem q1884 : (Jvm.Cond.privateMethod ({ cls := "TimberListModel", name := "earliestOn", desc := "(II)I" } : Jvm.MethodName)) ∈ lw_tbl := lw_at lw_m8 158 rfl
theorem q1885 : (Jvm.Cond.instanceMethod ({ cls := "TimberListModel", name := "earliestOn", desc := "(II)I" } : Jvm.MethodName)) ∈ lw_all := lw_g (lw_at lw_m8 159 rfl) rfl
theorem q1886 : (Jvm.Cond.code ({ cls := "TimberListModel", name := "earliestOn", desc := "(II)I" } : Jvm.MethodName) prog_10_method_27_code (5 : Nat) (Option.some Jvm.ClassFile.FieldType.int)) ∈ lw_all := lw_g (lw_at lw_m8 160 rfl) rfl
theorem q1888 : (Jvm.Cond.instanceMethod ({ cls := "TimberListModel", name := "cut", desc := "(III)I" } : Jvm.MethodName)) ∈ lw_all := lw_g (lw_at lw_m8 162 rfl) rfl
theorem q1889 : (Jvm.Cond.selects "TimberListModel" ({ cls := "TimberListModel", name := "cut", desc := "(III)I" } : Jvm.MethodName) ({ cls := "TimberListModel", name := "cut", desc := "(III)I" } : Jvm.MethodName)) ∈ lw_all := lw_g (lw_at lw_m8 163 rfl) rfl
theorem q1890 : (Jvm.Cond.code ({ cls := "TimberListModel", name := "cut", desc := "(III)I" } : Jvm.MethodName) prog_10_method_32_code (4 : Nat) (Option.some Jvm.ClassFile.FieldType.int)) ∈ lw_all := lw_g (lw_at lw_m8 164 rfl) rfl
theorem q1891 : (Jvm.Cond.methodLink "TimberListModel" (124 : Nat) ({ cls := "TimberListModel", name := "add", desc := "(IIIIZ)V" } : Jvm.MethodName)) ∈ lw_all := lw_g (lw_at lw_m8 165 rfl) rfl
theorem q1892 : (Jvm.Cond.privateMethod ({ cls := "TimberListModel", name := "add", desc := "(IIIIZ)V" } : Jvm.MethodName)) ∈ lw_tbl := lw_at lw_m8 166 rfl
theorem q1893 : (Jvm.Cond.instanceMethod ({ cls := "TimberListModel", name := "add", desc := "(IIIIZ)V" } : Jvm.MethodName)) ∈ lw_all := lw_g (lw_at lw_m8 167 rfl) rfl
theorem q1894 : (Jvm.Cond.code ({ cls := "TimberListModel", name := "add", desc := "(IIIIZ)V" } : Jvm.MethodName) prog_10_method_30_code (6 : Nat) (Option.none : Option Jvm.ClassFile.FieldType)) ∈ lw_all := lw_g (lw_at lw_m8 168 rfl) rfl
theorem q1895 : (Jvm.Cond.methodLink "TimberListModel" (128 : Nat) ({ cls := "TimberListModel", name := "lessLeft", desc := "(I)I" } : Jvm.MethodName)) ∈ lw_all := lw_g (lw_at lw_m8 169 rfl) rfl
theorem q1896 : (Jvm.Cond.privateMethod ({ cls := "TimberListModel", name := "lessLeft", desc := "(I)I" } : Jvm.MethodName)) ∈ lw_tbl := lw_at lw_m8 170 rfl
theorem q1897 : (Jvm.Cond.instanceMethod ({ cls := "TimberListModel", name := "lessLeft", desc := "(I)I" } : Jvm.MethodName)) ∈ lw_all := lw_g (lw_at lw_m8 171 rfl) rfl
theorem q1898 : (Jvm.Cond.code ({ cls := "TimberListModel", name := "lessLeft", desc := "(I)I" } : Jvm.MethodName) prog_10_method_31_code (2 : Nat) (Option.some Jvm.ClassFile.FieldType.int)) ∈ lw_all := lw_g (lw_at lw_m8 172 rfl) rfl
theorem q1900 : (Jvm.Cond.instanceMethod ({ cls := "TimberListModel", name := "join", desc := "(IIIIII)I" } : Jvm.MethodName)) ∈ lw_all := lw_g (lw_at lw_m8 174 rfl) rfl
theorem q1901 : (Jvm.Cond.selects "TimberListModel" ({ cls := "TimberListModel", name := "join", desc := "(IIIIII)I" } : Jvm.MethodName) ({ cls := "TimberListModel", name := "join", desc := "(IIIIII)I" } : Jvm.MethodName)) ∈ lw_all := lw_g (lw_at lw_m8 175 rfl) rfl
theorem q1902 : (Jvm.Cond.code ({ cls := "TimberListModel", name := "join", desc := "(IIIIII)I" } : Jvm.MethodName) prog_10_method_33_code (8 : Nat) (Option.some Jvm.ClassFile.FieldType.int)) ∈ lw_all := lw_g (lw_at lw_m8 176 rfl) rfl
theorem q1904 : (Jvm.Cond.instanceMethod ({ cls := "TimberListModel", name := "undo", desc := "()I" } : Jvm.MethodName)) ∈ lw_all := lw_g (lw_at lw_m8 178 rfl) rfl
theorem q1905 : (Jvm.Cond.selects "TimberListModel" ({ cls := "TimberListModel", name := "undo", desc := "()I" } : Jvm.MethodName) ({ cls := "TimberListModel", name := "undo", desc := "()I" } : Jvm.MethodName)) ∈ lw_all := lw_g (lw_at lw_m8 179 rfl) rfl
theorem q1906 : (Jvm.Cond.code ({ cls := "TimberListModel", name := "undo", desc := "()I" } : Jvm.MethodName) prog_10_method_34_code (2 : Nat) (Option.some Jvm.ClassFile.FieldType.int)) ∈ lw_all := lw_g (lw_at lw_m8 180 rfl) rfl
theorem q1908 : (Jvm.Cond.instanceMethod ({ cls := "TimberListModel", name := "plan", desc := "()I" } : Jvm.MethodName)) ∈ lw_all := lw_g (lw_at lw_m8 182 rfl) rfl
theorem q1909 : (Jvm.Cond.selects "TimberListModel" ({ cls := "TimberListModel", name := "plan", desc := "()I" } : Jvm.MethodName) ({ cls := "TimberListModel", name := "plan", desc := "()I" } : Jvm.MethodName)) ∈ lw_all := lw_g (lw_at lw_m8 183 rfl) rfl
theorem q1910 : (Jvm.Cond.code ({ cls := "TimberListModel", name := "plan", desc := "()I" } : Jvm.MethodName) prog_10_method_39_code (2 : Nat) (Option.some Jvm.ClassFile.FieldType.int)) ∈ lw_all := lw_g (lw_at lw_m8 184 rfl) rfl
theorem q1911 : (Jvm.Cond.methodLink "TimberListModel" (140 : Nat) ({ cls := "TimberListModel", name := "planOne", desc := "()Z" } : Jvm.MethodName)) ∈ lw_all := lw_g (lw_at lw_m8 185 rfl) rfl
theorem q1912 : (Jvm.Cond.privateMethod ({ cls := "TimberListModel", name := "planOne", desc := "()Z" } : Jvm.MethodName)) ∈ lw_tbl := lw_at lw_m8 186 rfl
theorem q1913 : (Jvm.Cond.instanceMethod ({ cls := "TimberListModel", name := "planOne", desc := "()Z" } : Jvm.MethodName)) ∈ lw_all := lw_g (lw_at lw_m8 187 rfl) rfl
theorem q1914 : (Jvm.Cond.code ({ cls := "TimberListModel", name := "planOne", desc := "()Z" } : Jvm.MethodName) prog_10_method_38_code (7 : Nat) (Option.some Jvm.ClassFile.FieldType.boolean)) ∈ lw_all := lw_g (lw_at lw_m8 188 rfl) rfl
theorem q1915 : (Jvm.Cond.methodLink "TimberListModel" (131 : Nat) ({ cls := "TimberListModel", name := "isAhead", desc := "(II)Z" } : Jvm.MethodName)) ∈ lw_all := lw_g (lw_at lw_m8 189 rfl) rfl
theorem q1916 : (Jvm.Cond.privateMethod ({ cls := "TimberListModel", name := "isAhead", desc := "(II)Z" } : Jvm.MethodName)) ∈ lw_tbl := lw_at lw_m8 190 rfl
theorem q1917 : (Jvm.Cond.instanceMethod ({ cls := "TimberListModel", name := "isAhead", desc := "(II)Z" } : Jvm.MethodName)) ∈ lw_all := lw_g (lw_at lw_m8 191 rfl) rfl
theorem q1918 : (Jvm.Cond.code ({ cls := "TimberListModel", name := "isAhead", desc := "(II)Z" } : Jvm.MethodName) prog_10_method_37_code (3 : Nat) (Option.some Jvm.ClassFile.FieldType.boolean)) ∈ lw_all := lw_g (lw_at lw_m8 192 rfl) rfl
theorem q1919 : (Jvm.Cond.methodLink "TimberListModel" (134 : Nat) ({ cls := "TimberListModel", name := "roomTo", desc := "(II)I" } : Jvm.MethodName)) ∈ lw_all := lw_g (lw_at lw_m8 193 rfl) rfl
theorem q1920 : (Jvm.Cond.privateMethod ({ cls := "TimberListModel", name := "roomTo", desc := "(II)I" } : Jvm.MethodName)) ∈ lw_tbl := lw_at lw_m8 194 rfl
theorem q1921 : (Jvm.Cond.instanceMethod ({ cls := "TimberListModel", name := "roomTo", desc := "(II)I" } : Jvm.MethodName)) ∈ lw_all := lw_g (lw_at lw_m8 195 rfl) rfl
theorem q1922 : (Jvm.Cond.code ({ cls := "TimberListModel", name := "roomTo", desc := "(II)I" } : Jvm.MethodName) prog_10_method_36_code (5 : Nat) (Option.some Jvm.ClassFile.FieldType.int)) ∈ lw_all := lw_g (lw_at lw_m8 196 rfl) rfl
theorem q1923 : (Jvm.Cond.methodLink "TimberListModel" (137 : Nat) ({ cls := "TimberListModel", name := "roomFrom", desc := "(II)I" } : Jvm.MethodName)) ∈ lw_all := lw_g (lw_at lw_m8 197 rfl) rfl
theorem q1924 : (Jvm.Cond.privateMethod ({ cls := "TimberListModel", name := "roomFrom", desc := "(II)I" } : Jvm.MethodName)) ∈ lw_tbl := lw_at lw_m8 198 rfl
theorem q1925 : (Jvm.Cond.instanceMethod ({ cls := "TimberListModel", name := "roomFrom", desc := "(II)I" } : Jvm.MethodName)) ∈ lw_all := lw_g (lw_at lw_m8 199 rfl) rfl
theorem q1926 : (Jvm.Cond.code ({ cls := "TimberListModel", name := "roomFrom", desc := "(II)I" } : Jvm.MethodName) prog_10_method_35_code (5 : Nat) (Option.some Jvm.ClassFile.FieldType.int)) ∈ lw_all := lw_g (lw_at lw_m8 200 rfl) rfl
theorem q1928 : (Jvm.Cond.instanceMethod ({ cls := "TimberListModel", name := "left", desc := "(I)I" } : Jvm.MethodName)) ∈ lw_all := lw_g (lw_at lw_m8 202 rfl) rfl
theorem q1929 : (Jvm.Cond.selects "TimberListModel" ({ cls := "TimberListModel", name := "left", desc := "(I)I" } : Jvm.MethodName) ({ cls := "TimberListModel", name := "left", desc := "(I)I" } : Jvm.MethodName)) ∈ lw_all := lw_g (lw_at lw_m8 203 rfl) rfl
theorem q1930 : (Jvm.Cond.code ({ cls := "TimberListModel", name := "left", desc := "(I)I" } : Jvm.MethodName) prog_10_method_40_code (2 : Nat) (Option.some Jvm.ClassFile.FieldType.int)) ∈ lw_all := lw_g (lw_at lw_m8 204 rfl) rfl
theorem q1932 : (Jvm.Cond.instanceMethod ({ cls := "TimberListModel", name := "pieces", desc := "(I)I" } : Jvm.MethodName)) ∈ lw_all := lw_g (lw_at lw_m8 206 rfl) rfl
theorem q1933 : (Jvm.Cond.selects "TimberListModel" ({ cls := "TimberListModel", name := "pieces", desc := "(I)I" } : Jvm.MethodName) ({ cls := "TimberListModel", name := "pieces", desc := "(I)I" } : Jvm.MethodName)) ∈ lw_all := lw_g (lw_at lw_m8 207 rfl) rfl
theorem q1934 : (Jvm.Cond.code ({ cls := "TimberListModel", name := "pieces", desc := "(I)I" } : Jvm.MethodName) prog_10_method_42_code (2 : Nat) (Option.some Jvm.ClassFile.FieldType.int)) ∈ lw_all := lw_g (lw_at lw_m8 208 rfl) rfl
theorem q1935 : (Jvm.Cond.methodLink "TimberListModel" (144 : Nat) ({ cls := "TimberListModel", name := "piecesOf", desc := "(I)I" } : Jvm.MethodName)) ∈ lw_all := lw_g (lw_at lw_m8 209 rfl) rfl
theorem q1936 : (Jvm.Cond.privateMethod ({ cls := "TimberListModel", name := "piecesOf", desc := "(I)I" } : Jvm.MethodName)) ∈ lw_tbl := lw_at lw_m8 210 rfl
theorem q1937 : (Jvm.Cond.instanceMethod ({ cls := "TimberListModel", name := "piecesOf", desc := "(I)I" } : Jvm.MethodName)) ∈ lw_all := lw_g (lw_at lw_m8 211 rfl) rfl
theorem q1938 : (Jvm.Cond.code ({ cls := "TimberListModel", name := "piecesOf", desc := "(I)I" } : Jvm.MethodName) prog_10_method_41_code (4 : Nat) (Option.some Jvm.ClassFile.FieldType.int)) ∈ lw_all := lw_g (lw_at lw_m8 212 rfl) rfl
theorem q1940 : (Jvm.Cond.instanceMethod ({ cls := "TimberListModel", name := "piece", desc := "(III)I" } : Jvm.MethodName)) ∈ lw_all := lw_g (lw_at lw_m8 214 rfl) rfl
theorem q1941 : (Jvm.Cond.selects "TimberListModel" ({ cls := "TimberListModel", name := "piece", desc := "(III)I" } : Jvm.MethodName) ({ cls := "TimberListModel", name := "piece", desc := "(III)I" } : Jvm.MethodName)) ∈ lw_all := lw_g (lw_at lw_m8 215 rfl) rfl
theorem q1942 : (Jvm.Cond.code ({ cls := "TimberListModel", name := "piece", desc := "(III)I" } : Jvm.MethodName) prog_10_method_45_code (6 : Nat) (Option.some Jvm.ClassFile.FieldType.int)) ∈ lw_all := lw_g (lw_at lw_m8 216 rfl) rfl
theorem q1943 : (Jvm.Cond.methodLink "TimberListModel" (147 : Nat) ({ cls := "TimberListModel", name := "pieceFrom", desc := "(II)I" } : Jvm.MethodName)) ∈ lw_all := lw_g (lw_at lw_m8 217 rfl) rfl
theorem q1944 : (Jvm.Cond.privateMethod ({ cls := "TimberListModel", name := "pieceFrom", desc := "(II)I" } : Jvm.MethodName)) ∈ lw_tbl := lw_at lw_m8 218 rfl
theorem q1945 : (Jvm.Cond.instanceMethod ({ cls := "TimberListModel", name := "pieceFrom", desc := "(II)I" } : Jvm.MethodName)) ∈ lw_all := lw_g (lw_at lw_m8 219 rfl) rfl
theorem q1946 : (Jvm.Cond.code ({ cls := "TimberListModel", name := "pieceFrom", desc := "(II)I" } : Jvm.MethodName) prog_10_method_43_code (5 : Nat) (Option.some Jvm.ClassFile.FieldType.int)) ∈ lw_all := lw_g (lw_at lw_m8 220 rfl) rfl
theorem q1947 : (Jvm.Cond.methodLink "TimberListModel" (150 : Nat) ({ cls := "TimberListModel", name := "told", desc := "(II)I" } : Jvm.MethodName)) ∈ lw_all := lw_g (lw_at lw_m8 221 rfl) rfl
theorem q1948 : (Jvm.Cond.privateMethod ({ cls := "TimberListModel", name := "told", desc := "(II)I" } : Jvm.MethodName)) ∈ lw_tbl := lw_at lw_m8 222 rfl
theorem q1949 : (Jvm.Cond.instanceMethod ({ cls := "TimberListModel", name := "told", desc := "(II)I" } : Jvm.MethodName)) ∈ lw_all := lw_g (lw_at lw_m8 223 rfl) rfl
theorem q1950 : (Jvm.Cond.code ({ cls := "TimberListModel", name := "told", desc := "(II)I" } : Jvm.MethodName) prog_10_method_44_code (3 : Nat) (Option.some Jvm.ClassFile.FieldType.int)) ∈ lw_all := lw_g (lw_at lw_m8 224 rfl) rfl
theorem q1952 : (Jvm.Cond.instanceMethod ({ cls := "TimberListModel", name := "cuts", desc := "(I)I" } : Jvm.MethodName)) ∈ lw_all := lw_g (lw_at lw_m8 226 rfl) rfl
theorem q1953 : (Jvm.Cond.selects "TimberListModel" ({ cls := "TimberListModel", name := "cuts", desc := "(I)I" } : Jvm.MethodName) ({ cls := "TimberListModel", name := "cuts", desc := "(I)I" } : Jvm.MethodName)) ∈ lw_all := lw_g (lw_at lw_m8 227 rfl) rfl
theorem q1954 : (Jvm.Cond.code ({ cls := "TimberListModel", name := "cuts", desc := "(I)I" } : Jvm.MethodName) prog_10_method_46_code (5 : Nat) (Option.some Jvm.ClassFile.FieldType.int)) ∈ lw_all := lw_g (lw_at lw_m8 228 rfl) rfl
theorem q1956 : (Jvm.Cond.instanceMethod ({ cls := "TimberListModel", name := "longestRoom", desc := "(I)I" } : Jvm.MethodName)) ∈ lw_all := lw_g (lw_at lw_m8 230 rfl) rfl
theorem q1957 : (Jvm.Cond.selects "TimberListModel" ({ cls := "TimberListModel", name := "longestRoom", desc := "(I)I" } : Jvm.MethodName) ({ cls := "TimberListModel", name := "longestRoom", desc := "(I)I" } : Jvm.MethodName)) ∈ lw_all := lw_g (lw_at lw_m8 231 rfl) rfl
theorem q1958 : (Jvm.Cond.code ({ cls := "TimberListModel", name := "longestRoom", desc := "(I)I" } : Jvm.MethodName) prog_10_method_47_code (5 : Nat) (Option.some Jvm.ClassFile.FieldType.int)) ∈ lw_all := lw_g (lw_at lw_m8 232 rfl) rfl
theorem q1960 : (Jvm.Cond.instanceMethod ({ cls := "TimberListModel", name := "bestUse", desc := "(III)I" } : Jvm.MethodName)) ∈ lw_all := lw_g (lw_at lw_m8 234 rfl) rfl
theorem q1961 : (Jvm.Cond.selects "TimberListModel" ({ cls := "TimberListModel", name := "bestUse", desc := "(III)I" } : Jvm.MethodName) ({ cls := "TimberListModel", name := "bestUse", desc := "(III)I" } : Jvm.MethodName)) ∈ lw_all := lw_g (lw_at lw_m8 235 rfl) rfl
theorem q1962 : (Jvm.Cond.code ({ cls := "TimberListModel", name := "bestUse", desc := "(III)I" } : Jvm.MethodName) prog_10_method_48_code (10 : Nat) (Option.some Jvm.ClassFile.FieldType.int)) ∈ lw_all := lw_g (lw_at lw_m8 236 rfl) rfl
theorem q1964 : (Jvm.Cond.instanceMethod ({ cls := "TimberListModel", name := "used", desc := "()D" } : Jvm.MethodName)) ∈ lw_all := lw_g (lw_at lw_m8 238 rfl) rfl
theorem q1965 : (Jvm.Cond.selects "TimberListModel" ({ cls := "TimberListModel", name := "used", desc := "()D" } : Jvm.MethodName) ({ cls := "TimberListModel", name := "used", desc := "()D" } : Jvm.MethodName)) ∈ lw_all := lw_g (lw_at lw_m8 239 rfl) rfl
theorem q1966 : (Jvm.Cond.code ({ cls := "TimberListModel", name := "used", desc := "()D" } : Jvm.MethodName) prog_10_method_49_code (7 : Nat) (Option.some Jvm.ClassFile.FieldType.double)) ∈ lw_all := lw_g (lw_at lw_m9 0 rfl) rfl
theorem q1968 : (Jvm.Cond.instanceMethod ({ cls := "TimberListModel", name := "digest", desc := "()J" } : Jvm.MethodName)) ∈ lw_all := lw_g (lw_at lw_m9 2 rfl) rfl
theorem q1969 : (Jvm.Cond.selects "TimberListModel" ({ cls := "TimberListModel", name := "digest", desc := "()J" } : Jvm.MethodName) ({ cls := "TimberListModel", name := "digest", desc := "()J" } : Jvm.MethodName)) ∈ lw_all := lw_g (lw_at lw_m9 3 rfl) rfl
theorem q1970 : (Jvm.Cond.code ({ cls := "TimberListModel", name := "digest", desc := "()J" } : Jvm.MethodName) prog_10_method_50_code (6 : Nat) (Option.some Jvm.ClassFile.FieldType.long)) ∈ lw_all := lw_g (lw_at lw_m9 4 rfl) rfl
theorem q1971 : (Jvm.Cond.constantLong "TimberListModel" (153 : Nat) (8339 : Int64)) ∈ lw_all := lw_g (lw_at lw_m9 5 rfl) rfl
theorem q1972 : (Jvm.Cond.constantLong "TimberListModel" (155 : Nat) (31 : Int64)) ∈ lw_all := lw_g (lw_at lw_m9 6 rfl) rfl
theorem q1992 : (Jvm.Cond.castable "TimberListModel" "java/lang/Object") ∈ lw_tbl := lw_at lw_m9 26 rfl
theorem in_X2 : ∀ w ∈ wsX20, w ∈ lw_all := lw_in wsX20 [1742, 1744, 1746, 1748, 1750, 1752, 1754, 1756, 1758, 1760, 1762, 1764, 1766, 1768, 1770] (by decide +kernel) (by decide +kernel)

/-! java/util/AbstractMap -/
set_option maxRecDepth 100000
def RJ20 : String := "java/util/AbstractMap"
abbrev cJ20_init : ByteArray := prog_39_method_1_code
def yJ20_init : MethodName := ⟨RJ20, "<init>", "()V"⟩
theorem dJ20_init_0 : decode cJ20_init 0 = .ok (.aload_n 0, 1) := by decide +kernel
theorem dJ20_init_1 : decode cJ20_init 1 = .ok (.invokespecial 1, 3) := by decide +kernel
theorem dJ20_init_4 : decode cJ20_init 4 = .ok (.return_, 1) := by decide +kernel
theorem q73 : (Jvm.Cond.initialized "java/util/AbstractMap") ∈ lw_all := lw_g (lw_at lw_m1 27 rfl) rfl
theorem q415 : (Jvm.Cond.instanceMethod ({ cls := "java/util/AbstractMap", name := "<init>", desc := "()V" } : Jvm.MethodName)) ∈ lw_all := lw_g (lw_at lw_m2 129 rfl) rfl
theorem q416 : (Jvm.Cond.code ({ cls := "java/util/AbstractMap", name := "<init>", desc := "()V" } : Jvm.MethodName) prog_39_method_1_code (1 : Nat) (Option.none : Option Jvm.ClassFile.FieldType)) ∈ lw_all := lw_g (lw_at lw_m2 130 rfl) rfl
theorem q417 : (Jvm.Cond.methodLink "java/util/AbstractMap" (1 : Nat) ({ cls := "java/lang/Object", name := "<init>", desc := "()V" } : Jvm.MethodName)) ∈ lw_all := lw_g (lw_at lw_m2 131 rfl) rfl
theorem q439 : (Jvm.Cond.soleField "java/util/AbstractMap" "keySet") ∈ lw_all := lw_g (lw_at lw_m2 153 rfl) rfl
theorem q441 : (Jvm.Cond.soleField "java/util/AbstractMap" "values") ∈ lw_all := lw_g (lw_at lw_m2 155 rfl) rfl

/-! java/util/TreeMap -/
set_option maxRecDepth 100000
def RJ21 : String := "java/util/TreeMap"
def TJ21 : u_T := fun k => match k with
  | 0 => ("java/util/AbstractMap", "keySet", "Ljava/util/Set;", false)
  | 1 => ("java/util/AbstractMap", "values", "Ljava/util/Collection;", false)
  | 2 => ("java/util/TreeMap", "comparator", "Ljava/util/Comparator;", true)
  | 3 => ("java/util/TreeMap", "root", "Ljava/util/TreeMap$Entry;", false)
  | 4 => ("java/util/TreeMap", "size", "I", false)
  | 5 => ("java/util/TreeMap", "modCount", "I", false)
  | 6 => ("java/util/TreeMap", "entrySet", "Ljava/util/TreeMap$EntrySet;", false)
  | 7 => ("java/util/TreeMap", "navigableKeySet", "Ljava/util/TreeMap$KeySet;", false)
  | _ => ("java/util/TreeMap", "descendingMap", "Ljava/util/NavigableMap;", false)
def tyJ21 : Nat → FieldType := fun k => match k with
  | 0 => .object "java/util/Set"
  | 1 => .object "java/util/Collection"
  | 2 => .object "java/util/Comparator"
  | 3 => .object "java/util/TreeMap$Entry"
  | 4 => .int
  | 5 => .int
  | 6 => .object "java/util/TreeMap$EntrySet"
  | 7 => .object "java/util/TreeMap$KeySet"
  | _ => .object "java/util/NavigableMap"
abbrev wsJ210 : List Cond := u_ws RJ21 TJ21 9
theorem nmJ21 : ∀ a, a < 9 → ∀ b, b < 9 → a ≠ b → (TJ21 a).2.1 ≠ (TJ21 b).2.1 := by decide +kernel
theorem tyJ21_ok : ∀ k, k < 9 → parseFieldDescriptor (TJ21 k).2.2.1 = some (tyJ21 k) := by decide +kernel
abbrev cJ21_successor : ByteArray := prog_66_method_74_code
def yJ21_successor : MethodName := ⟨RJ21, "successor", "(Ljava/util/TreeMap$Entry;)Ljava/util/TreeMap$Entry;"⟩
def dkwJ21_successor_2 : List UInt8 := [44, 43, 180, 0, 114, 166, 0, 13, 43, 77, 43, 180, 0, 124, 76, 167, 255, 237, 43, 176]
abbrev dktJ21_successor_2 : List UInt8 := dkwJ21_successor_2 ++ []
def dkwJ21_successor_1 : List UInt8 := [198, 0, 11, 43, 180, 0, 111, 76, 167, 255, 244, 43, 176, 42, 180, 0, 124, 76, 42, 77, 43, 198, 0, 21]
abbrev dktJ21_successor_1 : List UInt8 := dkwJ21_successor_1 ++ dktJ21_successor_2
def dkwJ21_successor_0 : List UInt8 := [42, 199, 0, 5, 1, 176, 42, 180, 0, 114, 198, 0, 25, 42, 180, 0, 114, 76, 43, 180, 0, 111]
abbrev dktJ21_successor_0 : List UInt8 := dkwJ21_successor_0 ++ dktJ21_successor_1
theorem dksJ21_successor_0 : cJ21_successor.data.toList.drop 0 = dktJ21_successor_0 := by decide +kernel
theorem dksJ21_successor_1 : cJ21_successor.data.toList.drop 22 = dktJ21_successor_1 := dk_seg dksJ21_successor_0 22 rfl rfl
theorem dksJ21_successor_2 : cJ21_successor.data.toList.drop 46 = dktJ21_successor_2 := dk_seg dksJ21_successor_1 24 rfl rfl
theorem dJ21_successor_0 : decode cJ21_successor 0 = .ok (.aload_n 0, 1) := dk_42 (dk_at dksJ21_successor_0 0 rfl rfl)
theorem dJ21_successor_1 : decode cJ21_successor 1 = .ok (.ifnonnull 5, 3) := dk_199 0 5 (dk_at dksJ21_successor_0 1 rfl rfl)
theorem dJ21_successor_4 : decode cJ21_successor 4 = .ok (.aconst_null, 1) := dk_1 (dk_at dksJ21_successor_0 4 rfl rfl)
theorem dJ21_successor_5 : decode cJ21_successor 5 = .ok (.areturn, 1) := dk_176 (dk_at dksJ21_successor_0 5 rfl rfl)
theorem dJ21_successor_6 : decode cJ21_successor 6 = .ok (.aload_n 0, 1) := dk_42 (dk_at dksJ21_successor_0 6 rfl rfl)
theorem dJ21_successor_7 : decode cJ21_successor 7 = .ok (.getfield 114, 3) := dk_180 0 114 (dk_at dksJ21_successor_0 7 rfl rfl)
theorem dJ21_successor_10 : decode cJ21_successor 10 = .ok (.ifnull 25, 3) := dk_198 0 25 (dk_at dksJ21_successor_0 10 rfl rfl)
theorem dJ21_successor_13 : decode cJ21_successor 13 = .ok (.aload_n 0, 1) := dk_42 (dk_at dksJ21_successor_0 13 rfl rfl)
theorem dJ21_successor_14 : decode cJ21_successor 14 = .ok (.getfield 114, 3) := dk_180 0 114 (dk_at dksJ21_successor_0 14 rfl rfl)
theorem dJ21_successor_17 : decode cJ21_successor 17 = .ok (.astore_n 1, 1) := dk_76 (dk_at dksJ21_successor_0 17 rfl rfl)
theorem dJ21_successor_18 : decode cJ21_successor 18 = .ok (.aload_n 1, 1) := dk_43 (dk_at dksJ21_successor_0 18 rfl rfl)
theorem dJ21_successor_19 : decode cJ21_successor 19 = .ok (.getfield 111, 3) := dk_180 0 111 (dk_at dksJ21_successor_0 19 rfl rfl)
theorem dJ21_successor_22 : decode cJ21_successor 22 = .ok (.ifnull 11, 3) := dk_198 0 11 (dk_at dksJ21_successor_1 0 rfl rfl)
theorem dJ21_successor_25 : decode cJ21_successor 25 = .ok (.aload_n 1, 1) := dk_43 (dk_at dksJ21_successor_1 3 rfl rfl)
theorem dJ21_successor_26 : decode cJ21_successor 26 = .ok (.getfield 111, 3) := dk_180 0 111 (dk_at dksJ21_successor_1 4 rfl rfl)
theorem dJ21_successor_29 : decode cJ21_successor 29 = .ok (.astore_n 1, 1) := dk_76 (dk_at dksJ21_successor_1 7 rfl rfl)
theorem dJ21_successor_30 : decode cJ21_successor 30 = .ok (.goto (-12), 3) := dk_167 255 244 (dk_at dksJ21_successor_1 8 rfl rfl)
theorem dJ21_successor_33 : decode cJ21_successor 33 = .ok (.aload_n 1, 1) := dk_43 (dk_at dksJ21_successor_1 11 rfl rfl)
theorem dJ21_successor_34 : decode cJ21_successor 34 = .ok (.areturn, 1) := dk_176 (dk_at dksJ21_successor_1 12 rfl rfl)
theorem dJ21_successor_35 : decode cJ21_successor 35 = .ok (.aload_n 0, 1) := dk_42 (dk_at dksJ21_successor_1 13 rfl rfl)
theorem dJ21_successor_36 : decode cJ21_successor 36 = .ok (.getfield 124, 3) := dk_180 0 124 (dk_at dksJ21_successor_1 14 rfl rfl)
theorem dJ21_successor_39 : decode cJ21_successor 39 = .ok (.astore_n 1, 1) := dk_76 (dk_at dksJ21_successor_1 17 rfl rfl)
theorem dJ21_successor_40 : decode cJ21_successor 40 = .ok (.aload_n 0, 1) := dk_42 (dk_at dksJ21_successor_1 18 rfl rfl)
theorem dJ21_successor_41 : decode cJ21_successor 41 = .ok (.astore_n 2, 1) := dk_77 (dk_at dksJ21_successor_1 19 rfl rfl)
theorem dJ21_successor_42 : decode cJ21_successor 42 = .ok (.aload_n 1, 1) := dk_43 (dk_at dksJ21_successor_1 20 rfl rfl)
theorem dJ21_successor_43 : decode cJ21_successor 43 = .ok (.ifnull 21, 3) := dk_198 0 21 (dk_at dksJ21_successor_1 21 rfl rfl)
theorem dJ21_successor_46 : decode cJ21_successor 46 = .ok (.aload_n 2, 1) := dk_44 (dk_at dksJ21_successor_2 0 rfl rfl)
theorem dJ21_successor_47 : decode cJ21_successor 47 = .ok (.aload_n 1, 1) := dk_43 (dk_at dksJ21_successor_2 1 rfl rfl)
theorem dJ21_successor_48 : decode cJ21_successor 48 = .ok (.getfield 114, 3) := dk_180 0 114 (dk_at dksJ21_successor_2 2 rfl rfl)
theorem dJ21_successor_51 : decode cJ21_successor 51 = .ok (.if_acmp .ne 13, 3) := dk_166 0 13 (dk_at dksJ21_successor_2 5 rfl rfl)
theorem dJ21_successor_54 : decode cJ21_successor 54 = .ok (.aload_n 1, 1) := dk_43 (dk_at dksJ21_successor_2 8 rfl rfl)
theorem dJ21_successor_55 : decode cJ21_successor 55 = .ok (.astore_n 2, 1) := dk_77 (dk_at dksJ21_successor_2 9 rfl rfl)
theorem dJ21_successor_56 : decode cJ21_successor 56 = .ok (.aload_n 1, 1) := dk_43 (dk_at dksJ21_successor_2 10 rfl rfl)
theorem dJ21_successor_57 : decode cJ21_successor 57 = .ok (.getfield 124, 3) := dk_180 0 124 (dk_at dksJ21_successor_2 11 rfl rfl)
theorem dJ21_successor_60 : decode cJ21_successor 60 = .ok (.astore_n 1, 1) := dk_76 (dk_at dksJ21_successor_2 14 rfl rfl)
theorem dJ21_successor_61 : decode cJ21_successor 61 = .ok (.goto (-19), 3) := dk_167 255 237 (dk_at dksJ21_successor_2 15 rfl rfl)
theorem dJ21_successor_64 : decode cJ21_successor 64 = .ok (.aload_n 1, 1) := dk_43 (dk_at dksJ21_successor_2 18 rfl rfl)
theorem dJ21_successor_65 : decode cJ21_successor 65 = .ok (.areturn, 1) := dk_176 (dk_at dksJ21_successor_2 19 rfl rfl)
abbrev cJ21_init : ByteArray := prog_66_method_1_code
def yJ21_init : MethodName := ⟨RJ21, "<init>", "()V"⟩
def dkwJ21_init_0 : List UInt8 := [42, 183, 0, 1, 42, 3, 181, 0, 7, 42, 3, 181, 0, 13, 42, 1, 181, 0, 16, 177]
abbrev dktJ21_init_0 : List UInt8 := dkwJ21_init_0 ++ []
theorem dksJ21_init_0 : cJ21_init.data.toList.drop 0 = dktJ21_init_0 := by decide +kernel
theorem dJ21_init_0 : decode cJ21_init 0 = .ok (.aload_n 0, 1) := dk_42 (dk_at dksJ21_init_0 0 rfl rfl)
theorem dJ21_init_1 : decode cJ21_init 1 = .ok (.invokespecial 1, 3) := dk_183 0 1 (dk_at dksJ21_init_0 1 rfl rfl)
theorem dJ21_init_4 : decode cJ21_init 4 = .ok (.aload_n 0, 1) := dk_42 (dk_at dksJ21_init_0 4 rfl rfl)
theorem dJ21_init_5 : decode cJ21_init 5 = .ok (.iconst 0, 1) := dk_3 (dk_at dksJ21_init_0 5 rfl rfl)
theorem dJ21_init_6 : decode cJ21_init 6 = .ok (.putfield 7, 3) := dk_181 0 7 (dk_at dksJ21_init_0 6 rfl rfl)
theorem dJ21_init_9 : decode cJ21_init 9 = .ok (.aload_n 0, 1) := dk_42 (dk_at dksJ21_init_0 9 rfl rfl)
theorem dJ21_init_10 : decode cJ21_init 10 = .ok (.iconst 0, 1) := dk_3 (dk_at dksJ21_init_0 10 rfl rfl)
theorem dJ21_init_11 : decode cJ21_init 11 = .ok (.putfield 13, 3) := dk_181 0 13 (dk_at dksJ21_init_0 11 rfl rfl)
theorem dJ21_init_14 : decode cJ21_init 14 = .ok (.aload_n 0, 1) := dk_42 (dk_at dksJ21_init_0 14 rfl rfl)
theorem dJ21_init_15 : decode cJ21_init 15 = .ok (.aconst_null, 1) := dk_1 (dk_at dksJ21_init_0 15 rfl rfl)
theorem dJ21_init_16 : decode cJ21_init 16 = .ok (.putfield 16, 3) := dk_181 0 16 (dk_at dksJ21_init_0 16 rfl rfl)
theorem dJ21_init_19 : decode cJ21_init 19 = .ok (.return_, 1) := dk_177 (dk_at dksJ21_init_0 19 rfl rfl)
abbrev cJ21_put : ByteArray := prog_66_method_21_code
def yJ21_put : MethodName := ⟨RJ21, "put", "(Ljava/lang/Object;Ljava/lang/Object;)Ljava/lang/Object;"⟩
def dkwJ21_put_0 : List UInt8 := [42, 43, 44, 4, 182, 0, 127, 176]
abbrev dktJ21_put_0 : List UInt8 := dkwJ21_put_0 ++ []
theorem dksJ21_put_0 : cJ21_put.data.toList.drop 0 = dktJ21_put_0 := by decide +kernel
theorem dJ21_put_0 : decode cJ21_put 0 = .ok (.aload_n 0, 1) := dk_42 (dk_at dksJ21_put_0 0 rfl rfl)
theorem dJ21_put_1 : decode cJ21_put 1 = .ok (.aload_n 1, 1) := dk_43 (dk_at dksJ21_put_0 1 rfl rfl)
theorem dJ21_put_2 : decode cJ21_put 2 = .ok (.aload_n 2, 1) := dk_44 (dk_at dksJ21_put_0 2 rfl rfl)
theorem dJ21_put_3 : decode cJ21_put 3 = .ok (.iconst 1, 1) := dk_4 (dk_at dksJ21_put_0 3 rfl rfl)
theorem dJ21_put_4 : decode cJ21_put 4 = .ok (.invokevirtual 127, 3) := dk_182 0 127 (dk_at dksJ21_put_0 4 rfl rfl)
theorem dJ21_put_7 : decode cJ21_put 7 = .ok (.areturn, 1) := dk_176 (dk_at dksJ21_put_0 7 rfl rfl)
abbrev cJ21_put_2 : ByteArray := prog_66_method_31_code
def yJ21_put_2 : MethodName := ⟨RJ21, "put", "(Ljava/lang/Object;Ljava/lang/Object;Z)Ljava/lang/Object;"⟩
def dkwJ21_put_2_9 : List UInt8 := [4, 167, 0, 4, 3, 182, 0, 139, 1, 176]
abbrev dktJ21_put_2_9 : List UInt8 := dkwJ21_put_2_9 ++ []
def dkwJ21_put_2_8 : List UInt8 := [25, 4, 44, 181, 0, 58, 25, 9, 176, 25, 4, 199, 255, 181, 42, 43, 44, 25, 6, 21, 5, 156, 0, 7]
abbrev dktJ21_put_2_8 : List UInt8 := dkwJ21_put_2_8 ++ dktJ21_put_2_9
def dkwJ21_put_2_7 : List UInt8 := [180, 0, 114, 58, 4, 167, 0, 28, 25, 4, 180, 0, 58, 58, 9, 29, 154, 0, 8, 25, 9, 199, 0, 9]
abbrev dktJ21_put_2_7 : List UInt8 := dkwJ21_put_2_7 ++ dktJ21_put_2_8
def dkwJ21_put_2_6 : List UInt8 := [21, 5, 156, 0, 13, 25, 4, 180, 0, 111, 58, 4, 167, 0, 43, 21, 5, 158, 0, 13, 25, 4]
abbrev dktJ21_put_2_6 : List UInt8 := dkwJ21_put_2_6 ++ dktJ21_put_2_7
def dkwJ21_put_2_5 : List UInt8 := [192, 0, 99, 58, 8, 25, 4, 58, 6, 25, 8, 25, 4, 180, 0, 105, 185, 0, 107, 2, 0, 54, 5]
abbrev dktJ21_put_2_5 : List UInt8 := dkwJ21_put_2_5 ++ dktJ21_put_2_6
def dkwJ21_put_2_4 : List UInt8 := [25, 4, 44, 181, 0, 58, 25, 8, 176, 25, 4, 199, 255, 180, 167, 0, 92, 43, 184, 0, 95, 87, 43]
abbrev dktJ21_put_2_4 : List UInt8 := dkwJ21_put_2_4 ++ dktJ21_put_2_5
def dkwJ21_put_2_3 : List UInt8 := [180, 0, 114, 58, 4, 167, 0, 28, 25, 4, 180, 0, 58, 58, 8, 29, 154, 0, 8, 25, 8, 199, 0, 9]
abbrev dktJ21_put_2_3 : List UInt8 := dkwJ21_put_2_3 ++ dktJ21_put_2_4
def dkwJ21_put_2_2 : List UInt8 := [54, 5, 21, 5, 156, 0, 13, 25, 4, 180, 0, 111, 58, 4, 167, 0, 43, 21, 5, 158, 0, 13, 25, 4]
abbrev dktJ21_put_2_2 : List UInt8 := dkwJ21_put_2_2 ++ dktJ21_put_2_3
def dkwJ21_put_2_1 : List UInt8 := [58, 7, 25, 7, 198, 0, 85, 25, 4, 58, 6, 25, 7, 43, 25, 4, 180, 0, 105, 185, 0, 117, 3, 0]
abbrev dktJ21_put_2_1 : List UInt8 := dkwJ21_put_2_1 ++ dktJ21_put_2_2
def dkwJ21_put_2_0 : List UInt8 := [42, 180, 0, 101, 58, 4, 25, 4, 199, 0, 11, 42, 43, 44, 182, 0, 135, 1, 176, 42, 180, 0, 16]
abbrev dktJ21_put_2_0 : List UInt8 := dkwJ21_put_2_0 ++ dktJ21_put_2_1
theorem dksJ21_put_2_0 : cJ21_put_2.data.toList.drop 0 = dktJ21_put_2_0 := by decide +kernel
theorem dksJ21_put_2_1 : cJ21_put_2.data.toList.drop 23 = dktJ21_put_2_1 := dk_seg dksJ21_put_2_0 23 rfl rfl
theorem dksJ21_put_2_2 : cJ21_put_2.data.toList.drop 47 = dktJ21_put_2_2 := dk_seg dksJ21_put_2_1 24 rfl rfl
theorem dksJ21_put_2_3 : cJ21_put_2.data.toList.drop 71 = dktJ21_put_2_3 := dk_seg dksJ21_put_2_2 24 rfl rfl
theorem dksJ21_put_2_4 : cJ21_put_2.data.toList.drop 95 = dktJ21_put_2_4 := dk_seg dksJ21_put_2_3 24 rfl rfl
theorem dksJ21_put_2_5 : cJ21_put_2.data.toList.drop 118 = dktJ21_put_2_5 := dk_seg dksJ21_put_2_4 23 rfl rfl
theorem dksJ21_put_2_6 : cJ21_put_2.data.toList.drop 141 = dktJ21_put_2_6 := dk_seg dksJ21_put_2_5 23 rfl rfl
theorem dksJ21_put_2_7 : cJ21_put_2.data.toList.drop 163 = dktJ21_put_2_7 := dk_seg dksJ21_put_2_6 22 rfl rfl
theorem dksJ21_put_2_8 : cJ21_put_2.data.toList.drop 187 = dktJ21_put_2_8 := dk_seg dksJ21_put_2_7 24 rfl rfl
theorem dksJ21_put_2_9 : cJ21_put_2.data.toList.drop 211 = dktJ21_put_2_9 := dk_seg dksJ21_put_2_8 24 rfl rfl
theorem dJ21_put_2_0 : decode cJ21_put_2 0 = .ok (.aload_n 0, 1) := dk_42 (dk_at dksJ21_put_2_0 0 rfl rfl)
theorem dJ21_put_2_1 : decode cJ21_put_2 1 = .ok (.getfield 101, 3) := dk_180 0 101 (dk_at dksJ21_put_2_0 1 rfl rfl)
theorem dJ21_put_2_4 : decode cJ21_put_2 4 = .ok (.astore 4, 2) := dk_58 4 (dk_at dksJ21_put_2_0 4 rfl rfl)
theorem dJ21_put_2_6 : decode cJ21_put_2 6 = .ok (.aload 4, 2) := dk_25 4 (dk_at dksJ21_put_2_0 6 rfl rfl)
theorem dJ21_put_2_8 : decode cJ21_put_2 8 = .ok (.ifnonnull 11, 3) := dk_199 0 11 (dk_at dksJ21_put_2_0 8 rfl rfl)
theorem dJ21_put_2_11 : decode cJ21_put_2 11 = .ok (.aload_n 0, 1) := dk_42 (dk_at dksJ21_put_2_0 11 rfl rfl)
theorem dJ21_put_2_12 : decode cJ21_put_2 12 = .ok (.aload_n 1, 1) := dk_43 (dk_at dksJ21_put_2_0 12 rfl rfl)
theorem dJ21_put_2_13 : decode cJ21_put_2 13 = .ok (.aload_n 2, 1) := dk_44 (dk_at dksJ21_put_2_0 13 rfl rfl)
theorem dJ21_put_2_14 : decode cJ21_put_2 14 = .ok (.invokevirtual 135, 3) := dk_182 0 135 (dk_at dksJ21_put_2_0 14 rfl rfl)
theorem dJ21_put_2_17 : decode cJ21_put_2 17 = .ok (.aconst_null, 1) := dk_1 (dk_at dksJ21_put_2_0 17 rfl rfl)
theorem dJ21_put_2_18 : decode cJ21_put_2 18 = .ok (.areturn, 1) := dk_176 (dk_at dksJ21_put_2_0 18 rfl rfl)
theorem dJ21_put_2_19 : decode cJ21_put_2 19 = .ok (.aload_n 0, 1) := dk_42 (dk_at dksJ21_put_2_0 19 rfl rfl)
theorem dJ21_put_2_20 : decode cJ21_put_2 20 = .ok (.getfield 16, 3) := dk_180 0 16 (dk_at dksJ21_put_2_0 20 rfl rfl)
theorem dJ21_put_2_23 : decode cJ21_put_2 23 = .ok (.astore 7, 2) := dk_58 7 (dk_at dksJ21_put_2_1 0 rfl rfl)
theorem dJ21_put_2_25 : decode cJ21_put_2 25 = .ok (.aload 7, 2) := dk_25 7 (dk_at dksJ21_put_2_1 2 rfl rfl)
theorem dJ21_put_2_27 : decode cJ21_put_2 27 = .ok (.ifnull 85, 3) := dk_198 0 85 (dk_at dksJ21_put_2_1 4 rfl rfl)
theorem dJ21_put_2_30 : decode cJ21_put_2 30 = .ok (.aload 4, 2) := dk_25 4 (dk_at dksJ21_put_2_1 7 rfl rfl)
theorem dJ21_put_2_32 : decode cJ21_put_2 32 = .ok (.astore 6, 2) := dk_58 6 (dk_at dksJ21_put_2_1 9 rfl rfl)
theorem dJ21_put_2_34 : decode cJ21_put_2 34 = .ok (.aload 7, 2) := dk_25 7 (dk_at dksJ21_put_2_1 11 rfl rfl)
theorem dJ21_put_2_36 : decode cJ21_put_2 36 = .ok (.aload_n 1, 1) := dk_43 (dk_at dksJ21_put_2_1 13 rfl rfl)
theorem dJ21_put_2_37 : decode cJ21_put_2 37 = .ok (.aload 4, 2) := dk_25 4 (dk_at dksJ21_put_2_1 14 rfl rfl)
theorem dJ21_put_2_39 : decode cJ21_put_2 39 = .ok (.getfield 105, 3) := dk_180 0 105 (dk_at dksJ21_put_2_1 16 rfl rfl)
theorem dJ21_put_2_42 : decode cJ21_put_2 42 = .ok (.invokeinterface 117 3, 5) := by decide +kernel
theorem dJ21_put_2_47 : decode cJ21_put_2 47 = .ok (.istore 5, 2) := dk_54 5 (dk_at dksJ21_put_2_2 0 rfl rfl)
theorem dJ21_put_2_49 : decode cJ21_put_2 49 = .ok (.iload 5, 2) := dk_21 5 (dk_at dksJ21_put_2_2 2 rfl rfl)
theorem dJ21_put_2_51 : decode cJ21_put_2 51 = .ok (.ifCond .ge 13, 3) := dk_156 0 13 (dk_at dksJ21_put_2_2 4 rfl rfl)
theorem dJ21_put_2_54 : decode cJ21_put_2 54 = .ok (.aload 4, 2) := dk_25 4 (dk_at dksJ21_put_2_2 7 rfl rfl)
theorem dJ21_put_2_56 : decode cJ21_put_2 56 = .ok (.getfield 111, 3) := dk_180 0 111 (dk_at dksJ21_put_2_2 9 rfl rfl)
theorem dJ21_put_2_59 : decode cJ21_put_2 59 = .ok (.astore 4, 2) := dk_58 4 (dk_at dksJ21_put_2_2 12 rfl rfl)
theorem dJ21_put_2_61 : decode cJ21_put_2 61 = .ok (.goto 43, 3) := dk_167 0 43 (dk_at dksJ21_put_2_2 14 rfl rfl)
theorem dJ21_put_2_64 : decode cJ21_put_2 64 = .ok (.iload 5, 2) := dk_21 5 (dk_at dksJ21_put_2_2 17 rfl rfl)
theorem dJ21_put_2_66 : decode cJ21_put_2 66 = .ok (.ifCond .le 13, 3) := dk_158 0 13 (dk_at dksJ21_put_2_2 19 rfl rfl)
theorem dJ21_put_2_69 : decode cJ21_put_2 69 = .ok (.aload 4, 2) := dk_25 4 (dk_at dksJ21_put_2_2 22 rfl rfl)
theorem dJ21_put_2_71 : decode cJ21_put_2 71 = .ok (.getfield 114, 3) := dk_180 0 114 (dk_at dksJ21_put_2_3 0 rfl rfl)
theorem dJ21_put_2_74 : decode cJ21_put_2 74 = .ok (.astore 4, 2) := dk_58 4 (dk_at dksJ21_put_2_3 3 rfl rfl)
theorem dJ21_put_2_76 : decode cJ21_put_2 76 = .ok (.goto 28, 3) := dk_167 0 28 (dk_at dksJ21_put_2_3 5 rfl rfl)
theorem dJ21_put_2_79 : decode cJ21_put_2 79 = .ok (.aload 4, 2) := dk_25 4 (dk_at dksJ21_put_2_3 8 rfl rfl)
theorem dJ21_put_2_81 : decode cJ21_put_2 81 = .ok (.getfield 58, 3) := dk_180 0 58 (dk_at dksJ21_put_2_3 10 rfl rfl)
theorem dJ21_put_2_84 : decode cJ21_put_2 84 = .ok (.astore 8, 2) := dk_58 8 (dk_at dksJ21_put_2_3 13 rfl rfl)
theorem dJ21_put_2_86 : decode cJ21_put_2 86 = .ok (.iload_n 3, 1) := dk_29 (dk_at dksJ21_put_2_3 15 rfl rfl)
theorem dJ21_put_2_87 : decode cJ21_put_2 87 = .ok (.ifCond .ne 8, 3) := dk_154 0 8 (dk_at dksJ21_put_2_3 16 rfl rfl)
theorem dJ21_put_2_90 : decode cJ21_put_2 90 = .ok (.aload 8, 2) := dk_25 8 (dk_at dksJ21_put_2_3 19 rfl rfl)
theorem dJ21_put_2_92 : decode cJ21_put_2 92 = .ok (.ifnonnull 9, 3) := dk_199 0 9 (dk_at dksJ21_put_2_3 21 rfl rfl)
theorem dJ21_put_2_95 : decode cJ21_put_2 95 = .ok (.aload 4, 2) := dk_25 4 (dk_at dksJ21_put_2_4 0 rfl rfl)
theorem dJ21_put_2_97 : decode cJ21_put_2 97 = .ok (.aload_n 2, 1) := dk_44 (dk_at dksJ21_put_2_4 2 rfl rfl)
theorem dJ21_put_2_98 : decode cJ21_put_2 98 = .ok (.putfield 58, 3) := dk_181 0 58 (dk_at dksJ21_put_2_4 3 rfl rfl)
theorem dJ21_put_2_101 : decode cJ21_put_2 101 = .ok (.aload 8, 2) := dk_25 8 (dk_at dksJ21_put_2_4 6 rfl rfl)
theorem dJ21_put_2_103 : decode cJ21_put_2 103 = .ok (.areturn, 1) := dk_176 (dk_at dksJ21_put_2_4 8 rfl rfl)
theorem dJ21_put_2_104 : decode cJ21_put_2 104 = .ok (.aload 4, 2) := dk_25 4 (dk_at dksJ21_put_2_4 9 rfl rfl)
theorem dJ21_put_2_106 : decode cJ21_put_2 106 = .ok (.ifnonnull (-76), 3) := dk_199 255 180 (dk_at dksJ21_put_2_4 11 rfl rfl)
theorem dJ21_put_2_109 : decode cJ21_put_2 109 = .ok (.goto 92, 3) := dk_167 0 92 (dk_at dksJ21_put_2_4 14 rfl rfl)
theorem dJ21_put_2_112 : decode cJ21_put_2 112 = .ok (.aload_n 1, 1) := dk_43 (dk_at dksJ21_put_2_4 17 rfl rfl)
theorem dJ21_put_2_113 : decode cJ21_put_2 113 = .ok (.invokestatic 95, 3) := dk_184 0 95 (dk_at dksJ21_put_2_4 18 rfl rfl)
theorem dJ21_put_2_116 : decode cJ21_put_2 116 = .ok (.pop, 1) := dk_87 (dk_at dksJ21_put_2_4 21 rfl rfl)
theorem dJ21_put_2_117 : decode cJ21_put_2 117 = .ok (.aload_n 1, 1) := dk_43 (dk_at dksJ21_put_2_4 22 rfl rfl)
theorem dJ21_put_2_118 : decode cJ21_put_2 118 = .ok (.checkcast 99, 3) := dk_192 0 99 (dk_at dksJ21_put_2_5 0 rfl rfl)
theorem dJ21_put_2_121 : decode cJ21_put_2 121 = .ok (.astore 8, 2) := dk_58 8 (dk_at dksJ21_put_2_5 3 rfl rfl)
theorem dJ21_put_2_123 : decode cJ21_put_2 123 = .ok (.aload 4, 2) := dk_25 4 (dk_at dksJ21_put_2_5 5 rfl rfl)
theorem dJ21_put_2_125 : decode cJ21_put_2 125 = .ok (.astore 6, 2) := dk_58 6 (dk_at dksJ21_put_2_5 7 rfl rfl)
theorem dJ21_put_2_127 : decode cJ21_put_2 127 = .ok (.aload 8, 2) := dk_25 8 (dk_at dksJ21_put_2_5 9 rfl rfl)
theorem dJ21_put_2_129 : decode cJ21_put_2 129 = .ok (.aload 4, 2) := dk_25 4 (dk_at dksJ21_put_2_5 11 rfl rfl)
theorem dJ21_put_2_131 : decode cJ21_put_2 131 = .ok (.getfield 105, 3) := dk_180 0 105 (dk_at dksJ21_put_2_5 13 rfl rfl)
theorem dJ21_put_2_134 : decode cJ21_put_2 134 = .ok (.invokeinterface 107 2, 5) := by decide +kernel
theorem dJ21_put_2_139 : decode cJ21_put_2 139 = .ok (.istore 5, 2) := dk_54 5 (dk_at dksJ21_put_2_5 21 rfl rfl)
theorem dJ21_put_2_141 : decode cJ21_put_2 141 = .ok (.iload 5, 2) := dk_21 5 (dk_at dksJ21_put_2_6 0 rfl rfl)
theorem dJ21_put_2_143 : decode cJ21_put_2 143 = .ok (.ifCond .ge 13, 3) := dk_156 0 13 (dk_at dksJ21_put_2_6 2 rfl rfl)
theorem dJ21_put_2_146 : decode cJ21_put_2 146 = .ok (.aload 4, 2) := dk_25 4 (dk_at dksJ21_put_2_6 5 rfl rfl)
theorem dJ21_put_2_148 : decode cJ21_put_2 148 = .ok (.getfield 111, 3) := dk_180 0 111 (dk_at dksJ21_put_2_6 7 rfl rfl)
theorem dJ21_put_2_151 : decode cJ21_put_2 151 = .ok (.astore 4, 2) := dk_58 4 (dk_at dksJ21_put_2_6 10 rfl rfl)
theorem dJ21_put_2_153 : decode cJ21_put_2 153 = .ok (.goto 43, 3) := dk_167 0 43 (dk_at dksJ21_put_2_6 12 rfl rfl)
theorem dJ21_put_2_156 : decode cJ21_put_2 156 = .ok (.iload 5, 2) := dk_21 5 (dk_at dksJ21_put_2_6 15 rfl rfl)
theorem dJ21_put_2_158 : decode cJ21_put_2 158 = .ok (.ifCond .le 13, 3) := dk_158 0 13 (dk_at dksJ21_put_2_6 17 rfl rfl)
theorem dJ21_put_2_161 : decode cJ21_put_2 161 = .ok (.aload 4, 2) := dk_25 4 (dk_at dksJ21_put_2_6 20 rfl rfl)
theorem dJ21_put_2_163 : decode cJ21_put_2 163 = .ok (.getfield 114, 3) := dk_180 0 114 (dk_at dksJ21_put_2_7 0 rfl rfl)
theorem dJ21_put_2_166 : decode cJ21_put_2 166 = .ok (.astore 4, 2) := dk_58 4 (dk_at dksJ21_put_2_7 3 rfl rfl)
theorem dJ21_put_2_168 : decode cJ21_put_2 168 = .ok (.goto 28, 3) := dk_167 0 28 (dk_at dksJ21_put_2_7 5 rfl rfl)
theorem dJ21_put_2_171 : decode cJ21_put_2 171 = .ok (.aload 4, 2) := dk_25 4 (dk_at dksJ21_put_2_7 8 rfl rfl)
theorem dJ21_put_2_173 : decode cJ21_put_2 173 = .ok (.getfield 58, 3) := dk_180 0 58 (dk_at dksJ21_put_2_7 10 rfl rfl)
theorem dJ21_put_2_176 : decode cJ21_put_2 176 = .ok (.astore 9, 2) := dk_58 9 (dk_at dksJ21_put_2_7 13 rfl rfl)
theorem dJ21_put_2_178 : decode cJ21_put_2 178 = .ok (.iload_n 3, 1) := dk_29 (dk_at dksJ21_put_2_7 15 rfl rfl)
theorem dJ21_put_2_179 : decode cJ21_put_2 179 = .ok (.ifCond .ne 8, 3) := dk_154 0 8 (dk_at dksJ21_put_2_7 16 rfl rfl)
theorem dJ21_put_2_182 : decode cJ21_put_2 182 = .ok (.aload 9, 2) := dk_25 9 (dk_at dksJ21_put_2_7 19 rfl rfl)
theorem dJ21_put_2_184 : decode cJ21_put_2 184 = .ok (.ifnonnull 9, 3) := dk_199 0 9 (dk_at dksJ21_put_2_7 21 rfl rfl)
theorem dJ21_put_2_187 : decode cJ21_put_2 187 = .ok (.aload 4, 2) := dk_25 4 (dk_at dksJ21_put_2_8 0 rfl rfl)
theorem dJ21_put_2_189 : decode cJ21_put_2 189 = .ok (.aload_n 2, 1) := dk_44 (dk_at dksJ21_put_2_8 2 rfl rfl)
theorem dJ21_put_2_190 : decode cJ21_put_2 190 = .ok (.putfield 58, 3) := dk_181 0 58 (dk_at dksJ21_put_2_8 3 rfl rfl)
theorem dJ21_put_2_193 : decode cJ21_put_2 193 = .ok (.aload 9, 2) := dk_25 9 (dk_at dksJ21_put_2_8 6 rfl rfl)
theorem dJ21_put_2_195 : decode cJ21_put_2 195 = .ok (.areturn, 1) := dk_176 (dk_at dksJ21_put_2_8 8 rfl rfl)
theorem dJ21_put_2_196 : decode cJ21_put_2 196 = .ok (.aload 4, 2) := dk_25 4 (dk_at dksJ21_put_2_8 9 rfl rfl)
theorem dJ21_put_2_198 : decode cJ21_put_2 198 = .ok (.ifnonnull (-75), 3) := dk_199 255 181 (dk_at dksJ21_put_2_8 11 rfl rfl)
theorem dJ21_put_2_201 : decode cJ21_put_2 201 = .ok (.aload_n 0, 1) := dk_42 (dk_at dksJ21_put_2_8 14 rfl rfl)
theorem dJ21_put_2_202 : decode cJ21_put_2 202 = .ok (.aload_n 1, 1) := dk_43 (dk_at dksJ21_put_2_8 15 rfl rfl)
theorem dJ21_put_2_203 : decode cJ21_put_2 203 = .ok (.aload_n 2, 1) := dk_44 (dk_at dksJ21_put_2_8 16 rfl rfl)
theorem dJ21_put_2_204 : decode cJ21_put_2 204 = .ok (.aload 6, 2) := dk_25 6 (dk_at dksJ21_put_2_8 17 rfl rfl)
theorem dJ21_put_2_206 : decode cJ21_put_2 206 = .ok (.iload 5, 2) := dk_21 5 (dk_at dksJ21_put_2_8 19 rfl rfl)
theorem dJ21_put_2_208 : decode cJ21_put_2 208 = .ok (.ifCond .ge 7, 3) := dk_156 0 7 (dk_at dksJ21_put_2_8 21 rfl rfl)
theorem dJ21_put_2_211 : decode cJ21_put_2 211 = .ok (.iconst 1, 1) := dk_4 (dk_at dksJ21_put_2_9 0 rfl rfl)
theorem dJ21_put_2_212 : decode cJ21_put_2 212 = .ok (.goto 4, 3) := dk_167 0 4 (dk_at dksJ21_put_2_9 1 rfl rfl)
theorem dJ21_put_2_215 : decode cJ21_put_2 215 = .ok (.iconst 0, 1) := dk_3 (dk_at dksJ21_put_2_9 4 rfl rfl)
theorem dJ21_put_2_216 : decode cJ21_put_2 216 = .ok (.invokevirtual 139, 3) := dk_182 0 139 (dk_at dksJ21_put_2_9 5 rfl rfl)
theorem dJ21_put_2_219 : decode cJ21_put_2 219 = .ok (.aconst_null, 1) := dk_1 (dk_at dksJ21_put_2_9 8 rfl rfl)
theorem dJ21_put_2_220 : decode cJ21_put_2 220 = .ok (.areturn, 1) := dk_176 (dk_at dksJ21_put_2_9 9 rfl rfl)
abbrev cJ21_addEntryToEmptyMap : ByteArray := prog_66_method_30_code
def yJ21_addEntryToEmptyMap : MethodName := ⟨RJ21, "addEntryToEmptyMap", "(Ljava/lang/Object;Ljava/lang/Object;)V"⟩
def dkwJ21_addEntryToEmptyMap_1 : List UInt8 := [181, 0, 7, 42, 89, 180, 0, 13, 4, 96, 181, 0, 13, 177]
abbrev dktJ21_addEntryToEmptyMap_1 : List UInt8 := dkwJ21_addEntryToEmptyMap_1 ++ []
def dkwJ21_addEntryToEmptyMap_0 : List UInt8 := [42, 43, 43, 182, 0, 123, 87, 42, 187, 0, 59, 89, 43, 44, 1, 183, 0, 167, 181, 0, 101, 42, 4]
abbrev dktJ21_addEntryToEmptyMap_0 : List UInt8 := dkwJ21_addEntryToEmptyMap_0 ++ dktJ21_addEntryToEmptyMap_1
theorem dksJ21_addEntryToEmptyMap_0 : cJ21_addEntryToEmptyMap.data.toList.drop 0 = dktJ21_addEntryToEmptyMap_0 := by decide +kernel
theorem dksJ21_addEntryToEmptyMap_1 : cJ21_addEntryToEmptyMap.data.toList.drop 23 = dktJ21_addEntryToEmptyMap_1 := dk_seg dksJ21_addEntryToEmptyMap_0 23 rfl rfl
theorem dJ21_addEntryToEmptyMap_0 : decode cJ21_addEntryToEmptyMap 0 = .ok (.aload_n 0, 1) := dk_42 (dk_at dksJ21_addEntryToEmptyMap_0 0 rfl rfl)
theorem dJ21_addEntryToEmptyMap_1 : decode cJ21_addEntryToEmptyMap 1 = .ok (.aload_n 1, 1) := dk_43 (dk_at dksJ21_addEntryToEmptyMap_0 1 rfl rfl)
theorem dJ21_addEntryToEmptyMap_2 : decode cJ21_addEntryToEmptyMap 2 = .ok (.aload_n 1, 1) := dk_43 (dk_at dksJ21_addEntryToEmptyMap_0 2 rfl rfl)
theorem dJ21_addEntryToEmptyMap_3 : decode cJ21_addEntryToEmptyMap 3 = .ok (.invokevirtual 123, 3) := dk_182 0 123 (dk_at dksJ21_addEntryToEmptyMap_0 3 rfl rfl)
theorem dJ21_addEntryToEmptyMap_6 : decode cJ21_addEntryToEmptyMap 6 = .ok (.pop, 1) := dk_87 (dk_at dksJ21_addEntryToEmptyMap_0 6 rfl rfl)
theorem dJ21_addEntryToEmptyMap_7 : decode cJ21_addEntryToEmptyMap 7 = .ok (.aload_n 0, 1) := dk_42 (dk_at dksJ21_addEntryToEmptyMap_0 7 rfl rfl)
theorem dJ21_addEntryToEmptyMap_8 : decode cJ21_addEntryToEmptyMap 8 = .ok (.new 59, 3) := dk_187 0 59 (dk_at dksJ21_addEntryToEmptyMap_0 8 rfl rfl)
theorem dJ21_addEntryToEmptyMap_11 : decode cJ21_addEntryToEmptyMap 11 = .ok (.dup, 1) := dk_89 (dk_at dksJ21_addEntryToEmptyMap_0 11 rfl rfl)
theorem dJ21_addEntryToEmptyMap_12 : decode cJ21_addEntryToEmptyMap 12 = .ok (.aload_n 1, 1) := dk_43 (dk_at dksJ21_addEntryToEmptyMap_0 12 rfl rfl)
theorem dJ21_addEntryToEmptyMap_13 : decode cJ21_addEntryToEmptyMap 13 = .ok (.aload_n 2, 1) := dk_44 (dk_at dksJ21_addEntryToEmptyMap_0 13 rfl rfl)
theorem dJ21_addEntryToEmptyMap_14 : decode cJ21_addEntryToEmptyMap 14 = .ok (.aconst_null, 1) := dk_1 (dk_at dksJ21_addEntryToEmptyMap_0 14 rfl rfl)
theorem dJ21_addEntryToEmptyMap_15 : decode cJ21_addEntryToEmptyMap 15 = .ok (.invokespecial 167, 3) := dk_183 0 167 (dk_at dksJ21_addEntryToEmptyMap_0 15 rfl rfl)
theorem dJ21_addEntryToEmptyMap_18 : decode cJ21_addEntryToEmptyMap 18 = .ok (.putfield 101, 3) := dk_181 0 101 (dk_at dksJ21_addEntryToEmptyMap_0 18 rfl rfl)
theorem dJ21_addEntryToEmptyMap_21 : decode cJ21_addEntryToEmptyMap 21 = .ok (.aload_n 0, 1) := dk_42 (dk_at dksJ21_addEntryToEmptyMap_0 21 rfl rfl)
theorem dJ21_addEntryToEmptyMap_22 : decode cJ21_addEntryToEmptyMap 22 = .ok (.iconst 1, 1) := dk_4 (dk_at dksJ21_addEntryToEmptyMap_0 22 rfl rfl)
theorem dJ21_addEntryToEmptyMap_23 : decode cJ21_addEntryToEmptyMap 23 = .ok (.putfield 7, 3) := dk_181 0 7 (dk_at dksJ21_addEntryToEmptyMap_1 0 rfl rfl)
theorem dJ21_addEntryToEmptyMap_26 : decode cJ21_addEntryToEmptyMap 26 = .ok (.aload_n 0, 1) := dk_42 (dk_at dksJ21_addEntryToEmptyMap_1 3 rfl rfl)
theorem dJ21_addEntryToEmptyMap_27 : decode cJ21_addEntryToEmptyMap 27 = .ok (.dup, 1) := dk_89 (dk_at dksJ21_addEntryToEmptyMap_1 4 rfl rfl)
theorem dJ21_addEntryToEmptyMap_28 : decode cJ21_addEntryToEmptyMap 28 = .ok (.getfield 13, 3) := dk_180 0 13 (dk_at dksJ21_addEntryToEmptyMap_1 5 rfl rfl)
theorem dJ21_addEntryToEmptyMap_31 : decode cJ21_addEntryToEmptyMap 31 = .ok (.iconst 1, 1) := dk_4 (dk_at dksJ21_addEntryToEmptyMap_1 8 rfl rfl)
theorem dJ21_addEntryToEmptyMap_32 : decode cJ21_addEntryToEmptyMap 32 = .ok (.iadd, 1) := dk_96 (dk_at dksJ21_addEntryToEmptyMap_1 9 rfl rfl)
theorem dJ21_addEntryToEmptyMap_33 : decode cJ21_addEntryToEmptyMap 33 = .ok (.putfield 13, 3) := dk_181 0 13 (dk_at dksJ21_addEntryToEmptyMap_1 10 rfl rfl)
theorem dJ21_addEntryToEmptyMap_36 : decode cJ21_addEntryToEmptyMap 36 = .ok (.return_, 1) := dk_177 (dk_at dksJ21_addEntryToEmptyMap_1 13 rfl rfl)
abbrev cJ21_compare : ByteArray := prog_66_method_67_code
def yJ21_compare : MethodName := ⟨RJ21, "compare", "(Ljava/lang/Object;Ljava/lang/Object;)I"⟩
def dkwJ21_compare_1 : List UInt8 := [43, 44, 185, 0, 117, 3, 0, 172]
abbrev dktJ21_compare_1 : List UInt8 := dkwJ21_compare_1 ++ []
def dkwJ21_compare_0 : List UInt8 := [42, 180, 0, 16, 199, 0, 16, 43, 192, 0, 99, 44, 185, 0, 107, 2, 0, 167, 0, 14, 42, 180, 0, 16]
abbrev dktJ21_compare_0 : List UInt8 := dkwJ21_compare_0 ++ dktJ21_compare_1
theorem dksJ21_compare_0 : cJ21_compare.data.toList.drop 0 = dktJ21_compare_0 := by decide +kernel
theorem dksJ21_compare_1 : cJ21_compare.data.toList.drop 24 = dktJ21_compare_1 := dk_seg dksJ21_compare_0 24 rfl rfl
theorem dJ21_compare_0 : decode cJ21_compare 0 = .ok (.aload_n 0, 1) := dk_42 (dk_at dksJ21_compare_0 0 rfl rfl)
theorem dJ21_compare_1 : decode cJ21_compare 1 = .ok (.getfield 16, 3) := dk_180 0 16 (dk_at dksJ21_compare_0 1 rfl rfl)
theorem dJ21_compare_4 : decode cJ21_compare 4 = .ok (.ifnonnull 16, 3) := dk_199 0 16 (dk_at dksJ21_compare_0 4 rfl rfl)
theorem dJ21_compare_7 : decode cJ21_compare 7 = .ok (.aload_n 1, 1) := dk_43 (dk_at dksJ21_compare_0 7 rfl rfl)
theorem dJ21_compare_8 : decode cJ21_compare 8 = .ok (.checkcast 99, 3) := dk_192 0 99 (dk_at dksJ21_compare_0 8 rfl rfl)
theorem dJ21_compare_11 : decode cJ21_compare 11 = .ok (.aload_n 2, 1) := dk_44 (dk_at dksJ21_compare_0 11 rfl rfl)
theorem dJ21_compare_12 : decode cJ21_compare 12 = .ok (.invokeinterface 107 2, 5) := by decide +kernel
theorem dJ21_compare_17 : decode cJ21_compare 17 = .ok (.goto 14, 3) := dk_167 0 14 (dk_at dksJ21_compare_0 17 rfl rfl)
theorem dJ21_compare_20 : decode cJ21_compare 20 = .ok (.aload_n 0, 1) := dk_42 (dk_at dksJ21_compare_0 20 rfl rfl)
theorem dJ21_compare_21 : decode cJ21_compare 21 = .ok (.getfield 16, 3) := dk_180 0 16 (dk_at dksJ21_compare_0 21 rfl rfl)
theorem dJ21_compare_24 : decode cJ21_compare 24 = .ok (.aload_n 1, 1) := dk_43 (dk_at dksJ21_compare_1 0 rfl rfl)
theorem dJ21_compare_25 : decode cJ21_compare 25 = .ok (.aload_n 2, 1) := dk_44 (dk_at dksJ21_compare_1 1 rfl rfl)
theorem dJ21_compare_26 : decode cJ21_compare 26 = .ok (.invokeinterface 117 3, 5) := by decide +kernel
theorem dJ21_compare_31 : decode cJ21_compare 31 = .ok (.ireturn, 1) := dk_172 (dk_at dksJ21_compare_1 7 rfl rfl)
abbrev cJ21_addEntry : ByteArray := prog_66_method_29_code
def yJ21_addEntry : MethodName := ⟨RJ21, "addEntry", "(Ljava/lang/Object;Ljava/lang/Object;Ljava/util/TreeMap$Entry;Z)V"⟩
def dkwJ21_addEntry_2 : List UInt8 := [181, 0, 7, 42, 89, 180, 0, 13, 4, 96, 181, 0, 13, 177]
abbrev dktJ21_addEntry_2 : List UInt8 := dkwJ21_addEntry_2 ++ []
def dkwJ21_addEntry_1 : List UInt8 := [167, 0, 9, 45, 25, 5, 181, 0, 114, 42, 25, 5, 182, 0, 170, 42, 89, 180, 0, 7, 4, 96]
abbrev dktJ21_addEntry_1 : List UInt8 := dkwJ21_addEntry_1 ++ dktJ21_addEntry_2
def dkwJ21_addEntry_0 : List UInt8 := [187, 0, 59, 89, 43, 44, 45, 183, 0, 167, 58, 5, 21, 4, 153, 0, 12, 45, 25, 5, 181, 0, 111]
abbrev dktJ21_addEntry_0 : List UInt8 := dkwJ21_addEntry_0 ++ dktJ21_addEntry_1
theorem dksJ21_addEntry_0 : cJ21_addEntry.data.toList.drop 0 = dktJ21_addEntry_0 := by decide +kernel
theorem dksJ21_addEntry_1 : cJ21_addEntry.data.toList.drop 23 = dktJ21_addEntry_1 := dk_seg dksJ21_addEntry_0 23 rfl rfl
theorem dksJ21_addEntry_2 : cJ21_addEntry.data.toList.drop 45 = dktJ21_addEntry_2 := dk_seg dksJ21_addEntry_1 22 rfl rfl
theorem dJ21_addEntry_0 : decode cJ21_addEntry 0 = .ok (.new 59, 3) := dk_187 0 59 (dk_at dksJ21_addEntry_0 0 rfl rfl)
theorem dJ21_addEntry_3 : decode cJ21_addEntry 3 = .ok (.dup, 1) := dk_89 (dk_at dksJ21_addEntry_0 3 rfl rfl)
theorem dJ21_addEntry_4 : decode cJ21_addEntry 4 = .ok (.aload_n 1, 1) := dk_43 (dk_at dksJ21_addEntry_0 4 rfl rfl)
theorem dJ21_addEntry_5 : decode cJ21_addEntry 5 = .ok (.aload_n 2, 1) := dk_44 (dk_at dksJ21_addEntry_0 5 rfl rfl)
theorem dJ21_addEntry_6 : decode cJ21_addEntry 6 = .ok (.aload_n 3, 1) := dk_45 (dk_at dksJ21_addEntry_0 6 rfl rfl)
theorem dJ21_addEntry_7 : decode cJ21_addEntry 7 = .ok (.invokespecial 167, 3) := dk_183 0 167 (dk_at dksJ21_addEntry_0 7 rfl rfl)
theorem dJ21_addEntry_10 : decode cJ21_addEntry 10 = .ok (.astore 5, 2) := dk_58 5 (dk_at dksJ21_addEntry_0 10 rfl rfl)
theorem dJ21_addEntry_12 : decode cJ21_addEntry 12 = .ok (.iload 4, 2) := dk_21 4 (dk_at dksJ21_addEntry_0 12 rfl rfl)
theorem dJ21_addEntry_14 : decode cJ21_addEntry 14 = .ok (.ifCond .eq 12, 3) := dk_153 0 12 (dk_at dksJ21_addEntry_0 14 rfl rfl)
theorem dJ21_addEntry_17 : decode cJ21_addEntry 17 = .ok (.aload_n 3, 1) := dk_45 (dk_at dksJ21_addEntry_0 17 rfl rfl)
theorem dJ21_addEntry_18 : decode cJ21_addEntry 18 = .ok (.aload 5, 2) := dk_25 5 (dk_at dksJ21_addEntry_0 18 rfl rfl)
theorem dJ21_addEntry_20 : decode cJ21_addEntry 20 = .ok (.putfield 111, 3) := dk_181 0 111 (dk_at dksJ21_addEntry_0 20 rfl rfl)
theorem dJ21_addEntry_23 : decode cJ21_addEntry 23 = .ok (.goto 9, 3) := dk_167 0 9 (dk_at dksJ21_addEntry_1 0 rfl rfl)
theorem dJ21_addEntry_26 : decode cJ21_addEntry 26 = .ok (.aload_n 3, 1) := dk_45 (dk_at dksJ21_addEntry_1 3 rfl rfl)
theorem dJ21_addEntry_27 : decode cJ21_addEntry 27 = .ok (.aload 5, 2) := dk_25 5 (dk_at dksJ21_addEntry_1 4 rfl rfl)
theorem dJ21_addEntry_29 : decode cJ21_addEntry 29 = .ok (.putfield 114, 3) := dk_181 0 114 (dk_at dksJ21_addEntry_1 6 rfl rfl)
theorem dJ21_addEntry_32 : decode cJ21_addEntry 32 = .ok (.aload_n 0, 1) := dk_42 (dk_at dksJ21_addEntry_1 9 rfl rfl)
theorem dJ21_addEntry_33 : decode cJ21_addEntry 33 = .ok (.aload 5, 2) := dk_25 5 (dk_at dksJ21_addEntry_1 10 rfl rfl)
theorem dJ21_addEntry_35 : decode cJ21_addEntry 35 = .ok (.invokevirtual 170, 3) := dk_182 0 170 (dk_at dksJ21_addEntry_1 12 rfl rfl)
theorem dJ21_addEntry_38 : decode cJ21_addEntry 38 = .ok (.aload_n 0, 1) := dk_42 (dk_at dksJ21_addEntry_1 15 rfl rfl)
theorem dJ21_addEntry_39 : decode cJ21_addEntry 39 = .ok (.dup, 1) := dk_89 (dk_at dksJ21_addEntry_1 16 rfl rfl)
theorem dJ21_addEntry_40 : decode cJ21_addEntry 40 = .ok (.getfield 7, 3) := dk_180 0 7 (dk_at dksJ21_addEntry_1 17 rfl rfl)
theorem dJ21_addEntry_43 : decode cJ21_addEntry 43 = .ok (.iconst 1, 1) := dk_4 (dk_at dksJ21_addEntry_1 20 rfl rfl)
theorem dJ21_addEntry_44 : decode cJ21_addEntry 44 = .ok (.iadd, 1) := dk_96 (dk_at dksJ21_addEntry_1 21 rfl rfl)
theorem dJ21_addEntry_45 : decode cJ21_addEntry 45 = .ok (.putfield 7, 3) := dk_181 0 7 (dk_at dksJ21_addEntry_2 0 rfl rfl)
theorem dJ21_addEntry_48 : decode cJ21_addEntry 48 = .ok (.aload_n 0, 1) := dk_42 (dk_at dksJ21_addEntry_2 3 rfl rfl)
theorem dJ21_addEntry_49 : decode cJ21_addEntry 49 = .ok (.dup, 1) := dk_89 (dk_at dksJ21_addEntry_2 4 rfl rfl)
theorem dJ21_addEntry_50 : decode cJ21_addEntry 50 = .ok (.getfield 13, 3) := dk_180 0 13 (dk_at dksJ21_addEntry_2 5 rfl rfl)
theorem dJ21_addEntry_53 : decode cJ21_addEntry 53 = .ok (.iconst 1, 1) := dk_4 (dk_at dksJ21_addEntry_2 8 rfl rfl)
theorem dJ21_addEntry_54 : decode cJ21_addEntry 54 = .ok (.iadd, 1) := dk_96 (dk_at dksJ21_addEntry_2 9 rfl rfl)
theorem dJ21_addEntry_55 : decode cJ21_addEntry 55 = .ok (.putfield 13, 3) := dk_181 0 13 (dk_at dksJ21_addEntry_2 10 rfl rfl)
theorem dJ21_addEntry_58 : decode cJ21_addEntry 58 = .ok (.return_, 1) := dk_177 (dk_at dksJ21_addEntry_2 13 rfl rfl)
abbrev cJ21_fixAfterInsertion : ByteArray := prog_66_method_83_code
def yJ21_fixAfterInsertion : MethodName := ⟨RJ21, "fixAfterInsertion", "(Ljava/util/TreeMap$Entry;)V"⟩
def dkwJ21_fixAfterInsertion_11 : List UInt8 := [42, 180, 0, 101, 4, 181, 1, 34, 177]
abbrev dktJ21_fixAfterInsertion_11 : List UInt8 := dkwJ21_fixAfterInsertion_11 ++ []
def dkwJ21_fixAfterInsertion_10 : List UInt8 := [184, 1, 38, 184, 1, 38, 3, 184, 1, 51, 42, 43, 184, 1, 38, 184, 1, 38, 182, 1, 55, 167, 255, 6]
abbrev dktJ21_fixAfterInsertion_10 : List UInt8 := dkwJ21_fixAfterInsertion_10 ++ dktJ21_fixAfterInsertion_11
def dkwJ21_fixAfterInsertion_9 : List UInt8 := [166, 0, 13, 43, 184, 1, 38, 76, 42, 43, 182, 1, 58, 43, 184, 1, 38, 4, 184, 1, 51, 43]
abbrev dktJ21_fixAfterInsertion_9 : List UInt8 := dkwJ21_fixAfterInsertion_9 ++ dktJ21_fixAfterInsertion_10
def dkwJ21_fixAfterInsertion_8 : List UInt8 := [184, 1, 51, 43, 184, 1, 38, 184, 1, 38, 76, 167, 0, 54, 43, 43, 184, 1, 38, 184, 1, 41]
abbrev dktJ21_fixAfterInsertion_8 : List UInt8 := dkwJ21_fixAfterInsertion_8 ++ dktJ21_fixAfterInsertion_9
def dkwJ21_fixAfterInsertion_7 : List UInt8 := [154, 0, 38, 43, 184, 1, 38, 4, 184, 1, 51, 44, 4, 184, 1, 51, 43, 184, 1, 38, 184, 1, 38, 3]
abbrev dktJ21_fixAfterInsertion_7 : List UInt8 := dkwJ21_fixAfterInsertion_7 ++ dktJ21_fixAfterInsertion_8
def dkwJ21_fixAfterInsertion_6 : List UInt8 := [184, 1, 38, 182, 1, 58, 167, 255, 113, 43, 184, 1, 38, 184, 1, 38, 184, 1, 41, 77, 44, 184, 1, 47]
abbrev dktJ21_fixAfterInsertion_6 : List UInt8 := dkwJ21_fixAfterInsertion_6 ++ dktJ21_fixAfterInsertion_7
def dkwJ21_fixAfterInsertion_5 : List UInt8 := [43, 184, 1, 38, 4, 184, 1, 51, 43, 184, 1, 38, 184, 1, 38, 3, 184, 1, 51, 42, 43, 184, 1, 38]
abbrev dktJ21_fixAfterInsertion_5 : List UInt8 := dkwJ21_fixAfterInsertion_5 ++ dktJ21_fixAfterInsertion_6
def dkwJ21_fixAfterInsertion_4 : List UInt8 := [167, 0, 54, 43, 43, 184, 1, 38, 184, 1, 44, 166, 0, 13, 43, 184, 1, 38, 76, 42, 43, 182, 1, 55]
abbrev dktJ21_fixAfterInsertion_4 : List UInt8 := dkwJ21_fixAfterInsertion_4 ++ dktJ21_fixAfterInsertion_5
def dkwJ21_fixAfterInsertion_3 : List UInt8 := [184, 1, 51, 43, 184, 1, 38, 184, 1, 38, 3, 184, 1, 51, 43, 184, 1, 38, 184, 1, 38, 76]
abbrev dktJ21_fixAfterInsertion_3 : List UInt8 := dkwJ21_fixAfterInsertion_3 ++ dktJ21_fixAfterInsertion_4
def dkwJ21_fixAfterInsertion_2 : List UInt8 := [184, 1, 38, 184, 1, 44, 77, 44, 184, 1, 47, 154, 0, 38, 43, 184, 1, 38, 4, 184, 1, 51, 44, 4]
abbrev dktJ21_fixAfterInsertion_2 : List UInt8 := dkwJ21_fixAfterInsertion_2 ++ dktJ21_fixAfterInsertion_3
def dkwJ21_fixAfterInsertion_1 : List UInt8 := [154, 0, 234, 43, 184, 1, 38, 43, 184, 1, 38, 184, 1, 38, 184, 1, 41, 166, 0, 110, 43, 184, 1, 38]
abbrev dktJ21_fixAfterInsertion_1 : List UInt8 := dkwJ21_fixAfterInsertion_1 ++ dktJ21_fixAfterInsertion_2
def dkwJ21_fixAfterInsertion_0 : List UInt8 := [43, 3, 181, 1, 34, 43, 198, 0, 252, 43, 42, 180, 0, 101, 165, 0, 244, 43, 180, 0, 124, 180, 1, 34]
abbrev dktJ21_fixAfterInsertion_0 : List UInt8 := dkwJ21_fixAfterInsertion_0 ++ dktJ21_fixAfterInsertion_1
theorem dksJ21_fixAfterInsertion_0 : cJ21_fixAfterInsertion.data.toList.drop 0 = dktJ21_fixAfterInsertion_0 := by decide +kernel
theorem dksJ21_fixAfterInsertion_1 : cJ21_fixAfterInsertion.data.toList.drop 24 = dktJ21_fixAfterInsertion_1 := dk_seg dksJ21_fixAfterInsertion_0 24 rfl rfl
theorem dksJ21_fixAfterInsertion_2 : cJ21_fixAfterInsertion.data.toList.drop 48 = dktJ21_fixAfterInsertion_2 := dk_seg dksJ21_fixAfterInsertion_1 24 rfl rfl
theorem dksJ21_fixAfterInsertion_3 : cJ21_fixAfterInsertion.data.toList.drop 72 = dktJ21_fixAfterInsertion_3 := dk_seg dksJ21_fixAfterInsertion_2 24 rfl rfl
theorem dksJ21_fixAfterInsertion_4 : cJ21_fixAfterInsertion.data.toList.drop 94 = dktJ21_fixAfterInsertion_4 := dk_seg dksJ21_fixAfterInsertion_3 22 rfl rfl
theorem dksJ21_fixAfterInsertion_5 : cJ21_fixAfterInsertion.data.toList.drop 118 = dktJ21_fixAfterInsertion_5 := dk_seg dksJ21_fixAfterInsertion_4 24 rfl rfl
theorem dksJ21_fixAfterInsertion_6 : cJ21_fixAfterInsertion.data.toList.drop 142 = dktJ21_fixAfterInsertion_6 := dk_seg dksJ21_fixAfterInsertion_5 24 rfl rfl
theorem dksJ21_fixAfterInsertion_7 : cJ21_fixAfterInsertion.data.toList.drop 166 = dktJ21_fixAfterInsertion_7 := dk_seg dksJ21_fixAfterInsertion_6 24 rfl rfl
theorem dksJ21_fixAfterInsertion_8 : cJ21_fixAfterInsertion.data.toList.drop 190 = dktJ21_fixAfterInsertion_8 := dk_seg dksJ21_fixAfterInsertion_7 24 rfl rfl
theorem dksJ21_fixAfterInsertion_9 : cJ21_fixAfterInsertion.data.toList.drop 212 = dktJ21_fixAfterInsertion_9 := dk_seg dksJ21_fixAfterInsertion_8 22 rfl rfl
theorem dksJ21_fixAfterInsertion_10 : cJ21_fixAfterInsertion.data.toList.drop 234 = dktJ21_fixAfterInsertion_10 := dk_seg dksJ21_fixAfterInsertion_9 22 rfl rfl
theorem dksJ21_fixAfterInsertion_11 : cJ21_fixAfterInsertion.data.toList.drop 258 = dktJ21_fixAfterInsertion_11 := dk_seg dksJ21_fixAfterInsertion_10 24 rfl rfl
theorem dJ21_fixAfterInsertion_0 : decode cJ21_fixAfterInsertion 0 = .ok (.aload_n 1, 1) := dk_43 (dk_at dksJ21_fixAfterInsertion_0 0 rfl rfl)
theorem dJ21_fixAfterInsertion_1 : decode cJ21_fixAfterInsertion 1 = .ok (.iconst 0, 1) := dk_3 (dk_at dksJ21_fixAfterInsertion_0 1 rfl rfl)
theorem dJ21_fixAfterInsertion_2 : decode cJ21_fixAfterInsertion 2 = .ok (.putfield 290, 3) := dk_181 1 34 (dk_at dksJ21_fixAfterInsertion_0 2 rfl rfl)
theorem dJ21_fixAfterInsertion_5 : decode cJ21_fixAfterInsertion 5 = .ok (.aload_n 1, 1) := dk_43 (dk_at dksJ21_fixAfterInsertion_0 5 rfl rfl)
theorem dJ21_fixAfterInsertion_6 : decode cJ21_fixAfterInsertion 6 = .ok (.ifnull 252, 3) := dk_198 0 252 (dk_at dksJ21_fixAfterInsertion_0 6 rfl rfl)
theorem dJ21_fixAfterInsertion_9 : decode cJ21_fixAfterInsertion 9 = .ok (.aload_n 1, 1) := dk_43 (dk_at dksJ21_fixAfterInsertion_0 9 rfl rfl)
theorem dJ21_fixAfterInsertion_10 : decode cJ21_fixAfterInsertion 10 = .ok (.aload_n 0, 1) := dk_42 (dk_at dksJ21_fixAfterInsertion_0 10 rfl rfl)
theorem dJ21_fixAfterInsertion_11 : decode cJ21_fixAfterInsertion 11 = .ok (.getfield 101, 3) := dk_180 0 101 (dk_at dksJ21_fixAfterInsertion_0 11 rfl rfl)
theorem dJ21_fixAfterInsertion_14 : decode cJ21_fixAfterInsertion 14 = .ok (.if_acmp .eq 244, 3) := dk_165 0 244 (dk_at dksJ21_fixAfterInsertion_0 14 rfl rfl)
theorem dJ21_fixAfterInsertion_17 : decode cJ21_fixAfterInsertion 17 = .ok (.aload_n 1, 1) := dk_43 (dk_at dksJ21_fixAfterInsertion_0 17 rfl rfl)
theorem dJ21_fixAfterInsertion_18 : decode cJ21_fixAfterInsertion 18 = .ok (.getfield 124, 3) := dk_180 0 124 (dk_at dksJ21_fixAfterInsertion_0 18 rfl rfl)
theorem dJ21_fixAfterInsertion_21 : decode cJ21_fixAfterInsertion 21 = .ok (.getfield 290, 3) := dk_180 1 34 (dk_at dksJ21_fixAfterInsertion_0 21 rfl rfl)
theorem dJ21_fixAfterInsertion_24 : decode cJ21_fixAfterInsertion 24 = .ok (.ifCond .ne 234, 3) := dk_154 0 234 (dk_at dksJ21_fixAfterInsertion_1 0 rfl rfl)
theorem dJ21_fixAfterInsertion_27 : decode cJ21_fixAfterInsertion 27 = .ok (.aload_n 1, 1) := dk_43 (dk_at dksJ21_fixAfterInsertion_1 3 rfl rfl)
theorem dJ21_fixAfterInsertion_28 : decode cJ21_fixAfterInsertion 28 = .ok (.invokestatic 294, 3) := dk_184 1 38 (dk_at dksJ21_fixAfterInsertion_1 4 rfl rfl)
theorem dJ21_fixAfterInsertion_31 : decode cJ21_fixAfterInsertion 31 = .ok (.aload_n 1, 1) := dk_43 (dk_at dksJ21_fixAfterInsertion_1 7 rfl rfl)
theorem dJ21_fixAfterInsertion_32 : decode cJ21_fixAfterInsertion 32 = .ok (.invokestatic 294, 3) := dk_184 1 38 (dk_at dksJ21_fixAfterInsertion_1 8 rfl rfl)
theorem dJ21_fixAfterInsertion_35 : decode cJ21_fixAfterInsertion 35 = .ok (.invokestatic 294, 3) := dk_184 1 38 (dk_at dksJ21_fixAfterInsertion_1 11 rfl rfl)
theorem dJ21_fixAfterInsertion_38 : decode cJ21_fixAfterInsertion 38 = .ok (.invokestatic 297, 3) := dk_184 1 41 (dk_at dksJ21_fixAfterInsertion_1 14 rfl rfl)
theorem dJ21_fixAfterInsertion_41 : decode cJ21_fixAfterInsertion 41 = .ok (.if_acmp .ne 110, 3) := dk_166 0 110 (dk_at dksJ21_fixAfterInsertion_1 17 rfl rfl)
theorem dJ21_fixAfterInsertion_44 : decode cJ21_fixAfterInsertion 44 = .ok (.aload_n 1, 1) := dk_43 (dk_at dksJ21_fixAfterInsertion_1 20 rfl rfl)
theorem dJ21_fixAfterInsertion_45 : decode cJ21_fixAfterInsertion 45 = .ok (.invokestatic 294, 3) := dk_184 1 38 (dk_at dksJ21_fixAfterInsertion_1 21 rfl rfl)
theorem dJ21_fixAfterInsertion_48 : decode cJ21_fixAfterInsertion 48 = .ok (.invokestatic 294, 3) := dk_184 1 38 (dk_at dksJ21_fixAfterInsertion_2 0 rfl rfl)
theorem dJ21_fixAfterInsertion_51 : decode cJ21_fixAfterInsertion 51 = .ok (.invokestatic 300, 3) := dk_184 1 44 (dk_at dksJ21_fixAfterInsertion_2 3 rfl rfl)
theorem dJ21_fixAfterInsertion_54 : decode cJ21_fixAfterInsertion 54 = .ok (.astore_n 2, 1) := dk_77 (dk_at dksJ21_fixAfterInsertion_2 6 rfl rfl)
theorem dJ21_fixAfterInsertion_55 : decode cJ21_fixAfterInsertion 55 = .ok (.aload_n 2, 1) := dk_44 (dk_at dksJ21_fixAfterInsertion_2 7 rfl rfl)
theorem dJ21_fixAfterInsertion_56 : decode cJ21_fixAfterInsertion 56 = .ok (.invokestatic 303, 3) := dk_184 1 47 (dk_at dksJ21_fixAfterInsertion_2 8 rfl rfl)
theorem dJ21_fixAfterInsertion_59 : decode cJ21_fixAfterInsertion 59 = .ok (.ifCond .ne 38, 3) := dk_154 0 38 (dk_at dksJ21_fixAfterInsertion_2 11 rfl rfl)
theorem dJ21_fixAfterInsertion_62 : decode cJ21_fixAfterInsertion 62 = .ok (.aload_n 1, 1) := dk_43 (dk_at dksJ21_fixAfterInsertion_2 14 rfl rfl)
theorem dJ21_fixAfterInsertion_63 : decode cJ21_fixAfterInsertion 63 = .ok (.invokestatic 294, 3) := dk_184 1 38 (dk_at dksJ21_fixAfterInsertion_2 15 rfl rfl)
theorem dJ21_fixAfterInsertion_66 : decode cJ21_fixAfterInsertion 66 = .ok (.iconst 1, 1) := dk_4 (dk_at dksJ21_fixAfterInsertion_2 18 rfl rfl)
theorem dJ21_fixAfterInsertion_67 : decode cJ21_fixAfterInsertion 67 = .ok (.invokestatic 307, 3) := dk_184 1 51 (dk_at dksJ21_fixAfterInsertion_2 19 rfl rfl)
theorem dJ21_fixAfterInsertion_70 : decode cJ21_fixAfterInsertion 70 = .ok (.aload_n 2, 1) := dk_44 (dk_at dksJ21_fixAfterInsertion_2 22 rfl rfl)
theorem dJ21_fixAfterInsertion_71 : decode cJ21_fixAfterInsertion 71 = .ok (.iconst 1, 1) := dk_4 (dk_at dksJ21_fixAfterInsertion_2 23 rfl rfl)
theorem dJ21_fixAfterInsertion_72 : decode cJ21_fixAfterInsertion 72 = .ok (.invokestatic 307, 3) := dk_184 1 51 (dk_at dksJ21_fixAfterInsertion_3 0 rfl rfl)
theorem dJ21_fixAfterInsertion_75 : decode cJ21_fixAfterInsertion 75 = .ok (.aload_n 1, 1) := dk_43 (dk_at dksJ21_fixAfterInsertion_3 3 rfl rfl)
theorem dJ21_fixAfterInsertion_76 : decode cJ21_fixAfterInsertion 76 = .ok (.invokestatic 294, 3) := dk_184 1 38 (dk_at dksJ21_fixAfterInsertion_3 4 rfl rfl)
theorem dJ21_fixAfterInsertion_79 : decode cJ21_fixAfterInsertion 79 = .ok (.invokestatic 294, 3) := dk_184 1 38 (dk_at dksJ21_fixAfterInsertion_3 7 rfl rfl)
theorem dJ21_fixAfterInsertion_82 : decode cJ21_fixAfterInsertion 82 = .ok (.iconst 0, 1) := dk_3 (dk_at dksJ21_fixAfterInsertion_3 10 rfl rfl)
theorem dJ21_fixAfterInsertion_83 : decode cJ21_fixAfterInsertion 83 = .ok (.invokestatic 307, 3) := dk_184 1 51 (dk_at dksJ21_fixAfterInsertion_3 11 rfl rfl)
theorem dJ21_fixAfterInsertion_86 : decode cJ21_fixAfterInsertion 86 = .ok (.aload_n 1, 1) := dk_43 (dk_at dksJ21_fixAfterInsertion_3 14 rfl rfl)
theorem dJ21_fixAfterInsertion_87 : decode cJ21_fixAfterInsertion 87 = .ok (.invokestatic 294, 3) := dk_184 1 38 (dk_at dksJ21_fixAfterInsertion_3 15 rfl rfl)
theorem dJ21_fixAfterInsertion_90 : decode cJ21_fixAfterInsertion 90 = .ok (.invokestatic 294, 3) := dk_184 1 38 (dk_at dksJ21_fixAfterInsertion_3 18 rfl rfl)
theorem dJ21_fixAfterInsertion_93 : decode cJ21_fixAfterInsertion 93 = .ok (.astore_n 1, 1) := dk_76 (dk_at dksJ21_fixAfterInsertion_3 21 rfl rfl)
theorem dJ21_fixAfterInsertion_94 : decode cJ21_fixAfterInsertion 94 = .ok (.goto 54, 3) := dk_167 0 54 (dk_at dksJ21_fixAfterInsertion_4 0 rfl rfl)
theorem dJ21_fixAfterInsertion_97 : decode cJ21_fixAfterInsertion 97 = .ok (.aload_n 1, 1) := dk_43 (dk_at dksJ21_fixAfterInsertion_4 3 rfl rfl)
theorem dJ21_fixAfterInsertion_98 : decode cJ21_fixAfterInsertion 98 = .ok (.aload_n 1, 1) := dk_43 (dk_at dksJ21_fixAfterInsertion_4 4 rfl rfl)
theorem dJ21_fixAfterInsertion_99 : decode cJ21_fixAfterInsertion 99 = .ok (.invokestatic 294, 3) := dk_184 1 38 (dk_at dksJ21_fixAfterInsertion_4 5 rfl rfl)
theorem dJ21_fixAfterInsertion_102 : decode cJ21_fixAfterInsertion 102 = .ok (.invokestatic 300, 3) := dk_184 1 44 (dk_at dksJ21_fixAfterInsertion_4 8 rfl rfl)
theorem dJ21_fixAfterInsertion_105 : decode cJ21_fixAfterInsertion 105 = .ok (.if_acmp .ne 13, 3) := dk_166 0 13 (dk_at dksJ21_fixAfterInsertion_4 11 rfl rfl)
theorem dJ21_fixAfterInsertion_108 : decode cJ21_fixAfterInsertion 108 = .ok (.aload_n 1, 1) := dk_43 (dk_at dksJ21_fixAfterInsertion_4 14 rfl rfl)
theorem dJ21_fixAfterInsertion_109 : decode cJ21_fixAfterInsertion 109 = .ok (.invokestatic 294, 3) := dk_184 1 38 (dk_at dksJ21_fixAfterInsertion_4 15 rfl rfl)
theorem dJ21_fixAfterInsertion_112 : decode cJ21_fixAfterInsertion 112 = .ok (.astore_n 1, 1) := dk_76 (dk_at dksJ21_fixAfterInsertion_4 18 rfl rfl)
theorem dJ21_fixAfterInsertion_113 : decode cJ21_fixAfterInsertion 113 = .ok (.aload_n 0, 1) := dk_42 (dk_at dksJ21_fixAfterInsertion_4 19 rfl rfl)
theorem dJ21_fixAfterInsertion_114 : decode cJ21_fixAfterInsertion 114 = .ok (.aload_n 1, 1) := dk_43 (dk_at dksJ21_fixAfterInsertion_4 20 rfl rfl)
theorem dJ21_fixAfterInsertion_115 : decode cJ21_fixAfterInsertion 115 = .ok (.invokevirtual 311, 3) := dk_182 1 55 (dk_at dksJ21_fixAfterInsertion_4 21 rfl rfl)
theorem dJ21_fixAfterInsertion_118 : decode cJ21_fixAfterInsertion 118 = .ok (.aload_n 1, 1) := dk_43 (dk_at dksJ21_fixAfterInsertion_5 0 rfl rfl)
theorem dJ21_fixAfterInsertion_119 : decode cJ21_fixAfterInsertion 119 = .ok (.invokestatic 294, 3) := dk_184 1 38 (dk_at dksJ21_fixAfterInsertion_5 1 rfl rfl)
theorem dJ21_fixAfterInsertion_122 : decode cJ21_fixAfterInsertion 122 = .ok (.iconst 1, 1) := dk_4 (dk_at dksJ21_fixAfterInsertion_5 4 rfl rfl)
theorem dJ21_fixAfterInsertion_123 : decode cJ21_fixAfterInsertion 123 = .ok (.invokestatic 307, 3) := dk_184 1 51 (dk_at dksJ21_fixAfterInsertion_5 5 rfl rfl)
theorem dJ21_fixAfterInsertion_126 : decode cJ21_fixAfterInsertion 126 = .ok (.aload_n 1, 1) := dk_43 (dk_at dksJ21_fixAfterInsertion_5 8 rfl rfl)
theorem dJ21_fixAfterInsertion_127 : decode cJ21_fixAfterInsertion 127 = .ok (.invokestatic 294, 3) := dk_184 1 38 (dk_at dksJ21_fixAfterInsertion_5 9 rfl rfl)
theorem dJ21_fixAfterInsertion_130 : decode cJ21_fixAfterInsertion 130 = .ok (.invokestatic 294, 3) := dk_184 1 38 (dk_at dksJ21_fixAfterInsertion_5 12 rfl rfl)
theorem dJ21_fixAfterInsertion_133 : decode cJ21_fixAfterInsertion 133 = .ok (.iconst 0, 1) := dk_3 (dk_at dksJ21_fixAfterInsertion_5 15 rfl rfl)
theorem dJ21_fixAfterInsertion_134 : decode cJ21_fixAfterInsertion 134 = .ok (.invokestatic 307, 3) := dk_184 1 51 (dk_at dksJ21_fixAfterInsertion_5 16 rfl rfl)
theorem dJ21_fixAfterInsertion_137 : decode cJ21_fixAfterInsertion 137 = .ok (.aload_n 0, 1) := dk_42 (dk_at dksJ21_fixAfterInsertion_5 19 rfl rfl)
theorem dJ21_fixAfterInsertion_138 : decode cJ21_fixAfterInsertion 138 = .ok (.aload_n 1, 1) := dk_43 (dk_at dksJ21_fixAfterInsertion_5 20 rfl rfl)
theorem dJ21_fixAfterInsertion_139 : decode cJ21_fixAfterInsertion 139 = .ok (.invokestatic 294, 3) := dk_184 1 38 (dk_at dksJ21_fixAfterInsertion_5 21 rfl rfl)
theorem dJ21_fixAfterInsertion_142 : decode cJ21_fixAfterInsertion 142 = .ok (.invokestatic 294, 3) := dk_184 1 38 (dk_at dksJ21_fixAfterInsertion_6 0 rfl rfl)
theorem dJ21_fixAfterInsertion_145 : decode cJ21_fixAfterInsertion 145 = .ok (.invokevirtual 314, 3) := dk_182 1 58 (dk_at dksJ21_fixAfterInsertion_6 3 rfl rfl)
theorem dJ21_fixAfterInsertion_148 : decode cJ21_fixAfterInsertion 148 = .ok (.goto (-143), 3) := dk_167 255 113 (dk_at dksJ21_fixAfterInsertion_6 6 rfl rfl)
theorem dJ21_fixAfterInsertion_151 : decode cJ21_fixAfterInsertion 151 = .ok (.aload_n 1, 1) := dk_43 (dk_at dksJ21_fixAfterInsertion_6 9 rfl rfl)
theorem dJ21_fixAfterInsertion_152 : decode cJ21_fixAfterInsertion 152 = .ok (.invokestatic 294, 3) := dk_184 1 38 (dk_at dksJ21_fixAfterInsertion_6 10 rfl rfl)
theorem dJ21_fixAfterInsertion_155 : decode cJ21_fixAfterInsertion 155 = .ok (.invokestatic 294, 3) := dk_184 1 38 (dk_at dksJ21_fixAfterInsertion_6 13 rfl rfl)
theorem dJ21_fixAfterInsertion_158 : decode cJ21_fixAfterInsertion 158 = .ok (.invokestatic 297, 3) := dk_184 1 41 (dk_at dksJ21_fixAfterInsertion_6 16 rfl rfl)
theorem dJ21_fixAfterInsertion_161 : decode cJ21_fixAfterInsertion 161 = .ok (.astore_n 2, 1) := dk_77 (dk_at dksJ21_fixAfterInsertion_6 19 rfl rfl)
theorem dJ21_fixAfterInsertion_162 : decode cJ21_fixAfterInsertion 162 = .ok (.aload_n 2, 1) := dk_44 (dk_at dksJ21_fixAfterInsertion_6 20 rfl rfl)
theorem dJ21_fixAfterInsertion_163 : decode cJ21_fixAfterInsertion 163 = .ok (.invokestatic 303, 3) := dk_184 1 47 (dk_at dksJ21_fixAfterInsertion_6 21 rfl rfl)
theorem dJ21_fixAfterInsertion_166 : decode cJ21_fixAfterInsertion 166 = .ok (.ifCond .ne 38, 3) := dk_154 0 38 (dk_at dksJ21_fixAfterInsertion_7 0 rfl rfl)
theorem dJ21_fixAfterInsertion_169 : decode cJ21_fixAfterInsertion 169 = .ok (.aload_n 1, 1) := dk_43 (dk_at dksJ21_fixAfterInsertion_7 3 rfl rfl)
theorem dJ21_fixAfterInsertion_170 : decode cJ21_fixAfterInsertion 170 = .ok (.invokestatic 294, 3) := dk_184 1 38 (dk_at dksJ21_fixAfterInsertion_7 4 rfl rfl)
theorem dJ21_fixAfterInsertion_173 : decode cJ21_fixAfterInsertion 173 = .ok (.iconst 1, 1) := dk_4 (dk_at dksJ21_fixAfterInsertion_7 7 rfl rfl)
theorem dJ21_fixAfterInsertion_174 : decode cJ21_fixAfterInsertion 174 = .ok (.invokestatic 307, 3) := dk_184 1 51 (dk_at dksJ21_fixAfterInsertion_7 8 rfl rfl)
theorem dJ21_fixAfterInsertion_177 : decode cJ21_fixAfterInsertion 177 = .ok (.aload_n 2, 1) := dk_44 (dk_at dksJ21_fixAfterInsertion_7 11 rfl rfl)
theorem dJ21_fixAfterInsertion_178 : decode cJ21_fixAfterInsertion 178 = .ok (.iconst 1, 1) := dk_4 (dk_at dksJ21_fixAfterInsertion_7 12 rfl rfl)
theorem dJ21_fixAfterInsertion_179 : decode cJ21_fixAfterInsertion 179 = .ok (.invokestatic 307, 3) := dk_184 1 51 (dk_at dksJ21_fixAfterInsertion_7 13 rfl rfl)
theorem dJ21_fixAfterInsertion_182 : decode cJ21_fixAfterInsertion 182 = .ok (.aload_n 1, 1) := dk_43 (dk_at dksJ21_fixAfterInsertion_7 16 rfl rfl)
theorem dJ21_fixAfterInsertion_183 : decode cJ21_fixAfterInsertion 183 = .ok (.invokestatic 294, 3) := dk_184 1 38 (dk_at dksJ21_fixAfterInsertion_7 17 rfl rfl)
theorem dJ21_fixAfterInsertion_186 : decode cJ21_fixAfterInsertion 186 = .ok (.invokestatic 294, 3) := dk_184 1 38 (dk_at dksJ21_fixAfterInsertion_7 20 rfl rfl)
theorem dJ21_fixAfterInsertion_189 : decode cJ21_fixAfterInsertion 189 = .ok (.iconst 0, 1) := dk_3 (dk_at dksJ21_fixAfterInsertion_7 23 rfl rfl)
theorem dJ21_fixAfterInsertion_190 : decode cJ21_fixAfterInsertion 190 = .ok (.invokestatic 307, 3) := dk_184 1 51 (dk_at dksJ21_fixAfterInsertion_8 0 rfl rfl)
theorem dJ21_fixAfterInsertion_193 : decode cJ21_fixAfterInsertion 193 = .ok (.aload_n 1, 1) := dk_43 (dk_at dksJ21_fixAfterInsertion_8 3 rfl rfl)
theorem dJ21_fixAfterInsertion_194 : decode cJ21_fixAfterInsertion 194 = .ok (.invokestatic 294, 3) := dk_184 1 38 (dk_at dksJ21_fixAfterInsertion_8 4 rfl rfl)
theorem dJ21_fixAfterInsertion_197 : decode cJ21_fixAfterInsertion 197 = .ok (.invokestatic 294, 3) := dk_184 1 38 (dk_at dksJ21_fixAfterInsertion_8 7 rfl rfl)
theorem dJ21_fixAfterInsertion_200 : decode cJ21_fixAfterInsertion 200 = .ok (.astore_n 1, 1) := dk_76 (dk_at dksJ21_fixAfterInsertion_8 10 rfl rfl)
theorem dJ21_fixAfterInsertion_201 : decode cJ21_fixAfterInsertion 201 = .ok (.goto 54, 3) := dk_167 0 54 (dk_at dksJ21_fixAfterInsertion_8 11 rfl rfl)
theorem dJ21_fixAfterInsertion_204 : decode cJ21_fixAfterInsertion 204 = .ok (.aload_n 1, 1) := dk_43 (dk_at dksJ21_fixAfterInsertion_8 14 rfl rfl)
theorem dJ21_fixAfterInsertion_205 : decode cJ21_fixAfterInsertion 205 = .ok (.aload_n 1, 1) := dk_43 (dk_at dksJ21_fixAfterInsertion_8 15 rfl rfl)
theorem dJ21_fixAfterInsertion_206 : decode cJ21_fixAfterInsertion 206 = .ok (.invokestatic 294, 3) := dk_184 1 38 (dk_at dksJ21_fixAfterInsertion_8 16 rfl rfl)
theorem dJ21_fixAfterInsertion_209 : decode cJ21_fixAfterInsertion 209 = .ok (.invokestatic 297, 3) := dk_184 1 41 (dk_at dksJ21_fixAfterInsertion_8 19 rfl rfl)
theorem dJ21_fixAfterInsertion_212 : decode cJ21_fixAfterInsertion 212 = .ok (.if_acmp .ne 13, 3) := dk_166 0 13 (dk_at dksJ21_fixAfterInsertion_9 0 rfl rfl)
theorem dJ21_fixAfterInsertion_215 : decode cJ21_fixAfterInsertion 215 = .ok (.aload_n 1, 1) := dk_43 (dk_at dksJ21_fixAfterInsertion_9 3 rfl rfl)
theorem dJ21_fixAfterInsertion_216 : decode cJ21_fixAfterInsertion 216 = .ok (.invokestatic 294, 3) := dk_184 1 38 (dk_at dksJ21_fixAfterInsertion_9 4 rfl rfl)
theorem dJ21_fixAfterInsertion_219 : decode cJ21_fixAfterInsertion 219 = .ok (.astore_n 1, 1) := dk_76 (dk_at dksJ21_fixAfterInsertion_9 7 rfl rfl)
theorem dJ21_fixAfterInsertion_220 : decode cJ21_fixAfterInsertion 220 = .ok (.aload_n 0, 1) := dk_42 (dk_at dksJ21_fixAfterInsertion_9 8 rfl rfl)
theorem dJ21_fixAfterInsertion_221 : decode cJ21_fixAfterInsertion 221 = .ok (.aload_n 1, 1) := dk_43 (dk_at dksJ21_fixAfterInsertion_9 9 rfl rfl)
theorem dJ21_fixAfterInsertion_222 : decode cJ21_fixAfterInsertion 222 = .ok (.invokevirtual 314, 3) := dk_182 1 58 (dk_at dksJ21_fixAfterInsertion_9 10 rfl rfl)
theorem dJ21_fixAfterInsertion_225 : decode cJ21_fixAfterInsertion 225 = .ok (.aload_n 1, 1) := dk_43 (dk_at dksJ21_fixAfterInsertion_9 13 rfl rfl)
theorem dJ21_fixAfterInsertion_226 : decode cJ21_fixAfterInsertion 226 = .ok (.invokestatic 294, 3) := dk_184 1 38 (dk_at dksJ21_fixAfterInsertion_9 14 rfl rfl)
theorem dJ21_fixAfterInsertion_229 : decode cJ21_fixAfterInsertion 229 = .ok (.iconst 1, 1) := dk_4 (dk_at dksJ21_fixAfterInsertion_9 17 rfl rfl)
theorem dJ21_fixAfterInsertion_230 : decode cJ21_fixAfterInsertion 230 = .ok (.invokestatic 307, 3) := dk_184 1 51 (dk_at dksJ21_fixAfterInsertion_9 18 rfl rfl)
theorem dJ21_fixAfterInsertion_233 : decode cJ21_fixAfterInsertion 233 = .ok (.aload_n 1, 1) := dk_43 (dk_at dksJ21_fixAfterInsertion_9 21 rfl rfl)
theorem dJ21_fixAfterInsertion_234 : decode cJ21_fixAfterInsertion 234 = .ok (.invokestatic 294, 3) := dk_184 1 38 (dk_at dksJ21_fixAfterInsertion_10 0 rfl rfl)
theorem dJ21_fixAfterInsertion_237 : decode cJ21_fixAfterInsertion 237 = .ok (.invokestatic 294, 3) := dk_184 1 38 (dk_at dksJ21_fixAfterInsertion_10 3 rfl rfl)
theorem dJ21_fixAfterInsertion_240 : decode cJ21_fixAfterInsertion 240 = .ok (.iconst 0, 1) := dk_3 (dk_at dksJ21_fixAfterInsertion_10 6 rfl rfl)
theorem dJ21_fixAfterInsertion_241 : decode cJ21_fixAfterInsertion 241 = .ok (.invokestatic 307, 3) := dk_184 1 51 (dk_at dksJ21_fixAfterInsertion_10 7 rfl rfl)
theorem dJ21_fixAfterInsertion_244 : decode cJ21_fixAfterInsertion 244 = .ok (.aload_n 0, 1) := dk_42 (dk_at dksJ21_fixAfterInsertion_10 10 rfl rfl)
theorem dJ21_fixAfterInsertion_245 : decode cJ21_fixAfterInsertion 245 = .ok (.aload_n 1, 1) := dk_43 (dk_at dksJ21_fixAfterInsertion_10 11 rfl rfl)
theorem dJ21_fixAfterInsertion_246 : decode cJ21_fixAfterInsertion 246 = .ok (.invokestatic 294, 3) := dk_184 1 38 (dk_at dksJ21_fixAfterInsertion_10 12 rfl rfl)
theorem dJ21_fixAfterInsertion_249 : decode cJ21_fixAfterInsertion 249 = .ok (.invokestatic 294, 3) := dk_184 1 38 (dk_at dksJ21_fixAfterInsertion_10 15 rfl rfl)
theorem dJ21_fixAfterInsertion_252 : decode cJ21_fixAfterInsertion 252 = .ok (.invokevirtual 311, 3) := dk_182 1 55 (dk_at dksJ21_fixAfterInsertion_10 18 rfl rfl)
theorem dJ21_fixAfterInsertion_255 : decode cJ21_fixAfterInsertion 255 = .ok (.goto (-250), 3) := dk_167 255 6 (dk_at dksJ21_fixAfterInsertion_10 21 rfl rfl)
theorem dJ21_fixAfterInsertion_258 : decode cJ21_fixAfterInsertion 258 = .ok (.aload_n 0, 1) := dk_42 (dk_at dksJ21_fixAfterInsertion_11 0 rfl rfl)
theorem dJ21_fixAfterInsertion_259 : decode cJ21_fixAfterInsertion 259 = .ok (.getfield 101, 3) := dk_180 0 101 (dk_at dksJ21_fixAfterInsertion_11 1 rfl rfl)
theorem dJ21_fixAfterInsertion_262 : decode cJ21_fixAfterInsertion 262 = .ok (.iconst 1, 1) := dk_4 (dk_at dksJ21_fixAfterInsertion_11 4 rfl rfl)
theorem dJ21_fixAfterInsertion_263 : decode cJ21_fixAfterInsertion 263 = .ok (.putfield 290, 3) := dk_181 1 34 (dk_at dksJ21_fixAfterInsertion_11 5 rfl rfl)
theorem dJ21_fixAfterInsertion_266 : decode cJ21_fixAfterInsertion 266 = .ok (.return_, 1) := dk_177 (dk_at dksJ21_fixAfterInsertion_11 8 rfl rfl)
abbrev cJ21_parentOf : ByteArray := prog_66_method_77_code
def yJ21_parentOf : MethodName := ⟨RJ21, "parentOf", "(Ljava/util/TreeMap$Entry;)Ljava/util/TreeMap$Entry;"⟩
def dkwJ21_parentOf_0 : List UInt8 := [42, 199, 0, 7, 1, 167, 0, 7, 42, 180, 0, 124, 176]
abbrev dktJ21_parentOf_0 : List UInt8 := dkwJ21_parentOf_0 ++ []
theorem dksJ21_parentOf_0 : cJ21_parentOf.data.toList.drop 0 = dktJ21_parentOf_0 := by decide +kernel
theorem dJ21_parentOf_0 : decode cJ21_parentOf 0 = .ok (.aload_n 0, 1) := dk_42 (dk_at dksJ21_parentOf_0 0 rfl rfl)
theorem dJ21_parentOf_1 : decode cJ21_parentOf 1 = .ok (.ifnonnull 7, 3) := dk_199 0 7 (dk_at dksJ21_parentOf_0 1 rfl rfl)
theorem dJ21_parentOf_4 : decode cJ21_parentOf 4 = .ok (.aconst_null, 1) := dk_1 (dk_at dksJ21_parentOf_0 4 rfl rfl)
theorem dJ21_parentOf_5 : decode cJ21_parentOf 5 = .ok (.goto 7, 3) := dk_167 0 7 (dk_at dksJ21_parentOf_0 5 rfl rfl)
theorem dJ21_parentOf_8 : decode cJ21_parentOf 8 = .ok (.aload_n 0, 1) := dk_42 (dk_at dksJ21_parentOf_0 8 rfl rfl)
theorem dJ21_parentOf_9 : decode cJ21_parentOf 9 = .ok (.getfield 124, 3) := dk_180 0 124 (dk_at dksJ21_parentOf_0 9 rfl rfl)
theorem dJ21_parentOf_12 : decode cJ21_parentOf 12 = .ok (.areturn, 1) := dk_176 (dk_at dksJ21_parentOf_0 12 rfl rfl)
abbrev cJ21_leftOf : ByteArray := prog_66_method_79_code
def yJ21_leftOf : MethodName := ⟨RJ21, "leftOf", "(Ljava/util/TreeMap$Entry;)Ljava/util/TreeMap$Entry;"⟩
def dkwJ21_leftOf_0 : List UInt8 := [42, 199, 0, 7, 1, 167, 0, 7, 42, 180, 0, 111, 176]
abbrev dktJ21_leftOf_0 : List UInt8 := dkwJ21_leftOf_0 ++ []
theorem dksJ21_leftOf_0 : cJ21_leftOf.data.toList.drop 0 = dktJ21_leftOf_0 := by decide +kernel
theorem dJ21_leftOf_0 : decode cJ21_leftOf 0 = .ok (.aload_n 0, 1) := dk_42 (dk_at dksJ21_leftOf_0 0 rfl rfl)
theorem dJ21_leftOf_1 : decode cJ21_leftOf 1 = .ok (.ifnonnull 7, 3) := dk_199 0 7 (dk_at dksJ21_leftOf_0 1 rfl rfl)
theorem dJ21_leftOf_4 : decode cJ21_leftOf 4 = .ok (.aconst_null, 1) := dk_1 (dk_at dksJ21_leftOf_0 4 rfl rfl)
theorem dJ21_leftOf_5 : decode cJ21_leftOf 5 = .ok (.goto 7, 3) := dk_167 0 7 (dk_at dksJ21_leftOf_0 5 rfl rfl)
theorem dJ21_leftOf_8 : decode cJ21_leftOf 8 = .ok (.aload_n 0, 1) := dk_42 (dk_at dksJ21_leftOf_0 8 rfl rfl)
theorem dJ21_leftOf_9 : decode cJ21_leftOf 9 = .ok (.getfield 111, 3) := dk_180 0 111 (dk_at dksJ21_leftOf_0 9 rfl rfl)
theorem dJ21_leftOf_12 : decode cJ21_leftOf 12 = .ok (.areturn, 1) := dk_176 (dk_at dksJ21_leftOf_0 12 rfl rfl)
abbrev cJ21_rightOf : ByteArray := prog_66_method_80_code
def yJ21_rightOf : MethodName := ⟨RJ21, "rightOf", "(Ljava/util/TreeMap$Entry;)Ljava/util/TreeMap$Entry;"⟩
def dkwJ21_rightOf_0 : List UInt8 := [42, 199, 0, 7, 1, 167, 0, 7, 42, 180, 0, 114, 176]
abbrev dktJ21_rightOf_0 : List UInt8 := dkwJ21_rightOf_0 ++ []
theorem dksJ21_rightOf_0 : cJ21_rightOf.data.toList.drop 0 = dktJ21_rightOf_0 := by decide +kernel
theorem dJ21_rightOf_0 : decode cJ21_rightOf 0 = .ok (.aload_n 0, 1) := dk_42 (dk_at dksJ21_rightOf_0 0 rfl rfl)
theorem dJ21_rightOf_1 : decode cJ21_rightOf 1 = .ok (.ifnonnull 7, 3) := dk_199 0 7 (dk_at dksJ21_rightOf_0 1 rfl rfl)
theorem dJ21_rightOf_4 : decode cJ21_rightOf 4 = .ok (.aconst_null, 1) := dk_1 (dk_at dksJ21_rightOf_0 4 rfl rfl)
theorem dJ21_rightOf_5 : decode cJ21_rightOf 5 = .ok (.goto 7, 3) := dk_167 0 7 (dk_at dksJ21_rightOf_0 5 rfl rfl)
theorem dJ21_rightOf_8 : decode cJ21_rightOf 8 = .ok (.aload_n 0, 1) := dk_42 (dk_at dksJ21_rightOf_0 8 rfl rfl)
theorem dJ21_rightOf_9 : decode cJ21_rightOf 9 = .ok (.getfield 114, 3) := dk_180 0 114 (dk_at dksJ21_rightOf_0 9 rfl rfl)
theorem dJ21_rightOf_12 : decode cJ21_rightOf 12 = .ok (.areturn, 1) := dk_176 (dk_at dksJ21_rightOf_0 12 rfl rfl)
abbrev cJ21_colorOf : ByteArray := prog_66_method_76_code
def yJ21_colorOf : MethodName := ⟨RJ21, "colorOf", "(Ljava/util/TreeMap$Entry;)Z"⟩
def dkwJ21_colorOf_0 : List UInt8 := [42, 199, 0, 7, 4, 167, 0, 7, 42, 180, 1, 34, 172]
abbrev dktJ21_colorOf_0 : List UInt8 := dkwJ21_colorOf_0 ++ []
theorem dksJ21_colorOf_0 : cJ21_colorOf.data.toList.drop 0 = dktJ21_colorOf_0 := by decide +kernel
theorem dJ21_colorOf_0 : decode cJ21_colorOf 0 = .ok (.aload_n 0, 1) := dk_42 (dk_at dksJ21_colorOf_0 0 rfl rfl)
theorem dJ21_colorOf_1 : decode cJ21_colorOf 1 = .ok (.ifnonnull 7, 3) := dk_199 0 7 (dk_at dksJ21_colorOf_0 1 rfl rfl)
theorem dJ21_colorOf_4 : decode cJ21_colorOf 4 = .ok (.iconst 1, 1) := dk_4 (dk_at dksJ21_colorOf_0 4 rfl rfl)
theorem dJ21_colorOf_5 : decode cJ21_colorOf 5 = .ok (.goto 7, 3) := dk_167 0 7 (dk_at dksJ21_colorOf_0 5 rfl rfl)
theorem dJ21_colorOf_8 : decode cJ21_colorOf 8 = .ok (.aload_n 0, 1) := dk_42 (dk_at dksJ21_colorOf_0 8 rfl rfl)
theorem dJ21_colorOf_9 : decode cJ21_colorOf 9 = .ok (.getfield 290, 3) := dk_180 1 34 (dk_at dksJ21_colorOf_0 9 rfl rfl)
theorem dJ21_colorOf_12 : decode cJ21_colorOf 12 = .ok (.ireturn, 1) := dk_172 (dk_at dksJ21_colorOf_0 12 rfl rfl)
abbrev cJ21_setColor : ByteArray := prog_66_method_78_code
def yJ21_setColor : MethodName := ⟨RJ21, "setColor", "(Ljava/util/TreeMap$Entry;Z)V"⟩
def dkwJ21_setColor_0 : List UInt8 := [42, 198, 0, 8, 42, 27, 181, 1, 34, 177]
abbrev dktJ21_setColor_0 : List UInt8 := dkwJ21_setColor_0 ++ []
theorem dksJ21_setColor_0 : cJ21_setColor.data.toList.drop 0 = dktJ21_setColor_0 := by decide +kernel
theorem dJ21_setColor_0 : decode cJ21_setColor 0 = .ok (.aload_n 0, 1) := dk_42 (dk_at dksJ21_setColor_0 0 rfl rfl)
theorem dJ21_setColor_1 : decode cJ21_setColor 1 = .ok (.ifnull 8, 3) := dk_198 0 8 (dk_at dksJ21_setColor_0 1 rfl rfl)
theorem dJ21_setColor_4 : decode cJ21_setColor 4 = .ok (.aload_n 0, 1) := dk_42 (dk_at dksJ21_setColor_0 4 rfl rfl)
theorem dJ21_setColor_5 : decode cJ21_setColor 5 = .ok (.iload_n 1, 1) := dk_27 (dk_at dksJ21_setColor_0 5 rfl rfl)
theorem dJ21_setColor_6 : decode cJ21_setColor 6 = .ok (.putfield 290, 3) := dk_181 1 34 (dk_at dksJ21_setColor_0 6 rfl rfl)
theorem dJ21_setColor_9 : decode cJ21_setColor 9 = .ok (.return_, 1) := dk_177 (dk_at dksJ21_setColor_0 9 rfl rfl)
abbrev cJ21_rotateLeft : ByteArray := prog_66_method_81_code
def yJ21_rotateLeft : MethodName := ⟨RJ21, "rotateLeft", "(Ljava/util/TreeMap$Entry;)V"⟩
def dkwJ21_rotateLeft_4 : List UInt8 := [177]
abbrev dktJ21_rotateLeft_4 : List UInt8 := dkwJ21_rotateLeft_4 ++ []
def dkwJ21_rotateLeft_3 : List UInt8 := [181, 0, 111, 167, 0, 11, 43, 180, 0, 124, 44, 181, 0, 114, 44, 43, 181, 0, 111, 43, 44, 181, 0, 124]
abbrev dktJ21_rotateLeft_3 : List UInt8 := dkwJ21_rotateLeft_3 ++ dktJ21_rotateLeft_4
def dkwJ21_rotateLeft_2 : List UInt8 := [44, 181, 0, 101, 167, 0, 33, 43, 180, 0, 124, 180, 0, 111, 43, 166, 0, 14, 43, 180, 0, 124, 44]
abbrev dktJ21_rotateLeft_2 : List UInt8 := dkwJ21_rotateLeft_2 ++ dktJ21_rotateLeft_3
def dkwJ21_rotateLeft_1 : List UInt8 := [44, 180, 0, 111, 43, 181, 0, 124, 44, 43, 180, 0, 124, 181, 0, 124, 43, 180, 0, 124, 199, 0, 11, 42]
abbrev dktJ21_rotateLeft_1 : List UInt8 := dkwJ21_rotateLeft_1 ++ dktJ21_rotateLeft_2
def dkwJ21_rotateLeft_0 : List UInt8 := [43, 198, 0, 94, 43, 180, 0, 114, 77, 43, 44, 180, 0, 111, 181, 0, 114, 44, 180, 0, 111, 198, 0, 11]
abbrev dktJ21_rotateLeft_0 : List UInt8 := dkwJ21_rotateLeft_0 ++ dktJ21_rotateLeft_1
theorem dksJ21_rotateLeft_0 : cJ21_rotateLeft.data.toList.drop 0 = dktJ21_rotateLeft_0 := by decide +kernel
theorem dksJ21_rotateLeft_1 : cJ21_rotateLeft.data.toList.drop 24 = dktJ21_rotateLeft_1 := dk_seg dksJ21_rotateLeft_0 24 rfl rfl
theorem dksJ21_rotateLeft_2 : cJ21_rotateLeft.data.toList.drop 48 = dktJ21_rotateLeft_2 := dk_seg dksJ21_rotateLeft_1 24 rfl rfl
theorem dksJ21_rotateLeft_3 : cJ21_rotateLeft.data.toList.drop 71 = dktJ21_rotateLeft_3 := dk_seg dksJ21_rotateLeft_2 23 rfl rfl
theorem dksJ21_rotateLeft_4 : cJ21_rotateLeft.data.toList.drop 95 = dktJ21_rotateLeft_4 := dk_seg dksJ21_rotateLeft_3 24 rfl rfl
theorem dJ21_rotateLeft_0 : decode cJ21_rotateLeft 0 = .ok (.aload_n 1, 1) := dk_43 (dk_at dksJ21_rotateLeft_0 0 rfl rfl)
theorem dJ21_rotateLeft_1 : decode cJ21_rotateLeft 1 = .ok (.ifnull 94, 3) := dk_198 0 94 (dk_at dksJ21_rotateLeft_0 1 rfl rfl)
theorem dJ21_rotateLeft_4 : decode cJ21_rotateLeft 4 = .ok (.aload_n 1, 1) := dk_43 (dk_at dksJ21_rotateLeft_0 4 rfl rfl)
theorem dJ21_rotateLeft_5 : decode cJ21_rotateLeft 5 = .ok (.getfield 114, 3) := dk_180 0 114 (dk_at dksJ21_rotateLeft_0 5 rfl rfl)
theorem dJ21_rotateLeft_8 : decode cJ21_rotateLeft 8 = .ok (.astore_n 2, 1) := dk_77 (dk_at dksJ21_rotateLeft_0 8 rfl rfl)
theorem dJ21_rotateLeft_9 : decode cJ21_rotateLeft 9 = .ok (.aload_n 1, 1) := dk_43 (dk_at dksJ21_rotateLeft_0 9 rfl rfl)
theorem dJ21_rotateLeft_10 : decode cJ21_rotateLeft 10 = .ok (.aload_n 2, 1) := dk_44 (dk_at dksJ21_rotateLeft_0 10 rfl rfl)
theorem dJ21_rotateLeft_11 : decode cJ21_rotateLeft 11 = .ok (.getfield 111, 3) := dk_180 0 111 (dk_at dksJ21_rotateLeft_0 11 rfl rfl)
theorem dJ21_rotateLeft_14 : decode cJ21_rotateLeft 14 = .ok (.putfield 114, 3) := dk_181 0 114 (dk_at dksJ21_rotateLeft_0 14 rfl rfl)
theorem dJ21_rotateLeft_17 : decode cJ21_rotateLeft 17 = .ok (.aload_n 2, 1) := dk_44 (dk_at dksJ21_rotateLeft_0 17 rfl rfl)
theorem dJ21_rotateLeft_18 : decode cJ21_rotateLeft 18 = .ok (.getfield 111, 3) := dk_180 0 111 (dk_at dksJ21_rotateLeft_0 18 rfl rfl)
theorem dJ21_rotateLeft_21 : decode cJ21_rotateLeft 21 = .ok (.ifnull 11, 3) := dk_198 0 11 (dk_at dksJ21_rotateLeft_0 21 rfl rfl)
theorem dJ21_rotateLeft_24 : decode cJ21_rotateLeft 24 = .ok (.aload_n 2, 1) := dk_44 (dk_at dksJ21_rotateLeft_1 0 rfl rfl)
theorem dJ21_rotateLeft_25 : decode cJ21_rotateLeft 25 = .ok (.getfield 111, 3) := dk_180 0 111 (dk_at dksJ21_rotateLeft_1 1 rfl rfl)
theorem dJ21_rotateLeft_28 : decode cJ21_rotateLeft 28 = .ok (.aload_n 1, 1) := dk_43 (dk_at dksJ21_rotateLeft_1 4 rfl rfl)
theorem dJ21_rotateLeft_29 : decode cJ21_rotateLeft 29 = .ok (.putfield 124, 3) := dk_181 0 124 (dk_at dksJ21_rotateLeft_1 5 rfl rfl)
theorem dJ21_rotateLeft_32 : decode cJ21_rotateLeft 32 = .ok (.aload_n 2, 1) := dk_44 (dk_at dksJ21_rotateLeft_1 8 rfl rfl)
theorem dJ21_rotateLeft_33 : decode cJ21_rotateLeft 33 = .ok (.aload_n 1, 1) := dk_43 (dk_at dksJ21_rotateLeft_1 9 rfl rfl)
theorem dJ21_rotateLeft_34 : decode cJ21_rotateLeft 34 = .ok (.getfield 124, 3) := dk_180 0 124 (dk_at dksJ21_rotateLeft_1 10 rfl rfl)
theorem dJ21_rotateLeft_37 : decode cJ21_rotateLeft 37 = .ok (.putfield 124, 3) := dk_181 0 124 (dk_at dksJ21_rotateLeft_1 13 rfl rfl)
theorem dJ21_rotateLeft_40 : decode cJ21_rotateLeft 40 = .ok (.aload_n 1, 1) := dk_43 (dk_at dksJ21_rotateLeft_1 16 rfl rfl)
theorem dJ21_rotateLeft_41 : decode cJ21_rotateLeft 41 = .ok (.getfield 124, 3) := dk_180 0 124 (dk_at dksJ21_rotateLeft_1 17 rfl rfl)
theorem dJ21_rotateLeft_44 : decode cJ21_rotateLeft 44 = .ok (.ifnonnull 11, 3) := dk_199 0 11 (dk_at dksJ21_rotateLeft_1 20 rfl rfl)
theorem dJ21_rotateLeft_47 : decode cJ21_rotateLeft 47 = .ok (.aload_n 0, 1) := dk_42 (dk_at dksJ21_rotateLeft_1 23 rfl rfl)
theorem dJ21_rotateLeft_48 : decode cJ21_rotateLeft 48 = .ok (.aload_n 2, 1) := dk_44 (dk_at dksJ21_rotateLeft_2 0 rfl rfl)
theorem dJ21_rotateLeft_49 : decode cJ21_rotateLeft 49 = .ok (.putfield 101, 3) := dk_181 0 101 (dk_at dksJ21_rotateLeft_2 1 rfl rfl)
theorem dJ21_rotateLeft_52 : decode cJ21_rotateLeft 52 = .ok (.goto 33, 3) := dk_167 0 33 (dk_at dksJ21_rotateLeft_2 4 rfl rfl)
theorem dJ21_rotateLeft_55 : decode cJ21_rotateLeft 55 = .ok (.aload_n 1, 1) := dk_43 (dk_at dksJ21_rotateLeft_2 7 rfl rfl)
theorem dJ21_rotateLeft_56 : decode cJ21_rotateLeft 56 = .ok (.getfield 124, 3) := dk_180 0 124 (dk_at dksJ21_rotateLeft_2 8 rfl rfl)
theorem dJ21_rotateLeft_59 : decode cJ21_rotateLeft 59 = .ok (.getfield 111, 3) := dk_180 0 111 (dk_at dksJ21_rotateLeft_2 11 rfl rfl)
theorem dJ21_rotateLeft_62 : decode cJ21_rotateLeft 62 = .ok (.aload_n 1, 1) := dk_43 (dk_at dksJ21_rotateLeft_2 14 rfl rfl)
theorem dJ21_rotateLeft_63 : decode cJ21_rotateLeft 63 = .ok (.if_acmp .ne 14, 3) := dk_166 0 14 (dk_at dksJ21_rotateLeft_2 15 rfl rfl)
theorem dJ21_rotateLeft_66 : decode cJ21_rotateLeft 66 = .ok (.aload_n 1, 1) := dk_43 (dk_at dksJ21_rotateLeft_2 18 rfl rfl)
theorem dJ21_rotateLeft_67 : decode cJ21_rotateLeft 67 = .ok (.getfield 124, 3) := dk_180 0 124 (dk_at dksJ21_rotateLeft_2 19 rfl rfl)
theorem dJ21_rotateLeft_70 : decode cJ21_rotateLeft 70 = .ok (.aload_n 2, 1) := dk_44 (dk_at dksJ21_rotateLeft_2 22 rfl rfl)
theorem dJ21_rotateLeft_71 : decode cJ21_rotateLeft 71 = .ok (.putfield 111, 3) := dk_181 0 111 (dk_at dksJ21_rotateLeft_3 0 rfl rfl)
theorem dJ21_rotateLeft_74 : decode cJ21_rotateLeft 74 = .ok (.goto 11, 3) := dk_167 0 11 (dk_at dksJ21_rotateLeft_3 3 rfl rfl)
theorem dJ21_rotateLeft_77 : decode cJ21_rotateLeft 77 = .ok (.aload_n 1, 1) := dk_43 (dk_at dksJ21_rotateLeft_3 6 rfl rfl)
theorem dJ21_rotateLeft_78 : decode cJ21_rotateLeft 78 = .ok (.getfield 124, 3) := dk_180 0 124 (dk_at dksJ21_rotateLeft_3 7 rfl rfl)
theorem dJ21_rotateLeft_81 : decode cJ21_rotateLeft 81 = .ok (.aload_n 2, 1) := dk_44 (dk_at dksJ21_rotateLeft_3 10 rfl rfl)
theorem dJ21_rotateLeft_82 : decode cJ21_rotateLeft 82 = .ok (.putfield 114, 3) := dk_181 0 114 (dk_at dksJ21_rotateLeft_3 11 rfl rfl)
theorem dJ21_rotateLeft_85 : decode cJ21_rotateLeft 85 = .ok (.aload_n 2, 1) := dk_44 (dk_at dksJ21_rotateLeft_3 14 rfl rfl)
theorem dJ21_rotateLeft_86 : decode cJ21_rotateLeft 86 = .ok (.aload_n 1, 1) := dk_43 (dk_at dksJ21_rotateLeft_3 15 rfl rfl)
theorem dJ21_rotateLeft_87 : decode cJ21_rotateLeft 87 = .ok (.putfield 111, 3) := dk_181 0 111 (dk_at dksJ21_rotateLeft_3 16 rfl rfl)
theorem dJ21_rotateLeft_90 : decode cJ21_rotateLeft 90 = .ok (.aload_n 1, 1) := dk_43 (dk_at dksJ21_rotateLeft_3 19 rfl rfl)
theorem dJ21_rotateLeft_91 : decode cJ21_rotateLeft 91 = .ok (.aload_n 2, 1) := dk_44 (dk_at dksJ21_rotateLeft_3 20 rfl rfl)
theorem dJ21_rotateLeft_92 : decode cJ21_rotateLeft 92 = .ok (.putfield 124, 3) := dk_181 0 124 (dk_at dksJ21_rotateLeft_3 21 rfl rfl)
theorem dJ21_rotateLeft_95 : decode cJ21_rotateLeft 95 = .ok (.return_, 1) := dk_177 (dk_at dksJ21_rotateLeft_4 0 rfl rfl)
abbrev cJ21_rotateRight : ByteArray := prog_66_method_82_code
def yJ21_rotateRight : MethodName := ⟨RJ21, "rotateRight", "(Ljava/util/TreeMap$Entry;)V"⟩
def dkwJ21_rotateRight_4 : List UInt8 := [177]
abbrev dktJ21_rotateRight_4 : List UInt8 := dkwJ21_rotateRight_4 ++ []
def dkwJ21_rotateRight_3 : List UInt8 := [181, 0, 114, 167, 0, 11, 43, 180, 0, 124, 44, 181, 0, 111, 44, 43, 181, 0, 114, 43, 44, 181, 0, 124]
abbrev dktJ21_rotateRight_3 : List UInt8 := dkwJ21_rotateRight_3 ++ dktJ21_rotateRight_4
def dkwJ21_rotateRight_2 : List UInt8 := [44, 181, 0, 101, 167, 0, 33, 43, 180, 0, 124, 180, 0, 114, 43, 166, 0, 14, 43, 180, 0, 124, 44]
abbrev dktJ21_rotateRight_2 : List UInt8 := dkwJ21_rotateRight_2 ++ dktJ21_rotateRight_3
def dkwJ21_rotateRight_1 : List UInt8 := [44, 180, 0, 114, 43, 181, 0, 124, 44, 43, 180, 0, 124, 181, 0, 124, 43, 180, 0, 124, 199, 0, 11, 42]
abbrev dktJ21_rotateRight_1 : List UInt8 := dkwJ21_rotateRight_1 ++ dktJ21_rotateRight_2
def dkwJ21_rotateRight_0 : List UInt8 := [43, 198, 0, 94, 43, 180, 0, 111, 77, 43, 44, 180, 0, 114, 181, 0, 111, 44, 180, 0, 114, 198, 0, 11]
abbrev dktJ21_rotateRight_0 : List UInt8 := dkwJ21_rotateRight_0 ++ dktJ21_rotateRight_1
theorem dksJ21_rotateRight_0 : cJ21_rotateRight.data.toList.drop 0 = dktJ21_rotateRight_0 := by decide +kernel
theorem dksJ21_rotateRight_1 : cJ21_rotateRight.data.toList.drop 24 = dktJ21_rotateRight_1 := dk_seg dksJ21_rotateRight_0 24 rfl rfl
theorem dksJ21_rotateRight_2 : cJ21_rotateRight.data.toList.drop 48 = dktJ21_rotateRight_2 := dk_seg dksJ21_rotateRight_1 24 rfl rfl
theorem dksJ21_rotateRight_3 : cJ21_rotateRight.data.toList.drop 71 = dktJ21_rotateRight_3 := dk_seg dksJ21_rotateRight_2 23 rfl rfl
theorem dksJ21_rotateRight_4 : cJ21_rotateRight.data.toList.drop 95 = dktJ21_rotateRight_4 := dk_seg dksJ21_rotateRight_3 24 rfl rfl
theorem dJ21_rotateRight_0 : decode cJ21_rotateRight 0 = .ok (.aload_n 1, 1) := dk_43 (dk_at dksJ21_rotateRight_0 0 rfl rfl)
theorem dJ21_rotateRight_1 : decode cJ21_rotateRight 1 = .ok (.ifnull 94, 3) := dk_198 0 94 (dk_at dksJ21_rotateRight_0 1 rfl rfl)
theorem dJ21_rotateRight_4 : decode cJ21_rotateRight 4 = .ok (.aload_n 1, 1) := dk_43 (dk_at dksJ21_rotateRight_0 4 rfl rfl)
theorem dJ21_rotateRight_5 : decode cJ21_rotateRight 5 = .ok (.getfield 111, 3) := dk_180 0 111 (dk_at dksJ21_rotateRight_0 5 rfl rfl)
theorem dJ21_rotateRight_8 : decode cJ21_rotateRight 8 = .ok (.astore_n 2, 1) := dk_77 (dk_at dksJ21_rotateRight_0 8 rfl rfl)
theorem dJ21_rotateRight_9 : decode cJ21_rotateRight 9 = .ok (.aload_n 1, 1) := dk_43 (dk_at dksJ21_rotateRight_0 9 rfl rfl)
theorem dJ21_rotateRight_10 : decode cJ21_rotateRight 10 = .ok (.aload_n 2, 1) := dk_44 (dk_at dksJ21_rotateRight_0 10 rfl rfl)
theorem dJ21_rotateRight_11 : decode cJ21_rotateRight 11 = .ok (.getfield 114, 3) := dk_180 0 114 (dk_at dksJ21_rotateRight_0 11 rfl rfl)
theorem dJ21_rotateRight_14 : decode cJ21_rotateRight 14 = .ok (.putfield 111, 3) := dk_181 0 111 (dk_at dksJ21_rotateRight_0 14 rfl rfl)
theorem dJ21_rotateRight_17 : decode cJ21_rotateRight 17 = .ok (.aload_n 2, 1) := dk_44 (dk_at dksJ21_rotateRight_0 17 rfl rfl)
theorem dJ21_rotateRight_18 : decode cJ21_rotateRight 18 = .ok (.getfield 114, 3) := dk_180 0 114 (dk_at dksJ21_rotateRight_0 18 rfl rfl)
theorem dJ21_rotateRight_21 : decode cJ21_rotateRight 21 = .ok (.ifnull 11, 3) := dk_198 0 11 (dk_at dksJ21_rotateRight_0 21 rfl rfl)
theorem dJ21_rotateRight_24 : decode cJ21_rotateRight 24 = .ok (.aload_n 2, 1) := dk_44 (dk_at dksJ21_rotateRight_1 0 rfl rfl)
theorem dJ21_rotateRight_25 : decode cJ21_rotateRight 25 = .ok (.getfield 114, 3) := dk_180 0 114 (dk_at dksJ21_rotateRight_1 1 rfl rfl)
theorem dJ21_rotateRight_28 : decode cJ21_rotateRight 28 = .ok (.aload_n 1, 1) := dk_43 (dk_at dksJ21_rotateRight_1 4 rfl rfl)
theorem dJ21_rotateRight_29 : decode cJ21_rotateRight 29 = .ok (.putfield 124, 3) := dk_181 0 124 (dk_at dksJ21_rotateRight_1 5 rfl rfl)
theorem dJ21_rotateRight_32 : decode cJ21_rotateRight 32 = .ok (.aload_n 2, 1) := dk_44 (dk_at dksJ21_rotateRight_1 8 rfl rfl)
theorem dJ21_rotateRight_33 : decode cJ21_rotateRight 33 = .ok (.aload_n 1, 1) := dk_43 (dk_at dksJ21_rotateRight_1 9 rfl rfl)
theorem dJ21_rotateRight_34 : decode cJ21_rotateRight 34 = .ok (.getfield 124, 3) := dk_180 0 124 (dk_at dksJ21_rotateRight_1 10 rfl rfl)
theorem dJ21_rotateRight_37 : decode cJ21_rotateRight 37 = .ok (.putfield 124, 3) := dk_181 0 124 (dk_at dksJ21_rotateRight_1 13 rfl rfl)
theorem dJ21_rotateRight_40 : decode cJ21_rotateRight 40 = .ok (.aload_n 1, 1) := dk_43 (dk_at dksJ21_rotateRight_1 16 rfl rfl)
theorem dJ21_rotateRight_41 : decode cJ21_rotateRight 41 = .ok (.getfield 124, 3) := dk_180 0 124 (dk_at dksJ21_rotateRight_1 17 rfl rfl)
theorem dJ21_rotateRight_44 : decode cJ21_rotateRight 44 = .ok (.ifnonnull 11, 3) := dk_199 0 11 (dk_at dksJ21_rotateRight_1 20 rfl rfl)
theorem dJ21_rotateRight_47 : decode cJ21_rotateRight 47 = .ok (.aload_n 0, 1) := dk_42 (dk_at dksJ21_rotateRight_1 23 rfl rfl)
theorem dJ21_rotateRight_48 : decode cJ21_rotateRight 48 = .ok (.aload_n 2, 1) := dk_44 (dk_at dksJ21_rotateRight_2 0 rfl rfl)
theorem dJ21_rotateRight_49 : decode cJ21_rotateRight 49 = .ok (.putfield 101, 3) := dk_181 0 101 (dk_at dksJ21_rotateRight_2 1 rfl rfl)
theorem dJ21_rotateRight_52 : decode cJ21_rotateRight 52 = .ok (.goto 33, 3) := dk_167 0 33 (dk_at dksJ21_rotateRight_2 4 rfl rfl)
theorem dJ21_rotateRight_55 : decode cJ21_rotateRight 55 = .ok (.aload_n 1, 1) := dk_43 (dk_at dksJ21_rotateRight_2 7 rfl rfl)
theorem dJ21_rotateRight_56 : decode cJ21_rotateRight 56 = .ok (.getfield 124, 3) := dk_180 0 124 (dk_at dksJ21_rotateRight_2 8 rfl rfl)
theorem dJ21_rotateRight_59 : decode cJ21_rotateRight 59 = .ok (.getfield 114, 3) := dk_180 0 114 (dk_at dksJ21_rotateRight_2 11 rfl rfl)
theorem dJ21_rotateRight_62 : decode cJ21_rotateRight 62 = .ok (.aload_n 1, 1) := dk_43 (dk_at dksJ21_rotateRight_2 14 rfl rfl)
theorem dJ21_rotateRight_63 : decode cJ21_rotateRight 63 = .ok (.if_acmp .ne 14, 3) := dk_166 0 14 (dk_at dksJ21_rotateRight_2 15 rfl rfl)
theorem dJ21_rotateRight_66 : decode cJ21_rotateRight 66 = .ok (.aload_n 1, 1) := dk_43 (dk_at dksJ21_rotateRight_2 18 rfl rfl)
theorem dJ21_rotateRight_67 : decode cJ21_rotateRight 67 = .ok (.getfield 124, 3) := dk_180 0 124 (dk_at dksJ21_rotateRight_2 19 rfl rfl)
theorem dJ21_rotateRight_70 : decode cJ21_rotateRight 70 = .ok (.aload_n 2, 1) := dk_44 (dk_at dksJ21_rotateRight_2 22 rfl rfl)
theorem dJ21_rotateRight_71 : decode cJ21_rotateRight 71 = .ok (.putfield 114, 3) := dk_181 0 114 (dk_at dksJ21_rotateRight_3 0 rfl rfl)
theorem dJ21_rotateRight_74 : decode cJ21_rotateRight 74 = .ok (.goto 11, 3) := dk_167 0 11 (dk_at dksJ21_rotateRight_3 3 rfl rfl)
theorem dJ21_rotateRight_77 : decode cJ21_rotateRight 77 = .ok (.aload_n 1, 1) := dk_43 (dk_at dksJ21_rotateRight_3 6 rfl rfl)
theorem dJ21_rotateRight_78 : decode cJ21_rotateRight 78 = .ok (.getfield 124, 3) := dk_180 0 124 (dk_at dksJ21_rotateRight_3 7 rfl rfl)
theorem dJ21_rotateRight_81 : decode cJ21_rotateRight 81 = .ok (.aload_n 2, 1) := dk_44 (dk_at dksJ21_rotateRight_3 10 rfl rfl)
theorem dJ21_rotateRight_82 : decode cJ21_rotateRight 82 = .ok (.putfield 111, 3) := dk_181 0 111 (dk_at dksJ21_rotateRight_3 11 rfl rfl)
theorem dJ21_rotateRight_85 : decode cJ21_rotateRight 85 = .ok (.aload_n 2, 1) := dk_44 (dk_at dksJ21_rotateRight_3 14 rfl rfl)
theorem dJ21_rotateRight_86 : decode cJ21_rotateRight 86 = .ok (.aload_n 1, 1) := dk_43 (dk_at dksJ21_rotateRight_3 15 rfl rfl)
theorem dJ21_rotateRight_87 : decode cJ21_rotateRight 87 = .ok (.putfield 114, 3) := dk_181 0 114 (dk_at dksJ21_rotateRight_3 16 rfl rfl)
theorem dJ21_rotateRight_90 : decode cJ21_rotateRight 90 = .ok (.aload_n 1, 1) := dk_43 (dk_at dksJ21_rotateRight_3 19 rfl rfl)
theorem dJ21_rotateRight_91 : decode cJ21_rotateRight 91 = .ok (.aload_n 2, 1) := dk_44 (dk_at dksJ21_rotateRight_3 20 rfl rfl)
theorem dJ21_rotateRight_92 : decode cJ21_rotateRight 92 = .ok (.putfield 124, 3) := dk_181 0 124 (dk_at dksJ21_rotateRight_3 21 rfl rfl)
theorem dJ21_rotateRight_95 : decode cJ21_rotateRight 95 = .ok (.return_, 1) := dk_177 (dk_at dksJ21_rotateRight_4 0 rfl rfl)
abbrev cJ21_navigableKeySet : ByteArray := prog_66_method_50_code
def yJ21_navigableKeySet : MethodName := ⟨RJ21, "navigableKeySet", "()Ljava/util/NavigableSet;"⟩
def dkwJ21_navigableKeySet_1 : List UInt8 := [181, 0, 191, 176]
abbrev dktJ21_navigableKeySet_1 : List UInt8 := dkwJ21_navigableKeySet_1 ++ []
def dkwJ21_navigableKeySet_0 : List UInt8 := [42, 180, 0, 191, 76, 43, 198, 0, 7, 43, 167, 0, 16, 42, 187, 0, 222, 89, 42, 183, 0, 224, 90]
abbrev dktJ21_navigableKeySet_0 : List UInt8 := dkwJ21_navigableKeySet_0 ++ dktJ21_navigableKeySet_1
theorem dksJ21_navigableKeySet_0 : cJ21_navigableKeySet.data.toList.drop 0 = dktJ21_navigableKeySet_0 := by decide +kernel
theorem dksJ21_navigableKeySet_1 : cJ21_navigableKeySet.data.toList.drop 23 = dktJ21_navigableKeySet_1 := dk_seg dksJ21_navigableKeySet_0 23 rfl rfl
theorem dJ21_navigableKeySet_0 : decode cJ21_navigableKeySet 0 = .ok (.aload_n 0, 1) := dk_42 (dk_at dksJ21_navigableKeySet_0 0 rfl rfl)
theorem dJ21_navigableKeySet_1 : decode cJ21_navigableKeySet 1 = .ok (.getfield 191, 3) := dk_180 0 191 (dk_at dksJ21_navigableKeySet_0 1 rfl rfl)
theorem dJ21_navigableKeySet_4 : decode cJ21_navigableKeySet 4 = .ok (.astore_n 1, 1) := dk_76 (dk_at dksJ21_navigableKeySet_0 4 rfl rfl)
theorem dJ21_navigableKeySet_5 : decode cJ21_navigableKeySet 5 = .ok (.aload_n 1, 1) := dk_43 (dk_at dksJ21_navigableKeySet_0 5 rfl rfl)
theorem dJ21_navigableKeySet_6 : decode cJ21_navigableKeySet 6 = .ok (.ifnull 7, 3) := dk_198 0 7 (dk_at dksJ21_navigableKeySet_0 6 rfl rfl)
theorem dJ21_navigableKeySet_9 : decode cJ21_navigableKeySet 9 = .ok (.aload_n 1, 1) := dk_43 (dk_at dksJ21_navigableKeySet_0 9 rfl rfl)
theorem dJ21_navigableKeySet_10 : decode cJ21_navigableKeySet 10 = .ok (.goto 16, 3) := dk_167 0 16 (dk_at dksJ21_navigableKeySet_0 10 rfl rfl)
theorem dJ21_navigableKeySet_13 : decode cJ21_navigableKeySet 13 = .ok (.aload_n 0, 1) := dk_42 (dk_at dksJ21_navigableKeySet_0 13 rfl rfl)
theorem dJ21_navigableKeySet_14 : decode cJ21_navigableKeySet 14 = .ok (.new 222, 3) := dk_187 0 222 (dk_at dksJ21_navigableKeySet_0 14 rfl rfl)
theorem dJ21_navigableKeySet_17 : decode cJ21_navigableKeySet 17 = .ok (.dup, 1) := dk_89 (dk_at dksJ21_navigableKeySet_0 17 rfl rfl)
theorem dJ21_navigableKeySet_18 : decode cJ21_navigableKeySet 18 = .ok (.aload_n 0, 1) := dk_42 (dk_at dksJ21_navigableKeySet_0 18 rfl rfl)
theorem dJ21_navigableKeySet_19 : decode cJ21_navigableKeySet 19 = .ok (.invokespecial 224, 3) := dk_183 0 224 (dk_at dksJ21_navigableKeySet_0 19 rfl rfl)
theorem dJ21_navigableKeySet_22 : decode cJ21_navigableKeySet 22 = .ok (.dup_x1, 1) := dk_90 (dk_at dksJ21_navigableKeySet_0 22 rfl rfl)
theorem dJ21_navigableKeySet_23 : decode cJ21_navigableKeySet 23 = .ok (.putfield 191, 3) := dk_181 0 191 (dk_at dksJ21_navigableKeySet_1 0 rfl rfl)
theorem dJ21_navigableKeySet_26 : decode cJ21_navigableKeySet 26 = .ok (.areturn, 1) := dk_176 (dk_at dksJ21_navigableKeySet_1 3 rfl rfl)
abbrev cJ21_keyIterator : ByteArray := prog_66_method_65_code
def yJ21_keyIterator : MethodName := ⟨RJ21, "keyIterator", "()Ljava/util/Iterator;"⟩
def dkwJ21_keyIterator_0 : List UInt8 := [187, 1, 13, 89, 42, 42, 182, 0, 54, 183, 1, 15, 176]
abbrev dktJ21_keyIterator_0 : List UInt8 := dkwJ21_keyIterator_0 ++ []
theorem dksJ21_keyIterator_0 : cJ21_keyIterator.data.toList.drop 0 = dktJ21_keyIterator_0 := by decide +kernel
theorem dJ21_keyIterator_0 : decode cJ21_keyIterator 0 = .ok (.new 269, 3) := dk_187 1 13 (dk_at dksJ21_keyIterator_0 0 rfl rfl)
theorem dJ21_keyIterator_3 : decode cJ21_keyIterator 3 = .ok (.dup, 1) := dk_89 (dk_at dksJ21_keyIterator_0 3 rfl rfl)
theorem dJ21_keyIterator_4 : decode cJ21_keyIterator 4 = .ok (.aload_n 0, 1) := dk_42 (dk_at dksJ21_keyIterator_0 4 rfl rfl)
theorem dJ21_keyIterator_5 : decode cJ21_keyIterator 5 = .ok (.aload_n 0, 1) := dk_42 (dk_at dksJ21_keyIterator_0 5 rfl rfl)
theorem dJ21_keyIterator_6 : decode cJ21_keyIterator 6 = .ok (.invokevirtual 54, 3) := dk_182 0 54 (dk_at dksJ21_keyIterator_0 6 rfl rfl)
theorem dJ21_keyIterator_9 : decode cJ21_keyIterator 9 = .ok (.invokespecial 271, 3) := dk_183 1 15 (dk_at dksJ21_keyIterator_0 9 rfl rfl)
theorem dJ21_keyIterator_12 : decode cJ21_keyIterator 12 = .ok (.areturn, 1) := dk_176 (dk_at dksJ21_keyIterator_0 12 rfl rfl)
abbrev cJ21_getFirstEntry : ByteArray := prog_66_method_72_code
def yJ21_getFirstEntry : MethodName := ⟨RJ21, "getFirstEntry", "()Ljava/util/TreeMap$Entry;"⟩
def dkwJ21_getFirstEntry_1 : List UInt8 := [43, 176]
abbrev dktJ21_getFirstEntry_1 : List UInt8 := dkwJ21_getFirstEntry_1 ++ []
def dkwJ21_getFirstEntry_0 : List UInt8 := [42, 180, 0, 101, 76, 43, 198, 0, 18, 43, 180, 0, 111, 198, 0, 11, 43, 180, 0, 111, 76, 167, 255, 244]
abbrev dktJ21_getFirstEntry_0 : List UInt8 := dkwJ21_getFirstEntry_0 ++ dktJ21_getFirstEntry_1
theorem dksJ21_getFirstEntry_0 : cJ21_getFirstEntry.data.toList.drop 0 = dktJ21_getFirstEntry_0 := by decide +kernel
theorem dksJ21_getFirstEntry_1 : cJ21_getFirstEntry.data.toList.drop 24 = dktJ21_getFirstEntry_1 := dk_seg dksJ21_getFirstEntry_0 24 rfl rfl
theorem dJ21_getFirstEntry_0 : decode cJ21_getFirstEntry 0 = .ok (.aload_n 0, 1) := dk_42 (dk_at dksJ21_getFirstEntry_0 0 rfl rfl)
theorem dJ21_getFirstEntry_1 : decode cJ21_getFirstEntry 1 = .ok (.getfield 101, 3) := dk_180 0 101 (dk_at dksJ21_getFirstEntry_0 1 rfl rfl)
theorem dJ21_getFirstEntry_4 : decode cJ21_getFirstEntry 4 = .ok (.astore_n 1, 1) := dk_76 (dk_at dksJ21_getFirstEntry_0 4 rfl rfl)
theorem dJ21_getFirstEntry_5 : decode cJ21_getFirstEntry 5 = .ok (.aload_n 1, 1) := dk_43 (dk_at dksJ21_getFirstEntry_0 5 rfl rfl)
theorem dJ21_getFirstEntry_6 : decode cJ21_getFirstEntry 6 = .ok (.ifnull 18, 3) := dk_198 0 18 (dk_at dksJ21_getFirstEntry_0 6 rfl rfl)
theorem dJ21_getFirstEntry_9 : decode cJ21_getFirstEntry 9 = .ok (.aload_n 1, 1) := dk_43 (dk_at dksJ21_getFirstEntry_0 9 rfl rfl)
theorem dJ21_getFirstEntry_10 : decode cJ21_getFirstEntry 10 = .ok (.getfield 111, 3) := dk_180 0 111 (dk_at dksJ21_getFirstEntry_0 10 rfl rfl)
theorem dJ21_getFirstEntry_13 : decode cJ21_getFirstEntry 13 = .ok (.ifnull 11, 3) := dk_198 0 11 (dk_at dksJ21_getFirstEntry_0 13 rfl rfl)
theorem dJ21_getFirstEntry_16 : decode cJ21_getFirstEntry 16 = .ok (.aload_n 1, 1) := dk_43 (dk_at dksJ21_getFirstEntry_0 16 rfl rfl)
theorem dJ21_getFirstEntry_17 : decode cJ21_getFirstEntry 17 = .ok (.getfield 111, 3) := dk_180 0 111 (dk_at dksJ21_getFirstEntry_0 17 rfl rfl)
theorem dJ21_getFirstEntry_20 : decode cJ21_getFirstEntry 20 = .ok (.astore_n 1, 1) := dk_76 (dk_at dksJ21_getFirstEntry_0 20 rfl rfl)
theorem dJ21_getFirstEntry_21 : decode cJ21_getFirstEntry 21 = .ok (.goto (-12), 3) := dk_167 255 244 (dk_at dksJ21_getFirstEntry_0 21 rfl rfl)
theorem dJ21_getFirstEntry_24 : decode cJ21_getFirstEntry 24 = .ok (.aload_n 1, 1) := dk_43 (dk_at dksJ21_getFirstEntry_1 0 rfl rfl)
theorem dJ21_getFirstEntry_25 : decode cJ21_getFirstEntry 25 = .ok (.areturn, 1) := dk_176 (dk_at dksJ21_getFirstEntry_1 1 rfl rfl)
abbrev cJ21_size : ByteArray := prog_66_method_5_code
def yJ21_size : MethodName := ⟨RJ21, "size", "()I"⟩
theorem dJ21_size_0 : decode cJ21_size 0 = .ok (.aload_n 0, 1) := by decide +kernel
theorem dJ21_size_1 : decode cJ21_size 1 = .ok (.getfield 7, 3) := by decide +kernel
theorem dJ21_size_4 : decode cJ21_size 4 = .ok (.ireturn, 1) := by decide +kernel
theorem q74 : (Jvm.Cond.initialized "java/util/TreeMap") ∈ lw_all := lw_g (lw_at lw_m1 28 rfl) rfl
theorem q388 : (Jvm.Cond.static ({ cls := "java/util/TreeMap", name := "successor", desc := "(Ljava/util/TreeMap$Entry;)Ljava/util/TreeMap$Entry;" } : Jvm.MethodName)) ∈ lw_all := lw_g (lw_at lw_m2 102 rfl) rfl
theorem q389 : (Jvm.Cond.code ({ cls := "java/util/TreeMap", name := "successor", desc := "(Ljava/util/TreeMap$Entry;)Ljava/util/TreeMap$Entry;" } : Jvm.MethodName) prog_66_method_74_code (3 : Nat) (Option.some (Jvm.ClassFile.FieldType.object "java/util/TreeMap$Entry"))) ∈ lw_all := lw_g (lw_at lw_m2 103 rfl) rfl
theorem q410 : (Jvm.Cond.instantiable "java/util/TreeMap" (9 : Nat)) ∈ lw_all := lw_g (lw_at lw_m2 124 rfl) rfl
theorem q412 : (Jvm.Cond.instanceMethod ({ cls := "java/util/TreeMap", name := "<init>", desc := "()V" } : Jvm.MethodName)) ∈ lw_all := lw_g (lw_at lw_m2 126 rfl) rfl
theorem q413 : (Jvm.Cond.code ({ cls := "java/util/TreeMap", name := "<init>", desc := "()V" } : Jvm.MethodName) prog_66_method_1_code (1 : Nat) (Option.none : Option Jvm.ClassFile.FieldType)) ∈ lw_all := lw_g (lw_at lw_m2 127 rfl) rfl
theorem q414 : (Jvm.Cond.methodLink "java/util/TreeMap" (1 : Nat) ({ cls := "java/util/AbstractMap", name := "<init>", desc := "()V" } : Jvm.MethodName)) ∈ lw_all := lw_g (lw_at lw_m2 128 rfl) rfl
theorem q418 : (Jvm.Cond.fieldLink "java/util/TreeMap" (16 : Nat) "java/util/TreeMap" "comparator" "Ljava/util/Comparator;") ∈ lw_all := lw_g (lw_at lw_m2 132 rfl) rfl
theorem q419 : (Jvm.Cond.fieldLink "java/util/TreeMap" (101 : Nat) "java/util/TreeMap" "root" "Ljava/util/TreeMap$Entry;") ∈ lw_all := lw_g (lw_at lw_m2 133 rfl) rfl
theorem q420 : (Jvm.Cond.fieldLink "java/util/TreeMap" (7 : Nat) "java/util/TreeMap" "size" "I") ∈ lw_all := lw_g (lw_at lw_m2 134 rfl) rfl
theorem q421 : (Jvm.Cond.fieldLink "java/util/TreeMap" (13 : Nat) "java/util/TreeMap" "modCount" "I") ∈ lw_all := lw_g (lw_at lw_m2 135 rfl) rfl
theorem q423 : (Jvm.Cond.fieldLink "java/util/TreeMap" (191 : Nat) "java/util/TreeMap" "navigableKeySet" "Ljava/util/TreeMap$KeySet;") ∈ lw_all := lw_g (lw_at lw_m2 137 rfl) rfl
theorem q424 : (Jvm.Cond.laysFinal "java/util/TreeMap" "java/util/TreeMap" "comparator" "Ljava/util/Comparator;") ∈ lw_all := lw_g (lw_at lw_m2 138 rfl) rfl
theorem q425 : (Jvm.Cond.soleField "java/util/TreeMap" "comparator") ∈ lw_all := lw_g (lw_at lw_m2 139 rfl) rfl
theorem q426 : (Jvm.Cond.lays "java/util/TreeMap" "java/util/TreeMap" "root" "Ljava/util/TreeMap$Entry;") ∈ lw_all := lw_g (lw_at lw_m2 140 rfl) rfl
theorem q427 : (Jvm.Cond.soleField "java/util/TreeMap" "root") ∈ lw_all := lw_g (lw_at lw_m2 141 rfl) rfl
theorem q428 : (Jvm.Cond.lays "java/util/TreeMap" "java/util/TreeMap" "size" "I") ∈ lw_all := lw_g (lw_at lw_m2 142 rfl) rfl
theorem q429 : (Jvm.Cond.soleField "java/util/TreeMap" "size") ∈ lw_all := lw_g (lw_at lw_m2 143 rfl) rfl
theorem q430 : (Jvm.Cond.lays "java/util/TreeMap" "java/util/TreeMap" "modCount" "I") ∈ lw_all := lw_g (lw_at lw_m2 144 rfl) rfl
theorem q431 : (Jvm.Cond.soleField "java/util/TreeMap" "modCount") ∈ lw_all := lw_g (lw_at lw_m2 145 rfl) rfl
theorem q432 : (Jvm.Cond.lays "java/util/TreeMap" "java/util/TreeMap" "entrySet" "Ljava/util/TreeMap$EntrySet;") ∈ lw_all := lw_g (lw_at lw_m2 146 rfl) rfl
theorem q433 : (Jvm.Cond.soleField "java/util/TreeMap" "entrySet") ∈ lw_all := lw_g (lw_at lw_m2 147 rfl) rfl
theorem q434 : (Jvm.Cond.lays "java/util/TreeMap" "java/util/TreeMap" "navigableKeySet" "Ljava/util/TreeMap$KeySet;") ∈ lw_all := lw_g (lw_at lw_m2 148 rfl) rfl
theorem q435 : (Jvm.Cond.soleField "java/util/TreeMap" "navigableKeySet") ∈ lw_all := lw_g (lw_at lw_m2 149 rfl) rfl
theorem q436 : (Jvm.Cond.lays "java/util/TreeMap" "java/util/TreeMap" "descendingMap" "Ljava/util/NavigableMap;") ∈ lw_all := lw_g (lw_at lw_m2 150 rfl) rfl
theorem q437 : (Jvm.Cond.soleField "java/util/TreeMap" "descendingMap") ∈ lw_all := lw_g (lw_at lw_m2 151 rfl) rfl
theorem q438 : (Jvm.Cond.lays "java/util/TreeMap" "java/util/AbstractMap" "keySet" "Ljava/util/Set;") ∈ lw_all := lw_g (lw_at lw_m2 152 rfl) rfl
theorem q440 : (Jvm.Cond.lays "java/util/TreeMap" "java/util/AbstractMap" "values" "Ljava/util/Collection;") ∈ lw_all := lw_g (lw_at lw_m2 154 rfl) rfl
theorem q442 : (Jvm.Cond.superclass "java/util/TreeMap" "java/util/AbstractMap") ∈ lw_all := lw_g (lw_at lw_m2 156 rfl) rfl
theorem q483 : (Jvm.Cond.castable "java/util/TreeMap" "java/util/NavigableMap") ∈ lw_tbl := lw_at lw_m2 197 rfl
theorem q484 : (Jvm.Cond.selects "java/util/TreeMap" ({ cls := "java/util/Map", name := "put", desc := "(Ljava/lang/Object;Ljava/lang/Object;)Ljava/lang/Object;" } : Jvm.MethodName) ({ cls := "java/util/TreeMap", name := "put", desc := "(Ljava/lang/Object;Ljava/lang/Object;)Ljava/lang/Object;" } : Jvm.MethodName)) ∈ lw_all := lw_g (lw_at lw_m2 198 rfl) rfl
theorem q485 : (Jvm.Cond.unhidden "java/util/TreeMap" "put" "(Ljava/lang/Object;Ljava/lang/Object;)Ljava/lang/Object;") ∈ lw_tbl := lw_at lw_m2 199 rfl
theorem q486 : (Jvm.Cond.instanceMethod ({ cls := "java/util/TreeMap", name := "put", desc := "(Ljava/lang/Object;Ljava/lang/Object;)Ljava/lang/Object;" } : Jvm.MethodName)) ∈ lw_all := lw_g (lw_at lw_m2 200 rfl) rfl
theorem q487 : (Jvm.Cond.publicMethod ({ cls := "java/util/TreeMap", name := "put", desc := "(Ljava/lang/Object;Ljava/lang/Object;)Ljava/lang/Object;" } : Jvm.MethodName)) ∈ lw_tbl := lw_at lw_m2 201 rfl
theorem q488 : (Jvm.Cond.code ({ cls := "java/util/TreeMap", name := "put", desc := "(Ljava/lang/Object;Ljava/lang/Object;)Ljava/lang/Object;" } : Jvm.MethodName) prog_66_method_21_code (3 : Nat) (Option.some (Jvm.ClassFile.FieldType.object "java/lang/Object"))) ∈ lw_all := lw_g (lw_at lw_m2 202 rfl) rfl
theorem q489 : (Jvm.Cond.methodLink "java/util/TreeMap" (127 : Nat) ({ cls := "java/util/TreeMap", name := "put", desc := "(Ljava/lang/Object;Ljava/lang/Object;Z)Ljava/lang/Object;" } : Jvm.MethodName)) ∈ lw_all := lw_g (lw_at lw_m2 203 rfl) rfl
theorem q490 : (Jvm.Cond.privateMethod ({ cls := "java/util/TreeMap", name := "put", desc := "(Ljava/lang/Object;Ljava/lang/Object;Z)Ljava/lang/Object;" } : Jvm.MethodName)) ∈ lw_tbl := lw_at lw_m2 204 rfl
theorem q491 : (Jvm.Cond.instanceMethod ({ cls := "java/util/TreeMap", name := "put", desc := "(Ljava/lang/Object;Ljava/lang/Object;Z)Ljava/lang/Object;" } : Jvm.MethodName)) ∈ lw_all := lw_g (lw_at lw_m2 205 rfl) rfl
theorem q492 : (Jvm.Cond.code ({ cls := "java/util/TreeMap", name := "put", desc := "(Ljava/lang/Object;Ljava/lang/Object;Z)Ljava/lang/Object;" } : Jvm.MethodName) prog_66_method_31_code (10 : Nat) (Option.some (Jvm.ClassFile.FieldType.object "java/lang/Object"))) ∈ lw_all := lw_g (lw_at lw_m2 206 rfl) rfl
theorem q493 : (Jvm.Cond.methodLink "java/util/TreeMap" (135 : Nat) ({ cls := "java/util/TreeMap", name := "addEntryToEmptyMap", desc := "(Ljava/lang/Object;Ljava/lang/Object;)V" } : Jvm.MethodName)) ∈ lw_all := lw_g (lw_at lw_m2 207 rfl) rfl
theorem q494 : (Jvm.Cond.privateMethod ({ cls := "java/util/TreeMap", name := "addEntryToEmptyMap", desc := "(Ljava/lang/Object;Ljava/lang/Object;)V" } : Jvm.MethodName)) ∈ lw_tbl := lw_at lw_m2 208 rfl
theorem q495 : (Jvm.Cond.instanceMethod ({ cls := "java/util/TreeMap", name := "addEntryToEmptyMap", desc := "(Ljava/lang/Object;Ljava/lang/Object;)V" } : Jvm.MethodName)) ∈ lw_all := lw_g (lw_at lw_m2 209 rfl) rfl
theorem q496 : (Jvm.Cond.code ({ cls := "java/util/TreeMap", name := "addEntryToEmptyMap", desc := "(Ljava/lang/Object;Ljava/lang/Object;)V" } : Jvm.MethodName) prog_66_method_30_code (3 : Nat) (Option.none : Option Jvm.ClassFile.FieldType)) ∈ lw_all := lw_g (lw_at lw_m2 210 rfl) rfl
theorem q497 : (Jvm.Cond.methodLink "java/util/TreeMap" (123 : Nat) ({ cls := "java/util/TreeMap", name := "compare", desc := "(Ljava/lang/Object;Ljava/lang/Object;)I" } : Jvm.MethodName)) ∈ lw_all := lw_g (lw_at lw_m2 211 rfl) rfl
theorem q498 : (Jvm.Cond.instanceMethod ({ cls := "java/util/TreeMap", name := "compare", desc := "(Ljava/lang/Object;Ljava/lang/Object;)I" } : Jvm.MethodName)) ∈ lw_all := lw_g (lw_at lw_m2 212 rfl) rfl
theorem q499 : (Jvm.Cond.selects "java/util/TreeMap" ({ cls := "java/util/TreeMap", name := "compare", desc := "(Ljava/lang/Object;Ljava/lang/Object;)I" } : Jvm.MethodName) ({ cls := "java/util/TreeMap", name := "compare", desc := "(Ljava/lang/Object;Ljava/lang/Object;)I" } : Jvm.MethodName)) ∈ lw_all := lw_g (lw_at lw_m2 213 rfl) rfl
theorem q500 : (Jvm.Cond.code ({ cls := "java/util/TreeMap", name := "compare", desc := "(Ljava/lang/Object;Ljava/lang/Object;)I" } : Jvm.MethodName) prog_66_method_67_code (3 : Nat) (Option.some Jvm.ClassFile.FieldType.int)) ∈ lw_all := lw_g (lw_at lw_m2 214 rfl) rfl
theorem q501 : (Jvm.Cond.classLink "java/util/TreeMap" (99 : Nat) "java/lang/Comparable") ∈ lw_all := lw_g (lw_at lw_m2 215 rfl) rfl
theorem q502 : (Jvm.Cond.interfaceEntry "java/util/TreeMap" (107 : Nat)) ∈ lw_tbl := lw_at lw_m2 216 rfl
theorem q503 : (Jvm.Cond.methodLink "java/util/TreeMap" (107 : Nat) ({ cls := "java/lang/Comparable", name := "compareTo", desc := "(Ljava/lang/Object;)I" } : Jvm.MethodName)) ∈ lw_all := lw_g (lw_at lw_m2 217 rfl) rfl
theorem q730 : (Jvm.Cond.interfaceEntry "java/util/TreeMap" (117 : Nat)) ∈ lw_tbl := lw_at lw_m3 204 rfl
theorem q731 : (Jvm.Cond.methodLink "java/util/TreeMap" (117 : Nat) ({ cls := "java/util/Comparator", name := "compare", desc := "(Ljava/lang/Object;Ljava/lang/Object;)I" } : Jvm.MethodName)) ∈ lw_all := lw_g (lw_at lw_m3 205 rfl) rfl
theorem q734 : (Jvm.Cond.classLink "java/util/TreeMap" (59 : Nat) "java/util/TreeMap$Entry") ∈ lw_all := lw_g (lw_at lw_m3 208 rfl) rfl
theorem q736 : (Jvm.Cond.methodLink "java/util/TreeMap" (167 : Nat) ({ cls := "java/util/TreeMap$Entry", name := "<init>", desc := "(Ljava/lang/Object;Ljava/lang/Object;Ljava/util/TreeMap$Entry;)V" } : Jvm.MethodName)) ∈ lw_all := lw_g (lw_at lw_m3 210 rfl) rfl
theorem q742 : (Jvm.Cond.fieldLink "java/util/TreeMap" (105 : Nat) "java/util/TreeMap$Entry" "key" "Ljava/lang/Object;") ∈ lw_all := lw_g (lw_at lw_m3 216 rfl) rfl
theorem q744 : (Jvm.Cond.fieldLink "java/util/TreeMap" (58 : Nat) "java/util/TreeMap$Entry" "value" "Ljava/lang/Object;") ∈ lw_all := lw_g (lw_at lw_m3 218 rfl) rfl
theorem q745 : (Jvm.Cond.fieldLink "java/util/TreeMap" (111 : Nat) "java/util/TreeMap$Entry" "left" "Ljava/util/TreeMap$Entry;") ∈ lw_all := lw_g (lw_at lw_m3 219 rfl) rfl
theorem q746 : (Jvm.Cond.fieldLink "java/util/TreeMap" (114 : Nat) "java/util/TreeMap$Entry" "right" "Ljava/util/TreeMap$Entry;") ∈ lw_all := lw_g (lw_at lw_m3 220 rfl) rfl
theorem q748 : (Jvm.Cond.fieldLink "java/util/TreeMap" (124 : Nat) "java/util/TreeMap$Entry" "parent" "Ljava/util/TreeMap$Entry;") ∈ lw_all := lw_g (lw_at lw_m3 222 rfl) rfl
theorem q750 : (Jvm.Cond.fieldLink "java/util/TreeMap" (290 : Nat) "java/util/TreeMap$Entry" "color" "Z") ∈ lw_all := lw_g (lw_at lw_m3 224 rfl) rfl
theorem q764 : (Jvm.Cond.methodLink "java/util/TreeMap" (95 : Nat) ({ cls := "java/util/Objects", name := "requireNonNull", desc := "(Ljava/lang/Object;)Ljava/lang/Object;" } : Jvm.MethodName)) ∈ lw_all := lw_g (lw_at lw_m3 238 rfl) rfl
theorem q767 : (Jvm.Cond.methodLink "java/util/TreeMap" (139 : Nat) ({ cls := "java/util/TreeMap", name := "addEntry", desc := "(Ljava/lang/Object;Ljava/lang/Object;Ljava/util/TreeMap$Entry;Z)V" } : Jvm.MethodName)) ∈ lw_all := lw_g (lw_at lw_m4 1 rfl) rfl
theorem q768 : (Jvm.Cond.privateMethod ({ cls := "java/util/TreeMap", name := "addEntry", desc := "(Ljava/lang/Object;Ljava/lang/Object;Ljava/util/TreeMap$Entry;Z)V" } : Jvm.MethodName)) ∈ lw_tbl := lw_at lw_m4 2 rfl
theorem q769 : (Jvm.Cond.instanceMethod ({ cls := "java/util/TreeMap", name := "addEntry", desc := "(Ljava/lang/Object;Ljava/lang/Object;Ljava/util/TreeMap$Entry;Z)V" } : Jvm.MethodName)) ∈ lw_all := lw_g (lw_at lw_m4 3 rfl) rfl
theorem q770 : (Jvm.Cond.code ({ cls := "java/util/TreeMap", name := "addEntry", desc := "(Ljava/lang/Object;Ljava/lang/Object;Ljava/util/TreeMap$Entry;Z)V" } : Jvm.MethodName) prog_66_method_29_code (6 : Nat) (Option.none : Option Jvm.ClassFile.FieldType)) ∈ lw_all := lw_g (lw_at lw_m4 4 rfl) rfl
theorem q771 : (Jvm.Cond.methodLink "java/util/TreeMap" (170 : Nat) ({ cls := "java/util/TreeMap", name := "fixAfterInsertion", desc := "(Ljava/util/TreeMap$Entry;)V" } : Jvm.MethodName)) ∈ lw_all := lw_g (lw_at lw_m4 5 rfl) rfl
theorem q772 : (Jvm.Cond.privateMethod ({ cls := "java/util/TreeMap", name := "fixAfterInsertion", desc := "(Ljava/util/TreeMap$Entry;)V" } : Jvm.MethodName)) ∈ lw_tbl := lw_at lw_m4 6 rfl
theorem q773 : (Jvm.Cond.instanceMethod ({ cls := "java/util/TreeMap", name := "fixAfterInsertion", desc := "(Ljava/util/TreeMap$Entry;)V" } : Jvm.MethodName)) ∈ lw_all := lw_g (lw_at lw_m4 7 rfl) rfl
theorem q774 : (Jvm.Cond.code ({ cls := "java/util/TreeMap", name := "fixAfterInsertion", desc := "(Ljava/util/TreeMap$Entry;)V" } : Jvm.MethodName) prog_66_method_83_code (3 : Nat) (Option.none : Option Jvm.ClassFile.FieldType)) ∈ lw_all := lw_g (lw_at lw_m4 8 rfl) rfl
theorem q775 : (Jvm.Cond.methodLink "java/util/TreeMap" (294 : Nat) ({ cls := "java/util/TreeMap", name := "parentOf", desc := "(Ljava/util/TreeMap$Entry;)Ljava/util/TreeMap$Entry;" } : Jvm.MethodName)) ∈ lw_all := lw_g (lw_at lw_m4 9 rfl) rfl
theorem q776 : (Jvm.Cond.static ({ cls := "java/util/TreeMap", name := "parentOf", desc := "(Ljava/util/TreeMap$Entry;)Ljava/util/TreeMap$Entry;" } : Jvm.MethodName)) ∈ lw_all := lw_g (lw_at lw_m4 10 rfl) rfl
theorem q777 : (Jvm.Cond.code ({ cls := "java/util/TreeMap", name := "parentOf", desc := "(Ljava/util/TreeMap$Entry;)Ljava/util/TreeMap$Entry;" } : Jvm.MethodName) prog_66_method_77_code (1 : Nat) (Option.some (Jvm.ClassFile.FieldType.object "java/util/TreeMap$Entry"))) ∈ lw_all := lw_g (lw_at lw_m4 11 rfl) rfl
theorem q778 : (Jvm.Cond.methodLink "java/util/TreeMap" (297 : Nat) ({ cls := "java/util/TreeMap", name := "leftOf", desc := "(Ljava/util/TreeMap$Entry;)Ljava/util/TreeMap$Entry;" } : Jvm.MethodName)) ∈ lw_all := lw_g (lw_at lw_m4 12 rfl) rfl
theorem q779 : (Jvm.Cond.static ({ cls := "java/util/TreeMap", name := "leftOf", desc := "(Ljava/util/TreeMap$Entry;)Ljava/util/TreeMap$Entry;" } : Jvm.MethodName)) ∈ lw_all := lw_g (lw_at lw_m4 13 rfl) rfl
theorem q780 : (Jvm.Cond.code ({ cls := "java/util/TreeMap", name := "leftOf", desc := "(Ljava/util/TreeMap$Entry;)Ljava/util/TreeMap$Entry;" } : Jvm.MethodName) prog_66_method_79_code (1 : Nat) (Option.some (Jvm.ClassFile.FieldType.object "java/util/TreeMap$Entry"))) ∈ lw_all := lw_g (lw_at lw_m4 14 rfl) rfl
theorem q781 : (Jvm.Cond.methodLink "java/util/TreeMap" (300 : Nat) ({ cls := "java/util/TreeMap", name := "rightOf", desc := "(Ljava/util/TreeMap$Entry;)Ljava/util/TreeMap$Entry;" } : Jvm.MethodName)) ∈ lw_all := lw_g (lw_at lw_m4 15 rfl) rfl
theorem q782 : (Jvm.Cond.static ({ cls := "java/util/TreeMap", name := "rightOf", desc := "(Ljava/util/TreeMap$Entry;)Ljava/util/TreeMap$Entry;" } : Jvm.MethodName)) ∈ lw_all := lw_g (lw_at lw_m4 16 rfl) rfl
theorem q783 : (Jvm.Cond.code ({ cls := "java/util/TreeMap", name := "rightOf", desc := "(Ljava/util/TreeMap$Entry;)Ljava/util/TreeMap$Entry;" } : Jvm.MethodName) prog_66_method_80_code (1 : Nat) (Option.some (Jvm.ClassFile.FieldType.object "java/util/TreeMap$Entry"))) ∈ lw_all := lw_g (lw_at lw_m4 17 rfl) rfl
theorem q784 : (Jvm.Cond.methodLink "java/util/TreeMap" (303 : Nat) ({ cls := "java/util/TreeMap", name := "colorOf", desc := "(Ljava/util/TreeMap$Entry;)Z" } : Jvm.MethodName)) ∈ lw_all := lw_g (lw_at lw_m4 18 rfl) rfl
theorem q785 : (Jvm.Cond.static ({ cls := "java/util/TreeMap", name := "colorOf", desc := "(Ljava/util/TreeMap$Entry;)Z" } : Jvm.MethodName)) ∈ lw_all := lw_g (lw_at lw_m4 19 rfl) rfl
theorem q786 : (Jvm.Cond.code ({ cls := "java/util/TreeMap", name := "colorOf", desc := "(Ljava/util/TreeMap$Entry;)Z" } : Jvm.MethodName) prog_66_method_76_code (1 : Nat) (Option.some Jvm.ClassFile.FieldType.boolean)) ∈ lw_all := lw_g (lw_at lw_m4 20 rfl) rfl
theorem q787 : (Jvm.Cond.methodLink "java/util/TreeMap" (307 : Nat) ({ cls := "java/util/TreeMap", name := "setColor", desc := "(Ljava/util/TreeMap$Entry;Z)V" } : Jvm.MethodName)) ∈ lw_all := lw_g (lw_at lw_m4 21 rfl) rfl
theorem q788 : (Jvm.Cond.static ({ cls := "java/util/TreeMap", name := "setColor", desc := "(Ljava/util/TreeMap$Entry;Z)V" } : Jvm.MethodName)) ∈ lw_all := lw_g (lw_at lw_m4 22 rfl) rfl
theorem q789 : (Jvm.Cond.code ({ cls := "java/util/TreeMap", name := "setColor", desc := "(Ljava/util/TreeMap$Entry;Z)V" } : Jvm.MethodName) prog_66_method_78_code (2 : Nat) (Option.none : Option Jvm.ClassFile.FieldType)) ∈ lw_all := lw_g (lw_at lw_m4 23 rfl) rfl
theorem q790 : (Jvm.Cond.methodLink "java/util/TreeMap" (311 : Nat) ({ cls := "java/util/TreeMap", name := "rotateLeft", desc := "(Ljava/util/TreeMap$Entry;)V" } : Jvm.MethodName)) ∈ lw_all := lw_g (lw_at lw_m4 24 rfl) rfl
theorem q791 : (Jvm.Cond.privateMethod ({ cls := "java/util/TreeMap", name := "rotateLeft", desc := "(Ljava/util/TreeMap$Entry;)V" } : Jvm.MethodName)) ∈ lw_tbl := lw_at lw_m4 25 rfl
theorem q792 : (Jvm.Cond.instanceMethod ({ cls := "java/util/TreeMap", name := "rotateLeft", desc := "(Ljava/util/TreeMap$Entry;)V" } : Jvm.MethodName)) ∈ lw_all := lw_g (lw_at lw_m4 26 rfl) rfl
theorem q793 : (Jvm.Cond.code ({ cls := "java/util/TreeMap", name := "rotateLeft", desc := "(Ljava/util/TreeMap$Entry;)V" } : Jvm.MethodName) prog_66_method_81_code (3 : Nat) (Option.none : Option Jvm.ClassFile.FieldType)) ∈ lw_all := lw_g (lw_at lw_m4 27 rfl) rfl
theorem q794 : (Jvm.Cond.methodLink "java/util/TreeMap" (314 : Nat) ({ cls := "java/util/TreeMap", name := "rotateRight", desc := "(Ljava/util/TreeMap$Entry;)V" } : Jvm.MethodName)) ∈ lw_all := lw_g (lw_at lw_m4 28 rfl) rfl
theorem q795 : (Jvm.Cond.privateMethod ({ cls := "java/util/TreeMap", name := "rotateRight", desc := "(Ljava/util/TreeMap$Entry;)V" } : Jvm.MethodName)) ∈ lw_tbl := lw_at lw_m4 29 rfl
theorem q796 : (Jvm.Cond.instanceMethod ({ cls := "java/util/TreeMap", name := "rotateRight", desc := "(Ljava/util/TreeMap$Entry;)V" } : Jvm.MethodName)) ∈ lw_all := lw_g (lw_at lw_m4 30 rfl) rfl
theorem q797 : (Jvm.Cond.code ({ cls := "java/util/TreeMap", name := "rotateRight", desc := "(Ljava/util/TreeMap$Entry;)V" } : Jvm.MethodName) prog_66_method_82_code (3 : Nat) (Option.none : Option Jvm.ClassFile.FieldType)) ∈ lw_all := lw_g (lw_at lw_m4 31 rfl) rfl
theorem q812 : (Jvm.Cond.selects "java/util/TreeMap" ({ cls := "java/util/NavigableMap", name := "navigableKeySet", desc := "()Ljava/util/NavigableSet;" } : Jvm.MethodName) ({ cls := "java/util/TreeMap", name := "navigableKeySet", desc := "()Ljava/util/NavigableSet;" } : Jvm.MethodName)) ∈ lw_all := lw_g (lw_at lw_m4 46 rfl) rfl
theorem q813 : (Jvm.Cond.unhidden "java/util/TreeMap" "navigableKeySet" "()Ljava/util/NavigableSet;") ∈ lw_tbl := lw_at lw_m4 47 rfl
theorem q814 : (Jvm.Cond.instanceMethod ({ cls := "java/util/TreeMap", name := "navigableKeySet", desc := "()Ljava/util/NavigableSet;" } : Jvm.MethodName)) ∈ lw_all := lw_g (lw_at lw_m4 48 rfl) rfl
theorem q815 : (Jvm.Cond.publicMethod ({ cls := "java/util/TreeMap", name := "navigableKeySet", desc := "()Ljava/util/NavigableSet;" } : Jvm.MethodName)) ∈ lw_tbl := lw_at lw_m4 49 rfl
theorem q816 : (Jvm.Cond.code ({ cls := "java/util/TreeMap", name := "navigableKeySet", desc := "()Ljava/util/NavigableSet;" } : Jvm.MethodName) prog_66_method_50_code (2 : Nat) (Option.some (Jvm.ClassFile.FieldType.object "java/util/NavigableSet"))) ∈ lw_all := lw_g (lw_at lw_m4 50 rfl) rfl
theorem q817 : (Jvm.Cond.classLink "java/util/TreeMap" (222 : Nat) "java/util/TreeMap$KeySet") ∈ lw_all := lw_g (lw_at lw_m4 51 rfl) rfl
theorem q819 : (Jvm.Cond.methodLink "java/util/TreeMap" (224 : Nat) ({ cls := "java/util/TreeMap$KeySet", name := "<init>", desc := "(Ljava/util/NavigableMap;)V" } : Jvm.MethodName)) ∈ lw_all := lw_g (lw_at lw_m4 53 rfl) rfl
theorem q839 : (Jvm.Cond.instanceMethod ({ cls := "java/util/TreeMap", name := "keyIterator", desc := "()Ljava/util/Iterator;" } : Jvm.MethodName)) ∈ lw_all := lw_g (lw_at lw_m4 73 rfl) rfl
theorem q840 : (Jvm.Cond.selects "java/util/TreeMap" ({ cls := "java/util/TreeMap", name := "keyIterator", desc := "()Ljava/util/Iterator;" } : Jvm.MethodName) ({ cls := "java/util/TreeMap", name := "keyIterator", desc := "()Ljava/util/Iterator;" } : Jvm.MethodName)) ∈ lw_all := lw_g (lw_at lw_m4 74 rfl) rfl
theorem q841 : (Jvm.Cond.code ({ cls := "java/util/TreeMap", name := "keyIterator", desc := "()Ljava/util/Iterator;" } : Jvm.MethodName) prog_66_method_65_code (1 : Nat) (Option.some (Jvm.ClassFile.FieldType.object "java/util/Iterator"))) ∈ lw_all := lw_g (lw_at lw_m4 75 rfl) rfl
theorem q842 : (Jvm.Cond.classLink "java/util/TreeMap" (269 : Nat) "java/util/TreeMap$KeyIterator") ∈ lw_all := lw_g (lw_at lw_m4 76 rfl) rfl
theorem q844 : (Jvm.Cond.methodLink "java/util/TreeMap" (54 : Nat) ({ cls := "java/util/TreeMap", name := "getFirstEntry", desc := "()Ljava/util/TreeMap$Entry;" } : Jvm.MethodName)) ∈ lw_all := lw_g (lw_at lw_m4 78 rfl) rfl
theorem q845 : (Jvm.Cond.instanceMethod ({ cls := "java/util/TreeMap", name := "getFirstEntry", desc := "()Ljava/util/TreeMap$Entry;" } : Jvm.MethodName)) ∈ lw_all := lw_g (lw_at lw_m4 79 rfl) rfl
theorem q846 : (Jvm.Cond.selects "java/util/TreeMap" ({ cls := "java/util/TreeMap", name := "getFirstEntry", desc := "()Ljava/util/TreeMap$Entry;" } : Jvm.MethodName) ({ cls := "java/util/TreeMap", name := "getFirstEntry", desc := "()Ljava/util/TreeMap$Entry;" } : Jvm.MethodName)) ∈ lw_all := lw_g (lw_at lw_m4 80 rfl) rfl
theorem q847 : (Jvm.Cond.code ({ cls := "java/util/TreeMap", name := "getFirstEntry", desc := "()Ljava/util/TreeMap$Entry;" } : Jvm.MethodName) prog_66_method_72_code (2 : Nat) (Option.some (Jvm.ClassFile.FieldType.object "java/util/TreeMap$Entry"))) ∈ lw_all := lw_g (lw_at lw_m4 81 rfl) rfl
theorem q848 : (Jvm.Cond.methodLink "java/util/TreeMap" (271 : Nat) ({ cls := "java/util/TreeMap$KeyIterator", name := "<init>", desc := "(Ljava/util/TreeMap;Ljava/util/TreeMap$Entry;)V" } : Jvm.MethodName)) ∈ lw_all := lw_g (lw_at lw_m4 82 rfl) rfl
theorem q997 : (Jvm.Cond.selects "java/util/TreeMap" ({ cls := "java/lang/Object", name := "getClass", desc := "()Ljava/lang/Class;" } : Jvm.MethodName) ({ cls := "java/lang/Object", name := "getClass", desc := "()Ljava/lang/Class;" } : Jvm.MethodName)) ∈ lw_all := lw_g (lw_at lw_m4 231 rfl) rfl
theorem q1513 : (Jvm.Cond.selects "java/util/TreeMap" ({ cls := "java/util/Map", name := "size", desc := "()I" } : Jvm.MethodName) ({ cls := "java/util/TreeMap", name := "size", desc := "()I" } : Jvm.MethodName)) ∈ lw_all := lw_g (lw_at lw_m7 27 rfl) rfl
theorem q1514 : (Jvm.Cond.unhidden "java/util/TreeMap" "size" "()I") ∈ lw_tbl := lw_at lw_m7 28 rfl
theorem q1515 : (Jvm.Cond.instanceMethod ({ cls := "java/util/TreeMap", name := "size", desc := "()I" } : Jvm.MethodName)) ∈ lw_all := lw_g (lw_at lw_m7 29 rfl) rfl
theorem q1516 : (Jvm.Cond.publicMethod ({ cls := "java/util/TreeMap", name := "size", desc := "()I" } : Jvm.MethodName)) ∈ lw_tbl := lw_at lw_m7 30 rfl
theorem q1517 : (Jvm.Cond.code ({ cls := "java/util/TreeMap", name := "size", desc := "()I" } : Jvm.MethodName) prog_66_method_5_code (1 : Nat) (Option.some Jvm.ClassFile.FieldType.int)) ∈ lw_all := lw_g (lw_at lw_m7 31 rfl) rfl
theorem q2006 : (Jvm.Cond.castable "java/util/TreeMap" "java/lang/Object") ∈ lw_tbl := lw_at lw_m9 40 rfl
theorem in_J21 : ∀ w ∈ wsJ210, w ∈ lw_all := lw_in wsJ210 [438, 440, 424, 426, 428, 430, 432, 434, 436] (by decide +kernel) (by decide +kernel)

/-! java/util/AbstractSet -/
set_option maxRecDepth 100000
def RJ22 : String := "java/util/AbstractSet"
abbrev cJ22_init : ByteArray := prog_41_method_1_code
def yJ22_init : MethodName := ⟨RJ22, "<init>", "()V"⟩
theorem dJ22_init_0 : decode cJ22_init 0 = .ok (.aload_n 0, 1) := by decide +kernel
theorem dJ22_init_1 : decode cJ22_init 1 = .ok (.invokespecial 1, 3) := by decide +kernel
theorem dJ22_init_4 : decode cJ22_init 4 = .ok (.return_, 1) := by decide +kernel
theorem q78 : (Jvm.Cond.initialized "java/util/AbstractSet") ∈ lw_all := lw_g (lw_at lw_m1 32 rfl) rfl
theorem q447 : (Jvm.Cond.instanceMethod ({ cls := "java/util/AbstractSet", name := "<init>", desc := "()V" } : Jvm.MethodName)) ∈ lw_all := lw_g (lw_at lw_m2 161 rfl) rfl
theorem q448 : (Jvm.Cond.code ({ cls := "java/util/AbstractSet", name := "<init>", desc := "()V" } : Jvm.MethodName) prog_41_method_1_code (1 : Nat) (Option.none : Option Jvm.ClassFile.FieldType)) ∈ lw_all := lw_g (lw_at lw_m2 162 rfl) rfl
theorem q449 : (Jvm.Cond.methodLink "java/util/AbstractSet" (1 : Nat) ({ cls := "java/util/AbstractCollection", name := "<init>", desc := "()V" } : Jvm.MethodName)) ∈ lw_all := lw_g (lw_at lw_m2 163 rfl) rfl

/-! java/util/TreeSet -/
set_option maxRecDepth 100000
def RJ23 : String := "java/util/TreeSet"
def TJ23 : u_T := fun k => match k with
  | _ => ("java/util/TreeSet", "m", "Ljava/util/NavigableMap;", false)
def tyJ23 : Nat → FieldType := fun k => match k with
  | _ => .object "java/util/NavigableMap"
abbrev wsJ230 : List Cond := u_ws RJ23 TJ23 1
theorem nmJ23 : ∀ a, a < 1 → ∀ b, b < 1 → a ≠ b → (TJ23 a).2.1 ≠ (TJ23 b).2.1 := by decide +kernel
theorem tyJ23_ok : ∀ k, k < 1 → parseFieldDescriptor (TJ23 k).2.2.1 = some (tyJ23 k) := by decide +kernel
abbrev cJ23_init : ByteArray := prog_72_method_2_code
def yJ23_init : MethodName := ⟨RJ23, "<init>", "()V"⟩
def dkwJ23_init_0 : List UInt8 := [42, 187, 0, 13, 89, 183, 0, 15, 183, 0, 16, 177]
abbrev dktJ23_init_0 : List UInt8 := dkwJ23_init_0 ++ []
theorem dksJ23_init_0 : cJ23_init.data.toList.drop 0 = dktJ23_init_0 := by decide +kernel
theorem dJ23_init_0 : decode cJ23_init 0 = .ok (.aload_n 0, 1) := dk_42 (dk_at dksJ23_init_0 0 rfl rfl)
theorem dJ23_init_1 : decode cJ23_init 1 = .ok (.new 13, 3) := dk_187 0 13 (dk_at dksJ23_init_0 1 rfl rfl)
theorem dJ23_init_4 : decode cJ23_init 4 = .ok (.dup, 1) := dk_89 (dk_at dksJ23_init_0 4 rfl rfl)
theorem dJ23_init_5 : decode cJ23_init 5 = .ok (.invokespecial 15, 3) := dk_183 0 15 (dk_at dksJ23_init_0 5 rfl rfl)
theorem dJ23_init_8 : decode cJ23_init 8 = .ok (.invokespecial 16, 3) := dk_183 0 16 (dk_at dksJ23_init_0 8 rfl rfl)
theorem dJ23_init_11 : decode cJ23_init 11 = .ok (.return_, 1) := dk_177 (dk_at dksJ23_init_0 11 rfl rfl)
abbrev cJ23_init_2 : ByteArray := prog_72_method_1_code
def yJ23_init_2 : MethodName := ⟨RJ23, "<init>", "(Ljava/util/NavigableMap;)V"⟩
def dkwJ23_init_2_0 : List UInt8 := [42, 183, 0, 1, 42, 43, 181, 0, 7, 177]
abbrev dktJ23_init_2_0 : List UInt8 := dkwJ23_init_2_0 ++ []
theorem dksJ23_init_2_0 : cJ23_init_2.data.toList.drop 0 = dktJ23_init_2_0 := by decide +kernel
theorem dJ23_init_2_0 : decode cJ23_init_2 0 = .ok (.aload_n 0, 1) := dk_42 (dk_at dksJ23_init_2_0 0 rfl rfl)
theorem dJ23_init_2_1 : decode cJ23_init_2 1 = .ok (.invokespecial 1, 3) := dk_183 0 1 (dk_at dksJ23_init_2_0 1 rfl rfl)
theorem dJ23_init_2_4 : decode cJ23_init_2 4 = .ok (.aload_n 0, 1) := dk_42 (dk_at dksJ23_init_2_0 4 rfl rfl)
theorem dJ23_init_2_5 : decode cJ23_init_2 5 = .ok (.aload_n 1, 1) := dk_43 (dk_at dksJ23_init_2_0 5 rfl rfl)
theorem dJ23_init_2_6 : decode cJ23_init_2 6 = .ok (.putfield 7, 3) := dk_181 0 7 (dk_at dksJ23_init_2_0 6 rfl rfl)
theorem dJ23_init_2_9 : decode cJ23_init_2 9 = .ok (.return_, 1) := dk_177 (dk_at dksJ23_init_2_0 9 rfl rfl)
abbrev cJ23_add : ByteArray := prog_72_method_12_code
def yJ23_add : MethodName := ⟨RJ23, "add", "(Ljava/lang/Object;)Z"⟩
def dkwJ23_add_0 : List UInt8 := [42, 180, 0, 7, 43, 178, 0, 65, 185, 0, 69, 3, 0, 199, 0, 7, 4, 167, 0, 4, 3, 172]
abbrev dktJ23_add_0 : List UInt8 := dkwJ23_add_0 ++ []
theorem dksJ23_add_0 : cJ23_add.data.toList.drop 0 = dktJ23_add_0 := by decide +kernel
theorem dJ23_add_0 : decode cJ23_add 0 = .ok (.aload_n 0, 1) := dk_42 (dk_at dksJ23_add_0 0 rfl rfl)
theorem dJ23_add_1 : decode cJ23_add 1 = .ok (.getfield 7, 3) := dk_180 0 7 (dk_at dksJ23_add_0 1 rfl rfl)
theorem dJ23_add_4 : decode cJ23_add 4 = .ok (.aload_n 1, 1) := dk_43 (dk_at dksJ23_add_0 4 rfl rfl)
theorem dJ23_add_5 : decode cJ23_add 5 = .ok (.getstatic 65, 3) := dk_178 0 65 (dk_at dksJ23_add_0 5 rfl rfl)
theorem dJ23_add_8 : decode cJ23_add 8 = .ok (.invokeinterface 69 3, 5) := by decide +kernel
theorem dJ23_add_13 : decode cJ23_add 13 = .ok (.ifnonnull 7, 3) := dk_199 0 7 (dk_at dksJ23_add_0 13 rfl rfl)
theorem dJ23_add_16 : decode cJ23_add 16 = .ok (.iconst 1, 1) := dk_4 (dk_at dksJ23_add_0 16 rfl rfl)
theorem dJ23_add_17 : decode cJ23_add 17 = .ok (.goto 4, 3) := dk_167 0 4 (dk_at dksJ23_add_0 17 rfl rfl)
theorem dJ23_add_20 : decode cJ23_add 20 = .ok (.iconst 0, 1) := dk_3 (dk_at dksJ23_add_0 20 rfl rfl)
theorem dJ23_add_21 : decode cJ23_add 21 = .ok (.ireturn, 1) := dk_172 (dk_at dksJ23_add_0 21 rfl rfl)
abbrev cJ23_iterator : ByteArray := prog_72_method_6_code
def yJ23_iterator : MethodName := ⟨RJ23, "iterator", "()Ljava/util/Iterator;"⟩
def dkwJ23_iterator_0 : List UInt8 := [42, 180, 0, 7, 185, 0, 34, 1, 0, 185, 0, 40, 1, 0, 176]
abbrev dktJ23_iterator_0 : List UInt8 := dkwJ23_iterator_0 ++ []
theorem dksJ23_iterator_0 : cJ23_iterator.data.toList.drop 0 = dktJ23_iterator_0 := by decide +kernel
theorem dJ23_iterator_0 : decode cJ23_iterator 0 = .ok (.aload_n 0, 1) := dk_42 (dk_at dksJ23_iterator_0 0 rfl rfl)
theorem dJ23_iterator_1 : decode cJ23_iterator 1 = .ok (.getfield 7, 3) := dk_180 0 7 (dk_at dksJ23_iterator_0 1 rfl rfl)
theorem dJ23_iterator_4 : decode cJ23_iterator 4 = .ok (.invokeinterface 34 1, 5) := by decide +kernel
theorem dJ23_iterator_9 : decode cJ23_iterator 9 = .ok (.invokeinterface 40 1, 5) := by decide +kernel
theorem dJ23_iterator_14 : decode cJ23_iterator 14 = .ok (.areturn, 1) := dk_176 (dk_at dksJ23_iterator_0 14 rfl rfl)
abbrev cJ23_size : ByteArray := prog_72_method_9_code
def yJ23_size : MethodName := ⟨RJ23, "size", "()I"⟩
def dkwJ23_size_0 : List UInt8 := [42, 180, 0, 7, 185, 0, 53, 1, 0, 172]
abbrev dktJ23_size_0 : List UInt8 := dkwJ23_size_0 ++ []
theorem dksJ23_size_0 : cJ23_size.data.toList.drop 0 = dktJ23_size_0 := by decide +kernel
theorem dJ23_size_0 : decode cJ23_size 0 = .ok (.aload_n 0, 1) := dk_42 (dk_at dksJ23_size_0 0 rfl rfl)
theorem dJ23_size_1 : decode cJ23_size 1 = .ok (.getfield 7, 3) := dk_180 0 7 (dk_at dksJ23_size_0 1 rfl rfl)
theorem dJ23_size_4 : decode cJ23_size 4 = .ok (.invokeinterface 53 1, 5) := by decide +kernel
theorem dJ23_size_9 : decode cJ23_size 9 = .ok (.ireturn, 1) := dk_172 (dk_at dksJ23_size_0 9 rfl rfl)
theorem q79 : (Jvm.Cond.initialized "java/util/TreeSet") ∈ lw_all := lw_g (lw_at lw_m1 33 rfl) rfl
theorem q405 : (Jvm.Cond.instantiable "java/util/TreeSet" (1 : Nat)) ∈ lw_all := lw_g (lw_at lw_m2 119 rfl) rfl
theorem q407 : (Jvm.Cond.instanceMethod ({ cls := "java/util/TreeSet", name := "<init>", desc := "()V" } : Jvm.MethodName)) ∈ lw_all := lw_g (lw_at lw_m2 121 rfl) rfl
theorem q408 : (Jvm.Cond.code ({ cls := "java/util/TreeSet", name := "<init>", desc := "()V" } : Jvm.MethodName) prog_72_method_2_code (1 : Nat) (Option.none : Option Jvm.ClassFile.FieldType)) ∈ lw_all := lw_g (lw_at lw_m2 122 rfl) rfl
theorem q409 : (Jvm.Cond.classLink "java/util/TreeSet" (13 : Nat) "java/util/TreeMap") ∈ lw_all := lw_g (lw_at lw_m2 123 rfl) rfl
theorem q411 : (Jvm.Cond.methodLink "java/util/TreeSet" (15 : Nat) ({ cls := "java/util/TreeMap", name := "<init>", desc := "()V" } : Jvm.MethodName)) ∈ lw_all := lw_g (lw_at lw_m2 125 rfl) rfl
theorem q443 : (Jvm.Cond.methodLink "java/util/TreeSet" (16 : Nat) ({ cls := "java/util/TreeSet", name := "<init>", desc := "(Ljava/util/NavigableMap;)V" } : Jvm.MethodName)) ∈ lw_all := lw_g (lw_at lw_m2 157 rfl) rfl
theorem q444 : (Jvm.Cond.instanceMethod ({ cls := "java/util/TreeSet", name := "<init>", desc := "(Ljava/util/NavigableMap;)V" } : Jvm.MethodName)) ∈ lw_all := lw_g (lw_at lw_m2 158 rfl) rfl
theorem q445 : (Jvm.Cond.code ({ cls := "java/util/TreeSet", name := "<init>", desc := "(Ljava/util/NavigableMap;)V" } : Jvm.MethodName) prog_72_method_1_code (2 : Nat) (Option.none : Option Jvm.ClassFile.FieldType)) ∈ lw_all := lw_g (lw_at lw_m2 159 rfl) rfl
theorem q446 : (Jvm.Cond.methodLink "java/util/TreeSet" (1 : Nat) ({ cls := "java/util/AbstractSet", name := "<init>", desc := "()V" } : Jvm.MethodName)) ∈ lw_all := lw_g (lw_at lw_m2 160 rfl) rfl
theorem q450 : (Jvm.Cond.fieldLink "java/util/TreeSet" (7 : Nat) "java/util/TreeSet" "m" "Ljava/util/NavigableMap;") ∈ lw_all := lw_g (lw_at lw_m2 164 rfl) rfl
theorem q451 : (Jvm.Cond.lays "java/util/TreeSet" "java/util/TreeSet" "m" "Ljava/util/NavigableMap;") ∈ lw_all := lw_g (lw_at lw_m2 165 rfl) rfl
theorem q452 : (Jvm.Cond.soleField "java/util/TreeSet" "m") ∈ lw_all := lw_g (lw_at lw_m2 166 rfl) rfl
theorem q453 : (Jvm.Cond.superclass "java/util/TreeSet" "java/util/AbstractSet") ∈ lw_all := lw_g (lw_at lw_m2 167 rfl) rfl
theorem q475 : (Jvm.Cond.instanceMethod ({ cls := "java/util/TreeSet", name := "add", desc := "(Ljava/lang/Object;)Z" } : Jvm.MethodName)) ∈ lw_all := lw_g (lw_at lw_m2 189 rfl) rfl
theorem q476 : (Jvm.Cond.selects "java/util/TreeSet" ({ cls := "java/util/TreeSet", name := "add", desc := "(Ljava/lang/Object;)Z" } : Jvm.MethodName) ({ cls := "java/util/TreeSet", name := "add", desc := "(Ljava/lang/Object;)Z" } : Jvm.MethodName)) ∈ lw_all := lw_g (lw_at lw_m2 190 rfl) rfl
theorem q477 : (Jvm.Cond.code ({ cls := "java/util/TreeSet", name := "add", desc := "(Ljava/lang/Object;)Z" } : Jvm.MethodName) prog_72_method_12_code (2 : Nat) (Option.some Jvm.ClassFile.FieldType.boolean)) ∈ lw_all := lw_g (lw_at lw_m2 191 rfl) rfl
theorem q478 : (Jvm.Cond.fieldLink "java/util/TreeSet" (65 : Nat) "java/util/TreeSet" "PRESENT" "Ljava/lang/Object;") ∈ lw_all := lw_g (lw_at lw_m2 192 rfl) rfl
theorem q479 : (Jvm.Cond.laysStatic "java/util/TreeSet" "PRESENT" "Ljava/lang/Object;") ∈ lw_tbl := lw_at lw_m2 193 rfl
theorem q480 : (Jvm.Cond.interfaceEntry "java/util/TreeSet" (69 : Nat)) ∈ lw_tbl := lw_at lw_m2 194 rfl
theorem q805 : (Jvm.Cond.instanceMethod ({ cls := "java/util/TreeSet", name := "iterator", desc := "()Ljava/util/Iterator;" } : Jvm.MethodName)) ∈ lw_all := lw_g (lw_at lw_m4 39 rfl) rfl
theorem q806 : (Jvm.Cond.selects "java/util/TreeSet" ({ cls := "java/util/TreeSet", name := "iterator", desc := "()Ljava/util/Iterator;" } : Jvm.MethodName) ({ cls := "java/util/TreeSet", name := "iterator", desc := "()Ljava/util/Iterator;" } : Jvm.MethodName)) ∈ lw_all := lw_g (lw_at lw_m4 40 rfl) rfl
theorem q807 : (Jvm.Cond.code ({ cls := "java/util/TreeSet", name := "iterator", desc := "()Ljava/util/Iterator;" } : Jvm.MethodName) prog_72_method_6_code (1 : Nat) (Option.some (Jvm.ClassFile.FieldType.object "java/util/Iterator"))) ∈ lw_all := lw_g (lw_at lw_m4 41 rfl) rfl
theorem q808 : (Jvm.Cond.interfaceEntry "java/util/TreeSet" (34 : Nat)) ∈ lw_tbl := lw_at lw_m4 42 rfl
theorem q809 : (Jvm.Cond.methodLink "java/util/TreeSet" (34 : Nat) ({ cls := "java/util/NavigableMap", name := "navigableKeySet", desc := "()Ljava/util/NavigableSet;" } : Jvm.MethodName)) ∈ lw_all := lw_g (lw_at lw_m4 43 rfl) rfl
theorem q827 : (Jvm.Cond.interfaceEntry "java/util/TreeSet" (40 : Nat)) ∈ lw_tbl := lw_at lw_m4 61 rfl
theorem q828 : (Jvm.Cond.methodLink "java/util/TreeSet" (40 : Nat) ({ cls := "java/util/NavigableSet", name := "iterator", desc := "()Ljava/util/Iterator;" } : Jvm.MethodName)) ∈ lw_all := lw_g (lw_at lw_m4 62 rfl) rfl
theorem q872 : (Jvm.Cond.castable "java/util/TreeSet" "java/util/NavigableSet") ∈ lw_tbl := lw_at lw_m4 106 rfl
theorem q873 : (Jvm.Cond.selects "java/util/TreeSet" ({ cls := "java/util/NavigableSet", name := "iterator", desc := "()Ljava/util/Iterator;" } : Jvm.MethodName) ({ cls := "java/util/TreeSet", name := "iterator", desc := "()Ljava/util/Iterator;" } : Jvm.MethodName)) ∈ lw_all := lw_g (lw_at lw_m4 107 rfl) rfl
theorem q874 : (Jvm.Cond.unhidden "java/util/TreeSet" "iterator" "()Ljava/util/Iterator;") ∈ lw_tbl := lw_at lw_m4 108 rfl
theorem q875 : (Jvm.Cond.publicMethod ({ cls := "java/util/TreeSet", name := "iterator", desc := "()Ljava/util/Iterator;" } : Jvm.MethodName)) ∈ lw_tbl := lw_at lw_m4 109 rfl
theorem q1001 : (Jvm.Cond.selects "java/util/TreeSet" ({ cls := "java/lang/Object", name := "getClass", desc := "()Ljava/lang/Class;" } : Jvm.MethodName) ({ cls := "java/lang/Object", name := "getClass", desc := "()Ljava/lang/Class;" } : Jvm.MethodName)) ∈ lw_all := lw_g (lw_at lw_m4 235 rfl) rfl
theorem q1518 : (Jvm.Cond.selects "java/util/TreeSet" ({ cls := "java/util/AbstractCollection", name := "size", desc := "()I" } : Jvm.MethodName) ({ cls := "java/util/TreeSet", name := "size", desc := "()I" } : Jvm.MethodName)) ∈ lw_all := lw_g (lw_at lw_m7 32 rfl) rfl
theorem q1519 : (Jvm.Cond.instanceMethod ({ cls := "java/util/TreeSet", name := "size", desc := "()I" } : Jvm.MethodName)) ∈ lw_all := lw_g (lw_at lw_m7 33 rfl) rfl
theorem q1520 : (Jvm.Cond.code ({ cls := "java/util/TreeSet", name := "size", desc := "()I" } : Jvm.MethodName) prog_72_method_9_code (1 : Nat) (Option.some Jvm.ClassFile.FieldType.int)) ∈ lw_all := lw_g (lw_at lw_m7 34 rfl) rfl
theorem q1521 : (Jvm.Cond.interfaceEntry "java/util/TreeSet" (53 : Nat)) ∈ lw_tbl := lw_at lw_m7 35 rfl
theorem q2005 : (Jvm.Cond.castable "java/util/TreeSet" "java/lang/Object") ∈ lw_tbl := lw_at lw_m9 39 rfl
theorem in_J23 : ∀ w ∈ wsJ230, w ∈ lw_all := lw_in wsJ230 [451] (by decide +kernel) (by decide +kernel)

/-! java/lang/Number -/
set_option maxRecDepth 100000
def RJ24 : String := "java/lang/Number"
abbrev cJ24_init : ByteArray := prog_27_method_1_code
def yJ24_init : MethodName := ⟨RJ24, "<init>", "()V"⟩
theorem dJ24_init_0 : decode cJ24_init 0 = .ok (.aload_n 0, 1) := by decide +kernel
theorem dJ24_init_1 : decode cJ24_init 1 = .ok (.invokespecial 1, 3) := by decide +kernel
theorem dJ24_init_4 : decode cJ24_init 4 = .ok (.return_, 1) := by decide +kernel
theorem q80 : (Jvm.Cond.initialized "java/lang/Number") ∈ lw_all := lw_g (lw_at lw_m1 34 rfl) rfl
theorem q467 : (Jvm.Cond.instanceMethod ({ cls := "java/lang/Number", name := "<init>", desc := "()V" } : Jvm.MethodName)) ∈ lw_all := lw_g (lw_at lw_m2 181 rfl) rfl
theorem q468 : (Jvm.Cond.code ({ cls := "java/lang/Number", name := "<init>", desc := "()V" } : Jvm.MethodName) prog_27_method_1_code (1 : Nat) (Option.none : Option Jvm.ClassFile.FieldType)) ∈ lw_all := lw_g (lw_at lw_m2 182 rfl) rfl
theorem q469 : (Jvm.Cond.methodLink "java/lang/Number" (1 : Nat) ({ cls := "java/lang/Object", name := "<init>", desc := "()V" } : Jvm.MethodName)) ∈ lw_all := lw_g (lw_at lw_m2 183 rfl) rfl

/-! java/lang/Integer -/
set_option maxRecDepth 100000
def RJ25 : String := "java/lang/Integer"
def TJ25 : u_T := fun k => match k with
  | _ => ("java/lang/Integer", "value", "I", true)
def tyJ25 : Nat → FieldType := fun k => match k with
  | _ => .int
abbrev wsJ250 : List Cond := u_ws RJ25 TJ25 1
theorem nmJ25 : ∀ a, a < 1 → ∀ b, b < 1 → a ≠ b → (TJ25 a).2.1 ≠ (TJ25 b).2.1 := by decide +kernel
theorem tyJ25_ok : ∀ k, k < 1 → parseFieldDescriptor (TJ25 k).2.2.1 = some (tyJ25 k) := by decide +kernel
abbrev cJ25_valueOf : ByteArray := prog_22_method_22_code
def yJ25_valueOf : MethodName := ⟨RJ25, "valueOf", "(I)Ljava/lang/Integer;"⟩
def dkwJ25_valueOf_1 : List UInt8 := [187, 0, 1, 89, 26, 183, 0, 199, 176]
abbrev dktJ25_valueOf_1 : List UInt8 := dkwJ25_valueOf_1 ++ []
def dkwJ25_valueOf_0 : List UInt8 := [26, 16, 128, 161, 0, 20, 26, 178, 0, 191, 163, 0, 13, 178, 0, 195, 26, 17, 0, 128, 96, 50, 176]
abbrev dktJ25_valueOf_0 : List UInt8 := dkwJ25_valueOf_0 ++ dktJ25_valueOf_1
theorem dksJ25_valueOf_0 : cJ25_valueOf.data.toList.drop 0 = dktJ25_valueOf_0 := by decide +kernel
theorem dksJ25_valueOf_1 : cJ25_valueOf.data.toList.drop 23 = dktJ25_valueOf_1 := dk_seg dksJ25_valueOf_0 23 rfl rfl
theorem dJ25_valueOf_0 : decode cJ25_valueOf 0 = .ok (.iload_n 0, 1) := dk_26 (dk_at dksJ25_valueOf_0 0 rfl rfl)
theorem dJ25_valueOf_1 : decode cJ25_valueOf 1 = .ok (.bipush (-128), 2) := dk_16 128 (dk_at dksJ25_valueOf_0 1 rfl rfl)
theorem dJ25_valueOf_3 : decode cJ25_valueOf 3 = .ok (.if_icmp .lt 20, 3) := dk_161 0 20 (dk_at dksJ25_valueOf_0 3 rfl rfl)
theorem dJ25_valueOf_6 : decode cJ25_valueOf 6 = .ok (.iload_n 0, 1) := dk_26 (dk_at dksJ25_valueOf_0 6 rfl rfl)
theorem dJ25_valueOf_7 : decode cJ25_valueOf 7 = .ok (.getstatic 191, 3) := dk_178 0 191 (dk_at dksJ25_valueOf_0 7 rfl rfl)
theorem dJ25_valueOf_10 : decode cJ25_valueOf 10 = .ok (.if_icmp .gt 13, 3) := dk_163 0 13 (dk_at dksJ25_valueOf_0 10 rfl rfl)
theorem dJ25_valueOf_13 : decode cJ25_valueOf 13 = .ok (.getstatic 195, 3) := dk_178 0 195 (dk_at dksJ25_valueOf_0 13 rfl rfl)
theorem dJ25_valueOf_16 : decode cJ25_valueOf 16 = .ok (.iload_n 0, 1) := dk_26 (dk_at dksJ25_valueOf_0 16 rfl rfl)
theorem dJ25_valueOf_17 : decode cJ25_valueOf 17 = .ok (.sipush 128, 3) := dk_17 0 128 (dk_at dksJ25_valueOf_0 17 rfl rfl)
theorem dJ25_valueOf_20 : decode cJ25_valueOf 20 = .ok (.iadd, 1) := dk_96 (dk_at dksJ25_valueOf_0 20 rfl rfl)
theorem dJ25_valueOf_21 : decode cJ25_valueOf 21 = .ok (.aaload, 1) := dk_50 (dk_at dksJ25_valueOf_0 21 rfl rfl)
theorem dJ25_valueOf_22 : decode cJ25_valueOf 22 = .ok (.areturn, 1) := dk_176 (dk_at dksJ25_valueOf_0 22 rfl rfl)
theorem dJ25_valueOf_23 : decode cJ25_valueOf 23 = .ok (.new 1, 3) := dk_187 0 1 (dk_at dksJ25_valueOf_1 0 rfl rfl)
theorem dJ25_valueOf_26 : decode cJ25_valueOf 26 = .ok (.dup, 1) := dk_89 (dk_at dksJ25_valueOf_1 3 rfl rfl)
theorem dJ25_valueOf_27 : decode cJ25_valueOf 27 = .ok (.iload_n 0, 1) := dk_26 (dk_at dksJ25_valueOf_1 4 rfl rfl)
theorem dJ25_valueOf_28 : decode cJ25_valueOf 28 = .ok (.invokespecial 199, 3) := dk_183 0 199 (dk_at dksJ25_valueOf_1 5 rfl rfl)
theorem dJ25_valueOf_31 : decode cJ25_valueOf 31 = .ok (.areturn, 1) := dk_176 (dk_at dksJ25_valueOf_1 8 rfl rfl)
abbrev cJ25_init : ByteArray := prog_22_method_23_code
def yJ25_init : MethodName := ⟨RJ25, "<init>", "(I)V"⟩
def dkwJ25_init_0 : List UInt8 := [42, 183, 0, 202, 42, 27, 181, 0, 205, 177]
abbrev dktJ25_init_0 : List UInt8 := dkwJ25_init_0 ++ []
theorem dksJ25_init_0 : cJ25_init.data.toList.drop 0 = dktJ25_init_0 := by decide +kernel
theorem dJ25_init_0 : decode cJ25_init 0 = .ok (.aload_n 0, 1) := dk_42 (dk_at dksJ25_init_0 0 rfl rfl)
theorem dJ25_init_1 : decode cJ25_init 1 = .ok (.invokespecial 202, 3) := dk_183 0 202 (dk_at dksJ25_init_0 1 rfl rfl)
theorem dJ25_init_4 : decode cJ25_init 4 = .ok (.aload_n 0, 1) := dk_42 (dk_at dksJ25_init_0 4 rfl rfl)
theorem dJ25_init_5 : decode cJ25_init 5 = .ok (.iload_n 1, 1) := dk_27 (dk_at dksJ25_init_0 5 rfl rfl)
theorem dJ25_init_6 : decode cJ25_init 6 = .ok (.putfield 205, 3) := dk_181 0 205 (dk_at dksJ25_init_0 6 rfl rfl)
theorem dJ25_init_9 : decode cJ25_init 9 = .ok (.return_, 1) := dk_177 (dk_at dksJ25_init_0 9 rfl rfl)
abbrev cJ25_compareTo : ByteArray := prog_22_method_63_code
def yJ25_compareTo : MethodName := ⟨RJ25, "compareTo", "(Ljava/lang/Object;)I"⟩
def dkwJ25_compareTo_0 : List UInt8 := [42, 43, 192, 0, 1, 182, 1, 28, 172]
abbrev dktJ25_compareTo_0 : List UInt8 := dkwJ25_compareTo_0 ++ []
theorem dksJ25_compareTo_0 : cJ25_compareTo.data.toList.drop 0 = dktJ25_compareTo_0 := by decide +kernel
theorem dJ25_compareTo_0 : decode cJ25_compareTo 0 = .ok (.aload_n 0, 1) := dk_42 (dk_at dksJ25_compareTo_0 0 rfl rfl)
theorem dJ25_compareTo_1 : decode cJ25_compareTo 1 = .ok (.aload_n 1, 1) := dk_43 (dk_at dksJ25_compareTo_0 1 rfl rfl)
theorem dJ25_compareTo_2 : decode cJ25_compareTo 2 = .ok (.checkcast 1, 3) := dk_192 0 1 (dk_at dksJ25_compareTo_0 2 rfl rfl)
theorem dJ25_compareTo_5 : decode cJ25_compareTo 5 = .ok (.invokevirtual 284, 3) := dk_182 1 28 (dk_at dksJ25_compareTo_0 5 rfl rfl)
theorem dJ25_compareTo_8 : decode cJ25_compareTo 8 = .ok (.ireturn, 1) := dk_172 (dk_at dksJ25_compareTo_0 8 rfl rfl)
abbrev cJ25_compareTo_2 : ByteArray := prog_22_method_39_code
def yJ25_compareTo_2 : MethodName := ⟨RJ25, "compareTo", "(Ljava/lang/Integer;)I"⟩
def dkwJ25_compareTo_2_0 : List UInt8 := [42, 180, 0, 205, 43, 180, 0, 205, 184, 1, 3, 172]
abbrev dktJ25_compareTo_2_0 : List UInt8 := dkwJ25_compareTo_2_0 ++ []
theorem dksJ25_compareTo_2_0 : cJ25_compareTo_2.data.toList.drop 0 = dktJ25_compareTo_2_0 := by decide +kernel
theorem dJ25_compareTo_2_0 : decode cJ25_compareTo_2 0 = .ok (.aload_n 0, 1) := dk_42 (dk_at dksJ25_compareTo_2_0 0 rfl rfl)
theorem dJ25_compareTo_2_1 : decode cJ25_compareTo_2 1 = .ok (.getfield 205, 3) := dk_180 0 205 (dk_at dksJ25_compareTo_2_0 1 rfl rfl)
theorem dJ25_compareTo_2_4 : decode cJ25_compareTo_2 4 = .ok (.aload_n 1, 1) := dk_43 (dk_at dksJ25_compareTo_2_0 4 rfl rfl)
theorem dJ25_compareTo_2_5 : decode cJ25_compareTo_2 5 = .ok (.getfield 205, 3) := dk_180 0 205 (dk_at dksJ25_compareTo_2_0 5 rfl rfl)
theorem dJ25_compareTo_2_8 : decode cJ25_compareTo_2 8 = .ok (.invokestatic 259, 3) := dk_184 1 3 (dk_at dksJ25_compareTo_2_0 8 rfl rfl)
theorem dJ25_compareTo_2_11 : decode cJ25_compareTo_2 11 = .ok (.ireturn, 1) := dk_172 (dk_at dksJ25_compareTo_2_0 11 rfl rfl)
abbrev cJ25_compare : ByteArray := prog_22_method_40_code
def yJ25_compare : MethodName := ⟨RJ25, "compare", "(II)I"⟩
def dkwJ25_compare_0 : List UInt8 := [26, 27, 162, 0, 7, 2, 167, 0, 13, 26, 27, 160, 0, 7, 3, 167, 0, 4, 4, 172]
abbrev dktJ25_compare_0 : List UInt8 := dkwJ25_compare_0 ++ []
theorem dksJ25_compare_0 : cJ25_compare.data.toList.drop 0 = dktJ25_compare_0 := by decide +kernel
theorem dJ25_compare_0 : decode cJ25_compare 0 = .ok (.iload_n 0, 1) := dk_26 (dk_at dksJ25_compare_0 0 rfl rfl)
theorem dJ25_compare_1 : decode cJ25_compare 1 = .ok (.iload_n 1, 1) := dk_27 (dk_at dksJ25_compare_0 1 rfl rfl)
theorem dJ25_compare_2 : decode cJ25_compare 2 = .ok (.if_icmp .ge 7, 3) := dk_162 0 7 (dk_at dksJ25_compare_0 2 rfl rfl)
theorem dJ25_compare_5 : decode cJ25_compare 5 = .ok (.iconst (-1), 1) := dk_2 (dk_at dksJ25_compare_0 5 rfl rfl)
theorem dJ25_compare_6 : decode cJ25_compare 6 = .ok (.goto 13, 3) := dk_167 0 13 (dk_at dksJ25_compare_0 6 rfl rfl)
theorem dJ25_compare_9 : decode cJ25_compare 9 = .ok (.iload_n 0, 1) := dk_26 (dk_at dksJ25_compare_0 9 rfl rfl)
theorem dJ25_compare_10 : decode cJ25_compare 10 = .ok (.iload_n 1, 1) := dk_27 (dk_at dksJ25_compare_0 10 rfl rfl)
theorem dJ25_compare_11 : decode cJ25_compare 11 = .ok (.if_icmp .ne 7, 3) := dk_160 0 7 (dk_at dksJ25_compare_0 11 rfl rfl)
theorem dJ25_compare_14 : decode cJ25_compare 14 = .ok (.iconst 0, 1) := dk_3 (dk_at dksJ25_compare_0 14 rfl rfl)
theorem dJ25_compare_15 : decode cJ25_compare 15 = .ok (.goto 4, 3) := dk_167 0 4 (dk_at dksJ25_compare_0 15 rfl rfl)
theorem dJ25_compare_18 : decode cJ25_compare 18 = .ok (.iconst 1, 1) := dk_4 (dk_at dksJ25_compare_0 18 rfl rfl)
theorem dJ25_compare_19 : decode cJ25_compare 19 = .ok (.ireturn, 1) := dk_172 (dk_at dksJ25_compare_0 19 rfl rfl)
abbrev cJ25_numberOfLeadingZeros : ByteArray := prog_22_method_47_code
def yJ25_numberOfLeadingZeros : MethodName := ⟨RJ25, "numberOfLeadingZeros", "(I)I"⟩
def dkwJ25_numberOfLeadingZeros_3 : List UInt8 := [5, 124, 59, 27, 26, 4, 124, 100, 172]
abbrev dktJ25_numberOfLeadingZeros_3 : List UInt8 := dkwJ25_numberOfLeadingZeros_3 ++ []
def dkwJ25_numberOfLeadingZeros_2 : List UInt8 := [124, 59, 26, 16, 16, 161, 0, 10, 132, 1, 252, 26, 7, 124, 59, 26, 7, 161, 0, 10, 132, 1, 254, 26]
abbrev dktJ25_numberOfLeadingZeros_2 : List UInt8 := dkwJ25_numberOfLeadingZeros_2 ++ dktJ25_numberOfLeadingZeros_3
def dkwJ25_numberOfLeadingZeros_1 : List UInt8 := [161, 0, 11, 132, 1, 240, 26, 16, 16, 124, 59, 26, 17, 1, 0, 161, 0, 11, 132, 1, 248, 26, 16, 8]
abbrev dktJ25_numberOfLeadingZeros_1 : List UInt8 := dkwJ25_numberOfLeadingZeros_1 ++ dktJ25_numberOfLeadingZeros_2
def dkwJ25_numberOfLeadingZeros_0 : List UInt8 := [26, 157, 0, 14, 26, 154, 0, 8, 16, 32, 167, 0, 4, 3, 172, 16, 31, 60, 26, 19, 1, 8]
abbrev dktJ25_numberOfLeadingZeros_0 : List UInt8 := dkwJ25_numberOfLeadingZeros_0 ++ dktJ25_numberOfLeadingZeros_1
theorem dksJ25_numberOfLeadingZeros_0 : cJ25_numberOfLeadingZeros.data.toList.drop 0 = dktJ25_numberOfLeadingZeros_0 := by decide +kernel
theorem dksJ25_numberOfLeadingZeros_1 : cJ25_numberOfLeadingZeros.data.toList.drop 22 = dktJ25_numberOfLeadingZeros_1 := dk_seg dksJ25_numberOfLeadingZeros_0 22 rfl rfl
theorem dksJ25_numberOfLeadingZeros_2 : cJ25_numberOfLeadingZeros.data.toList.drop 46 = dktJ25_numberOfLeadingZeros_2 := dk_seg dksJ25_numberOfLeadingZeros_1 24 rfl rfl
theorem dksJ25_numberOfLeadingZeros_3 : cJ25_numberOfLeadingZeros.data.toList.drop 70 = dktJ25_numberOfLeadingZeros_3 := dk_seg dksJ25_numberOfLeadingZeros_2 24 rfl rfl
theorem dJ25_numberOfLeadingZeros_0 : decode cJ25_numberOfLeadingZeros 0 = .ok (.iload_n 0, 1) := dk_26 (dk_at dksJ25_numberOfLeadingZeros_0 0 rfl rfl)
theorem dJ25_numberOfLeadingZeros_1 : decode cJ25_numberOfLeadingZeros 1 = .ok (.ifCond .gt 14, 3) := dk_157 0 14 (dk_at dksJ25_numberOfLeadingZeros_0 1 rfl rfl)
theorem dJ25_numberOfLeadingZeros_4 : decode cJ25_numberOfLeadingZeros 4 = .ok (.iload_n 0, 1) := dk_26 (dk_at dksJ25_numberOfLeadingZeros_0 4 rfl rfl)
theorem dJ25_numberOfLeadingZeros_5 : decode cJ25_numberOfLeadingZeros 5 = .ok (.ifCond .ne 8, 3) := dk_154 0 8 (dk_at dksJ25_numberOfLeadingZeros_0 5 rfl rfl)
theorem dJ25_numberOfLeadingZeros_8 : decode cJ25_numberOfLeadingZeros 8 = .ok (.bipush 32, 2) := dk_16 32 (dk_at dksJ25_numberOfLeadingZeros_0 8 rfl rfl)
theorem dJ25_numberOfLeadingZeros_10 : decode cJ25_numberOfLeadingZeros 10 = .ok (.goto 4, 3) := dk_167 0 4 (dk_at dksJ25_numberOfLeadingZeros_0 10 rfl rfl)
theorem dJ25_numberOfLeadingZeros_13 : decode cJ25_numberOfLeadingZeros 13 = .ok (.iconst 0, 1) := dk_3 (dk_at dksJ25_numberOfLeadingZeros_0 13 rfl rfl)
theorem dJ25_numberOfLeadingZeros_14 : decode cJ25_numberOfLeadingZeros 14 = .ok (.ireturn, 1) := dk_172 (dk_at dksJ25_numberOfLeadingZeros_0 14 rfl rfl)
theorem dJ25_numberOfLeadingZeros_15 : decode cJ25_numberOfLeadingZeros 15 = .ok (.bipush 31, 2) := dk_16 31 (dk_at dksJ25_numberOfLeadingZeros_0 15 rfl rfl)
theorem dJ25_numberOfLeadingZeros_17 : decode cJ25_numberOfLeadingZeros 17 = .ok (.istore_n 1, 1) := dk_60 (dk_at dksJ25_numberOfLeadingZeros_0 17 rfl rfl)
theorem dJ25_numberOfLeadingZeros_18 : decode cJ25_numberOfLeadingZeros 18 = .ok (.iload_n 0, 1) := dk_26 (dk_at dksJ25_numberOfLeadingZeros_0 18 rfl rfl)
theorem dJ25_numberOfLeadingZeros_19 : decode cJ25_numberOfLeadingZeros 19 = .ok (.ldc_w 264, 3) := dk_19 1 8 (dk_at dksJ25_numberOfLeadingZeros_0 19 rfl rfl)
theorem dJ25_numberOfLeadingZeros_22 : decode cJ25_numberOfLeadingZeros 22 = .ok (.if_icmp .lt 11, 3) := dk_161 0 11 (dk_at dksJ25_numberOfLeadingZeros_1 0 rfl rfl)
theorem dJ25_numberOfLeadingZeros_25 : decode cJ25_numberOfLeadingZeros 25 = .ok (.iinc 1 (-16), 3) := dk_132 1 240 (dk_at dksJ25_numberOfLeadingZeros_1 3 rfl rfl)
theorem dJ25_numberOfLeadingZeros_28 : decode cJ25_numberOfLeadingZeros 28 = .ok (.iload_n 0, 1) := dk_26 (dk_at dksJ25_numberOfLeadingZeros_1 6 rfl rfl)
theorem dJ25_numberOfLeadingZeros_29 : decode cJ25_numberOfLeadingZeros 29 = .ok (.bipush 16, 2) := dk_16 16 (dk_at dksJ25_numberOfLeadingZeros_1 7 rfl rfl)
theorem dJ25_numberOfLeadingZeros_31 : decode cJ25_numberOfLeadingZeros 31 = .ok (.iushr, 1) := dk_124 (dk_at dksJ25_numberOfLeadingZeros_1 9 rfl rfl)
theorem dJ25_numberOfLeadingZeros_32 : decode cJ25_numberOfLeadingZeros 32 = .ok (.istore_n 0, 1) := dk_59 (dk_at dksJ25_numberOfLeadingZeros_1 10 rfl rfl)
theorem dJ25_numberOfLeadingZeros_33 : decode cJ25_numberOfLeadingZeros 33 = .ok (.iload_n 0, 1) := dk_26 (dk_at dksJ25_numberOfLeadingZeros_1 11 rfl rfl)
theorem dJ25_numberOfLeadingZeros_34 : decode cJ25_numberOfLeadingZeros 34 = .ok (.sipush 256, 3) := dk_17 1 0 (dk_at dksJ25_numberOfLeadingZeros_1 12 rfl rfl)
theorem dJ25_numberOfLeadingZeros_37 : decode cJ25_numberOfLeadingZeros 37 = .ok (.if_icmp .lt 11, 3) := dk_161 0 11 (dk_at dksJ25_numberOfLeadingZeros_1 15 rfl rfl)
theorem dJ25_numberOfLeadingZeros_40 : decode cJ25_numberOfLeadingZeros 40 = .ok (.iinc 1 (-8), 3) := dk_132 1 248 (dk_at dksJ25_numberOfLeadingZeros_1 18 rfl rfl)
theorem dJ25_numberOfLeadingZeros_43 : decode cJ25_numberOfLeadingZeros 43 = .ok (.iload_n 0, 1) := dk_26 (dk_at dksJ25_numberOfLeadingZeros_1 21 rfl rfl)
theorem dJ25_numberOfLeadingZeros_44 : decode cJ25_numberOfLeadingZeros 44 = .ok (.bipush 8, 2) := dk_16 8 (dk_at dksJ25_numberOfLeadingZeros_1 22 rfl rfl)
theorem dJ25_numberOfLeadingZeros_46 : decode cJ25_numberOfLeadingZeros 46 = .ok (.iushr, 1) := dk_124 (dk_at dksJ25_numberOfLeadingZeros_2 0 rfl rfl)
theorem dJ25_numberOfLeadingZeros_47 : decode cJ25_numberOfLeadingZeros 47 = .ok (.istore_n 0, 1) := dk_59 (dk_at dksJ25_numberOfLeadingZeros_2 1 rfl rfl)
theorem dJ25_numberOfLeadingZeros_48 : decode cJ25_numberOfLeadingZeros 48 = .ok (.iload_n 0, 1) := dk_26 (dk_at dksJ25_numberOfLeadingZeros_2 2 rfl rfl)
theorem dJ25_numberOfLeadingZeros_49 : decode cJ25_numberOfLeadingZeros 49 = .ok (.bipush 16, 2) := dk_16 16 (dk_at dksJ25_numberOfLeadingZeros_2 3 rfl rfl)
theorem dJ25_numberOfLeadingZeros_51 : decode cJ25_numberOfLeadingZeros 51 = .ok (.if_icmp .lt 10, 3) := dk_161 0 10 (dk_at dksJ25_numberOfLeadingZeros_2 5 rfl rfl)
theorem dJ25_numberOfLeadingZeros_54 : decode cJ25_numberOfLeadingZeros 54 = .ok (.iinc 1 (-4), 3) := dk_132 1 252 (dk_at dksJ25_numberOfLeadingZeros_2 8 rfl rfl)
theorem dJ25_numberOfLeadingZeros_57 : decode cJ25_numberOfLeadingZeros 57 = .ok (.iload_n 0, 1) := dk_26 (dk_at dksJ25_numberOfLeadingZeros_2 11 rfl rfl)
theorem dJ25_numberOfLeadingZeros_58 : decode cJ25_numberOfLeadingZeros 58 = .ok (.iconst 4, 1) := dk_7 (dk_at dksJ25_numberOfLeadingZeros_2 12 rfl rfl)
theorem dJ25_numberOfLeadingZeros_59 : decode cJ25_numberOfLeadingZeros 59 = .ok (.iushr, 1) := dk_124 (dk_at dksJ25_numberOfLeadingZeros_2 13 rfl rfl)
theorem dJ25_numberOfLeadingZeros_60 : decode cJ25_numberOfLeadingZeros 60 = .ok (.istore_n 0, 1) := dk_59 (dk_at dksJ25_numberOfLeadingZeros_2 14 rfl rfl)
theorem dJ25_numberOfLeadingZeros_61 : decode cJ25_numberOfLeadingZeros 61 = .ok (.iload_n 0, 1) := dk_26 (dk_at dksJ25_numberOfLeadingZeros_2 15 rfl rfl)
theorem dJ25_numberOfLeadingZeros_62 : decode cJ25_numberOfLeadingZeros 62 = .ok (.iconst 4, 1) := dk_7 (dk_at dksJ25_numberOfLeadingZeros_2 16 rfl rfl)
theorem dJ25_numberOfLeadingZeros_63 : decode cJ25_numberOfLeadingZeros 63 = .ok (.if_icmp .lt 10, 3) := dk_161 0 10 (dk_at dksJ25_numberOfLeadingZeros_2 17 rfl rfl)
theorem dJ25_numberOfLeadingZeros_66 : decode cJ25_numberOfLeadingZeros 66 = .ok (.iinc 1 (-2), 3) := dk_132 1 254 (dk_at dksJ25_numberOfLeadingZeros_2 20 rfl rfl)
theorem dJ25_numberOfLeadingZeros_69 : decode cJ25_numberOfLeadingZeros 69 = .ok (.iload_n 0, 1) := dk_26 (dk_at dksJ25_numberOfLeadingZeros_2 23 rfl rfl)
theorem dJ25_numberOfLeadingZeros_70 : decode cJ25_numberOfLeadingZeros 70 = .ok (.iconst 2, 1) := dk_5 (dk_at dksJ25_numberOfLeadingZeros_3 0 rfl rfl)
theorem dJ25_numberOfLeadingZeros_71 : decode cJ25_numberOfLeadingZeros 71 = .ok (.iushr, 1) := dk_124 (dk_at dksJ25_numberOfLeadingZeros_3 1 rfl rfl)
theorem dJ25_numberOfLeadingZeros_72 : decode cJ25_numberOfLeadingZeros 72 = .ok (.istore_n 0, 1) := dk_59 (dk_at dksJ25_numberOfLeadingZeros_3 2 rfl rfl)
theorem dJ25_numberOfLeadingZeros_73 : decode cJ25_numberOfLeadingZeros 73 = .ok (.iload_n 1, 1) := dk_27 (dk_at dksJ25_numberOfLeadingZeros_3 3 rfl rfl)
theorem dJ25_numberOfLeadingZeros_74 : decode cJ25_numberOfLeadingZeros 74 = .ok (.iload_n 0, 1) := dk_26 (dk_at dksJ25_numberOfLeadingZeros_3 4 rfl rfl)
theorem dJ25_numberOfLeadingZeros_75 : decode cJ25_numberOfLeadingZeros 75 = .ok (.iconst 1, 1) := dk_4 (dk_at dksJ25_numberOfLeadingZeros_3 5 rfl rfl)
theorem dJ25_numberOfLeadingZeros_76 : decode cJ25_numberOfLeadingZeros 76 = .ok (.iushr, 1) := dk_124 (dk_at dksJ25_numberOfLeadingZeros_3 6 rfl rfl)
theorem dJ25_numberOfLeadingZeros_77 : decode cJ25_numberOfLeadingZeros 77 = .ok (.isub, 1) := dk_100 (dk_at dksJ25_numberOfLeadingZeros_3 7 rfl rfl)
theorem dJ25_numberOfLeadingZeros_78 : decode cJ25_numberOfLeadingZeros 78 = .ok (.ireturn, 1) := dk_172 (dk_at dksJ25_numberOfLeadingZeros_3 8 rfl rfl)
abbrev cJ25_numberOfTrailingZeros : ByteArray := prog_22_method_48_code
def yJ25_numberOfTrailingZeros : MethodName := ⟨RJ25, "numberOfTrailingZeros", "(I)I"⟩
def dkwJ25_numberOfTrailingZeros_3 : List UInt8 := [5, 124, 59, 27, 26, 4, 124, 96, 172]
abbrev dktJ25_numberOfTrailingZeros_3 : List UInt8 := dkwJ25_numberOfTrailingZeros_3 ++ []
def dkwJ25_numberOfTrailingZeros_2 : List UInt8 := [124, 59, 26, 16, 16, 164, 0, 10, 132, 1, 4, 26, 7, 124, 59, 26, 7, 164, 0, 10, 132, 1, 2, 26]
abbrev dktJ25_numberOfTrailingZeros_2 : List UInt8 := dkwJ25_numberOfTrailingZeros_2 ++ dktJ25_numberOfTrailingZeros_3
def dkwJ25_numberOfTrailingZeros_1 : List UInt8 := [164, 0, 11, 132, 1, 16, 26, 16, 16, 124, 59, 26, 17, 1, 0, 164, 0, 11, 132, 1, 8, 26, 16, 8]
abbrev dktJ25_numberOfTrailingZeros_1 : List UInt8 := dkwJ25_numberOfTrailingZeros_1 ++ dktJ25_numberOfTrailingZeros_2
def dkwJ25_numberOfTrailingZeros_0 : List UInt8 := [26, 2, 130, 26, 4, 100, 126, 59, 26, 157, 0, 8, 26, 16, 32, 126, 172, 4, 60, 26, 19, 1, 8]
abbrev dktJ25_numberOfTrailingZeros_0 : List UInt8 := dkwJ25_numberOfTrailingZeros_0 ++ dktJ25_numberOfTrailingZeros_1
theorem dksJ25_numberOfTrailingZeros_0 : cJ25_numberOfTrailingZeros.data.toList.drop 0 = dktJ25_numberOfTrailingZeros_0 := by decide +kernel
theorem dksJ25_numberOfTrailingZeros_1 : cJ25_numberOfTrailingZeros.data.toList.drop 23 = dktJ25_numberOfTrailingZeros_1 := dk_seg dksJ25_numberOfTrailingZeros_0 23 rfl rfl
theorem dksJ25_numberOfTrailingZeros_2 : cJ25_numberOfTrailingZeros.data.toList.drop 47 = dktJ25_numberOfTrailingZeros_2 := dk_seg dksJ25_numberOfTrailingZeros_1 24 rfl rfl
theorem dksJ25_numberOfTrailingZeros_3 : cJ25_numberOfTrailingZeros.data.toList.drop 71 = dktJ25_numberOfTrailingZeros_3 := dk_seg dksJ25_numberOfTrailingZeros_2 24 rfl rfl
theorem dJ25_numberOfTrailingZeros_0 : decode cJ25_numberOfTrailingZeros 0 = .ok (.iload_n 0, 1) := dk_26 (dk_at dksJ25_numberOfTrailingZeros_0 0 rfl rfl)
theorem dJ25_numberOfTrailingZeros_1 : decode cJ25_numberOfTrailingZeros 1 = .ok (.iconst (-1), 1) := dk_2 (dk_at dksJ25_numberOfTrailingZeros_0 1 rfl rfl)
theorem dJ25_numberOfTrailingZeros_2 : decode cJ25_numberOfTrailingZeros 2 = .ok (.ixor, 1) := dk_130 (dk_at dksJ25_numberOfTrailingZeros_0 2 rfl rfl)
theorem dJ25_numberOfTrailingZeros_3 : decode cJ25_numberOfTrailingZeros 3 = .ok (.iload_n 0, 1) := dk_26 (dk_at dksJ25_numberOfTrailingZeros_0 3 rfl rfl)
theorem dJ25_numberOfTrailingZeros_4 : decode cJ25_numberOfTrailingZeros 4 = .ok (.iconst 1, 1) := dk_4 (dk_at dksJ25_numberOfTrailingZeros_0 4 rfl rfl)
theorem dJ25_numberOfTrailingZeros_5 : decode cJ25_numberOfTrailingZeros 5 = .ok (.isub, 1) := dk_100 (dk_at dksJ25_numberOfTrailingZeros_0 5 rfl rfl)
theorem dJ25_numberOfTrailingZeros_6 : decode cJ25_numberOfTrailingZeros 6 = .ok (.iand, 1) := dk_126 (dk_at dksJ25_numberOfTrailingZeros_0 6 rfl rfl)
theorem dJ25_numberOfTrailingZeros_7 : decode cJ25_numberOfTrailingZeros 7 = .ok (.istore_n 0, 1) := dk_59 (dk_at dksJ25_numberOfTrailingZeros_0 7 rfl rfl)
theorem dJ25_numberOfTrailingZeros_8 : decode cJ25_numberOfTrailingZeros 8 = .ok (.iload_n 0, 1) := dk_26 (dk_at dksJ25_numberOfTrailingZeros_0 8 rfl rfl)
theorem dJ25_numberOfTrailingZeros_9 : decode cJ25_numberOfTrailingZeros 9 = .ok (.ifCond .gt 8, 3) := dk_157 0 8 (dk_at dksJ25_numberOfTrailingZeros_0 9 rfl rfl)
theorem dJ25_numberOfTrailingZeros_12 : decode cJ25_numberOfTrailingZeros 12 = .ok (.iload_n 0, 1) := dk_26 (dk_at dksJ25_numberOfTrailingZeros_0 12 rfl rfl)
theorem dJ25_numberOfTrailingZeros_13 : decode cJ25_numberOfTrailingZeros 13 = .ok (.bipush 32, 2) := dk_16 32 (dk_at dksJ25_numberOfTrailingZeros_0 13 rfl rfl)
theorem dJ25_numberOfTrailingZeros_15 : decode cJ25_numberOfTrailingZeros 15 = .ok (.iand, 1) := dk_126 (dk_at dksJ25_numberOfTrailingZeros_0 15 rfl rfl)
theorem dJ25_numberOfTrailingZeros_16 : decode cJ25_numberOfTrailingZeros 16 = .ok (.ireturn, 1) := dk_172 (dk_at dksJ25_numberOfTrailingZeros_0 16 rfl rfl)
theorem dJ25_numberOfTrailingZeros_17 : decode cJ25_numberOfTrailingZeros 17 = .ok (.iconst 1, 1) := dk_4 (dk_at dksJ25_numberOfTrailingZeros_0 17 rfl rfl)
theorem dJ25_numberOfTrailingZeros_18 : decode cJ25_numberOfTrailingZeros 18 = .ok (.istore_n 1, 1) := dk_60 (dk_at dksJ25_numberOfTrailingZeros_0 18 rfl rfl)
theorem dJ25_numberOfTrailingZeros_19 : decode cJ25_numberOfTrailingZeros 19 = .ok (.iload_n 0, 1) := dk_26 (dk_at dksJ25_numberOfTrailingZeros_0 19 rfl rfl)
theorem dJ25_numberOfTrailingZeros_20 : decode cJ25_numberOfTrailingZeros 20 = .ok (.ldc_w 264, 3) := dk_19 1 8 (dk_at dksJ25_numberOfTrailingZeros_0 20 rfl rfl)
theorem dJ25_numberOfTrailingZeros_23 : decode cJ25_numberOfTrailingZeros 23 = .ok (.if_icmp .le 11, 3) := dk_164 0 11 (dk_at dksJ25_numberOfTrailingZeros_1 0 rfl rfl)
theorem dJ25_numberOfTrailingZeros_26 : decode cJ25_numberOfTrailingZeros 26 = .ok (.iinc 1 16, 3) := dk_132 1 16 (dk_at dksJ25_numberOfTrailingZeros_1 3 rfl rfl)
theorem dJ25_numberOfTrailingZeros_29 : decode cJ25_numberOfTrailingZeros 29 = .ok (.iload_n 0, 1) := dk_26 (dk_at dksJ25_numberOfTrailingZeros_1 6 rfl rfl)
theorem dJ25_numberOfTrailingZeros_30 : decode cJ25_numberOfTrailingZeros 30 = .ok (.bipush 16, 2) := dk_16 16 (dk_at dksJ25_numberOfTrailingZeros_1 7 rfl rfl)
theorem dJ25_numberOfTrailingZeros_32 : decode cJ25_numberOfTrailingZeros 32 = .ok (.iushr, 1) := dk_124 (dk_at dksJ25_numberOfTrailingZeros_1 9 rfl rfl)
theorem dJ25_numberOfTrailingZeros_33 : decode cJ25_numberOfTrailingZeros 33 = .ok (.istore_n 0, 1) := dk_59 (dk_at dksJ25_numberOfTrailingZeros_1 10 rfl rfl)
theorem dJ25_numberOfTrailingZeros_34 : decode cJ25_numberOfTrailingZeros 34 = .ok (.iload_n 0, 1) := dk_26 (dk_at dksJ25_numberOfTrailingZeros_1 11 rfl rfl)
theorem dJ25_numberOfTrailingZeros_35 : decode cJ25_numberOfTrailingZeros 35 = .ok (.sipush 256, 3) := dk_17 1 0 (dk_at dksJ25_numberOfTrailingZeros_1 12 rfl rfl)
theorem dJ25_numberOfTrailingZeros_38 : decode cJ25_numberOfTrailingZeros 38 = .ok (.if_icmp .le 11, 3) := dk_164 0 11 (dk_at dksJ25_numberOfTrailingZeros_1 15 rfl rfl)
theorem dJ25_numberOfTrailingZeros_41 : decode cJ25_numberOfTrailingZeros 41 = .ok (.iinc 1 8, 3) := dk_132 1 8 (dk_at dksJ25_numberOfTrailingZeros_1 18 rfl rfl)
theorem dJ25_numberOfTrailingZeros_44 : decode cJ25_numberOfTrailingZeros 44 = .ok (.iload_n 0, 1) := dk_26 (dk_at dksJ25_numberOfTrailingZeros_1 21 rfl rfl)
theorem dJ25_numberOfTrailingZeros_45 : decode cJ25_numberOfTrailingZeros 45 = .ok (.bipush 8, 2) := dk_16 8 (dk_at dksJ25_numberOfTrailingZeros_1 22 rfl rfl)
theorem dJ25_numberOfTrailingZeros_47 : decode cJ25_numberOfTrailingZeros 47 = .ok (.iushr, 1) := dk_124 (dk_at dksJ25_numberOfTrailingZeros_2 0 rfl rfl)
theorem dJ25_numberOfTrailingZeros_48 : decode cJ25_numberOfTrailingZeros 48 = .ok (.istore_n 0, 1) := dk_59 (dk_at dksJ25_numberOfTrailingZeros_2 1 rfl rfl)
theorem dJ25_numberOfTrailingZeros_49 : decode cJ25_numberOfTrailingZeros 49 = .ok (.iload_n 0, 1) := dk_26 (dk_at dksJ25_numberOfTrailingZeros_2 2 rfl rfl)
theorem dJ25_numberOfTrailingZeros_50 : decode cJ25_numberOfTrailingZeros 50 = .ok (.bipush 16, 2) := dk_16 16 (dk_at dksJ25_numberOfTrailingZeros_2 3 rfl rfl)
theorem dJ25_numberOfTrailingZeros_52 : decode cJ25_numberOfTrailingZeros 52 = .ok (.if_icmp .le 10, 3) := dk_164 0 10 (dk_at dksJ25_numberOfTrailingZeros_2 5 rfl rfl)
theorem dJ25_numberOfTrailingZeros_55 : decode cJ25_numberOfTrailingZeros 55 = .ok (.iinc 1 4, 3) := dk_132 1 4 (dk_at dksJ25_numberOfTrailingZeros_2 8 rfl rfl)
theorem dJ25_numberOfTrailingZeros_58 : decode cJ25_numberOfTrailingZeros 58 = .ok (.iload_n 0, 1) := dk_26 (dk_at dksJ25_numberOfTrailingZeros_2 11 rfl rfl)
theorem dJ25_numberOfTrailingZeros_59 : decode cJ25_numberOfTrailingZeros 59 = .ok (.iconst 4, 1) := dk_7 (dk_at dksJ25_numberOfTrailingZeros_2 12 rfl rfl)
theorem dJ25_numberOfTrailingZeros_60 : decode cJ25_numberOfTrailingZeros 60 = .ok (.iushr, 1) := dk_124 (dk_at dksJ25_numberOfTrailingZeros_2 13 rfl rfl)
theorem dJ25_numberOfTrailingZeros_61 : decode cJ25_numberOfTrailingZeros 61 = .ok (.istore_n 0, 1) := dk_59 (dk_at dksJ25_numberOfTrailingZeros_2 14 rfl rfl)
theorem dJ25_numberOfTrailingZeros_62 : decode cJ25_numberOfTrailingZeros 62 = .ok (.iload_n 0, 1) := dk_26 (dk_at dksJ25_numberOfTrailingZeros_2 15 rfl rfl)
theorem dJ25_numberOfTrailingZeros_63 : decode cJ25_numberOfTrailingZeros 63 = .ok (.iconst 4, 1) := dk_7 (dk_at dksJ25_numberOfTrailingZeros_2 16 rfl rfl)
theorem dJ25_numberOfTrailingZeros_64 : decode cJ25_numberOfTrailingZeros 64 = .ok (.if_icmp .le 10, 3) := dk_164 0 10 (dk_at dksJ25_numberOfTrailingZeros_2 17 rfl rfl)
theorem dJ25_numberOfTrailingZeros_67 : decode cJ25_numberOfTrailingZeros 67 = .ok (.iinc 1 2, 3) := dk_132 1 2 (dk_at dksJ25_numberOfTrailingZeros_2 20 rfl rfl)
theorem dJ25_numberOfTrailingZeros_70 : decode cJ25_numberOfTrailingZeros 70 = .ok (.iload_n 0, 1) := dk_26 (dk_at dksJ25_numberOfTrailingZeros_2 23 rfl rfl)
theorem dJ25_numberOfTrailingZeros_71 : decode cJ25_numberOfTrailingZeros 71 = .ok (.iconst 2, 1) := dk_5 (dk_at dksJ25_numberOfTrailingZeros_3 0 rfl rfl)
theorem dJ25_numberOfTrailingZeros_72 : decode cJ25_numberOfTrailingZeros 72 = .ok (.iushr, 1) := dk_124 (dk_at dksJ25_numberOfTrailingZeros_3 1 rfl rfl)
theorem dJ25_numberOfTrailingZeros_73 : decode cJ25_numberOfTrailingZeros 73 = .ok (.istore_n 0, 1) := dk_59 (dk_at dksJ25_numberOfTrailingZeros_3 2 rfl rfl)
theorem dJ25_numberOfTrailingZeros_74 : decode cJ25_numberOfTrailingZeros 74 = .ok (.iload_n 1, 1) := dk_27 (dk_at dksJ25_numberOfTrailingZeros_3 3 rfl rfl)
theorem dJ25_numberOfTrailingZeros_75 : decode cJ25_numberOfTrailingZeros 75 = .ok (.iload_n 0, 1) := dk_26 (dk_at dksJ25_numberOfTrailingZeros_3 4 rfl rfl)
theorem dJ25_numberOfTrailingZeros_76 : decode cJ25_numberOfTrailingZeros 76 = .ok (.iconst 1, 1) := dk_4 (dk_at dksJ25_numberOfTrailingZeros_3 5 rfl rfl)
theorem dJ25_numberOfTrailingZeros_77 : decode cJ25_numberOfTrailingZeros 77 = .ok (.iushr, 1) := dk_124 (dk_at dksJ25_numberOfTrailingZeros_3 6 rfl rfl)
theorem dJ25_numberOfTrailingZeros_78 : decode cJ25_numberOfTrailingZeros 78 = .ok (.iadd, 1) := dk_96 (dk_at dksJ25_numberOfTrailingZeros_3 7 rfl rfl)
theorem dJ25_numberOfTrailingZeros_79 : decode cJ25_numberOfTrailingZeros 79 = .ok (.ireturn, 1) := dk_172 (dk_at dksJ25_numberOfTrailingZeros_3 8 rfl rfl)
abbrev cJ25_intValue : ByteArray := prog_22_method_27_code
def yJ25_intValue : MethodName := ⟨RJ25, "intValue", "()I"⟩
theorem dJ25_intValue_0 : decode cJ25_intValue 0 = .ok (.aload_n 0, 1) := by decide +kernel
theorem dJ25_intValue_1 : decode cJ25_intValue 1 = .ok (.getfield 205, 3) := by decide +kernel
theorem dJ25_intValue_4 : decode cJ25_intValue 4 = .ok (.ireturn, 1) := by decide +kernel
abbrev cJ25_stringSize : ByteArray := prog_22_method_13_code
def yJ25_stringSize : MethodName := ⟨RJ25, "stringSize", "(I)I"⟩
def dkwJ25_stringSize_1 : List UInt8 := [164, 0, 7, 29, 27, 96, 172, 16, 10, 28, 104, 61, 132, 3, 1, 167, 255, 233, 16, 10, 27, 96, 172]
abbrev dktJ25_stringSize_1 : List UInt8 := dkwJ25_stringSize_1 ++ []
def dkwJ25_stringSize_0 : List UInt8 := [4, 60, 26, 155, 0, 8, 3, 60, 26, 116, 59, 16, 246, 61, 4, 62, 29, 16, 10, 162, 0, 23, 26, 28]
abbrev dktJ25_stringSize_0 : List UInt8 := dkwJ25_stringSize_0 ++ dktJ25_stringSize_1
theorem dksJ25_stringSize_0 : cJ25_stringSize.data.toList.drop 0 = dktJ25_stringSize_0 := by decide +kernel
theorem dksJ25_stringSize_1 : cJ25_stringSize.data.toList.drop 24 = dktJ25_stringSize_1 := dk_seg dksJ25_stringSize_0 24 rfl rfl
theorem dJ25_stringSize_0 : decode cJ25_stringSize 0 = .ok (.iconst 1, 1) := dk_4 (dk_at dksJ25_stringSize_0 0 rfl rfl)
theorem dJ25_stringSize_1 : decode cJ25_stringSize 1 = .ok (.istore_n 1, 1) := dk_60 (dk_at dksJ25_stringSize_0 1 rfl rfl)
theorem dJ25_stringSize_2 : decode cJ25_stringSize 2 = .ok (.iload_n 0, 1) := dk_26 (dk_at dksJ25_stringSize_0 2 rfl rfl)
theorem dJ25_stringSize_3 : decode cJ25_stringSize 3 = .ok (.ifCond .lt 8, 3) := dk_155 0 8 (dk_at dksJ25_stringSize_0 3 rfl rfl)
theorem dJ25_stringSize_6 : decode cJ25_stringSize 6 = .ok (.iconst 0, 1) := dk_3 (dk_at dksJ25_stringSize_0 6 rfl rfl)
theorem dJ25_stringSize_7 : decode cJ25_stringSize 7 = .ok (.istore_n 1, 1) := dk_60 (dk_at dksJ25_stringSize_0 7 rfl rfl)
theorem dJ25_stringSize_8 : decode cJ25_stringSize 8 = .ok (.iload_n 0, 1) := dk_26 (dk_at dksJ25_stringSize_0 8 rfl rfl)
theorem dJ25_stringSize_9 : decode cJ25_stringSize 9 = .ok (.ineg, 1) := dk_116 (dk_at dksJ25_stringSize_0 9 rfl rfl)
theorem dJ25_stringSize_10 : decode cJ25_stringSize 10 = .ok (.istore_n 0, 1) := dk_59 (dk_at dksJ25_stringSize_0 10 rfl rfl)
theorem dJ25_stringSize_11 : decode cJ25_stringSize 11 = .ok (.bipush (-10), 2) := dk_16 246 (dk_at dksJ25_stringSize_0 11 rfl rfl)
theorem dJ25_stringSize_13 : decode cJ25_stringSize 13 = .ok (.istore_n 2, 1) := dk_61 (dk_at dksJ25_stringSize_0 13 rfl rfl)
theorem dJ25_stringSize_14 : decode cJ25_stringSize 14 = .ok (.iconst 1, 1) := dk_4 (dk_at dksJ25_stringSize_0 14 rfl rfl)
theorem dJ25_stringSize_15 : decode cJ25_stringSize 15 = .ok (.istore_n 3, 1) := dk_62 (dk_at dksJ25_stringSize_0 15 rfl rfl)
theorem dJ25_stringSize_16 : decode cJ25_stringSize 16 = .ok (.iload_n 3, 1) := dk_29 (dk_at dksJ25_stringSize_0 16 rfl rfl)
theorem dJ25_stringSize_17 : decode cJ25_stringSize 17 = .ok (.bipush 10, 2) := dk_16 10 (dk_at dksJ25_stringSize_0 17 rfl rfl)
theorem dJ25_stringSize_19 : decode cJ25_stringSize 19 = .ok (.if_icmp .ge 23, 3) := dk_162 0 23 (dk_at dksJ25_stringSize_0 19 rfl rfl)
theorem dJ25_stringSize_22 : decode cJ25_stringSize 22 = .ok (.iload_n 0, 1) := dk_26 (dk_at dksJ25_stringSize_0 22 rfl rfl)
theorem dJ25_stringSize_23 : decode cJ25_stringSize 23 = .ok (.iload_n 2, 1) := dk_28 (dk_at dksJ25_stringSize_0 23 rfl rfl)
theorem dJ25_stringSize_24 : decode cJ25_stringSize 24 = .ok (.if_icmp .le 7, 3) := dk_164 0 7 (dk_at dksJ25_stringSize_1 0 rfl rfl)
theorem dJ25_stringSize_27 : decode cJ25_stringSize 27 = .ok (.iload_n 3, 1) := dk_29 (dk_at dksJ25_stringSize_1 3 rfl rfl)
theorem dJ25_stringSize_28 : decode cJ25_stringSize 28 = .ok (.iload_n 1, 1) := dk_27 (dk_at dksJ25_stringSize_1 4 rfl rfl)
theorem dJ25_stringSize_29 : decode cJ25_stringSize 29 = .ok (.iadd, 1) := dk_96 (dk_at dksJ25_stringSize_1 5 rfl rfl)
theorem dJ25_stringSize_30 : decode cJ25_stringSize 30 = .ok (.ireturn, 1) := dk_172 (dk_at dksJ25_stringSize_1 6 rfl rfl)
theorem dJ25_stringSize_31 : decode cJ25_stringSize 31 = .ok (.bipush 10, 2) := dk_16 10 (dk_at dksJ25_stringSize_1 7 rfl rfl)
theorem dJ25_stringSize_33 : decode cJ25_stringSize 33 = .ok (.iload_n 2, 1) := dk_28 (dk_at dksJ25_stringSize_1 9 rfl rfl)
theorem dJ25_stringSize_34 : decode cJ25_stringSize 34 = .ok (.imul, 1) := dk_104 (dk_at dksJ25_stringSize_1 10 rfl rfl)
theorem dJ25_stringSize_35 : decode cJ25_stringSize 35 = .ok (.istore_n 2, 1) := dk_61 (dk_at dksJ25_stringSize_1 11 rfl rfl)
theorem dJ25_stringSize_36 : decode cJ25_stringSize 36 = .ok (.iinc 3 1, 3) := dk_132 3 1 (dk_at dksJ25_stringSize_1 12 rfl rfl)
theorem dJ25_stringSize_39 : decode cJ25_stringSize 39 = .ok (.goto (-23), 3) := dk_167 255 233 (dk_at dksJ25_stringSize_1 15 rfl rfl)
theorem dJ25_stringSize_42 : decode cJ25_stringSize 42 = .ok (.bipush 10, 2) := dk_16 10 (dk_at dksJ25_stringSize_1 18 rfl rfl)
theorem dJ25_stringSize_44 : decode cJ25_stringSize 44 = .ok (.iload_n 1, 1) := dk_27 (dk_at dksJ25_stringSize_1 20 rfl rfl)
theorem dJ25_stringSize_45 : decode cJ25_stringSize 45 = .ok (.iadd, 1) := dk_96 (dk_at dksJ25_stringSize_1 21 rfl rfl)
theorem dJ25_stringSize_46 : decode cJ25_stringSize 46 = .ok (.ireturn, 1) := dk_172 (dk_at dksJ25_stringSize_1 22 rfl rfl)
abbrev cJ25_getChars : ByteArray := prog_22_method_12_code
def yJ25_getChars : MethodName := ⟨RJ25, "getChars", "(II[B)I"⟩
def dkwJ25_getChars_5 : List UInt8 := [16, 45, 84, 21, 5, 172]
abbrev dktJ25_getChars_5 : List UInt8 := dkwJ25_getChars_5 ++ []
def dkwJ25_getChars_4 : List UInt8 := [132, 5, 255, 21, 5, 178, 0, 87, 26, 116, 51, 84, 21, 6, 153, 0, 12, 44, 132, 5, 255, 21, 5]
abbrev dktJ25_getChars_4 : List UInt8 := dkwJ25_getChars_4 ++ dktJ25_getChars_5
def dkwJ25_getChars_3 : List UInt8 := [167, 255, 209, 44, 132, 5, 255, 21, 5, 178, 0, 83, 26, 116, 51, 84, 26, 16, 247, 162, 0, 16, 44]
abbrev dktJ25_getChars_3 : List UInt8 := dkwJ25_getChars_3 ++ dktJ25_getChars_4
def dkwJ25_getChars_2 : List UInt8 := [21, 5, 178, 0, 83, 21, 4, 51, 84, 44, 132, 5, 255, 21, 5, 178, 0, 87, 21, 4, 51, 84]
abbrev dktJ25_getChars_2 : List UInt8 := dkwJ25_getChars_2 ++ dktJ25_getChars_3
def dkwJ25_getChars_1 : List UInt8 := [16, 156, 163, 0, 47, 26, 16, 100, 108, 62, 29, 16, 100, 104, 26, 100, 54, 4, 29, 59, 44, 132, 5, 255]
abbrev dktJ25_getChars_1 : List UInt8 := dkwJ25_getChars_1 ++ dktJ25_getChars_2
def dkwJ25_getChars_0 : List UInt8 := [27, 54, 5, 26, 156, 0, 7, 4, 167, 0, 4, 3, 54, 6, 21, 6, 154, 0, 6, 26, 116, 59, 26]
abbrev dktJ25_getChars_0 : List UInt8 := dkwJ25_getChars_0 ++ dktJ25_getChars_1
theorem dksJ25_getChars_0 : cJ25_getChars.data.toList.drop 0 = dktJ25_getChars_0 := by decide +kernel
theorem dksJ25_getChars_1 : cJ25_getChars.data.toList.drop 23 = dktJ25_getChars_1 := dk_seg dksJ25_getChars_0 23 rfl rfl
theorem dksJ25_getChars_2 : cJ25_getChars.data.toList.drop 47 = dktJ25_getChars_2 := dk_seg dksJ25_getChars_1 24 rfl rfl
theorem dksJ25_getChars_3 : cJ25_getChars.data.toList.drop 69 = dktJ25_getChars_3 := dk_seg dksJ25_getChars_2 22 rfl rfl
theorem dksJ25_getChars_4 : cJ25_getChars.data.toList.drop 92 = dktJ25_getChars_4 := dk_seg dksJ25_getChars_3 23 rfl rfl
theorem dksJ25_getChars_5 : cJ25_getChars.data.toList.drop 115 = dktJ25_getChars_5 := dk_seg dksJ25_getChars_4 23 rfl rfl
theorem dJ25_getChars_0 : decode cJ25_getChars 0 = .ok (.iload_n 1, 1) := dk_27 (dk_at dksJ25_getChars_0 0 rfl rfl)
theorem dJ25_getChars_1 : decode cJ25_getChars 1 = .ok (.istore 5, 2) := dk_54 5 (dk_at dksJ25_getChars_0 1 rfl rfl)
theorem dJ25_getChars_3 : decode cJ25_getChars 3 = .ok (.iload_n 0, 1) := dk_26 (dk_at dksJ25_getChars_0 3 rfl rfl)
theorem dJ25_getChars_4 : decode cJ25_getChars 4 = .ok (.ifCond .ge 7, 3) := dk_156 0 7 (dk_at dksJ25_getChars_0 4 rfl rfl)
theorem dJ25_getChars_7 : decode cJ25_getChars 7 = .ok (.iconst 1, 1) := dk_4 (dk_at dksJ25_getChars_0 7 rfl rfl)
theorem dJ25_getChars_8 : decode cJ25_getChars 8 = .ok (.goto 4, 3) := dk_167 0 4 (dk_at dksJ25_getChars_0 8 rfl rfl)
theorem dJ25_getChars_11 : decode cJ25_getChars 11 = .ok (.iconst 0, 1) := dk_3 (dk_at dksJ25_getChars_0 11 rfl rfl)
theorem dJ25_getChars_12 : decode cJ25_getChars 12 = .ok (.istore 6, 2) := dk_54 6 (dk_at dksJ25_getChars_0 12 rfl rfl)
theorem dJ25_getChars_14 : decode cJ25_getChars 14 = .ok (.iload 6, 2) := dk_21 6 (dk_at dksJ25_getChars_0 14 rfl rfl)
theorem dJ25_getChars_16 : decode cJ25_getChars 16 = .ok (.ifCond .ne 6, 3) := dk_154 0 6 (dk_at dksJ25_getChars_0 16 rfl rfl)
theorem dJ25_getChars_19 : decode cJ25_getChars 19 = .ok (.iload_n 0, 1) := dk_26 (dk_at dksJ25_getChars_0 19 rfl rfl)
theorem dJ25_getChars_20 : decode cJ25_getChars 20 = .ok (.ineg, 1) := dk_116 (dk_at dksJ25_getChars_0 20 rfl rfl)
theorem dJ25_getChars_21 : decode cJ25_getChars 21 = .ok (.istore_n 0, 1) := dk_59 (dk_at dksJ25_getChars_0 21 rfl rfl)
theorem dJ25_getChars_22 : decode cJ25_getChars 22 = .ok (.iload_n 0, 1) := dk_26 (dk_at dksJ25_getChars_0 22 rfl rfl)
theorem dJ25_getChars_23 : decode cJ25_getChars 23 = .ok (.bipush (-100), 2) := dk_16 156 (dk_at dksJ25_getChars_1 0 rfl rfl)
theorem dJ25_getChars_25 : decode cJ25_getChars 25 = .ok (.if_icmp .gt 47, 3) := dk_163 0 47 (dk_at dksJ25_getChars_1 2 rfl rfl)
theorem dJ25_getChars_28 : decode cJ25_getChars 28 = .ok (.iload_n 0, 1) := dk_26 (dk_at dksJ25_getChars_1 5 rfl rfl)
theorem dJ25_getChars_29 : decode cJ25_getChars 29 = .ok (.bipush 100, 2) := dk_16 100 (dk_at dksJ25_getChars_1 6 rfl rfl)
theorem dJ25_getChars_31 : decode cJ25_getChars 31 = .ok (.idiv, 1) := dk_108 (dk_at dksJ25_getChars_1 8 rfl rfl)
theorem dJ25_getChars_32 : decode cJ25_getChars 32 = .ok (.istore_n 3, 1) := dk_62 (dk_at dksJ25_getChars_1 9 rfl rfl)
theorem dJ25_getChars_33 : decode cJ25_getChars 33 = .ok (.iload_n 3, 1) := dk_29 (dk_at dksJ25_getChars_1 10 rfl rfl)
theorem dJ25_getChars_34 : decode cJ25_getChars 34 = .ok (.bipush 100, 2) := dk_16 100 (dk_at dksJ25_getChars_1 11 rfl rfl)
theorem dJ25_getChars_36 : decode cJ25_getChars 36 = .ok (.imul, 1) := dk_104 (dk_at dksJ25_getChars_1 13 rfl rfl)
theorem dJ25_getChars_37 : decode cJ25_getChars 37 = .ok (.iload_n 0, 1) := dk_26 (dk_at dksJ25_getChars_1 14 rfl rfl)
theorem dJ25_getChars_38 : decode cJ25_getChars 38 = .ok (.isub, 1) := dk_100 (dk_at dksJ25_getChars_1 15 rfl rfl)
theorem dJ25_getChars_39 : decode cJ25_getChars 39 = .ok (.istore 4, 2) := dk_54 4 (dk_at dksJ25_getChars_1 16 rfl rfl)
theorem dJ25_getChars_41 : decode cJ25_getChars 41 = .ok (.iload_n 3, 1) := dk_29 (dk_at dksJ25_getChars_1 18 rfl rfl)
theorem dJ25_getChars_42 : decode cJ25_getChars 42 = .ok (.istore_n 0, 1) := dk_59 (dk_at dksJ25_getChars_1 19 rfl rfl)
theorem dJ25_getChars_43 : decode cJ25_getChars 43 = .ok (.aload_n 2, 1) := dk_44 (dk_at dksJ25_getChars_1 20 rfl rfl)
theorem dJ25_getChars_44 : decode cJ25_getChars 44 = .ok (.iinc 5 (-1), 3) := dk_132 5 255 (dk_at dksJ25_getChars_1 21 rfl rfl)
theorem dJ25_getChars_47 : decode cJ25_getChars 47 = .ok (.iload 5, 2) := dk_21 5 (dk_at dksJ25_getChars_2 0 rfl rfl)
theorem dJ25_getChars_49 : decode cJ25_getChars 49 = .ok (.getstatic 83, 3) := dk_178 0 83 (dk_at dksJ25_getChars_2 2 rfl rfl)
theorem dJ25_getChars_52 : decode cJ25_getChars 52 = .ok (.iload 4, 2) := dk_21 4 (dk_at dksJ25_getChars_2 5 rfl rfl)
theorem dJ25_getChars_54 : decode cJ25_getChars 54 = .ok (.baload, 1) := dk_51 (dk_at dksJ25_getChars_2 7 rfl rfl)
theorem dJ25_getChars_55 : decode cJ25_getChars 55 = .ok (.bastore, 1) := dk_84 (dk_at dksJ25_getChars_2 8 rfl rfl)
theorem dJ25_getChars_56 : decode cJ25_getChars 56 = .ok (.aload_n 2, 1) := dk_44 (dk_at dksJ25_getChars_2 9 rfl rfl)
theorem dJ25_getChars_57 : decode cJ25_getChars 57 = .ok (.iinc 5 (-1), 3) := dk_132 5 255 (dk_at dksJ25_getChars_2 10 rfl rfl)
theorem dJ25_getChars_60 : decode cJ25_getChars 60 = .ok (.iload 5, 2) := dk_21 5 (dk_at dksJ25_getChars_2 13 rfl rfl)
theorem dJ25_getChars_62 : decode cJ25_getChars 62 = .ok (.getstatic 87, 3) := dk_178 0 87 (dk_at dksJ25_getChars_2 15 rfl rfl)
theorem dJ25_getChars_65 : decode cJ25_getChars 65 = .ok (.iload 4, 2) := dk_21 4 (dk_at dksJ25_getChars_2 18 rfl rfl)
theorem dJ25_getChars_67 : decode cJ25_getChars 67 = .ok (.baload, 1) := dk_51 (dk_at dksJ25_getChars_2 20 rfl rfl)
theorem dJ25_getChars_68 : decode cJ25_getChars 68 = .ok (.bastore, 1) := dk_84 (dk_at dksJ25_getChars_2 21 rfl rfl)
theorem dJ25_getChars_69 : decode cJ25_getChars 69 = .ok (.goto (-47), 3) := dk_167 255 209 (dk_at dksJ25_getChars_3 0 rfl rfl)
theorem dJ25_getChars_72 : decode cJ25_getChars 72 = .ok (.aload_n 2, 1) := dk_44 (dk_at dksJ25_getChars_3 3 rfl rfl)
theorem dJ25_getChars_73 : decode cJ25_getChars 73 = .ok (.iinc 5 (-1), 3) := dk_132 5 255 (dk_at dksJ25_getChars_3 4 rfl rfl)
theorem dJ25_getChars_76 : decode cJ25_getChars 76 = .ok (.iload 5, 2) := dk_21 5 (dk_at dksJ25_getChars_3 7 rfl rfl)
theorem dJ25_getChars_78 : decode cJ25_getChars 78 = .ok (.getstatic 83, 3) := dk_178 0 83 (dk_at dksJ25_getChars_3 9 rfl rfl)
theorem dJ25_getChars_81 : decode cJ25_getChars 81 = .ok (.iload_n 0, 1) := dk_26 (dk_at dksJ25_getChars_3 12 rfl rfl)
theorem dJ25_getChars_82 : decode cJ25_getChars 82 = .ok (.ineg, 1) := dk_116 (dk_at dksJ25_getChars_3 13 rfl rfl)
theorem dJ25_getChars_83 : decode cJ25_getChars 83 = .ok (.baload, 1) := dk_51 (dk_at dksJ25_getChars_3 14 rfl rfl)
theorem dJ25_getChars_84 : decode cJ25_getChars 84 = .ok (.bastore, 1) := dk_84 (dk_at dksJ25_getChars_3 15 rfl rfl)
theorem dJ25_getChars_85 : decode cJ25_getChars 85 = .ok (.iload_n 0, 1) := dk_26 (dk_at dksJ25_getChars_3 16 rfl rfl)
theorem dJ25_getChars_86 : decode cJ25_getChars 86 = .ok (.bipush (-9), 2) := dk_16 247 (dk_at dksJ25_getChars_3 17 rfl rfl)
theorem dJ25_getChars_88 : decode cJ25_getChars 88 = .ok (.if_icmp .ge 16, 3) := dk_162 0 16 (dk_at dksJ25_getChars_3 19 rfl rfl)
theorem dJ25_getChars_91 : decode cJ25_getChars 91 = .ok (.aload_n 2, 1) := dk_44 (dk_at dksJ25_getChars_3 22 rfl rfl)
theorem dJ25_getChars_92 : decode cJ25_getChars 92 = .ok (.iinc 5 (-1), 3) := dk_132 5 255 (dk_at dksJ25_getChars_4 0 rfl rfl)
theorem dJ25_getChars_95 : decode cJ25_getChars 95 = .ok (.iload 5, 2) := dk_21 5 (dk_at dksJ25_getChars_4 3 rfl rfl)
theorem dJ25_getChars_97 : decode cJ25_getChars 97 = .ok (.getstatic 87, 3) := dk_178 0 87 (dk_at dksJ25_getChars_4 5 rfl rfl)
theorem dJ25_getChars_100 : decode cJ25_getChars 100 = .ok (.iload_n 0, 1) := dk_26 (dk_at dksJ25_getChars_4 8 rfl rfl)
theorem dJ25_getChars_101 : decode cJ25_getChars 101 = .ok (.ineg, 1) := dk_116 (dk_at dksJ25_getChars_4 9 rfl rfl)
theorem dJ25_getChars_102 : decode cJ25_getChars 102 = .ok (.baload, 1) := dk_51 (dk_at dksJ25_getChars_4 10 rfl rfl)
theorem dJ25_getChars_103 : decode cJ25_getChars 103 = .ok (.bastore, 1) := dk_84 (dk_at dksJ25_getChars_4 11 rfl rfl)
theorem dJ25_getChars_104 : decode cJ25_getChars 104 = .ok (.iload 6, 2) := dk_21 6 (dk_at dksJ25_getChars_4 12 rfl rfl)
theorem dJ25_getChars_106 : decode cJ25_getChars 106 = .ok (.ifCond .eq 12, 3) := dk_153 0 12 (dk_at dksJ25_getChars_4 14 rfl rfl)
theorem dJ25_getChars_109 : decode cJ25_getChars 109 = .ok (.aload_n 2, 1) := dk_44 (dk_at dksJ25_getChars_4 17 rfl rfl)
theorem dJ25_getChars_110 : decode cJ25_getChars 110 = .ok (.iinc 5 (-1), 3) := dk_132 5 255 (dk_at dksJ25_getChars_4 18 rfl rfl)
theorem dJ25_getChars_113 : decode cJ25_getChars 113 = .ok (.iload 5, 2) := dk_21 5 (dk_at dksJ25_getChars_4 21 rfl rfl)
theorem dJ25_getChars_115 : decode cJ25_getChars 115 = .ok (.bipush 45, 2) := dk_16 45 (dk_at dksJ25_getChars_5 0 rfl rfl)
theorem dJ25_getChars_117 : decode cJ25_getChars 117 = .ok (.bastore, 1) := dk_84 (dk_at dksJ25_getChars_5 2 rfl rfl)
theorem dJ25_getChars_118 : decode cJ25_getChars 118 = .ok (.iload 5, 2) := dk_21 5 (dk_at dksJ25_getChars_5 3 rfl rfl)
theorem dJ25_getChars_120 : decode cJ25_getChars 120 = .ok (.ireturn, 1) := dk_172 (dk_at dksJ25_getChars_5 5 rfl rfl)
abbrev cJ25_equals : ByteArray := prog_22_method_34_code
def yJ25_equals : MethodName := ⟨RJ25, "equals", "(Ljava/lang/Object;)Z"⟩
def dkwJ25_equals_1 : List UInt8 := [167, 0, 4, 3, 172, 3, 172]
abbrev dktJ25_equals_1 : List UInt8 := dkwJ25_equals_1 ++ []
def dkwJ25_equals_0 : List UInt8 := [43, 193, 0, 1, 153, 0, 23, 42, 180, 0, 205, 43, 192, 0, 1, 182, 0, 211, 160, 0, 7, 4]
abbrev dktJ25_equals_0 : List UInt8 := dkwJ25_equals_0 ++ dktJ25_equals_1
theorem dksJ25_equals_0 : cJ25_equals.data.toList.drop 0 = dktJ25_equals_0 := by decide +kernel
theorem dksJ25_equals_1 : cJ25_equals.data.toList.drop 22 = dktJ25_equals_1 := dk_seg dksJ25_equals_0 22 rfl rfl
theorem dJ25_equals_0 : decode cJ25_equals 0 = .ok (.aload_n 1, 1) := dk_43 (dk_at dksJ25_equals_0 0 rfl rfl)
theorem dJ25_equals_1 : decode cJ25_equals 1 = .ok (.instanceof 1, 3) := dk_193 0 1 (dk_at dksJ25_equals_0 1 rfl rfl)
theorem dJ25_equals_4 : decode cJ25_equals 4 = .ok (.ifCond .eq 23, 3) := dk_153 0 23 (dk_at dksJ25_equals_0 4 rfl rfl)
theorem dJ25_equals_7 : decode cJ25_equals 7 = .ok (.aload_n 0, 1) := dk_42 (dk_at dksJ25_equals_0 7 rfl rfl)
theorem dJ25_equals_8 : decode cJ25_equals 8 = .ok (.getfield 205, 3) := dk_180 0 205 (dk_at dksJ25_equals_0 8 rfl rfl)
theorem dJ25_equals_11 : decode cJ25_equals 11 = .ok (.aload_n 1, 1) := dk_43 (dk_at dksJ25_equals_0 11 rfl rfl)
theorem dJ25_equals_12 : decode cJ25_equals 12 = .ok (.checkcast 1, 3) := dk_192 0 1 (dk_at dksJ25_equals_0 12 rfl rfl)
theorem dJ25_equals_15 : decode cJ25_equals 15 = .ok (.invokevirtual 211, 3) := dk_182 0 211 (dk_at dksJ25_equals_0 15 rfl rfl)
theorem dJ25_equals_18 : decode cJ25_equals 18 = .ok (.if_icmp .ne 7, 3) := dk_160 0 7 (dk_at dksJ25_equals_0 18 rfl rfl)
theorem dJ25_equals_21 : decode cJ25_equals 21 = .ok (.iconst 1, 1) := dk_4 (dk_at dksJ25_equals_0 21 rfl rfl)
theorem dJ25_equals_22 : decode cJ25_equals 22 = .ok (.goto 4, 3) := dk_167 0 4 (dk_at dksJ25_equals_1 0 rfl rfl)
theorem dJ25_equals_25 : decode cJ25_equals 25 = .ok (.iconst 0, 1) := dk_3 (dk_at dksJ25_equals_1 3 rfl rfl)
theorem dJ25_equals_26 : decode cJ25_equals 26 = .ok (.ireturn, 1) := dk_172 (dk_at dksJ25_equals_1 4 rfl rfl)
theorem dJ25_equals_27 : decode cJ25_equals 27 = .ok (.iconst 0, 1) := dk_3 (dk_at dksJ25_equals_1 5 rfl rfl)
theorem dJ25_equals_28 : decode cJ25_equals 28 = .ok (.ireturn, 1) := dk_172 (dk_at dksJ25_equals_1 6 rfl rfl)
theorem q81 : (Jvm.Cond.initialized "java/lang/Integer") ∈ lw_all := lw_g (lw_at lw_m1 35 rfl) rfl
theorem q455 : (Jvm.Cond.static ({ cls := "java/lang/Integer", name := "valueOf", desc := "(I)Ljava/lang/Integer;" } : Jvm.MethodName)) ∈ lw_all := lw_g (lw_at lw_m2 169 rfl) rfl
theorem q456 : (Jvm.Cond.code ({ cls := "java/lang/Integer", name := "valueOf", desc := "(I)Ljava/lang/Integer;" } : Jvm.MethodName) prog_22_method_22_code (1 : Nat) (Option.some (Jvm.ClassFile.FieldType.object "java/lang/Integer"))) ∈ lw_all := lw_g (lw_at lw_m2 170 rfl) rfl
theorem q457 : (Jvm.Cond.fieldLink "java/lang/Integer" (191 : Nat) "java/lang/Integer$IntegerCache" "high" "I") ∈ lw_all := lw_g (lw_at lw_m2 171 rfl) rfl
theorem q459 : (Jvm.Cond.fieldLink "java/lang/Integer" (195 : Nat) "java/lang/Integer$IntegerCache" "cache" "[Ljava/lang/Integer;") ∈ lw_all := lw_g (lw_at lw_m2 173 rfl) rfl
theorem q461 : (Jvm.Cond.classLink "java/lang/Integer" (1 : Nat) "java/lang/Integer") ∈ lw_all := lw_g (lw_at lw_m2 175 rfl) rfl
theorem q462 : (Jvm.Cond.instantiable "java/lang/Integer" (1 : Nat)) ∈ lw_all := lw_g (lw_at lw_m2 176 rfl) rfl
theorem q463 : (Jvm.Cond.methodLink "java/lang/Integer" (199 : Nat) ({ cls := "java/lang/Integer", name := "<init>", desc := "(I)V" } : Jvm.MethodName)) ∈ lw_all := lw_g (lw_at lw_m2 177 rfl) rfl
theorem q464 : (Jvm.Cond.instanceMethod ({ cls := "java/lang/Integer", name := "<init>", desc := "(I)V" } : Jvm.MethodName)) ∈ lw_all := lw_g (lw_at lw_m2 178 rfl) rfl
theorem q465 : (Jvm.Cond.code ({ cls := "java/lang/Integer", name := "<init>", desc := "(I)V" } : Jvm.MethodName) prog_22_method_23_code (2 : Nat) (Option.none : Option Jvm.ClassFile.FieldType)) ∈ lw_all := lw_g (lw_at lw_m2 179 rfl) rfl
theorem q466 : (Jvm.Cond.methodLink "java/lang/Integer" (202 : Nat) ({ cls := "java/lang/Number", name := "<init>", desc := "()V" } : Jvm.MethodName)) ∈ lw_all := lw_g (lw_at lw_m2 180 rfl) rfl
theorem q470 : (Jvm.Cond.fieldLink "java/lang/Integer" (205 : Nat) "java/lang/Integer" "value" "I") ∈ lw_all := lw_g (lw_at lw_m2 184 rfl) rfl
theorem q471 : (Jvm.Cond.laysFinal "java/lang/Integer" "java/lang/Integer" "value" "I") ∈ lw_all := lw_g (lw_at lw_m2 185 rfl) rfl
theorem q472 : (Jvm.Cond.soleField "java/lang/Integer" "value") ∈ lw_all := lw_g (lw_at lw_m2 186 rfl) rfl
theorem q473 : (Jvm.Cond.superclass "java/lang/Integer" "java/lang/Number") ∈ lw_all := lw_g (lw_at lw_m2 187 rfl) rfl
theorem q506 : (Jvm.Cond.castable "java/lang/Integer" "java/lang/Comparable") ∈ lw_tbl := lw_at lw_m2 220 rfl
theorem q507 : (Jvm.Cond.selects "java/lang/Integer" ({ cls := "java/lang/Comparable", name := "compareTo", desc := "(Ljava/lang/Object;)I" } : Jvm.MethodName) ({ cls := "java/lang/Integer", name := "compareTo", desc := "(Ljava/lang/Object;)I" } : Jvm.MethodName)) ∈ lw_all := lw_g (lw_at lw_m2 221 rfl) rfl
theorem q508 : (Jvm.Cond.unhidden "java/lang/Integer" "compareTo" "(Ljava/lang/Object;)I") ∈ lw_tbl := lw_at lw_m2 222 rfl
theorem q509 : (Jvm.Cond.instanceMethod ({ cls := "java/lang/Integer", name := "compareTo", desc := "(Ljava/lang/Object;)I" } : Jvm.MethodName)) ∈ lw_all := lw_g (lw_at lw_m2 223 rfl) rfl
theorem q510 : (Jvm.Cond.publicMethod ({ cls := "java/lang/Integer", name := "compareTo", desc := "(Ljava/lang/Object;)I" } : Jvm.MethodName)) ∈ lw_tbl := lw_at lw_m2 224 rfl
theorem q511 : (Jvm.Cond.code ({ cls := "java/lang/Integer", name := "compareTo", desc := "(Ljava/lang/Object;)I" } : Jvm.MethodName) prog_22_method_63_code (2 : Nat) (Option.some Jvm.ClassFile.FieldType.int)) ∈ lw_all := lw_g (lw_at lw_m2 225 rfl) rfl
theorem q512 : (Jvm.Cond.methodLink "java/lang/Integer" (284 : Nat) ({ cls := "java/lang/Integer", name := "compareTo", desc := "(Ljava/lang/Integer;)I" } : Jvm.MethodName)) ∈ lw_all := lw_g (lw_at lw_m2 226 rfl) rfl
theorem q513 : (Jvm.Cond.instanceMethod ({ cls := "java/lang/Integer", name := "compareTo", desc := "(Ljava/lang/Integer;)I" } : Jvm.MethodName)) ∈ lw_all := lw_g (lw_at lw_m2 227 rfl) rfl
theorem q514 : (Jvm.Cond.selects "java/lang/Integer" ({ cls := "java/lang/Integer", name := "compareTo", desc := "(Ljava/lang/Integer;)I" } : Jvm.MethodName) ({ cls := "java/lang/Integer", name := "compareTo", desc := "(Ljava/lang/Integer;)I" } : Jvm.MethodName)) ∈ lw_all := lw_g (lw_at lw_m2 228 rfl) rfl
theorem q515 : (Jvm.Cond.code ({ cls := "java/lang/Integer", name := "compareTo", desc := "(Ljava/lang/Integer;)I" } : Jvm.MethodName) prog_22_method_39_code (2 : Nat) (Option.some Jvm.ClassFile.FieldType.int)) ∈ lw_all := lw_g (lw_at lw_m2 229 rfl) rfl
theorem q516 : (Jvm.Cond.methodLink "java/lang/Integer" (259 : Nat) ({ cls := "java/lang/Integer", name := "compare", desc := "(II)I" } : Jvm.MethodName)) ∈ lw_all := lw_g (lw_at lw_m2 230 rfl) rfl
theorem q517 : (Jvm.Cond.static ({ cls := "java/lang/Integer", name := "compare", desc := "(II)I" } : Jvm.MethodName)) ∈ lw_all := lw_g (lw_at lw_m2 231 rfl) rfl
theorem q518 : (Jvm.Cond.code ({ cls := "java/lang/Integer", name := "compare", desc := "(II)I" } : Jvm.MethodName) prog_22_method_40_code (2 : Nat) (Option.some Jvm.ClassFile.FieldType.int)) ∈ lw_all := lw_g (lw_at lw_m2 232 rfl) rfl
theorem q617 : (Jvm.Cond.static ({ cls := "java/lang/Integer", name := "numberOfLeadingZeros", desc := "(I)I" } : Jvm.MethodName)) ∈ lw_all := lw_g (lw_at lw_m3 91 rfl) rfl
theorem q618 : (Jvm.Cond.code ({ cls := "java/lang/Integer", name := "numberOfLeadingZeros", desc := "(I)I" } : Jvm.MethodName) prog_22_method_47_code (2 : Nat) (Option.some Jvm.ClassFile.FieldType.int)) ∈ lw_all := lw_g (lw_at lw_m3 92 rfl) rfl
theorem q619 : (Jvm.Cond.constant "java/lang/Integer" (264 : Nat) (65536 : Int32)) ∈ lw_all := lw_g (lw_at lw_m3 93 rfl) rfl
theorem q626 : (Jvm.Cond.static ({ cls := "java/lang/Integer", name := "numberOfTrailingZeros", desc := "(I)I" } : Jvm.MethodName)) ∈ lw_all := lw_g (lw_at lw_m3 100 rfl) rfl
theorem q627 : (Jvm.Cond.code ({ cls := "java/lang/Integer", name := "numberOfTrailingZeros", desc := "(I)I" } : Jvm.MethodName) prog_22_method_48_code (2 : Nat) (Option.some Jvm.ClassFile.FieldType.int)) ∈ lw_all := lw_g (lw_at lw_m3 101 rfl) rfl
theorem q878 : (Jvm.Cond.instanceMethod ({ cls := "java/lang/Integer", name := "intValue", desc := "()I" } : Jvm.MethodName)) ∈ lw_all := lw_g (lw_at lw_m4 112 rfl) rfl
theorem q879 : (Jvm.Cond.selects "java/lang/Integer" ({ cls := "java/lang/Integer", name := "intValue", desc := "()I" } : Jvm.MethodName) ({ cls := "java/lang/Integer", name := "intValue", desc := "()I" } : Jvm.MethodName)) ∈ lw_all := lw_g (lw_at lw_m4 113 rfl) rfl
theorem q880 : (Jvm.Cond.code ({ cls := "java/lang/Integer", name := "intValue", desc := "()I" } : Jvm.MethodName) prog_22_method_27_code (1 : Nat) (Option.some Jvm.ClassFile.FieldType.int)) ∈ lw_all := lw_g (lw_at lw_m4 114 rfl) rfl
theorem q989 : (Jvm.Cond.selects "java/lang/Integer" ({ cls := "java/lang/Object", name := "getClass", desc := "()Ljava/lang/Class;" } : Jvm.MethodName) ({ cls := "java/lang/Object", name := "getClass", desc := "()Ljava/lang/Class;" } : Jvm.MethodName)) ∈ lw_all := lw_g (lw_at lw_m4 223 rfl) rfl
theorem q1160 : (Jvm.Cond.static ({ cls := "java/lang/Integer", name := "stringSize", desc := "(I)I" } : Jvm.MethodName)) ∈ lw_all := lw_g (lw_at lw_m5 154 rfl) rfl
theorem q1161 : (Jvm.Cond.code ({ cls := "java/lang/Integer", name := "stringSize", desc := "(I)I" } : Jvm.MethodName) prog_22_method_13_code (4 : Nat) (Option.some Jvm.ClassFile.FieldType.int)) ∈ lw_all := lw_g (lw_at lw_m5 155 rfl) rfl
theorem q1163 : (Jvm.Cond.static ({ cls := "java/lang/Integer", name := "getChars", desc := "(II[B)I" } : Jvm.MethodName)) ∈ lw_all := lw_g (lw_at lw_m5 157 rfl) rfl
theorem q1164 : (Jvm.Cond.code ({ cls := "java/lang/Integer", name := "getChars", desc := "(II[B)I" } : Jvm.MethodName) prog_22_method_12_code (7 : Nat) (Option.some Jvm.ClassFile.FieldType.int)) ∈ lw_all := lw_g (lw_at lw_m5 158 rfl) rfl
theorem q1165 : (Jvm.Cond.fieldLink "java/lang/Integer" (83 : Nat) "java/lang/Integer" "DigitOnes" "[B") ∈ lw_all := lw_g (lw_at lw_m5 159 rfl) rfl
theorem q1166 : (Jvm.Cond.laysStatic "java/lang/Integer" "DigitOnes" "[B") ∈ lw_tbl := lw_at lw_m5 160 rfl
theorem q1167 : (Jvm.Cond.fieldLink "java/lang/Integer" (87 : Nat) "java/lang/Integer" "DigitTens" "[B") ∈ lw_all := lw_g (lw_at lw_m5 161 rfl) rfl
theorem q1168 : (Jvm.Cond.laysStatic "java/lang/Integer" "DigitTens" "[B") ∈ lw_tbl := lw_at lw_m5 162 rfl
theorem q1652 : (Jvm.Cond.selects "java/lang/Integer" ({ cls := "java/lang/Object", name := "equals", desc := "(Ljava/lang/Object;)Z" } : Jvm.MethodName) ({ cls := "java/lang/Integer", name := "equals", desc := "(Ljava/lang/Object;)Z" } : Jvm.MethodName)) ∈ lw_all := lw_g (lw_at lw_m7 166 rfl) rfl
theorem q1653 : (Jvm.Cond.instanceMethod ({ cls := "java/lang/Integer", name := "equals", desc := "(Ljava/lang/Object;)Z" } : Jvm.MethodName)) ∈ lw_all := lw_g (lw_at lw_m7 167 rfl) rfl
theorem q1654 : (Jvm.Cond.code ({ cls := "java/lang/Integer", name := "equals", desc := "(Ljava/lang/Object;)Z" } : Jvm.MethodName) prog_22_method_34_code (2 : Nat) (Option.some Jvm.ClassFile.FieldType.boolean)) ∈ lw_all := lw_g (lw_at lw_m7 168 rfl) rfl
theorem q1655 : (Jvm.Cond.methodLink "java/lang/Integer" (211 : Nat) ({ cls := "java/lang/Integer", name := "intValue", desc := "()I" } : Jvm.MethodName)) ∈ lw_all := lw_g (lw_at lw_m7 169 rfl) rfl
theorem q2007 : (Jvm.Cond.castable "java/lang/Integer" "java/lang/Object") ∈ lw_tbl := lw_at lw_m9 41 rfl
theorem in_J25 : ∀ w ∈ wsJ250, w ∈ lw_all := lw_in wsJ250 [471] (by decide +kernel) (by decide +kernel)

/-! java/util/TreeMap$Entry -/
set_option maxRecDepth 100000
def RJ30 : String := "java/util/TreeMap$Entry"
def TJ30 : u_T := fun k => match k with
  | 0 => ("java/util/TreeMap$Entry", "key", "Ljava/lang/Object;", false)
  | 1 => ("java/util/TreeMap$Entry", "value", "Ljava/lang/Object;", false)
  | 2 => ("java/util/TreeMap$Entry", "left", "Ljava/util/TreeMap$Entry;", false)
  | 3 => ("java/util/TreeMap$Entry", "right", "Ljava/util/TreeMap$Entry;", false)
  | 4 => ("java/util/TreeMap$Entry", "parent", "Ljava/util/TreeMap$Entry;", false)
  | _ => ("java/util/TreeMap$Entry", "color", "Z", false)
def tyJ30 : Nat → FieldType := fun k => match k with
  | 0 => .object "java/lang/Object"
  | 1 => .object "java/lang/Object"
  | 2 => .object "java/util/TreeMap$Entry"
  | 3 => .object "java/util/TreeMap$Entry"
  | 4 => .object "java/util/TreeMap$Entry"
  | _ => .boolean
abbrev wsJ300 : List Cond := u_ws RJ30 TJ30 6
theorem nmJ30 : ∀ a, a < 6 → ∀ b, b < 6 → a ≠ b → (TJ30 a).2.1 ≠ (TJ30 b).2.1 := by decide +kernel
theorem tyJ30_ok : ∀ k, k < 6 → parseFieldDescriptor (TJ30 k).2.2.1 = some (tyJ30 k) := by decide +kernel
abbrev cJ30_init : ByteArray := prog_67_method_1_code
def yJ30_init : MethodName := ⟨RJ30, "<init>", "(Ljava/lang/Object;Ljava/lang/Object;Ljava/util/TreeMap$Entry;)V"⟩
def dkwJ30_init_1 : List UInt8 := [177]
abbrev dktJ30_init_1 : List UInt8 := dkwJ30_init_1 ++ []
def dkwJ30_init_0 : List UInt8 := [42, 183, 0, 3, 42, 4, 181, 0, 9, 42, 43, 181, 0, 15, 42, 44, 181, 0, 19, 42, 45, 181, 0, 22]
abbrev dktJ30_init_0 : List UInt8 := dkwJ30_init_0 ++ dktJ30_init_1
theorem dksJ30_init_0 : cJ30_init.data.toList.drop 0 = dktJ30_init_0 := by decide +kernel
theorem dksJ30_init_1 : cJ30_init.data.toList.drop 24 = dktJ30_init_1 := dk_seg dksJ30_init_0 24 rfl rfl
theorem dJ30_init_0 : decode cJ30_init 0 = .ok (.aload_n 0, 1) := dk_42 (dk_at dksJ30_init_0 0 rfl rfl)
theorem dJ30_init_1 : decode cJ30_init 1 = .ok (.invokespecial 3, 3) := dk_183 0 3 (dk_at dksJ30_init_0 1 rfl rfl)
theorem dJ30_init_4 : decode cJ30_init 4 = .ok (.aload_n 0, 1) := dk_42 (dk_at dksJ30_init_0 4 rfl rfl)
theorem dJ30_init_5 : decode cJ30_init 5 = .ok (.iconst 1, 1) := dk_4 (dk_at dksJ30_init_0 5 rfl rfl)
theorem dJ30_init_6 : decode cJ30_init 6 = .ok (.putfield 9, 3) := dk_181 0 9 (dk_at dksJ30_init_0 6 rfl rfl)
theorem dJ30_init_9 : decode cJ30_init 9 = .ok (.aload_n 0, 1) := dk_42 (dk_at dksJ30_init_0 9 rfl rfl)
theorem dJ30_init_10 : decode cJ30_init 10 = .ok (.aload_n 1, 1) := dk_43 (dk_at dksJ30_init_0 10 rfl rfl)
theorem dJ30_init_11 : decode cJ30_init 11 = .ok (.putfield 15, 3) := dk_181 0 15 (dk_at dksJ30_init_0 11 rfl rfl)
theorem dJ30_init_14 : decode cJ30_init 14 = .ok (.aload_n 0, 1) := dk_42 (dk_at dksJ30_init_0 14 rfl rfl)
theorem dJ30_init_15 : decode cJ30_init 15 = .ok (.aload_n 2, 1) := dk_44 (dk_at dksJ30_init_0 15 rfl rfl)
theorem dJ30_init_16 : decode cJ30_init 16 = .ok (.putfield 19, 3) := dk_181 0 19 (dk_at dksJ30_init_0 16 rfl rfl)
theorem dJ30_init_19 : decode cJ30_init 19 = .ok (.aload_n 0, 1) := dk_42 (dk_at dksJ30_init_0 19 rfl rfl)
theorem dJ30_init_20 : decode cJ30_init 20 = .ok (.aload_n 3, 1) := dk_45 (dk_at dksJ30_init_0 20 rfl rfl)
theorem dJ30_init_21 : decode cJ30_init 21 = .ok (.putfield 22, 3) := dk_181 0 22 (dk_at dksJ30_init_0 21 rfl rfl)
theorem dJ30_init_24 : decode cJ30_init 24 = .ok (.return_, 1) := dk_177 (dk_at dksJ30_init_1 0 rfl rfl)
theorem q88 : (Jvm.Cond.initialized "java/util/TreeMap$Entry") ∈ lw_all := lw_g (lw_at lw_m1 42 rfl) rfl
theorem q735 : (Jvm.Cond.instantiable "java/util/TreeMap$Entry" (6 : Nat)) ∈ lw_all := lw_g (lw_at lw_m3 209 rfl) rfl
theorem q737 : (Jvm.Cond.instanceMethod ({ cls := "java/util/TreeMap$Entry", name := "<init>", desc := "(Ljava/lang/Object;Ljava/lang/Object;Ljava/util/TreeMap$Entry;)V" } : Jvm.MethodName)) ∈ lw_all := lw_g (lw_at lw_m3 211 rfl) rfl
theorem q738 : (Jvm.Cond.code ({ cls := "java/util/TreeMap$Entry", name := "<init>", desc := "(Ljava/lang/Object;Ljava/lang/Object;Ljava/util/TreeMap$Entry;)V" } : Jvm.MethodName) prog_67_method_1_code (4 : Nat) (Option.none : Option Jvm.ClassFile.FieldType)) ∈ lw_all := lw_g (lw_at lw_m3 212 rfl) rfl
theorem q739 : (Jvm.Cond.methodLink "java/util/TreeMap$Entry" (3 : Nat) ({ cls := "java/lang/Object", name := "<init>", desc := "()V" } : Jvm.MethodName)) ∈ lw_all := lw_g (lw_at lw_m3 213 rfl) rfl
theorem q740 : (Jvm.Cond.fieldLink "java/util/TreeMap$Entry" (15 : Nat) "java/util/TreeMap$Entry" "key" "Ljava/lang/Object;") ∈ lw_all := lw_g (lw_at lw_m3 214 rfl) rfl
theorem q743 : (Jvm.Cond.fieldLink "java/util/TreeMap$Entry" (19 : Nat) "java/util/TreeMap$Entry" "value" "Ljava/lang/Object;") ∈ lw_all := lw_g (lw_at lw_m3 217 rfl) rfl
theorem q747 : (Jvm.Cond.fieldLink "java/util/TreeMap$Entry" (22 : Nat) "java/util/TreeMap$Entry" "parent" "Ljava/util/TreeMap$Entry;") ∈ lw_all := lw_g (lw_at lw_m3 221 rfl) rfl
theorem q749 : (Jvm.Cond.fieldLink "java/util/TreeMap$Entry" (9 : Nat) "java/util/TreeMap$Entry" "color" "Z") ∈ lw_all := lw_g (lw_at lw_m3 223 rfl) rfl
theorem q751 : (Jvm.Cond.lays "java/util/TreeMap$Entry" "java/util/TreeMap$Entry" "key" "Ljava/lang/Object;") ∈ lw_all := lw_g (lw_at lw_m3 225 rfl) rfl
theorem q752 : (Jvm.Cond.soleField "java/util/TreeMap$Entry" "key") ∈ lw_all := lw_g (lw_at lw_m3 226 rfl) rfl
theorem q753 : (Jvm.Cond.lays "java/util/TreeMap$Entry" "java/util/TreeMap$Entry" "value" "Ljava/lang/Object;") ∈ lw_all := lw_g (lw_at lw_m3 227 rfl) rfl
theorem q754 : (Jvm.Cond.soleField "java/util/TreeMap$Entry" "value") ∈ lw_all := lw_g (lw_at lw_m3 228 rfl) rfl
theorem q755 : (Jvm.Cond.lays "java/util/TreeMap$Entry" "java/util/TreeMap$Entry" "left" "Ljava/util/TreeMap$Entry;") ∈ lw_all := lw_g (lw_at lw_m3 229 rfl) rfl
theorem q756 : (Jvm.Cond.soleField "java/util/TreeMap$Entry" "left") ∈ lw_all := lw_g (lw_at lw_m3 230 rfl) rfl
theorem q757 : (Jvm.Cond.lays "java/util/TreeMap$Entry" "java/util/TreeMap$Entry" "right" "Ljava/util/TreeMap$Entry;") ∈ lw_all := lw_g (lw_at lw_m3 231 rfl) rfl
theorem q758 : (Jvm.Cond.soleField "java/util/TreeMap$Entry" "right") ∈ lw_all := lw_g (lw_at lw_m3 232 rfl) rfl
theorem q759 : (Jvm.Cond.lays "java/util/TreeMap$Entry" "java/util/TreeMap$Entry" "parent" "Ljava/util/TreeMap$Entry;") ∈ lw_all := lw_g (lw_at lw_m3 233 rfl) rfl
theorem q760 : (Jvm.Cond.soleField "java/util/TreeMap$Entry" "parent") ∈ lw_all := lw_g (lw_at lw_m3 234 rfl) rfl
theorem q761 : (Jvm.Cond.lays "java/util/TreeMap$Entry" "java/util/TreeMap$Entry" "color" "Z") ∈ lw_all := lw_g (lw_at lw_m3 235 rfl) rfl
theorem q762 : (Jvm.Cond.soleField "java/util/TreeMap$Entry" "color") ∈ lw_all := lw_g (lw_at lw_m3 236 rfl) rfl
theorem q763 : (Jvm.Cond.superclass "java/util/TreeMap$Entry" "java/lang/Object") ∈ lw_all := lw_g (lw_at lw_m3 237 rfl) rfl
theorem q998 : (Jvm.Cond.selects "java/util/TreeMap$Entry" ({ cls := "java/lang/Object", name := "getClass", desc := "()Ljava/lang/Class;" } : Jvm.MethodName) ({ cls := "java/lang/Object", name := "getClass", desc := "()Ljava/lang/Class;" } : Jvm.MethodName)) ∈ lw_all := lw_g (lw_at lw_m4 232 rfl) rfl
theorem q2008 : (Jvm.Cond.castable "java/util/TreeMap$Entry" "java/lang/Object") ∈ lw_tbl := lw_at lw_m9 42 rfl
theorem in_J30 : ∀ w ∈ wsJ300, w ∈ lw_all := lw_in wsJ300 [751, 753, 755, 757, 759, 761] (by decide +kernel) (by decide +kernel)

/-! java/util/TreeMap$KeySet -/
set_option maxRecDepth 100000
def RJ31 : String := "java/util/TreeMap$KeySet"
def TJ31 : u_T := fun k => match k with
  | _ => ("java/util/TreeMap$KeySet", "m", "Ljava/util/NavigableMap;", true)
def tyJ31 : Nat → FieldType := fun k => match k with
  | _ => .object "java/util/NavigableMap"
abbrev wsJ310 : List Cond := u_ws RJ31 TJ31 1
theorem nmJ31 : ∀ a, a < 1 → ∀ b, b < 1 → a ≠ b → (TJ31 a).2.1 ≠ (TJ31 b).2.1 := by decide +kernel
theorem tyJ31_ok : ∀ k, k < 1 → parseFieldDescriptor (TJ31 k).2.2.1 = some (tyJ31 k) := by decide +kernel
abbrev cJ31_init : ByteArray := prog_69_method_1_code
def yJ31_init : MethodName := ⟨RJ31, "<init>", "(Ljava/util/NavigableMap;)V"⟩
def dkwJ31_init_0 : List UInt8 := [42, 183, 0, 1, 42, 43, 181, 0, 7, 177]
abbrev dktJ31_init_0 : List UInt8 := dkwJ31_init_0 ++ []
theorem dksJ31_init_0 : cJ31_init.data.toList.drop 0 = dktJ31_init_0 := by decide +kernel
theorem dJ31_init_0 : decode cJ31_init 0 = .ok (.aload_n 0, 1) := dk_42 (dk_at dksJ31_init_0 0 rfl rfl)
theorem dJ31_init_1 : decode cJ31_init 1 = .ok (.invokespecial 1, 3) := dk_183 0 1 (dk_at dksJ31_init_0 1 rfl rfl)
theorem dJ31_init_4 : decode cJ31_init 4 = .ok (.aload_n 0, 1) := dk_42 (dk_at dksJ31_init_0 4 rfl rfl)
theorem dJ31_init_5 : decode cJ31_init 5 = .ok (.aload_n 1, 1) := dk_43 (dk_at dksJ31_init_0 5 rfl rfl)
theorem dJ31_init_6 : decode cJ31_init 6 = .ok (.putfield 7, 3) := dk_181 0 7 (dk_at dksJ31_init_0 6 rfl rfl)
theorem dJ31_init_9 : decode cJ31_init 9 = .ok (.return_, 1) := dk_177 (dk_at dksJ31_init_0 9 rfl rfl)
abbrev cJ31_iterator : ByteArray := prog_69_method_2_code
def yJ31_iterator : MethodName := ⟨RJ31, "iterator", "()Ljava/util/Iterator;"⟩
def dkwJ31_iterator_1 : List UInt8 := [180, 0, 7, 192, 0, 19, 182, 0, 21, 176]
abbrev dktJ31_iterator_1 : List UInt8 := dkwJ31_iterator_1 ++ []
def dkwJ31_iterator_0 : List UInt8 := [42, 180, 0, 7, 193, 0, 13, 153, 0, 14, 42, 180, 0, 7, 192, 0, 13, 182, 0, 15, 176, 42]
abbrev dktJ31_iterator_0 : List UInt8 := dkwJ31_iterator_0 ++ dktJ31_iterator_1
theorem dksJ31_iterator_0 : cJ31_iterator.data.toList.drop 0 = dktJ31_iterator_0 := by decide +kernel
theorem dksJ31_iterator_1 : cJ31_iterator.data.toList.drop 22 = dktJ31_iterator_1 := dk_seg dksJ31_iterator_0 22 rfl rfl
theorem dJ31_iterator_0 : decode cJ31_iterator 0 = .ok (.aload_n 0, 1) := dk_42 (dk_at dksJ31_iterator_0 0 rfl rfl)
theorem dJ31_iterator_1 : decode cJ31_iterator 1 = .ok (.getfield 7, 3) := dk_180 0 7 (dk_at dksJ31_iterator_0 1 rfl rfl)
theorem dJ31_iterator_4 : decode cJ31_iterator 4 = .ok (.instanceof 13, 3) := dk_193 0 13 (dk_at dksJ31_iterator_0 4 rfl rfl)
theorem dJ31_iterator_7 : decode cJ31_iterator 7 = .ok (.ifCond .eq 14, 3) := dk_153 0 14 (dk_at dksJ31_iterator_0 7 rfl rfl)
theorem dJ31_iterator_10 : decode cJ31_iterator 10 = .ok (.aload_n 0, 1) := dk_42 (dk_at dksJ31_iterator_0 10 rfl rfl)
theorem dJ31_iterator_11 : decode cJ31_iterator 11 = .ok (.getfield 7, 3) := dk_180 0 7 (dk_at dksJ31_iterator_0 11 rfl rfl)
theorem dJ31_iterator_14 : decode cJ31_iterator 14 = .ok (.checkcast 13, 3) := dk_192 0 13 (dk_at dksJ31_iterator_0 14 rfl rfl)
theorem dJ31_iterator_17 : decode cJ31_iterator 17 = .ok (.invokevirtual 15, 3) := dk_182 0 15 (dk_at dksJ31_iterator_0 17 rfl rfl)
theorem dJ31_iterator_20 : decode cJ31_iterator 20 = .ok (.areturn, 1) := dk_176 (dk_at dksJ31_iterator_0 20 rfl rfl)
theorem dJ31_iterator_21 : decode cJ31_iterator 21 = .ok (.aload_n 0, 1) := dk_42 (dk_at dksJ31_iterator_0 21 rfl rfl)
theorem dJ31_iterator_22 : decode cJ31_iterator 22 = .ok (.getfield 7, 3) := dk_180 0 7 (dk_at dksJ31_iterator_1 0 rfl rfl)
theorem dJ31_iterator_25 : decode cJ31_iterator 25 = .ok (.checkcast 19, 3) := dk_192 0 19 (dk_at dksJ31_iterator_1 3 rfl rfl)
theorem dJ31_iterator_28 : decode cJ31_iterator 28 = .ok (.invokevirtual 21, 3) := dk_182 0 21 (dk_at dksJ31_iterator_1 6 rfl rfl)
theorem dJ31_iterator_31 : decode cJ31_iterator 31 = .ok (.areturn, 1) := dk_176 (dk_at dksJ31_iterator_1 9 rfl rfl)
abbrev cJ31_size : ByteArray := prog_69_method_4_code
def yJ31_size : MethodName := ⟨RJ31, "size", "()I"⟩
def dkwJ31_size_0 : List UInt8 := [42, 180, 0, 7, 185, 0, 26, 1, 0, 172]
abbrev dktJ31_size_0 : List UInt8 := dkwJ31_size_0 ++ []
theorem dksJ31_size_0 : cJ31_size.data.toList.drop 0 = dktJ31_size_0 := by decide +kernel
theorem dJ31_size_0 : decode cJ31_size 0 = .ok (.aload_n 0, 1) := dk_42 (dk_at dksJ31_size_0 0 rfl rfl)
theorem dJ31_size_1 : decode cJ31_size 1 = .ok (.getfield 7, 3) := dk_180 0 7 (dk_at dksJ31_size_0 1 rfl rfl)
theorem dJ31_size_4 : decode cJ31_size 4 = .ok (.invokeinterface 26 1, 5) := by decide +kernel
theorem dJ31_size_9 : decode cJ31_size 9 = .ok (.ireturn, 1) := dk_172 (dk_at dksJ31_size_0 9 rfl rfl)
theorem q89 : (Jvm.Cond.initialized "java/util/TreeMap$KeySet") ∈ lw_all := lw_g (lw_at lw_m1 43 rfl) rfl
theorem q818 : (Jvm.Cond.instantiable "java/util/TreeMap$KeySet" (1 : Nat)) ∈ lw_all := lw_g (lw_at lw_m4 52 rfl) rfl
theorem q820 : (Jvm.Cond.instanceMethod ({ cls := "java/util/TreeMap$KeySet", name := "<init>", desc := "(Ljava/util/NavigableMap;)V" } : Jvm.MethodName)) ∈ lw_all := lw_g (lw_at lw_m4 54 rfl) rfl
theorem q821 : (Jvm.Cond.code ({ cls := "java/util/TreeMap$KeySet", name := "<init>", desc := "(Ljava/util/NavigableMap;)V" } : Jvm.MethodName) prog_69_method_1_code (2 : Nat) (Option.none : Option Jvm.ClassFile.FieldType)) ∈ lw_all := lw_g (lw_at lw_m4 55 rfl) rfl
theorem q822 : (Jvm.Cond.methodLink "java/util/TreeMap$KeySet" (1 : Nat) ({ cls := "java/util/AbstractSet", name := "<init>", desc := "()V" } : Jvm.MethodName)) ∈ lw_all := lw_g (lw_at lw_m4 56 rfl) rfl
theorem q823 : (Jvm.Cond.fieldLink "java/util/TreeMap$KeySet" (7 : Nat) "java/util/TreeMap$KeySet" "m" "Ljava/util/NavigableMap;") ∈ lw_all := lw_g (lw_at lw_m4 57 rfl) rfl
theorem q824 : (Jvm.Cond.laysFinal "java/util/TreeMap$KeySet" "java/util/TreeMap$KeySet" "m" "Ljava/util/NavigableMap;") ∈ lw_all := lw_g (lw_at lw_m4 58 rfl) rfl
theorem q825 : (Jvm.Cond.soleField "java/util/TreeMap$KeySet" "m") ∈ lw_all := lw_g (lw_at lw_m4 59 rfl) rfl
theorem q826 : (Jvm.Cond.superclass "java/util/TreeMap$KeySet" "java/util/AbstractSet") ∈ lw_all := lw_g (lw_at lw_m4 60 rfl) rfl
theorem q831 : (Jvm.Cond.castable "java/util/TreeMap$KeySet" "java/util/NavigableSet") ∈ lw_tbl := lw_at lw_m4 65 rfl
theorem q832 : (Jvm.Cond.selects "java/util/TreeMap$KeySet" ({ cls := "java/util/NavigableSet", name := "iterator", desc := "()Ljava/util/Iterator;" } : Jvm.MethodName) ({ cls := "java/util/TreeMap$KeySet", name := "iterator", desc := "()Ljava/util/Iterator;" } : Jvm.MethodName)) ∈ lw_all := lw_g (lw_at lw_m4 66 rfl) rfl
theorem q833 : (Jvm.Cond.unhidden "java/util/TreeMap$KeySet" "iterator" "()Ljava/util/Iterator;") ∈ lw_tbl := lw_at lw_m4 67 rfl
theorem q834 : (Jvm.Cond.instanceMethod ({ cls := "java/util/TreeMap$KeySet", name := "iterator", desc := "()Ljava/util/Iterator;" } : Jvm.MethodName)) ∈ lw_all := lw_g (lw_at lw_m4 68 rfl) rfl
theorem q835 : (Jvm.Cond.publicMethod ({ cls := "java/util/TreeMap$KeySet", name := "iterator", desc := "()Ljava/util/Iterator;" } : Jvm.MethodName)) ∈ lw_tbl := lw_at lw_m4 69 rfl
theorem q836 : (Jvm.Cond.code ({ cls := "java/util/TreeMap$KeySet", name := "iterator", desc := "()Ljava/util/Iterator;" } : Jvm.MethodName) prog_69_method_2_code (1 : Nat) (Option.some (Jvm.ClassFile.FieldType.object "java/util/Iterator"))) ∈ lw_all := lw_g (lw_at lw_m4 70 rfl) rfl
theorem q837 : (Jvm.Cond.classLink "java/util/TreeMap$KeySet" (13 : Nat) "java/util/TreeMap") ∈ lw_all := lw_g (lw_at lw_m4 71 rfl) rfl
theorem q838 : (Jvm.Cond.methodLink "java/util/TreeMap$KeySet" (15 : Nat) ({ cls := "java/util/TreeMap", name := "keyIterator", desc := "()Ljava/util/Iterator;" } : Jvm.MethodName)) ∈ lw_all := lw_g (lw_at lw_m4 72 rfl) rfl
theorem q868 : (Jvm.Cond.classLink "java/util/TreeMap$KeySet" (19 : Nat) "java/util/TreeMap$NavigableSubMap") ∈ lw_all := lw_g (lw_at lw_m4 102 rfl) rfl
theorem q869 : (Jvm.Cond.methodLink "java/util/TreeMap$KeySet" (21 : Nat) ({ cls := "java/util/TreeMap$NavigableSubMap", name := "keyIterator", desc := "()Ljava/util/Iterator;" } : Jvm.MethodName)) ∈ lw_all := lw_g (lw_at lw_m4 103 rfl) rfl
theorem q1000 : (Jvm.Cond.selects "java/util/TreeMap$KeySet" ({ cls := "java/lang/Object", name := "getClass", desc := "()Ljava/lang/Class;" } : Jvm.MethodName) ({ cls := "java/lang/Object", name := "getClass", desc := "()Ljava/lang/Class;" } : Jvm.MethodName)) ∈ lw_all := lw_g (lw_at lw_m4 234 rfl) rfl
theorem q1507 : (Jvm.Cond.selects "java/util/TreeMap$KeySet" ({ cls := "java/util/AbstractCollection", name := "size", desc := "()I" } : Jvm.MethodName) ({ cls := "java/util/TreeMap$KeySet", name := "size", desc := "()I" } : Jvm.MethodName)) ∈ lw_all := lw_g (lw_at lw_m7 21 rfl) rfl
theorem q1508 : (Jvm.Cond.instanceMethod ({ cls := "java/util/TreeMap$KeySet", name := "size", desc := "()I" } : Jvm.MethodName)) ∈ lw_all := lw_g (lw_at lw_m7 22 rfl) rfl
theorem q1509 : (Jvm.Cond.code ({ cls := "java/util/TreeMap$KeySet", name := "size", desc := "()I" } : Jvm.MethodName) prog_69_method_4_code (1 : Nat) (Option.some Jvm.ClassFile.FieldType.int)) ∈ lw_all := lw_g (lw_at lw_m7 23 rfl) rfl
theorem q1510 : (Jvm.Cond.interfaceEntry "java/util/TreeMap$KeySet" (26 : Nat)) ∈ lw_tbl := lw_at lw_m7 24 rfl
theorem q2009 : (Jvm.Cond.castable "java/util/TreeMap$KeySet" "java/lang/Object") ∈ lw_tbl := lw_at lw_m9 43 rfl
theorem in_J31 : ∀ w ∈ wsJ310, w ∈ lw_all := lw_in wsJ310 [824] (by decide +kernel) (by decide +kernel)

/-! java/util/TreeMap$PrivateEntryIterator -/
set_option maxRecDepth 100000
def RJ32 : String := "java/util/TreeMap$PrivateEntryIterator"
abbrev cJ32_hasNext : ByteArray := prog_71_method_2_code
def yJ32_hasNext : MethodName := ⟨RJ32, "hasNext", "()Z"⟩
def dkwJ32_hasNext_0 : List UInt8 := [42, 180, 0, 26, 198, 0, 7, 4, 167, 0, 4, 3, 172]
abbrev dktJ32_hasNext_0 : List UInt8 := dkwJ32_hasNext_0 ++ []
theorem dksJ32_hasNext_0 : cJ32_hasNext.data.toList.drop 0 = dktJ32_hasNext_0 := by decide +kernel
theorem dJ32_hasNext_0 : decode cJ32_hasNext 0 = .ok (.aload_n 0, 1) := dk_42 (dk_at dksJ32_hasNext_0 0 rfl rfl)
theorem dJ32_hasNext_1 : decode cJ32_hasNext 1 = .ok (.getfield 26, 3) := dk_180 0 26 (dk_at dksJ32_hasNext_0 1 rfl rfl)
theorem dJ32_hasNext_4 : decode cJ32_hasNext 4 = .ok (.ifnull 7, 3) := dk_198 0 7 (dk_at dksJ32_hasNext_0 4 rfl rfl)
theorem dJ32_hasNext_7 : decode cJ32_hasNext 7 = .ok (.iconst 1, 1) := dk_4 (dk_at dksJ32_hasNext_0 7 rfl rfl)
theorem dJ32_hasNext_8 : decode cJ32_hasNext 8 = .ok (.goto 4, 3) := dk_167 0 4 (dk_at dksJ32_hasNext_0 8 rfl rfl)
theorem dJ32_hasNext_11 : decode cJ32_hasNext 11 = .ok (.iconst 0, 1) := dk_3 (dk_at dksJ32_hasNext_0 11 rfl rfl)
theorem dJ32_hasNext_12 : decode cJ32_hasNext 12 = .ok (.ireturn, 1) := dk_172 (dk_at dksJ32_hasNext_0 12 rfl rfl)
abbrev cJ32_nextEntry : ByteArray := prog_71_method_3_code
def yJ32_nextEntry : MethodName := ⟨RJ32, "nextEntry", "()Ljava/util/TreeMap$Entry;"⟩
def dkwJ32_nextEntry_2 : List UInt8 := [43, 181, 0, 22, 43, 176]
abbrev dktJ32_nextEntry_2 : List UInt8 := dkwJ32_nextEntry_2 ++ []
def dkwJ32_nextEntry_1 : List UInt8 := [42, 180, 0, 19, 159, 0, 11, 187, 0, 32, 89, 183, 0, 34, 191, 42, 43, 184, 0, 35, 181, 0, 26, 42]
abbrev dktJ32_nextEntry_1 : List UInt8 := dkwJ32_nextEntry_1 ++ dktJ32_nextEntry_2
def dkwJ32_nextEntry_0 : List UInt8 := [42, 180, 0, 26, 76, 43, 199, 0, 11, 187, 0, 29, 89, 183, 0, 31, 191, 42, 180, 0, 1, 180, 0, 13]
abbrev dktJ32_nextEntry_0 : List UInt8 := dkwJ32_nextEntry_0 ++ dktJ32_nextEntry_1
theorem dksJ32_nextEntry_0 : cJ32_nextEntry.data.toList.drop 0 = dktJ32_nextEntry_0 := by decide +kernel
theorem dksJ32_nextEntry_1 : cJ32_nextEntry.data.toList.drop 24 = dktJ32_nextEntry_1 := dk_seg dksJ32_nextEntry_0 24 rfl rfl
theorem dksJ32_nextEntry_2 : cJ32_nextEntry.data.toList.drop 48 = dktJ32_nextEntry_2 := dk_seg dksJ32_nextEntry_1 24 rfl rfl
theorem dJ32_nextEntry_0 : decode cJ32_nextEntry 0 = .ok (.aload_n 0, 1) := dk_42 (dk_at dksJ32_nextEntry_0 0 rfl rfl)
theorem dJ32_nextEntry_1 : decode cJ32_nextEntry 1 = .ok (.getfield 26, 3) := dk_180 0 26 (dk_at dksJ32_nextEntry_0 1 rfl rfl)
theorem dJ32_nextEntry_4 : decode cJ32_nextEntry 4 = .ok (.astore_n 1, 1) := dk_76 (dk_at dksJ32_nextEntry_0 4 rfl rfl)
theorem dJ32_nextEntry_5 : decode cJ32_nextEntry 5 = .ok (.aload_n 1, 1) := dk_43 (dk_at dksJ32_nextEntry_0 5 rfl rfl)
theorem dJ32_nextEntry_6 : decode cJ32_nextEntry 6 = .ok (.ifnonnull 11, 3) := dk_199 0 11 (dk_at dksJ32_nextEntry_0 6 rfl rfl)
theorem dJ32_nextEntry_9 : decode cJ32_nextEntry 9 = .ok (.new 29, 3) := dk_187 0 29 (dk_at dksJ32_nextEntry_0 9 rfl rfl)
theorem dJ32_nextEntry_12 : decode cJ32_nextEntry 12 = .ok (.dup, 1) := dk_89 (dk_at dksJ32_nextEntry_0 12 rfl rfl)
theorem dJ32_nextEntry_13 : decode cJ32_nextEntry 13 = .ok (.invokespecial 31, 3) := dk_183 0 31 (dk_at dksJ32_nextEntry_0 13 rfl rfl)
theorem dJ32_nextEntry_16 : decode cJ32_nextEntry 16 = .ok (.athrow, 1) := dk_191 (dk_at dksJ32_nextEntry_0 16 rfl rfl)
theorem dJ32_nextEntry_17 : decode cJ32_nextEntry 17 = .ok (.aload_n 0, 1) := dk_42 (dk_at dksJ32_nextEntry_0 17 rfl rfl)
theorem dJ32_nextEntry_18 : decode cJ32_nextEntry 18 = .ok (.getfield 1, 3) := dk_180 0 1 (dk_at dksJ32_nextEntry_0 18 rfl rfl)
theorem dJ32_nextEntry_21 : decode cJ32_nextEntry 21 = .ok (.getfield 13, 3) := dk_180 0 13 (dk_at dksJ32_nextEntry_0 21 rfl rfl)
theorem dJ32_nextEntry_24 : decode cJ32_nextEntry 24 = .ok (.aload_n 0, 1) := dk_42 (dk_at dksJ32_nextEntry_1 0 rfl rfl)
theorem dJ32_nextEntry_25 : decode cJ32_nextEntry 25 = .ok (.getfield 19, 3) := dk_180 0 19 (dk_at dksJ32_nextEntry_1 1 rfl rfl)
theorem dJ32_nextEntry_28 : decode cJ32_nextEntry 28 = .ok (.if_icmp .eq 11, 3) := dk_159 0 11 (dk_at dksJ32_nextEntry_1 4 rfl rfl)
theorem dJ32_nextEntry_31 : decode cJ32_nextEntry 31 = .ok (.new 32, 3) := dk_187 0 32 (dk_at dksJ32_nextEntry_1 7 rfl rfl)
theorem dJ32_nextEntry_34 : decode cJ32_nextEntry 34 = .ok (.dup, 1) := dk_89 (dk_at dksJ32_nextEntry_1 10 rfl rfl)
theorem dJ32_nextEntry_35 : decode cJ32_nextEntry 35 = .ok (.invokespecial 34, 3) := dk_183 0 34 (dk_at dksJ32_nextEntry_1 11 rfl rfl)
theorem dJ32_nextEntry_38 : decode cJ32_nextEntry 38 = .ok (.athrow, 1) := dk_191 (dk_at dksJ32_nextEntry_1 14 rfl rfl)
theorem dJ32_nextEntry_39 : decode cJ32_nextEntry 39 = .ok (.aload_n 0, 1) := dk_42 (dk_at dksJ32_nextEntry_1 15 rfl rfl)
theorem dJ32_nextEntry_40 : decode cJ32_nextEntry 40 = .ok (.aload_n 1, 1) := dk_43 (dk_at dksJ32_nextEntry_1 16 rfl rfl)
theorem dJ32_nextEntry_41 : decode cJ32_nextEntry 41 = .ok (.invokestatic 35, 3) := dk_184 0 35 (dk_at dksJ32_nextEntry_1 17 rfl rfl)
theorem dJ32_nextEntry_44 : decode cJ32_nextEntry 44 = .ok (.putfield 26, 3) := dk_181 0 26 (dk_at dksJ32_nextEntry_1 20 rfl rfl)
theorem dJ32_nextEntry_47 : decode cJ32_nextEntry 47 = .ok (.aload_n 0, 1) := dk_42 (dk_at dksJ32_nextEntry_1 23 rfl rfl)
theorem dJ32_nextEntry_48 : decode cJ32_nextEntry 48 = .ok (.aload_n 1, 1) := dk_43 (dk_at dksJ32_nextEntry_2 0 rfl rfl)
theorem dJ32_nextEntry_49 : decode cJ32_nextEntry 49 = .ok (.putfield 22, 3) := dk_181 0 22 (dk_at dksJ32_nextEntry_2 1 rfl rfl)
theorem dJ32_nextEntry_52 : decode cJ32_nextEntry 52 = .ok (.aload_n 1, 1) := dk_43 (dk_at dksJ32_nextEntry_2 4 rfl rfl)
theorem dJ32_nextEntry_53 : decode cJ32_nextEntry 53 = .ok (.areturn, 1) := dk_176 (dk_at dksJ32_nextEntry_2 5 rfl rfl)
abbrev cJ32_init : ByteArray := prog_71_method_1_code
def yJ32_init : MethodName := ⟨RJ32, "<init>", "(Ljava/util/TreeMap;Ljava/util/TreeMap$Entry;)V"⟩
def dkwJ32_init_1 : List UInt8 := [181, 0, 26, 177]
abbrev dktJ32_init_1 : List UInt8 := dkwJ32_init_1 ++ []
def dkwJ32_init_0 : List UInt8 := [42, 43, 181, 0, 1, 42, 183, 0, 7, 42, 43, 180, 0, 13, 181, 0, 19, 42, 1, 181, 0, 22, 42, 44]
abbrev dktJ32_init_0 : List UInt8 := dkwJ32_init_0 ++ dktJ32_init_1
theorem dksJ32_init_0 : cJ32_init.data.toList.drop 0 = dktJ32_init_0 := by decide +kernel
theorem dksJ32_init_1 : cJ32_init.data.toList.drop 24 = dktJ32_init_1 := dk_seg dksJ32_init_0 24 rfl rfl
theorem dJ32_init_0 : decode cJ32_init 0 = .ok (.aload_n 0, 1) := dk_42 (dk_at dksJ32_init_0 0 rfl rfl)
theorem dJ32_init_1 : decode cJ32_init 1 = .ok (.aload_n 1, 1) := dk_43 (dk_at dksJ32_init_0 1 rfl rfl)
theorem dJ32_init_2 : decode cJ32_init 2 = .ok (.putfield 1, 3) := dk_181 0 1 (dk_at dksJ32_init_0 2 rfl rfl)
theorem dJ32_init_5 : decode cJ32_init 5 = .ok (.aload_n 0, 1) := dk_42 (dk_at dksJ32_init_0 5 rfl rfl)
theorem dJ32_init_6 : decode cJ32_init 6 = .ok (.invokespecial 7, 3) := dk_183 0 7 (dk_at dksJ32_init_0 6 rfl rfl)
theorem dJ32_init_9 : decode cJ32_init 9 = .ok (.aload_n 0, 1) := dk_42 (dk_at dksJ32_init_0 9 rfl rfl)
theorem dJ32_init_10 : decode cJ32_init 10 = .ok (.aload_n 1, 1) := dk_43 (dk_at dksJ32_init_0 10 rfl rfl)
theorem dJ32_init_11 : decode cJ32_init 11 = .ok (.getfield 13, 3) := dk_180 0 13 (dk_at dksJ32_init_0 11 rfl rfl)
theorem dJ32_init_14 : decode cJ32_init 14 = .ok (.putfield 19, 3) := dk_181 0 19 (dk_at dksJ32_init_0 14 rfl rfl)
theorem dJ32_init_17 : decode cJ32_init 17 = .ok (.aload_n 0, 1) := dk_42 (dk_at dksJ32_init_0 17 rfl rfl)
theorem dJ32_init_18 : decode cJ32_init 18 = .ok (.aconst_null, 1) := dk_1 (dk_at dksJ32_init_0 18 rfl rfl)
theorem dJ32_init_19 : decode cJ32_init 19 = .ok (.putfield 22, 3) := dk_181 0 22 (dk_at dksJ32_init_0 19 rfl rfl)
theorem dJ32_init_22 : decode cJ32_init 22 = .ok (.aload_n 0, 1) := dk_42 (dk_at dksJ32_init_0 22 rfl rfl)
theorem dJ32_init_23 : decode cJ32_init 23 = .ok (.aload_n 2, 1) := dk_44 (dk_at dksJ32_init_0 23 rfl rfl)
theorem dJ32_init_24 : decode cJ32_init 24 = .ok (.putfield 26, 3) := dk_181 0 26 (dk_at dksJ32_init_1 0 rfl rfl)
theorem dJ32_init_27 : decode cJ32_init 27 = .ok (.return_, 1) := dk_177 (dk_at dksJ32_init_1 3 rfl rfl)
theorem q90 : (Jvm.Cond.initialized "java/util/TreeMap$PrivateEntryIterator") ∈ lw_all := lw_g (lw_at lw_m1 44 rfl) rfl
theorem q224 : (Jvm.Cond.instanceMethod ({ cls := "java/util/TreeMap$PrivateEntryIterator", name := "hasNext", desc := "()Z" } : Jvm.MethodName)) ∈ lw_all := lw_g (lw_at lw_m1 178 rfl) rfl
theorem q225 : (Jvm.Cond.publicMethod ({ cls := "java/util/TreeMap$PrivateEntryIterator", name := "hasNext", desc := "()Z" } : Jvm.MethodName)) ∈ lw_tbl := lw_at lw_m1 179 rfl
theorem q226 : (Jvm.Cond.code ({ cls := "java/util/TreeMap$PrivateEntryIterator", name := "hasNext", desc := "()Z" } : Jvm.MethodName) prog_71_method_2_code (1 : Nat) (Option.some Jvm.ClassFile.FieldType.boolean)) ∈ lw_all := lw_g (lw_at lw_m1 180 rfl) rfl
theorem q383 : (Jvm.Cond.declares ({ cls := "java/util/TreeMap$PrivateEntryIterator", name := "nextEntry", desc := "()Ljava/util/TreeMap$Entry;" } : Jvm.MethodName)) ∈ lw_tbl := lw_at lw_m2 97 rfl
theorem q385 : (Jvm.Cond.instanceMethod ({ cls := "java/util/TreeMap$PrivateEntryIterator", name := "nextEntry", desc := "()Ljava/util/TreeMap$Entry;" } : Jvm.MethodName)) ∈ lw_all := lw_g (lw_at lw_m2 99 rfl) rfl
theorem q386 : (Jvm.Cond.code ({ cls := "java/util/TreeMap$PrivateEntryIterator", name := "nextEntry", desc := "()Ljava/util/TreeMap$Entry;" } : Jvm.MethodName) prog_71_method_3_code (2 : Nat) (Option.some (Jvm.ClassFile.FieldType.object "java/util/TreeMap$Entry"))) ∈ lw_all := lw_g (lw_at lw_m2 100 rfl) rfl
theorem q387 : (Jvm.Cond.methodLink "java/util/TreeMap$PrivateEntryIterator" (35 : Nat) ({ cls := "java/util/TreeMap", name := "successor", desc := "(Ljava/util/TreeMap$Entry;)Ljava/util/TreeMap$Entry;" } : Jvm.MethodName)) ∈ lw_all := lw_g (lw_at lw_m2 101 rfl) rfl
theorem q422 : (Jvm.Cond.fieldLinkNest "java/util/TreeMap$PrivateEntryIterator" (13 : Nat) "java/util/TreeMap" "modCount" "I" "java/util/TreeMap") ∈ lw_tbl := lw_at lw_m2 136 rfl
theorem q852 : (Jvm.Cond.instanceMethod ({ cls := "java/util/TreeMap$PrivateEntryIterator", name := "<init>", desc := "(Ljava/util/TreeMap;Ljava/util/TreeMap$Entry;)V" } : Jvm.MethodName)) ∈ lw_all := lw_g (lw_at lw_m4 86 rfl) rfl
theorem q853 : (Jvm.Cond.code ({ cls := "java/util/TreeMap$PrivateEntryIterator", name := "<init>", desc := "(Ljava/util/TreeMap;Ljava/util/TreeMap$Entry;)V" } : Jvm.MethodName) prog_71_method_1_code (3 : Nat) (Option.none : Option Jvm.ClassFile.FieldType)) ∈ lw_all := lw_g (lw_at lw_m4 87 rfl) rfl
theorem q854 : (Jvm.Cond.methodLink "java/util/TreeMap$PrivateEntryIterator" (7 : Nat) ({ cls := "java/lang/Object", name := "<init>", desc := "()V" } : Jvm.MethodName)) ∈ lw_all := lw_g (lw_at lw_m4 88 rfl) rfl
theorem q855 : (Jvm.Cond.fieldLink "java/util/TreeMap$PrivateEntryIterator" (26 : Nat) "java/util/TreeMap$PrivateEntryIterator" "next" "Ljava/util/TreeMap$Entry;") ∈ lw_all := lw_g (lw_at lw_m4 89 rfl) rfl
theorem q856 : (Jvm.Cond.fieldLink "java/util/TreeMap$PrivateEntryIterator" (22 : Nat) "java/util/TreeMap$PrivateEntryIterator" "lastReturned" "Ljava/util/TreeMap$Entry;") ∈ lw_all := lw_g (lw_at lw_m4 90 rfl) rfl
theorem q857 : (Jvm.Cond.fieldLink "java/util/TreeMap$PrivateEntryIterator" (19 : Nat) "java/util/TreeMap$PrivateEntryIterator" "expectedModCount" "I") ∈ lw_all := lw_g (lw_at lw_m4 91 rfl) rfl
theorem q858 : (Jvm.Cond.fieldLink "java/util/TreeMap$PrivateEntryIterator" (1 : Nat) "java/util/TreeMap$PrivateEntryIterator" "this$0" "Ljava/util/TreeMap;") ∈ lw_all := lw_g (lw_at lw_m4 92 rfl) rfl
theorem q860 : (Jvm.Cond.soleField "java/util/TreeMap$PrivateEntryIterator" "next") ∈ lw_all := lw_g (lw_at lw_m4 94 rfl) rfl
theorem q862 : (Jvm.Cond.soleField "java/util/TreeMap$PrivateEntryIterator" "lastReturned") ∈ lw_all := lw_g (lw_at lw_m4 96 rfl) rfl
theorem q864 : (Jvm.Cond.soleField "java/util/TreeMap$PrivateEntryIterator" "expectedModCount") ∈ lw_all := lw_g (lw_at lw_m4 98 rfl) rfl
theorem q866 : (Jvm.Cond.soleField "java/util/TreeMap$PrivateEntryIterator" "this$0") ∈ lw_all := lw_g (lw_at lw_m4 100 rfl) rfl

/-! java/util/TreeMap$KeyIterator -/
set_option maxRecDepth 100000
def RJ33 : String := "java/util/TreeMap$KeyIterator"
def TJ33 : u_T := fun k => match k with
  | 0 => ("java/util/TreeMap$PrivateEntryIterator", "next", "Ljava/util/TreeMap$Entry;", false)
  | 1 => ("java/util/TreeMap$PrivateEntryIterator", "lastReturned", "Ljava/util/TreeMap$Entry;", false)
  | 2 => ("java/util/TreeMap$PrivateEntryIterator", "expectedModCount", "I", false)
  | _ => ("java/util/TreeMap$PrivateEntryIterator", "this$0", "Ljava/util/TreeMap;", true)
def tyJ33 : Nat → FieldType := fun k => match k with
  | 0 => .object "java/util/TreeMap$Entry"
  | 1 => .object "java/util/TreeMap$Entry"
  | 2 => .int
  | _ => .object "java/util/TreeMap"
abbrev wsJ330 : List Cond := u_ws RJ33 TJ33 4
theorem nmJ33 : ∀ a, a < 4 → ∀ b, b < 4 → a ≠ b → (TJ33 a).2.1 ≠ (TJ33 b).2.1 := by decide +kernel
theorem tyJ33_ok : ∀ k, k < 4 → parseFieldDescriptor (TJ33 k).2.2.1 = some (tyJ33 k) := by decide +kernel
abbrev cJ33_next : ByteArray := prog_68_method_2_code
def yJ33_next : MethodName := ⟨RJ33, "next", "()Ljava/lang/Object;"⟩
def dkwJ33_next_0 : List UInt8 := [42, 182, 0, 7, 180, 0, 13, 176]
abbrev dktJ33_next_0 : List UInt8 := dkwJ33_next_0 ++ []
theorem dksJ33_next_0 : cJ33_next.data.toList.drop 0 = dktJ33_next_0 := by decide +kernel
theorem dJ33_next_0 : decode cJ33_next 0 = .ok (.aload_n 0, 1) := dk_42 (dk_at dksJ33_next_0 0 rfl rfl)
theorem dJ33_next_1 : decode cJ33_next 1 = .ok (.invokevirtual 7, 3) := dk_182 0 7 (dk_at dksJ33_next_0 1 rfl rfl)
theorem dJ33_next_4 : decode cJ33_next 4 = .ok (.getfield 13, 3) := dk_180 0 13 (dk_at dksJ33_next_0 4 rfl rfl)
theorem dJ33_next_7 : decode cJ33_next 7 = .ok (.areturn, 1) := dk_176 (dk_at dksJ33_next_0 7 rfl rfl)
abbrev cJ33_init : ByteArray := prog_68_method_1_code
def yJ33_init : MethodName := ⟨RJ33, "<init>", "(Ljava/util/TreeMap;Ljava/util/TreeMap$Entry;)V"⟩
def dkwJ33_init_0 : List UInt8 := [42, 43, 44, 183, 0, 1, 177]
abbrev dktJ33_init_0 : List UInt8 := dkwJ33_init_0 ++ []
theorem dksJ33_init_0 : cJ33_init.data.toList.drop 0 = dktJ33_init_0 := by decide +kernel
theorem dJ33_init_0 : decode cJ33_init 0 = .ok (.aload_n 0, 1) := dk_42 (dk_at dksJ33_init_0 0 rfl rfl)
theorem dJ33_init_1 : decode cJ33_init 1 = .ok (.aload_n 1, 1) := dk_43 (dk_at dksJ33_init_0 1 rfl rfl)
theorem dJ33_init_2 : decode cJ33_init 2 = .ok (.aload_n 2, 1) := dk_44 (dk_at dksJ33_init_0 2 rfl rfl)
theorem dJ33_init_3 : decode cJ33_init 3 = .ok (.invokespecial 1, 3) := dk_183 0 1 (dk_at dksJ33_init_0 3 rfl rfl)
theorem dJ33_init_6 : decode cJ33_init 6 = .ok (.return_, 1) := dk_177 (dk_at dksJ33_init_0 6 rfl rfl)
theorem q91 : (Jvm.Cond.initialized "java/util/TreeMap$KeyIterator") ∈ lw_all := lw_g (lw_at lw_m1 45 rfl) rfl
theorem q221 : (Jvm.Cond.castable "java/util/TreeMap$KeyIterator" "java/util/Iterator") ∈ lw_tbl := lw_at lw_m1 175 rfl
theorem q222 : (Jvm.Cond.selects "java/util/TreeMap$KeyIterator" ({ cls := "java/util/Iterator", name := "hasNext", desc := "()Z" } : Jvm.MethodName) ({ cls := "java/util/TreeMap$PrivateEntryIterator", name := "hasNext", desc := "()Z" } : Jvm.MethodName)) ∈ lw_all := lw_g (lw_at lw_m1 176 rfl) rfl
theorem q223 : (Jvm.Cond.unhidden "java/util/TreeMap$KeyIterator" "hasNext" "()Z") ∈ lw_tbl := lw_at lw_m1 177 rfl
theorem q376 : (Jvm.Cond.selects "java/util/TreeMap$KeyIterator" ({ cls := "java/util/Iterator", name := "next", desc := "()Ljava/lang/Object;" } : Jvm.MethodName) ({ cls := "java/util/TreeMap$KeyIterator", name := "next", desc := "()Ljava/lang/Object;" } : Jvm.MethodName)) ∈ lw_all := lw_g (lw_at lw_m2 90 rfl) rfl
theorem q377 : (Jvm.Cond.unhidden "java/util/TreeMap$KeyIterator" "next" "()Ljava/lang/Object;") ∈ lw_tbl := lw_at lw_m2 91 rfl
theorem q378 : (Jvm.Cond.instanceMethod ({ cls := "java/util/TreeMap$KeyIterator", name := "next", desc := "()Ljava/lang/Object;" } : Jvm.MethodName)) ∈ lw_all := lw_g (lw_at lw_m2 92 rfl) rfl
theorem q379 : (Jvm.Cond.publicMethod ({ cls := "java/util/TreeMap$KeyIterator", name := "next", desc := "()Ljava/lang/Object;" } : Jvm.MethodName)) ∈ lw_tbl := lw_at lw_m2 93 rfl
theorem q380 : (Jvm.Cond.code ({ cls := "java/util/TreeMap$KeyIterator", name := "next", desc := "()Ljava/lang/Object;" } : Jvm.MethodName) prog_68_method_2_code (1 : Nat) (Option.some (Jvm.ClassFile.FieldType.object "java/lang/Object"))) ∈ lw_all := lw_g (lw_at lw_m2 94 rfl) rfl
theorem q381 : (Jvm.Cond.methodLink "java/util/TreeMap$KeyIterator" (7 : Nat) ({ cls := "java/util/TreeMap$KeyIterator", name := "nextEntry", desc := "()Ljava/util/TreeMap$Entry;" } : Jvm.MethodName)) ∈ lw_all := lw_g (lw_at lw_m2 95 rfl) rfl
theorem q382 : (Jvm.Cond.sameMethod "java/util/TreeMap$KeyIterator" "java/util/TreeMap$PrivateEntryIterator" "nextEntry" "()Ljava/util/TreeMap$Entry;") ∈ lw_all := lw_g (lw_at lw_m2 96 rfl) rfl
theorem q384 : (Jvm.Cond.selects "java/util/TreeMap$KeyIterator" ({ cls := "java/util/TreeMap$KeyIterator", name := "nextEntry", desc := "()Ljava/util/TreeMap$Entry;" } : Jvm.MethodName) ({ cls := "java/util/TreeMap$PrivateEntryIterator", name := "nextEntry", desc := "()Ljava/util/TreeMap$Entry;" } : Jvm.MethodName)) ∈ lw_all := lw_g (lw_at lw_m2 98 rfl) rfl
theorem q741 : (Jvm.Cond.fieldLink "java/util/TreeMap$KeyIterator" (13 : Nat) "java/util/TreeMap$Entry" "key" "Ljava/lang/Object;") ∈ lw_all := lw_g (lw_at lw_m3 215 rfl) rfl
theorem q843 : (Jvm.Cond.instantiable "java/util/TreeMap$KeyIterator" (4 : Nat)) ∈ lw_all := lw_g (lw_at lw_m4 77 rfl) rfl
theorem q849 : (Jvm.Cond.instanceMethod ({ cls := "java/util/TreeMap$KeyIterator", name := "<init>", desc := "(Ljava/util/TreeMap;Ljava/util/TreeMap$Entry;)V" } : Jvm.MethodName)) ∈ lw_all := lw_g (lw_at lw_m4 83 rfl) rfl
theorem q850 : (Jvm.Cond.code ({ cls := "java/util/TreeMap$KeyIterator", name := "<init>", desc := "(Ljava/util/TreeMap;Ljava/util/TreeMap$Entry;)V" } : Jvm.MethodName) prog_68_method_1_code (3 : Nat) (Option.none : Option Jvm.ClassFile.FieldType)) ∈ lw_all := lw_g (lw_at lw_m4 84 rfl) rfl
theorem q851 : (Jvm.Cond.methodLink "java/util/TreeMap$KeyIterator" (1 : Nat) ({ cls := "java/util/TreeMap$PrivateEntryIterator", name := "<init>", desc := "(Ljava/util/TreeMap;Ljava/util/TreeMap$Entry;)V" } : Jvm.MethodName)) ∈ lw_all := lw_g (lw_at lw_m4 85 rfl) rfl
theorem q859 : (Jvm.Cond.lays "java/util/TreeMap$KeyIterator" "java/util/TreeMap$PrivateEntryIterator" "next" "Ljava/util/TreeMap$Entry;") ∈ lw_all := lw_g (lw_at lw_m4 93 rfl) rfl
theorem q861 : (Jvm.Cond.lays "java/util/TreeMap$KeyIterator" "java/util/TreeMap$PrivateEntryIterator" "lastReturned" "Ljava/util/TreeMap$Entry;") ∈ lw_all := lw_g (lw_at lw_m4 95 rfl) rfl
theorem q863 : (Jvm.Cond.lays "java/util/TreeMap$KeyIterator" "java/util/TreeMap$PrivateEntryIterator" "expectedModCount" "I") ∈ lw_all := lw_g (lw_at lw_m4 97 rfl) rfl
theorem q865 : (Jvm.Cond.laysFinal "java/util/TreeMap$KeyIterator" "java/util/TreeMap$PrivateEntryIterator" "this$0" "Ljava/util/TreeMap;") ∈ lw_all := lw_g (lw_at lw_m4 99 rfl) rfl
theorem q867 : (Jvm.Cond.superclass "java/util/TreeMap$KeyIterator" "java/util/TreeMap$PrivateEntryIterator") ∈ lw_all := lw_g (lw_at lw_m4 101 rfl) rfl
theorem q999 : (Jvm.Cond.selects "java/util/TreeMap$KeyIterator" ({ cls := "java/lang/Object", name := "getClass", desc := "()Ljava/lang/Class;" } : Jvm.MethodName) ({ cls := "java/lang/Object", name := "getClass", desc := "()Ljava/lang/Class;" } : Jvm.MethodName)) ∈ lw_all := lw_g (lw_at lw_m4 233 rfl) rfl
theorem q2010 : (Jvm.Cond.castable "java/util/TreeMap$KeyIterator" "java/lang/Object") ∈ lw_tbl := lw_at lw_m9 44 rfl
theorem in_J33 : ∀ w ∈ wsJ330, w ∈ lw_all := lw_in wsJ330 [859, 861, 863, 865] (by decide +kernel) (by decide +kernel)

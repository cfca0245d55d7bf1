/-! java/util/TreeMap -/
set_option maxRecDepth 100000
def RJ4 : String := "java/util/TreeMap"
def TJ4 : u_T := fun k => match k with
  | 0 => ("java/util/AbstractMap", "keySet", "Ljava/util/Set;", false)
  | 1 => ("java/util/AbstractMap", "values", "Ljava/util/Collection;", false)
  | 2 => ("java/util/TreeMap", "comparator", "Ljava/util/Comparator;", true)
  | 3 => ("java/util/TreeMap", "root", "Ljava/util/TreeMap$Entry;", false)
  | 4 => ("java/util/TreeMap", "size", "I", false)
  | 5 => ("java/util/TreeMap", "modCount", "I", false)
  | 6 => ("java/util/TreeMap", "entrySet", "Ljava/util/TreeMap$EntrySet;", false)
  | 7 => ("java/util/TreeMap", "navigableKeySet", "Ljava/util/TreeMap$KeySet;", false)
  | _ => ("java/util/TreeMap", "descendingMap", "Ljava/util/NavigableMap;", false)
def tyJ4 : Nat → FieldType := fun k => match k with
  | 0 => .object "java/util/Set"
  | 1 => .object "java/util/Collection"
  | 2 => .object "java/util/Comparator"
  | 3 => .object "java/util/TreeMap$Entry"
  | 4 => .int
  | 5 => .int
  | 6 => .object "java/util/TreeMap$EntrySet"
  | 7 => .object "java/util/TreeMap$KeySet"
  | _ => .object "java/util/NavigableMap"
abbrev wsJ40 : List Cond := u_ws RJ4 TJ4 9
theorem nmJ4 : ∀ a, a < 9 → ∀ b, b < 9 → a ≠ b → (TJ4 a).2.1 ≠ (TJ4 b).2.1 := by decide +kernel
theorem tyJ4_ok : ∀ k, k < 9 → parseFieldDescriptor (TJ4 k).2.2.1 = some (tyJ4 k) := by decide +kernel
abbrev cJ4_init : ByteArray := prog_54_method_1_code
def yJ4_init : MethodName := ⟨RJ4, "<init>", "()V"⟩
def dkwJ4_init_0 : List UInt8 := [42, 183, 0, 1, 42, 3, 181, 0, 7, 42, 3, 181, 0, 13, 42, 1, 181, 0, 16, 177]
abbrev dktJ4_init_0 : List UInt8 := dkwJ4_init_0 ++ []
theorem dksJ4_init_0 : cJ4_init.data.toList.drop 0 = dktJ4_init_0 := by decide +kernel
theorem dJ4_init_0 : decode cJ4_init 0 = .ok (.aload_n 0, 1) := dk_42 (dk_at dksJ4_init_0 0 rfl rfl)
theorem dJ4_init_1 : decode cJ4_init 1 = .ok (.invokespecial 1, 3) := dk_183 0 1 (dk_at dksJ4_init_0 1 rfl rfl)
theorem dJ4_init_4 : decode cJ4_init 4 = .ok (.aload_n 0, 1) := dk_42 (dk_at dksJ4_init_0 4 rfl rfl)
theorem dJ4_init_5 : decode cJ4_init 5 = .ok (.iconst 0, 1) := dk_3 (dk_at dksJ4_init_0 5 rfl rfl)
theorem dJ4_init_6 : decode cJ4_init 6 = .ok (.putfield 7, 3) := dk_181 0 7 (dk_at dksJ4_init_0 6 rfl rfl)
theorem dJ4_init_9 : decode cJ4_init 9 = .ok (.aload_n 0, 1) := dk_42 (dk_at dksJ4_init_0 9 rfl rfl)
theorem dJ4_init_10 : decode cJ4_init 10 = .ok (.iconst 0, 1) := dk_3 (dk_at dksJ4_init_0 10 rfl rfl)
theorem dJ4_init_11 : decode cJ4_init 11 = .ok (.putfield 13, 3) := dk_181 0 13 (dk_at dksJ4_init_0 11 rfl rfl)
theorem dJ4_init_14 : decode cJ4_init 14 = .ok (.aload_n 0, 1) := dk_42 (dk_at dksJ4_init_0 14 rfl rfl)
theorem dJ4_init_15 : decode cJ4_init 15 = .ok (.aconst_null, 1) := dk_1 (dk_at dksJ4_init_0 15 rfl rfl)
theorem dJ4_init_16 : decode cJ4_init 16 = .ok (.putfield 16, 3) := dk_181 0 16 (dk_at dksJ4_init_0 16 rfl rfl)
theorem dJ4_init_19 : decode cJ4_init 19 = .ok (.return_, 1) := dk_177 (dk_at dksJ4_init_0 19 rfl rfl)
abbrev cJ4_clear : ByteArray := prog_54_method_35_code
def yJ4_clear : MethodName := ⟨RJ4, "clear", "()V"⟩
def dkwJ4_clear_0 : List UInt8 := [42, 89, 180, 0, 13, 4, 96, 181, 0, 13, 42, 3, 181, 0, 7, 42, 1, 181, 0, 101, 177]
abbrev dktJ4_clear_0 : List UInt8 := dkwJ4_clear_0 ++ []
theorem dksJ4_clear_0 : cJ4_clear.data.toList.drop 0 = dktJ4_clear_0 := by decide +kernel
theorem dJ4_clear_0 : decode cJ4_clear 0 = .ok (.aload_n 0, 1) := dk_42 (dk_at dksJ4_clear_0 0 rfl rfl)
theorem dJ4_clear_1 : decode cJ4_clear 1 = .ok (.dup, 1) := dk_89 (dk_at dksJ4_clear_0 1 rfl rfl)
theorem dJ4_clear_2 : decode cJ4_clear 2 = .ok (.getfield 13, 3) := dk_180 0 13 (dk_at dksJ4_clear_0 2 rfl rfl)
theorem dJ4_clear_5 : decode cJ4_clear 5 = .ok (.iconst 1, 1) := dk_4 (dk_at dksJ4_clear_0 5 rfl rfl)
theorem dJ4_clear_6 : decode cJ4_clear 6 = .ok (.iadd, 1) := dk_96 (dk_at dksJ4_clear_0 6 rfl rfl)
theorem dJ4_clear_7 : decode cJ4_clear 7 = .ok (.putfield 13, 3) := dk_181 0 13 (dk_at dksJ4_clear_0 7 rfl rfl)
theorem dJ4_clear_10 : decode cJ4_clear 10 = .ok (.aload_n 0, 1) := dk_42 (dk_at dksJ4_clear_0 10 rfl rfl)
theorem dJ4_clear_11 : decode cJ4_clear 11 = .ok (.iconst 0, 1) := dk_3 (dk_at dksJ4_clear_0 11 rfl rfl)
theorem dJ4_clear_12 : decode cJ4_clear 12 = .ok (.putfield 7, 3) := dk_181 0 7 (dk_at dksJ4_clear_0 12 rfl rfl)
theorem dJ4_clear_15 : decode cJ4_clear 15 = .ok (.aload_n 0, 1) := dk_42 (dk_at dksJ4_clear_0 15 rfl rfl)
theorem dJ4_clear_16 : decode cJ4_clear 16 = .ok (.aconst_null, 1) := dk_1 (dk_at dksJ4_clear_0 16 rfl rfl)
theorem dJ4_clear_17 : decode cJ4_clear 17 = .ok (.putfield 101, 3) := dk_181 0 101 (dk_at dksJ4_clear_0 17 rfl rfl)
theorem dJ4_clear_20 : decode cJ4_clear 20 = .ok (.return_, 1) := dk_177 (dk_at dksJ4_clear_0 20 rfl rfl)
abbrev cJ4_put : ByteArray := prog_54_method_21_code
def yJ4_put : MethodName := ⟨RJ4, "put", "(Ljava/lang/Object;Ljava/lang/Object;)Ljava/lang/Object;"⟩
def dkwJ4_put_0 : List UInt8 := [42, 43, 44, 4, 182, 0, 127, 176]
abbrev dktJ4_put_0 : List UInt8 := dkwJ4_put_0 ++ []
theorem dksJ4_put_0 : cJ4_put.data.toList.drop 0 = dktJ4_put_0 := by decide +kernel
theorem dJ4_put_0 : decode cJ4_put 0 = .ok (.aload_n 0, 1) := dk_42 (dk_at dksJ4_put_0 0 rfl rfl)
theorem dJ4_put_1 : decode cJ4_put 1 = .ok (.aload_n 1, 1) := dk_43 (dk_at dksJ4_put_0 1 rfl rfl)
theorem dJ4_put_2 : decode cJ4_put 2 = .ok (.aload_n 2, 1) := dk_44 (dk_at dksJ4_put_0 2 rfl rfl)
theorem dJ4_put_3 : decode cJ4_put 3 = .ok (.iconst 1, 1) := dk_4 (dk_at dksJ4_put_0 3 rfl rfl)
theorem dJ4_put_4 : decode cJ4_put 4 = .ok (.invokevirtual 127, 3) := dk_182 0 127 (dk_at dksJ4_put_0 4 rfl rfl)
theorem dJ4_put_7 : decode cJ4_put 7 = .ok (.areturn, 1) := dk_176 (dk_at dksJ4_put_0 7 rfl rfl)
abbrev cJ4_put_2 : ByteArray := prog_54_method_31_code
def yJ4_put_2 : MethodName := ⟨RJ4, "put", "(Ljava/lang/Object;Ljava/lang/Object;Z)Ljava/lang/Object;"⟩
def dkwJ4_put_2_9 : List UInt8 := [4, 167, 0, 4, 3, 182, 0, 139, 1, 176]
abbrev dktJ4_put_2_9 : List UInt8 := dkwJ4_put_2_9 ++ []
def dkwJ4_put_2_8 : List UInt8 := [25, 4, 44, 181, 0, 58, 25, 9, 176, 25, 4, 199, 255, 181, 42, 43, 44, 25, 6, 21, 5, 156, 0, 7]
abbrev dktJ4_put_2_8 : List UInt8 := dkwJ4_put_2_8 ++ dktJ4_put_2_9
def dkwJ4_put_2_7 : List UInt8 := [180, 0, 114, 58, 4, 167, 0, 28, 25, 4, 180, 0, 58, 58, 9, 29, 154, 0, 8, 25, 9, 199, 0, 9]
abbrev dktJ4_put_2_7 : List UInt8 := dkwJ4_put_2_7 ++ dktJ4_put_2_8
def dkwJ4_put_2_6 : List UInt8 := [21, 5, 156, 0, 13, 25, 4, 180, 0, 111, 58, 4, 167, 0, 43, 21, 5, 158, 0, 13, 25, 4]
abbrev dktJ4_put_2_6 : List UInt8 := dkwJ4_put_2_6 ++ dktJ4_put_2_7
def dkwJ4_put_2_5 : List UInt8 := [192, 0, 99, 58, 8, 25, 4, 58, 6, 25, 8, 25, 4, 180, 0, 105, 185, 0, 107, 2, 0, 54, 5]
abbrev dktJ4_put_2_5 : List UInt8 := dkwJ4_put_2_5 ++ dktJ4_put_2_6
def dkwJ4_put_2_4 : List UInt8 := [25, 4, 44, 181, 0, 58, 25, 8, 176, 25, 4, 199, 255, 180, 167, 0, 92, 43, 184, 0, 95, 87, 43]
abbrev dktJ4_put_2_4 : List UInt8 := dkwJ4_put_2_4 ++ dktJ4_put_2_5
def dkwJ4_put_2_3 : List UInt8 := [180, 0, 114, 58, 4, 167, 0, 28, 25, 4, 180, 0, 58, 58, 8, 29, 154, 0, 8, 25, 8, 199, 0, 9]
abbrev dktJ4_put_2_3 : List UInt8 := dkwJ4_put_2_3 ++ dktJ4_put_2_4
def dkwJ4_put_2_2 : List UInt8 := [54, 5, 21, 5, 156, 0, 13, 25, 4, 180, 0, 111, 58, 4, 167, 0, 43, 21, 5, 158, 0, 13, 25, 4]
abbrev dktJ4_put_2_2 : List UInt8 := dkwJ4_put_2_2 ++ dktJ4_put_2_3
def dkwJ4_put_2_1 : List UInt8 := [58, 7, 25, 7, 198, 0, 85, 25, 4, 58, 6, 25, 7, 43, 25, 4, 180, 0, 105, 185, 0, 117, 3, 0]
abbrev dktJ4_put_2_1 : List UInt8 := dkwJ4_put_2_1 ++ dktJ4_put_2_2
def dkwJ4_put_2_0 : List UInt8 := [42, 180, 0, 101, 58, 4, 25, 4, 199, 0, 11, 42, 43, 44, 182, 0, 135, 1, 176, 42, 180, 0, 16]
abbrev dktJ4_put_2_0 : List UInt8 := dkwJ4_put_2_0 ++ dktJ4_put_2_1
theorem dksJ4_put_2_0 : cJ4_put_2.data.toList.drop 0 = dktJ4_put_2_0 := by decide +kernel
theorem dksJ4_put_2_1 : cJ4_put_2.data.toList.drop 23 = dktJ4_put_2_1 := dk_seg dksJ4_put_2_0 23 rfl rfl
theorem dksJ4_put_2_2 : cJ4_put_2.data.toList.drop 47 = dktJ4_put_2_2 := dk_seg dksJ4_put_2_1 24 rfl rfl
theorem dksJ4_put_2_3 : cJ4_put_2.data.toList.drop 71 = dktJ4_put_2_3 := dk_seg dksJ4_put_2_2 24 rfl rfl
theorem dksJ4_put_2_4 : cJ4_put_2.data.toList.drop 95 = dktJ4_put_2_4 := dk_seg dksJ4_put_2_3 24 rfl rfl
theorem dksJ4_put_2_5 : cJ4_put_2.data.toList.drop 118 = dktJ4_put_2_5 := dk_seg dksJ4_put_2_4 23 rfl rfl
theorem dksJ4_put_2_6 : cJ4_put_2.data.toList.drop 141 = dktJ4_put_2_6 := dk_seg dksJ4_put_2_5 23 rfl rfl
theorem dksJ4_put_2_7 : cJ4_put_2.data.toList.drop 163 = dktJ4_put_2_7 := dk_seg dksJ4_put_2_6 22 rfl rfl
theorem dksJ4_put_2_8 : cJ4_put_2.data.toList.drop 187 = dktJ4_put_2_8 := dk_seg dksJ4_put_2_7 24 rfl rfl
theorem dksJ4_put_2_9 : cJ4_put_2.data.toList.drop 211 = dktJ4_put_2_9 := dk_seg dksJ4_put_2_8 24 rfl rfl
theorem dJ4_put_2_0 : decode cJ4_put_2 0 = .ok (.aload_n 0, 1) := dk_42 (dk_at dksJ4_put_2_0 0 rfl rfl)
theorem dJ4_put_2_1 : decode cJ4_put_2 1 = .ok (.getfield 101, 3) := dk_180 0 101 (dk_at dksJ4_put_2_0 1 rfl rfl)
theorem dJ4_put_2_4 : decode cJ4_put_2 4 = .ok (.astore 4, 2) := dk_58 4 (dk_at dksJ4_put_2_0 4 rfl rfl)
theorem dJ4_put_2_6 : decode cJ4_put_2 6 = .ok (.aload 4, 2) := dk_25 4 (dk_at dksJ4_put_2_0 6 rfl rfl)
theorem dJ4_put_2_8 : decode cJ4_put_2 8 = .ok (.ifnonnull 11, 3) := dk_199 0 11 (dk_at dksJ4_put_2_0 8 rfl rfl)
theorem dJ4_put_2_11 : decode cJ4_put_2 11 = .ok (.aload_n 0, 1) := dk_42 (dk_at dksJ4_put_2_0 11 rfl rfl)
theorem dJ4_put_2_12 : decode cJ4_put_2 12 = .ok (.aload_n 1, 1) := dk_43 (dk_at dksJ4_put_2_0 12 rfl rfl)
theorem dJ4_put_2_13 : decode cJ4_put_2 13 = .ok (.aload_n 2, 1) := dk_44 (dk_at dksJ4_put_2_0 13 rfl rfl)
theorem dJ4_put_2_14 : decode cJ4_put_2 14 = .ok (.invokevirtual 135, 3) := dk_182 0 135 (dk_at dksJ4_put_2_0 14 rfl rfl)
theorem dJ4_put_2_17 : decode cJ4_put_2 17 = .ok (.aconst_null, 1) := dk_1 (dk_at dksJ4_put_2_0 17 rfl rfl)
theorem dJ4_put_2_18 : decode cJ4_put_2 18 = .ok (.areturn, 1) := dk_176 (dk_at dksJ4_put_2_0 18 rfl rfl)
theorem dJ4_put_2_19 : decode cJ4_put_2 19 = .ok (.aload_n 0, 1) := dk_42 (dk_at dksJ4_put_2_0 19 rfl rfl)
theorem dJ4_put_2_20 : decode cJ4_put_2 20 = .ok (.getfield 16, 3) := dk_180 0 16 (dk_at dksJ4_put_2_0 20 rfl rfl)
theorem dJ4_put_2_23 : decode cJ4_put_2 23 = .ok (.astore 7, 2) := dk_58 7 (dk_at dksJ4_put_2_1 0 rfl rfl)
theorem dJ4_put_2_25 : decode cJ4_put_2 25 = .ok (.aload 7, 2) := dk_25 7 (dk_at dksJ4_put_2_1 2 rfl rfl)
theorem dJ4_put_2_27 : decode cJ4_put_2 27 = .ok (.ifnull 85, 3) := dk_198 0 85 (dk_at dksJ4_put_2_1 4 rfl rfl)
theorem dJ4_put_2_30 : decode cJ4_put_2 30 = .ok (.aload 4, 2) := dk_25 4 (dk_at dksJ4_put_2_1 7 rfl rfl)
theorem dJ4_put_2_32 : decode cJ4_put_2 32 = .ok (.astore 6, 2) := dk_58 6 (dk_at dksJ4_put_2_1 9 rfl rfl)
theorem dJ4_put_2_34 : decode cJ4_put_2 34 = .ok (.aload 7, 2) := dk_25 7 (dk_at dksJ4_put_2_1 11 rfl rfl)
theorem dJ4_put_2_36 : decode cJ4_put_2 36 = .ok (.aload_n 1, 1) := dk_43 (dk_at dksJ4_put_2_1 13 rfl rfl)
theorem dJ4_put_2_37 : decode cJ4_put_2 37 = .ok (.aload 4, 2) := dk_25 4 (dk_at dksJ4_put_2_1 14 rfl rfl)
theorem dJ4_put_2_39 : decode cJ4_put_2 39 = .ok (.getfield 105, 3) := dk_180 0 105 (dk_at dksJ4_put_2_1 16 rfl rfl)
theorem dJ4_put_2_42 : decode cJ4_put_2 42 = .ok (.invokeinterface 117 3, 5) := by decide +kernel
theorem dJ4_put_2_47 : decode cJ4_put_2 47 = .ok (.istore 5, 2) := dk_54 5 (dk_at dksJ4_put_2_2 0 rfl rfl)
theorem dJ4_put_2_49 : decode cJ4_put_2 49 = .ok (.iload 5, 2) := dk_21 5 (dk_at dksJ4_put_2_2 2 rfl rfl)
theorem dJ4_put_2_51 : decode cJ4_put_2 51 = .ok (.ifCond .ge 13, 3) := dk_156 0 13 (dk_at dksJ4_put_2_2 4 rfl rfl)
theorem dJ4_put_2_54 : decode cJ4_put_2 54 = .ok (.aload 4, 2) := dk_25 4 (dk_at dksJ4_put_2_2 7 rfl rfl)
theorem dJ4_put_2_56 : decode cJ4_put_2 56 = .ok (.getfield 111, 3) := dk_180 0 111 (dk_at dksJ4_put_2_2 9 rfl rfl)
theorem dJ4_put_2_59 : decode cJ4_put_2 59 = .ok (.astore 4, 2) := dk_58 4 (dk_at dksJ4_put_2_2 12 rfl rfl)
theorem dJ4_put_2_61 : decode cJ4_put_2 61 = .ok (.goto 43, 3) := dk_167 0 43 (dk_at dksJ4_put_2_2 14 rfl rfl)
theorem dJ4_put_2_64 : decode cJ4_put_2 64 = .ok (.iload 5, 2) := dk_21 5 (dk_at dksJ4_put_2_2 17 rfl rfl)
theorem dJ4_put_2_66 : decode cJ4_put_2 66 = .ok (.ifCond .le 13, 3) := dk_158 0 13 (dk_at dksJ4_put_2_2 19 rfl rfl)
theorem dJ4_put_2_69 : decode cJ4_put_2 69 = .ok (.aload 4, 2) := dk_25 4 (dk_at dksJ4_put_2_2 22 rfl rfl)
theorem dJ4_put_2_71 : decode cJ4_put_2 71 = .ok (.getfield 114, 3) := dk_180 0 114 (dk_at dksJ4_put_2_3 0 rfl rfl)
theorem dJ4_put_2_74 : decode cJ4_put_2 74 = .ok (.astore 4, 2) := dk_58 4 (dk_at dksJ4_put_2_3 3 rfl rfl)
theorem dJ4_put_2_76 : decode cJ4_put_2 76 = .ok (.goto 28, 3) := dk_167 0 28 (dk_at dksJ4_put_2_3 5 rfl rfl)
theorem dJ4_put_2_79 : decode cJ4_put_2 79 = .ok (.aload 4, 2) := dk_25 4 (dk_at dksJ4_put_2_3 8 rfl rfl)
theorem dJ4_put_2_81 : decode cJ4_put_2 81 = .ok (.getfield 58, 3) := dk_180 0 58 (dk_at dksJ4_put_2_3 10 rfl rfl)
theorem dJ4_put_2_84 : decode cJ4_put_2 84 = .ok (.astore 8, 2) := dk_58 8 (dk_at dksJ4_put_2_3 13 rfl rfl)
theorem dJ4_put_2_86 : decode cJ4_put_2 86 = .ok (.iload_n 3, 1) := dk_29 (dk_at dksJ4_put_2_3 15 rfl rfl)
theorem dJ4_put_2_87 : decode cJ4_put_2 87 = .ok (.ifCond .ne 8, 3) := dk_154 0 8 (dk_at dksJ4_put_2_3 16 rfl rfl)
theorem dJ4_put_2_90 : decode cJ4_put_2 90 = .ok (.aload 8, 2) := dk_25 8 (dk_at dksJ4_put_2_3 19 rfl rfl)
theorem dJ4_put_2_92 : decode cJ4_put_2 92 = .ok (.ifnonnull 9, 3) := dk_199 0 9 (dk_at dksJ4_put_2_3 21 rfl rfl)
theorem dJ4_put_2_95 : decode cJ4_put_2 95 = .ok (.aload 4, 2) := dk_25 4 (dk_at dksJ4_put_2_4 0 rfl rfl)
theorem dJ4_put_2_97 : decode cJ4_put_2 97 = .ok (.aload_n 2, 1) := dk_44 (dk_at dksJ4_put_2_4 2 rfl rfl)
theorem dJ4_put_2_98 : decode cJ4_put_2 98 = .ok (.putfield 58, 3) := dk_181 0 58 (dk_at dksJ4_put_2_4 3 rfl rfl)
theorem dJ4_put_2_101 : decode cJ4_put_2 101 = .ok (.aload 8, 2) := dk_25 8 (dk_at dksJ4_put_2_4 6 rfl rfl)
theorem dJ4_put_2_103 : decode cJ4_put_2 103 = .ok (.areturn, 1) := dk_176 (dk_at dksJ4_put_2_4 8 rfl rfl)
theorem dJ4_put_2_104 : decode cJ4_put_2 104 = .ok (.aload 4, 2) := dk_25 4 (dk_at dksJ4_put_2_4 9 rfl rfl)
theorem dJ4_put_2_106 : decode cJ4_put_2 106 = .ok (.ifnonnull (-76), 3) := dk_199 255 180 (dk_at dksJ4_put_2_4 11 rfl rfl)
theorem dJ4_put_2_109 : decode cJ4_put_2 109 = .ok (.goto 92, 3) := dk_167 0 92 (dk_at dksJ4_put_2_4 14 rfl rfl)
theorem dJ4_put_2_112 : decode cJ4_put_2 112 = .ok (.aload_n 1, 1) := dk_43 (dk_at dksJ4_put_2_4 17 rfl rfl)
theorem dJ4_put_2_113 : decode cJ4_put_2 113 = .ok (.invokestatic 95, 3) := dk_184 0 95 (dk_at dksJ4_put_2_4 18 rfl rfl)
theorem dJ4_put_2_116 : decode cJ4_put_2 116 = .ok (.pop, 1) := dk_87 (dk_at dksJ4_put_2_4 21 rfl rfl)
theorem dJ4_put_2_117 : decode cJ4_put_2 117 = .ok (.aload_n 1, 1) := dk_43 (dk_at dksJ4_put_2_4 22 rfl rfl)
theorem dJ4_put_2_118 : decode cJ4_put_2 118 = .ok (.checkcast 99, 3) := dk_192 0 99 (dk_at dksJ4_put_2_5 0 rfl rfl)
theorem dJ4_put_2_121 : decode cJ4_put_2 121 = .ok (.astore 8, 2) := dk_58 8 (dk_at dksJ4_put_2_5 3 rfl rfl)
theorem dJ4_put_2_123 : decode cJ4_put_2 123 = .ok (.aload 4, 2) := dk_25 4 (dk_at dksJ4_put_2_5 5 rfl rfl)
theorem dJ4_put_2_125 : decode cJ4_put_2 125 = .ok (.astore 6, 2) := dk_58 6 (dk_at dksJ4_put_2_5 7 rfl rfl)
theorem dJ4_put_2_127 : decode cJ4_put_2 127 = .ok (.aload 8, 2) := dk_25 8 (dk_at dksJ4_put_2_5 9 rfl rfl)
theorem dJ4_put_2_129 : decode cJ4_put_2 129 = .ok (.aload 4, 2) := dk_25 4 (dk_at dksJ4_put_2_5 11 rfl rfl)
theorem dJ4_put_2_131 : decode cJ4_put_2 131 = .ok (.getfield 105, 3) := dk_180 0 105 (dk_at dksJ4_put_2_5 13 rfl rfl)
theorem dJ4_put_2_134 : decode cJ4_put_2 134 = .ok (.invokeinterface 107 2, 5) := by decide +kernel
theorem dJ4_put_2_139 : decode cJ4_put_2 139 = .ok (.istore 5, 2) := dk_54 5 (dk_at dksJ4_put_2_5 21 rfl rfl)
theorem dJ4_put_2_141 : decode cJ4_put_2 141 = .ok (.iload 5, 2) := dk_21 5 (dk_at dksJ4_put_2_6 0 rfl rfl)
theorem dJ4_put_2_143 : decode cJ4_put_2 143 = .ok (.ifCond .ge 13, 3) := dk_156 0 13 (dk_at dksJ4_put_2_6 2 rfl rfl)
theorem dJ4_put_2_146 : decode cJ4_put_2 146 = .ok (.aload 4, 2) := dk_25 4 (dk_at dksJ4_put_2_6 5 rfl rfl)
theorem dJ4_put_2_148 : decode cJ4_put_2 148 = .ok (.getfield 111, 3) := dk_180 0 111 (dk_at dksJ4_put_2_6 7 rfl rfl)
theorem dJ4_put_2_151 : decode cJ4_put_2 151 = .ok (.astore 4, 2) := dk_58 4 (dk_at dksJ4_put_2_6 10 rfl rfl)
theorem dJ4_put_2_153 : decode cJ4_put_2 153 = .ok (.goto 43, 3) := dk_167 0 43 (dk_at dksJ4_put_2_6 12 rfl rfl)
theorem dJ4_put_2_156 : decode cJ4_put_2 156 = .ok (.iload 5, 2) := dk_21 5 (dk_at dksJ4_put_2_6 15 rfl rfl)
theorem dJ4_put_2_158 : decode cJ4_put_2 158 = .ok (.ifCond .le 13, 3) := dk_158 0 13 (dk_at dksJ4_put_2_6 17 rfl rfl)
theorem dJ4_put_2_161 : decode cJ4_put_2 161 = .ok (.aload 4, 2) := dk_25 4 (dk_at dksJ4_put_2_6 20 rfl rfl)
theorem dJ4_put_2_163 : decode cJ4_put_2 163 = .ok (.getfield 114, 3) := dk_180 0 114 (dk_at dksJ4_put_2_7 0 rfl rfl)
theorem dJ4_put_2_166 : decode cJ4_put_2 166 = .ok (.astore 4, 2) := dk_58 4 (dk_at dksJ4_put_2_7 3 rfl rfl)
theorem dJ4_put_2_168 : decode cJ4_put_2 168 = .ok (.goto 28, 3) := dk_167 0 28 (dk_at dksJ4_put_2_7 5 rfl rfl)
theorem dJ4_put_2_171 : decode cJ4_put_2 171 = .ok (.aload 4, 2) := dk_25 4 (dk_at dksJ4_put_2_7 8 rfl rfl)
theorem dJ4_put_2_173 : decode cJ4_put_2 173 = .ok (.getfield 58, 3) := dk_180 0 58 (dk_at dksJ4_put_2_7 10 rfl rfl)
theorem dJ4_put_2_176 : decode cJ4_put_2 176 = .ok (.astore 9, 2) := dk_58 9 (dk_at dksJ4_put_2_7 13 rfl rfl)
theorem dJ4_put_2_178 : decode cJ4_put_2 178 = .ok (.iload_n 3, 1) := dk_29 (dk_at dksJ4_put_2_7 15 rfl rfl)
theorem dJ4_put_2_179 : decode cJ4_put_2 179 = .ok (.ifCond .ne 8, 3) := dk_154 0 8 (dk_at dksJ4_put_2_7 16 rfl rfl)
theorem dJ4_put_2_182 : decode cJ4_put_2 182 = .ok (.aload 9, 2) := dk_25 9 (dk_at dksJ4_put_2_7 19 rfl rfl)
theorem dJ4_put_2_184 : decode cJ4_put_2 184 = .ok (.ifnonnull 9, 3) := dk_199 0 9 (dk_at dksJ4_put_2_7 21 rfl rfl)
theorem dJ4_put_2_187 : decode cJ4_put_2 187 = .ok (.aload 4, 2) := dk_25 4 (dk_at dksJ4_put_2_8 0 rfl rfl)
theorem dJ4_put_2_189 : decode cJ4_put_2 189 = .ok (.aload_n 2, 1) := dk_44 (dk_at dksJ4_put_2_8 2 rfl rfl)
theorem dJ4_put_2_190 : decode cJ4_put_2 190 = .ok (.putfield 58, 3) := dk_181 0 58 (dk_at dksJ4_put_2_8 3 rfl rfl)
theorem dJ4_put_2_193 : decode cJ4_put_2 193 = .ok (.aload 9, 2) := dk_25 9 (dk_at dksJ4_put_2_8 6 rfl rfl)
theorem dJ4_put_2_195 : decode cJ4_put_2 195 = .ok (.areturn, 1) := dk_176 (dk_at dksJ4_put_2_8 8 rfl rfl)
theorem dJ4_put_2_196 : decode cJ4_put_2 196 = .ok (.aload 4, 2) := dk_25 4 (dk_at dksJ4_put_2_8 9 rfl rfl)
theorem dJ4_put_2_198 : decode cJ4_put_2 198 = .ok (.ifnonnull (-75), 3) := dk_199 255 181 (dk_at dksJ4_put_2_8 11 rfl rfl)
theorem dJ4_put_2_201 : decode cJ4_put_2 201 = .ok (.aload_n 0, 1) := dk_42 (dk_at dksJ4_put_2_8 14 rfl rfl)
theorem dJ4_put_2_202 : decode cJ4_put_2 202 = .ok (.aload_n 1, 1) := dk_43 (dk_at dksJ4_put_2_8 15 rfl rfl)
theorem dJ4_put_2_203 : decode cJ4_put_2 203 = .ok (.aload_n 2, 1) := dk_44 (dk_at dksJ4_put_2_8 16 rfl rfl)
theorem dJ4_put_2_204 : decode cJ4_put_2 204 = .ok (.aload 6, 2) := dk_25 6 (dk_at dksJ4_put_2_8 17 rfl rfl)
theorem dJ4_put_2_206 : decode cJ4_put_2 206 = .ok (.iload 5, 2) := dk_21 5 (dk_at dksJ4_put_2_8 19 rfl rfl)
theorem dJ4_put_2_208 : decode cJ4_put_2 208 = .ok (.ifCond .ge 7, 3) := dk_156 0 7 (dk_at dksJ4_put_2_8 21 rfl rfl)
theorem dJ4_put_2_211 : decode cJ4_put_2 211 = .ok (.iconst 1, 1) := dk_4 (dk_at dksJ4_put_2_9 0 rfl rfl)
theorem dJ4_put_2_212 : decode cJ4_put_2 212 = .ok (.goto 4, 3) := dk_167 0 4 (dk_at dksJ4_put_2_9 1 rfl rfl)
theorem dJ4_put_2_215 : decode cJ4_put_2 215 = .ok (.iconst 0, 1) := dk_3 (dk_at dksJ4_put_2_9 4 rfl rfl)
theorem dJ4_put_2_216 : decode cJ4_put_2 216 = .ok (.invokevirtual 139, 3) := dk_182 0 139 (dk_at dksJ4_put_2_9 5 rfl rfl)
theorem dJ4_put_2_219 : decode cJ4_put_2 219 = .ok (.aconst_null, 1) := dk_1 (dk_at dksJ4_put_2_9 8 rfl rfl)
theorem dJ4_put_2_220 : decode cJ4_put_2 220 = .ok (.areturn, 1) := dk_176 (dk_at dksJ4_put_2_9 9 rfl rfl)
abbrev cJ4_addEntryToEmptyMap : ByteArray := prog_54_method_30_code
def yJ4_addEntryToEmptyMap : MethodName := ⟨RJ4, "addEntryToEmptyMap", "(Ljava/lang/Object;Ljava/lang/Object;)V"⟩
def dkwJ4_addEntryToEmptyMap_1 : List UInt8 := [181, 0, 7, 42, 89, 180, 0, 13, 4, 96, 181, 0, 13, 177]
abbrev dktJ4_addEntryToEmptyMap_1 : List UInt8 := dkwJ4_addEntryToEmptyMap_1 ++ []
def dkwJ4_addEntryToEmptyMap_0 : List UInt8 := [42, 43, 43, 182, 0, 123, 87, 42, 187, 0, 59, 89, 43, 44, 1, 183, 0, 167, 181, 0, 101, 42, 4]
abbrev dktJ4_addEntryToEmptyMap_0 : List UInt8 := dkwJ4_addEntryToEmptyMap_0 ++ dktJ4_addEntryToEmptyMap_1
theorem dksJ4_addEntryToEmptyMap_0 : cJ4_addEntryToEmptyMap.data.toList.drop 0 = dktJ4_addEntryToEmptyMap_0 := by decide +kernel
theorem dksJ4_addEntryToEmptyMap_1 : cJ4_addEntryToEmptyMap.data.toList.drop 23 = dktJ4_addEntryToEmptyMap_1 := dk_seg dksJ4_addEntryToEmptyMap_0 23 rfl rfl
theorem dJ4_addEntryToEmptyMap_0 : decode cJ4_addEntryToEmptyMap 0 = .ok (.aload_n 0, 1) := dk_42 (dk_at dksJ4_addEntryToEmptyMap_0 0 rfl rfl)
theorem dJ4_addEntryToEmptyMap_1 : decode cJ4_addEntryToEmptyMap 1 = .ok (.aload_n 1, 1) := dk_43 (dk_at dksJ4_addEntryToEmptyMap_0 1 rfl rfl)
theorem dJ4_addEntryToEmptyMap_2 : decode cJ4_addEntryToEmptyMap 2 = .ok (.aload_n 1, 1) := dk_43 (dk_at dksJ4_addEntryToEmptyMap_0 2 rfl rfl)
theorem dJ4_addEntryToEmptyMap_3 : decode cJ4_addEntryToEmptyMap 3 = .ok (.invokevirtual 123, 3) := dk_182 0 123 (dk_at dksJ4_addEntryToEmptyMap_0 3 rfl rfl)
theorem dJ4_addEntryToEmptyMap_6 : decode cJ4_addEntryToEmptyMap 6 = .ok (.pop, 1) := dk_87 (dk_at dksJ4_addEntryToEmptyMap_0 6 rfl rfl)
theorem dJ4_addEntryToEmptyMap_7 : decode cJ4_addEntryToEmptyMap 7 = .ok (.aload_n 0, 1) := dk_42 (dk_at dksJ4_addEntryToEmptyMap_0 7 rfl rfl)
theorem dJ4_addEntryToEmptyMap_8 : decode cJ4_addEntryToEmptyMap 8 = .ok (.new 59, 3) := dk_187 0 59 (dk_at dksJ4_addEntryToEmptyMap_0 8 rfl rfl)
theorem dJ4_addEntryToEmptyMap_11 : decode cJ4_addEntryToEmptyMap 11 = .ok (.dup, 1) := dk_89 (dk_at dksJ4_addEntryToEmptyMap_0 11 rfl rfl)
theorem dJ4_addEntryToEmptyMap_12 : decode cJ4_addEntryToEmptyMap 12 = .ok (.aload_n 1, 1) := dk_43 (dk_at dksJ4_addEntryToEmptyMap_0 12 rfl rfl)
theorem dJ4_addEntryToEmptyMap_13 : decode cJ4_addEntryToEmptyMap 13 = .ok (.aload_n 2, 1) := dk_44 (dk_at dksJ4_addEntryToEmptyMap_0 13 rfl rfl)
theorem dJ4_addEntryToEmptyMap_14 : decode cJ4_addEntryToEmptyMap 14 = .ok (.aconst_null, 1) := dk_1 (dk_at dksJ4_addEntryToEmptyMap_0 14 rfl rfl)
theorem dJ4_addEntryToEmptyMap_15 : decode cJ4_addEntryToEmptyMap 15 = .ok (.invokespecial 167, 3) := dk_183 0 167 (dk_at dksJ4_addEntryToEmptyMap_0 15 rfl rfl)
theorem dJ4_addEntryToEmptyMap_18 : decode cJ4_addEntryToEmptyMap 18 = .ok (.putfield 101, 3) := dk_181 0 101 (dk_at dksJ4_addEntryToEmptyMap_0 18 rfl rfl)
theorem dJ4_addEntryToEmptyMap_21 : decode cJ4_addEntryToEmptyMap 21 = .ok (.aload_n 0, 1) := dk_42 (dk_at dksJ4_addEntryToEmptyMap_0 21 rfl rfl)
theorem dJ4_addEntryToEmptyMap_22 : decode cJ4_addEntryToEmptyMap 22 = .ok (.iconst 1, 1) := dk_4 (dk_at dksJ4_addEntryToEmptyMap_0 22 rfl rfl)
theorem dJ4_addEntryToEmptyMap_23 : decode cJ4_addEntryToEmptyMap 23 = .ok (.putfield 7, 3) := dk_181 0 7 (dk_at dksJ4_addEntryToEmptyMap_1 0 rfl rfl)
theorem dJ4_addEntryToEmptyMap_26 : decode cJ4_addEntryToEmptyMap 26 = .ok (.aload_n 0, 1) := dk_42 (dk_at dksJ4_addEntryToEmptyMap_1 3 rfl rfl)
theorem dJ4_addEntryToEmptyMap_27 : decode cJ4_addEntryToEmptyMap 27 = .ok (.dup, 1) := dk_89 (dk_at dksJ4_addEntryToEmptyMap_1 4 rfl rfl)
theorem dJ4_addEntryToEmptyMap_28 : decode cJ4_addEntryToEmptyMap 28 = .ok (.getfield 13, 3) := dk_180 0 13 (dk_at dksJ4_addEntryToEmptyMap_1 5 rfl rfl)
theorem dJ4_addEntryToEmptyMap_31 : decode cJ4_addEntryToEmptyMap 31 = .ok (.iconst 1, 1) := dk_4 (dk_at dksJ4_addEntryToEmptyMap_1 8 rfl rfl)
theorem dJ4_addEntryToEmptyMap_32 : decode cJ4_addEntryToEmptyMap 32 = .ok (.iadd, 1) := dk_96 (dk_at dksJ4_addEntryToEmptyMap_1 9 rfl rfl)
theorem dJ4_addEntryToEmptyMap_33 : decode cJ4_addEntryToEmptyMap 33 = .ok (.putfield 13, 3) := dk_181 0 13 (dk_at dksJ4_addEntryToEmptyMap_1 10 rfl rfl)
theorem dJ4_addEntryToEmptyMap_36 : decode cJ4_addEntryToEmptyMap 36 = .ok (.return_, 1) := dk_177 (dk_at dksJ4_addEntryToEmptyMap_1 13 rfl rfl)
abbrev cJ4_compare : ByteArray := prog_54_method_67_code
def yJ4_compare : MethodName := ⟨RJ4, "compare", "(Ljava/lang/Object;Ljava/lang/Object;)I"⟩
def dkwJ4_compare_1 : List UInt8 := [43, 44, 185, 0, 117, 3, 0, 172]
abbrev dktJ4_compare_1 : List UInt8 := dkwJ4_compare_1 ++ []
def dkwJ4_compare_0 : List UInt8 := [42, 180, 0, 16, 199, 0, 16, 43, 192, 0, 99, 44, 185, 0, 107, 2, 0, 167, 0, 14, 42, 180, 0, 16]
abbrev dktJ4_compare_0 : List UInt8 := dkwJ4_compare_0 ++ dktJ4_compare_1
theorem dksJ4_compare_0 : cJ4_compare.data.toList.drop 0 = dktJ4_compare_0 := by decide +kernel
theorem dksJ4_compare_1 : cJ4_compare.data.toList.drop 24 = dktJ4_compare_1 := dk_seg dksJ4_compare_0 24 rfl rfl
theorem dJ4_compare_0 : decode cJ4_compare 0 = .ok (.aload_n 0, 1) := dk_42 (dk_at dksJ4_compare_0 0 rfl rfl)
theorem dJ4_compare_1 : decode cJ4_compare 1 = .ok (.getfield 16, 3) := dk_180 0 16 (dk_at dksJ4_compare_0 1 rfl rfl)
theorem dJ4_compare_4 : decode cJ4_compare 4 = .ok (.ifnonnull 16, 3) := dk_199 0 16 (dk_at dksJ4_compare_0 4 rfl rfl)
theorem dJ4_compare_7 : decode cJ4_compare 7 = .ok (.aload_n 1, 1) := dk_43 (dk_at dksJ4_compare_0 7 rfl rfl)
theorem dJ4_compare_8 : decode cJ4_compare 8 = .ok (.checkcast 99, 3) := dk_192 0 99 (dk_at dksJ4_compare_0 8 rfl rfl)
theorem dJ4_compare_11 : decode cJ4_compare 11 = .ok (.aload_n 2, 1) := dk_44 (dk_at dksJ4_compare_0 11 rfl rfl)
theorem dJ4_compare_12 : decode cJ4_compare 12 = .ok (.invokeinterface 107 2, 5) := by decide +kernel
theorem dJ4_compare_17 : decode cJ4_compare 17 = .ok (.goto 14, 3) := dk_167 0 14 (dk_at dksJ4_compare_0 17 rfl rfl)
theorem dJ4_compare_20 : decode cJ4_compare 20 = .ok (.aload_n 0, 1) := dk_42 (dk_at dksJ4_compare_0 20 rfl rfl)
theorem dJ4_compare_21 : decode cJ4_compare 21 = .ok (.getfield 16, 3) := dk_180 0 16 (dk_at dksJ4_compare_0 21 rfl rfl)
theorem dJ4_compare_24 : decode cJ4_compare 24 = .ok (.aload_n 1, 1) := dk_43 (dk_at dksJ4_compare_1 0 rfl rfl)
theorem dJ4_compare_25 : decode cJ4_compare 25 = .ok (.aload_n 2, 1) := dk_44 (dk_at dksJ4_compare_1 1 rfl rfl)
theorem dJ4_compare_26 : decode cJ4_compare 26 = .ok (.invokeinterface 117 3, 5) := by decide +kernel
theorem dJ4_compare_31 : decode cJ4_compare 31 = .ok (.ireturn, 1) := dk_172 (dk_at dksJ4_compare_1 7 rfl rfl)
abbrev cJ4_addEntry : ByteArray := prog_54_method_29_code
def yJ4_addEntry : MethodName := ⟨RJ4, "addEntry", "(Ljava/lang/Object;Ljava/lang/Object;Ljava/util/TreeMap$Entry;Z)V"⟩
def dkwJ4_addEntry_2 : List UInt8 := [181, 0, 7, 42, 89, 180, 0, 13, 4, 96, 181, 0, 13, 177]
abbrev dktJ4_addEntry_2 : List UInt8 := dkwJ4_addEntry_2 ++ []
def dkwJ4_addEntry_1 : List UInt8 := [167, 0, 9, 45, 25, 5, 181, 0, 114, 42, 25, 5, 182, 0, 170, 42, 89, 180, 0, 7, 4, 96]
abbrev dktJ4_addEntry_1 : List UInt8 := dkwJ4_addEntry_1 ++ dktJ4_addEntry_2
def dkwJ4_addEntry_0 : List UInt8 := [187, 0, 59, 89, 43, 44, 45, 183, 0, 167, 58, 5, 21, 4, 153, 0, 12, 45, 25, 5, 181, 0, 111]
abbrev dktJ4_addEntry_0 : List UInt8 := dkwJ4_addEntry_0 ++ dktJ4_addEntry_1
theorem dksJ4_addEntry_0 : cJ4_addEntry.data.toList.drop 0 = dktJ4_addEntry_0 := by decide +kernel
theorem dksJ4_addEntry_1 : cJ4_addEntry.data.toList.drop 23 = dktJ4_addEntry_1 := dk_seg dksJ4_addEntry_0 23 rfl rfl
theorem dksJ4_addEntry_2 : cJ4_addEntry.data.toList.drop 45 = dktJ4_addEntry_2 := dk_seg dksJ4_addEntry_1 22 rfl rfl
theorem dJ4_addEntry_0 : decode cJ4_addEntry 0 = .ok (.new 59, 3) := dk_187 0 59 (dk_at dksJ4_addEntry_0 0 rfl rfl)
theorem dJ4_addEntry_3 : decode cJ4_addEntry 3 = .ok (.dup, 1) := dk_89 (dk_at dksJ4_addEntry_0 3 rfl rfl)
theorem dJ4_addEntry_4 : decode cJ4_addEntry 4 = .ok (.aload_n 1, 1) := dk_43 (dk_at dksJ4_addEntry_0 4 rfl rfl)
theorem dJ4_addEntry_5 : decode cJ4_addEntry 5 = .ok (.aload_n 2, 1) := dk_44 (dk_at dksJ4_addEntry_0 5 rfl rfl)
theorem dJ4_addEntry_6 : decode cJ4_addEntry 6 = .ok (.aload_n 3, 1) := dk_45 (dk_at dksJ4_addEntry_0 6 rfl rfl)
theorem dJ4_addEntry_7 : decode cJ4_addEntry 7 = .ok (.invokespecial 167, 3) := dk_183 0 167 (dk_at dksJ4_addEntry_0 7 rfl rfl)
theorem dJ4_addEntry_10 : decode cJ4_addEntry 10 = .ok (.astore 5, 2) := dk_58 5 (dk_at dksJ4_addEntry_0 10 rfl rfl)
theorem dJ4_addEntry_12 : decode cJ4_addEntry 12 = .ok (.iload 4, 2) := dk_21 4 (dk_at dksJ4_addEntry_0 12 rfl rfl)
theorem dJ4_addEntry_14 : decode cJ4_addEntry 14 = .ok (.ifCond .eq 12, 3) := dk_153 0 12 (dk_at dksJ4_addEntry_0 14 rfl rfl)
theorem dJ4_addEntry_17 : decode cJ4_addEntry 17 = .ok (.aload_n 3, 1) := dk_45 (dk_at dksJ4_addEntry_0 17 rfl rfl)
theorem dJ4_addEntry_18 : decode cJ4_addEntry 18 = .ok (.aload 5, 2) := dk_25 5 (dk_at dksJ4_addEntry_0 18 rfl rfl)
theorem dJ4_addEntry_20 : decode cJ4_addEntry 20 = .ok (.putfield 111, 3) := dk_181 0 111 (dk_at dksJ4_addEntry_0 20 rfl rfl)
theorem dJ4_addEntry_23 : decode cJ4_addEntry 23 = .ok (.goto 9, 3) := dk_167 0 9 (dk_at dksJ4_addEntry_1 0 rfl rfl)
theorem dJ4_addEntry_26 : decode cJ4_addEntry 26 = .ok (.aload_n 3, 1) := dk_45 (dk_at dksJ4_addEntry_1 3 rfl rfl)
theorem dJ4_addEntry_27 : decode cJ4_addEntry 27 = .ok (.aload 5, 2) := dk_25 5 (dk_at dksJ4_addEntry_1 4 rfl rfl)
theorem dJ4_addEntry_29 : decode cJ4_addEntry 29 = .ok (.putfield 114, 3) := dk_181 0 114 (dk_at dksJ4_addEntry_1 6 rfl rfl)
theorem dJ4_addEntry_32 : decode cJ4_addEntry 32 = .ok (.aload_n 0, 1) := dk_42 (dk_at dksJ4_addEntry_1 9 rfl rfl)
theorem dJ4_addEntry_33 : decode cJ4_addEntry 33 = .ok (.aload 5, 2) := dk_25 5 (dk_at dksJ4_addEntry_1 10 rfl rfl)
theorem dJ4_addEntry_35 : decode cJ4_addEntry 35 = .ok (.invokevirtual 170, 3) := dk_182 0 170 (dk_at dksJ4_addEntry_1 12 rfl rfl)
theorem dJ4_addEntry_38 : decode cJ4_addEntry 38 = .ok (.aload_n 0, 1) := dk_42 (dk_at dksJ4_addEntry_1 15 rfl rfl)
theorem dJ4_addEntry_39 : decode cJ4_addEntry 39 = .ok (.dup, 1) := dk_89 (dk_at dksJ4_addEntry_1 16 rfl rfl)
theorem dJ4_addEntry_40 : decode cJ4_addEntry 40 = .ok (.getfield 7, 3) := dk_180 0 7 (dk_at dksJ4_addEntry_1 17 rfl rfl)
theorem dJ4_addEntry_43 : decode cJ4_addEntry 43 = .ok (.iconst 1, 1) := dk_4 (dk_at dksJ4_addEntry_1 20 rfl rfl)
theorem dJ4_addEntry_44 : decode cJ4_addEntry 44 = .ok (.iadd, 1) := dk_96 (dk_at dksJ4_addEntry_1 21 rfl rfl)
theorem dJ4_addEntry_45 : decode cJ4_addEntry 45 = .ok (.putfield 7, 3) := dk_181 0 7 (dk_at dksJ4_addEntry_2 0 rfl rfl)
theorem dJ4_addEntry_48 : decode cJ4_addEntry 48 = .ok (.aload_n 0, 1) := dk_42 (dk_at dksJ4_addEntry_2 3 rfl rfl)
theorem dJ4_addEntry_49 : decode cJ4_addEntry 49 = .ok (.dup, 1) := dk_89 (dk_at dksJ4_addEntry_2 4 rfl rfl)
theorem dJ4_addEntry_50 : decode cJ4_addEntry 50 = .ok (.getfield 13, 3) := dk_180 0 13 (dk_at dksJ4_addEntry_2 5 rfl rfl)
theorem dJ4_addEntry_53 : decode cJ4_addEntry 53 = .ok (.iconst 1, 1) := dk_4 (dk_at dksJ4_addEntry_2 8 rfl rfl)
theorem dJ4_addEntry_54 : decode cJ4_addEntry 54 = .ok (.iadd, 1) := dk_96 (dk_at dksJ4_addEntry_2 9 rfl rfl)
theorem dJ4_addEntry_55 : decode cJ4_addEntry 55 = .ok (.putfield 13, 3) := dk_181 0 13 (dk_at dksJ4_addEntry_2 10 rfl rfl)
theorem dJ4_addEntry_58 : decode cJ4_addEntry 58 = .ok (.return_, 1) := dk_177 (dk_at dksJ4_addEntry_2 13 rfl rfl)
abbrev cJ4_fixAfterInsertion : ByteArray := prog_54_method_83_code
def yJ4_fixAfterInsertion : MethodName := ⟨RJ4, "fixAfterInsertion", "(Ljava/util/TreeMap$Entry;)V"⟩
def dkwJ4_fixAfterInsertion_11 : List UInt8 := [42, 180, 0, 101, 4, 181, 1, 34, 177]
abbrev dktJ4_fixAfterInsertion_11 : List UInt8 := dkwJ4_fixAfterInsertion_11 ++ []
def dkwJ4_fixAfterInsertion_10 : List UInt8 := [184, 1, 38, 184, 1, 38, 3, 184, 1, 51, 42, 43, 184, 1, 38, 184, 1, 38, 182, 1, 55, 167, 255, 6]
abbrev dktJ4_fixAfterInsertion_10 : List UInt8 := dkwJ4_fixAfterInsertion_10 ++ dktJ4_fixAfterInsertion_11
def dkwJ4_fixAfterInsertion_9 : List UInt8 := [166, 0, 13, 43, 184, 1, 38, 76, 42, 43, 182, 1, 58, 43, 184, 1, 38, 4, 184, 1, 51, 43]
abbrev dktJ4_fixAfterInsertion_9 : List UInt8 := dkwJ4_fixAfterInsertion_9 ++ dktJ4_fixAfterInsertion_10
def dkwJ4_fixAfterInsertion_8 : List UInt8 := [184, 1, 51, 43, 184, 1, 38, 184, 1, 38, 76, 167, 0, 54, 43, 43, 184, 1, 38, 184, 1, 41]
abbrev dktJ4_fixAfterInsertion_8 : List UInt8 := dkwJ4_fixAfterInsertion_8 ++ dktJ4_fixAfterInsertion_9
def dkwJ4_fixAfterInsertion_7 : List UInt8 := [154, 0, 38, 43, 184, 1, 38, 4, 184, 1, 51, 44, 4, 184, 1, 51, 43, 184, 1, 38, 184, 1, 38, 3]
abbrev dktJ4_fixAfterInsertion_7 : List UInt8 := dkwJ4_fixAfterInsertion_7 ++ dktJ4_fixAfterInsertion_8
def dkwJ4_fixAfterInsertion_6 : List UInt8 := [184, 1, 38, 182, 1, 58, 167, 255, 113, 43, 184, 1, 38, 184, 1, 38, 184, 1, 41, 77, 44, 184, 1, 47]
abbrev dktJ4_fixAfterInsertion_6 : List UInt8 := dkwJ4_fixAfterInsertion_6 ++ dktJ4_fixAfterInsertion_7
def dkwJ4_fixAfterInsertion_5 : List UInt8 := [43, 184, 1, 38, 4, 184, 1, 51, 43, 184, 1, 38, 184, 1, 38, 3, 184, 1, 51, 42, 43, 184, 1, 38]
abbrev dktJ4_fixAfterInsertion_5 : List UInt8 := dkwJ4_fixAfterInsertion_5 ++ dktJ4_fixAfterInsertion_6
def dkwJ4_fixAfterInsertion_4 : List UInt8 := [167, 0, 54, 43, 43, 184, 1, 38, 184, 1, 44, 166, 0, 13, 43, 184, 1, 38, 76, 42, 43, 182, 1, 55]
abbrev dktJ4_fixAfterInsertion_4 : List UInt8 := dkwJ4_fixAfterInsertion_4 ++ dktJ4_fixAfterInsertion_5
def dkwJ4_fixAfterInsertion_3 : List UInt8 := [184, 1, 51, 43, 184, 1, 38, 184, 1, 38, 3, 184, 1, 51, 43, 184, 1, 38, 184, 1, 38, 76]
abbrev dktJ4_fixAfterInsertion_3 : List UInt8 := dkwJ4_fixAfterInsertion_3 ++ dktJ4_fixAfterInsertion_4
def dkwJ4_fixAfterInsertion_2 : List UInt8 := [184, 1, 38, 184, 1, 44, 77, 44, 184, 1, 47, 154, 0, 38, 43, 184, 1, 38, 4, 184, 1, 51, 44, 4]
abbrev dktJ4_fixAfterInsertion_2 : List UInt8 := dkwJ4_fixAfterInsertion_2 ++ dktJ4_fixAfterInsertion_3
def dkwJ4_fixAfterInsertion_1 : List UInt8 := [154, 0, 234, 43, 184, 1, 38, 43, 184, 1, 38, 184, 1, 38, 184, 1, 41, 166, 0, 110, 43, 184, 1, 38]
abbrev dktJ4_fixAfterInsertion_1 : List UInt8 := dkwJ4_fixAfterInsertion_1 ++ dktJ4_fixAfterInsertion_2
def dkwJ4_fixAfterInsertion_0 : List UInt8 := [43, 3, 181, 1, 34, 43, 198, 0, 252, 43, 42, 180, 0, 101, 165, 0, 244, 43, 180, 0, 124, 180, 1, 34]
abbrev dktJ4_fixAfterInsertion_0 : List UInt8 := dkwJ4_fixAfterInsertion_0 ++ dktJ4_fixAfterInsertion_1
theorem dksJ4_fixAfterInsertion_0 : cJ4_fixAfterInsertion.data.toList.drop 0 = dktJ4_fixAfterInsertion_0 := by decide +kernel
theorem dksJ4_fixAfterInsertion_1 : cJ4_fixAfterInsertion.data.toList.drop 24 = dktJ4_fixAfterInsertion_1 := dk_seg dksJ4_fixAfterInsertion_0 24 rfl rfl
theorem dksJ4_fixAfterInsertion_2 : cJ4_fixAfterInsertion.data.toList.drop 48 = dktJ4_fixAfterInsertion_2 := dk_seg dksJ4_fixAfterInsertion_1 24 rfl rfl
theorem dksJ4_fixAfterInsertion_3 : cJ4_fixAfterInsertion.data.toList.drop 72 = dktJ4_fixAfterInsertion_3 := dk_seg dksJ4_fixAfterInsertion_2 24 rfl rfl
theorem dksJ4_fixAfterInsertion_4 : cJ4_fixAfterInsertion.data.toList.drop 94 = dktJ4_fixAfterInsertion_4 := dk_seg dksJ4_fixAfterInsertion_3 22 rfl rfl
theorem dksJ4_fixAfterInsertion_5 : cJ4_fixAfterInsertion.data.toList.drop 118 = dktJ4_fixAfterInsertion_5 := dk_seg dksJ4_fixAfterInsertion_4 24 rfl rfl
theorem dksJ4_fixAfterInsertion_6 : cJ4_fixAfterInsertion.data.toList.drop 142 = dktJ4_fixAfterInsertion_6 := dk_seg dksJ4_fixAfterInsertion_5 24 rfl rfl
theorem dksJ4_fixAfterInsertion_7 : cJ4_fixAfterInsertion.data.toList.drop 166 = dktJ4_fixAfterInsertion_7 := dk_seg dksJ4_fixAfterInsertion_6 24 rfl rfl
theorem dksJ4_fixAfterInsertion_8 : cJ4_fixAfterInsertion.data.toList.drop 190 = dktJ4_fixAfterInsertion_8 := dk_seg dksJ4_fixAfterInsertion_7 24 rfl rfl
theorem dksJ4_fixAfterInsertion_9 : cJ4_fixAfterInsertion.data.toList.drop 212 = dktJ4_fixAfterInsertion_9 := dk_seg dksJ4_fixAfterInsertion_8 22 rfl rfl
theorem dksJ4_fixAfterInsertion_10 : cJ4_fixAfterInsertion.data.toList.drop 234 = dktJ4_fixAfterInsertion_10 := dk_seg dksJ4_fixAfterInsertion_9 22 rfl rfl
theorem dksJ4_fixAfterInsertion_11 : cJ4_fixAfterInsertion.data.toList.drop 258 = dktJ4_fixAfterInsertion_11 := dk_seg dksJ4_fixAfterInsertion_10 24 rfl rfl
theorem dJ4_fixAfterInsertion_0 : decode cJ4_fixAfterInsertion 0 = .ok (.aload_n 1, 1) := dk_43 (dk_at dksJ4_fixAfterInsertion_0 0 rfl rfl)
theorem dJ4_fixAfterInsertion_1 : decode cJ4_fixAfterInsertion 1 = .ok (.iconst 0, 1) := dk_3 (dk_at dksJ4_fixAfterInsertion_0 1 rfl rfl)
theorem dJ4_fixAfterInsertion_2 : decode cJ4_fixAfterInsertion 2 = .ok (.putfield 290, 3) := dk_181 1 34 (dk_at dksJ4_fixAfterInsertion_0 2 rfl rfl)
theorem dJ4_fixAfterInsertion_5 : decode cJ4_fixAfterInsertion 5 = .ok (.aload_n 1, 1) := dk_43 (dk_at dksJ4_fixAfterInsertion_0 5 rfl rfl)
theorem dJ4_fixAfterInsertion_6 : decode cJ4_fixAfterInsertion 6 = .ok (.ifnull 252, 3) := dk_198 0 252 (dk_at dksJ4_fixAfterInsertion_0 6 rfl rfl)
theorem dJ4_fixAfterInsertion_9 : decode cJ4_fixAfterInsertion 9 = .ok (.aload_n 1, 1) := dk_43 (dk_at dksJ4_fixAfterInsertion_0 9 rfl rfl)
theorem dJ4_fixAfterInsertion_10 : decode cJ4_fixAfterInsertion 10 = .ok (.aload_n 0, 1) := dk_42 (dk_at dksJ4_fixAfterInsertion_0 10 rfl rfl)
theorem dJ4_fixAfterInsertion_11 : decode cJ4_fixAfterInsertion 11 = .ok (.getfield 101, 3) := dk_180 0 101 (dk_at dksJ4_fixAfterInsertion_0 11 rfl rfl)
theorem dJ4_fixAfterInsertion_14 : decode cJ4_fixAfterInsertion 14 = .ok (.if_acmp .eq 244, 3) := dk_165 0 244 (dk_at dksJ4_fixAfterInsertion_0 14 rfl rfl)
theorem dJ4_fixAfterInsertion_17 : decode cJ4_fixAfterInsertion 17 = .ok (.aload_n 1, 1) := dk_43 (dk_at dksJ4_fixAfterInsertion_0 17 rfl rfl)
theorem dJ4_fixAfterInsertion_18 : decode cJ4_fixAfterInsertion 18 = .ok (.getfield 124, 3) := dk_180 0 124 (dk_at dksJ4_fixAfterInsertion_0 18 rfl rfl)
theorem dJ4_fixAfterInsertion_21 : decode cJ4_fixAfterInsertion 21 = .ok (.getfield 290, 3) := dk_180 1 34 (dk_at dksJ4_fixAfterInsertion_0 21 rfl rfl)
theorem dJ4_fixAfterInsertion_24 : decode cJ4_fixAfterInsertion 24 = .ok (.ifCond .ne 234, 3) := dk_154 0 234 (dk_at dksJ4_fixAfterInsertion_1 0 rfl rfl)
theorem dJ4_fixAfterInsertion_27 : decode cJ4_fixAfterInsertion 27 = .ok (.aload_n 1, 1) := dk_43 (dk_at dksJ4_fixAfterInsertion_1 3 rfl rfl)
theorem dJ4_fixAfterInsertion_28 : decode cJ4_fixAfterInsertion 28 = .ok (.invokestatic 294, 3) := dk_184 1 38 (dk_at dksJ4_fixAfterInsertion_1 4 rfl rfl)
theorem dJ4_fixAfterInsertion_31 : decode cJ4_fixAfterInsertion 31 = .ok (.aload_n 1, 1) := dk_43 (dk_at dksJ4_fixAfterInsertion_1 7 rfl rfl)
theorem dJ4_fixAfterInsertion_32 : decode cJ4_fixAfterInsertion 32 = .ok (.invokestatic 294, 3) := dk_184 1 38 (dk_at dksJ4_fixAfterInsertion_1 8 rfl rfl)
theorem dJ4_fixAfterInsertion_35 : decode cJ4_fixAfterInsertion 35 = .ok (.invokestatic 294, 3) := dk_184 1 38 (dk_at dksJ4_fixAfterInsertion_1 11 rfl rfl)
theorem dJ4_fixAfterInsertion_38 : decode cJ4_fixAfterInsertion 38 = .ok (.invokestatic 297, 3) := dk_184 1 41 (dk_at dksJ4_fixAfterInsertion_1 14 rfl rfl)
theorem dJ4_fixAfterInsertion_41 : decode cJ4_fixAfterInsertion 41 = .ok (.if_acmp .ne 110, 3) := dk_166 0 110 (dk_at dksJ4_fixAfterInsertion_1 17 rfl rfl)
theorem dJ4_fixAfterInsertion_44 : decode cJ4_fixAfterInsertion 44 = .ok (.aload_n 1, 1) := dk_43 (dk_at dksJ4_fixAfterInsertion_1 20 rfl rfl)
theorem dJ4_fixAfterInsertion_45 : decode cJ4_fixAfterInsertion 45 = .ok (.invokestatic 294, 3) := dk_184 1 38 (dk_at dksJ4_fixAfterInsertion_1 21 rfl rfl)
theorem dJ4_fixAfterInsertion_48 : decode cJ4_fixAfterInsertion 48 = .ok (.invokestatic 294, 3) := dk_184 1 38 (dk_at dksJ4_fixAfterInsertion_2 0 rfl rfl)
theorem dJ4_fixAfterInsertion_51 : decode cJ4_fixAfterInsertion 51 = .ok (.invokestatic 300, 3) := dk_184 1 44 (dk_at dksJ4_fixAfterInsertion_2 3 rfl rfl)
theorem dJ4_fixAfterInsertion_54 : decode cJ4_fixAfterInsertion 54 = .ok (.astore_n 2, 1) := dk_77 (dk_at dksJ4_fixAfterInsertion_2 6 rfl rfl)
theorem dJ4_fixAfterInsertion_55 : decode cJ4_fixAfterInsertion 55 = .ok (.aload_n 2, 1) := dk_44 (dk_at dksJ4_fixAfterInsertion_2 7 rfl rfl)
theorem dJ4_fixAfterInsertion_56 : decode cJ4_fixAfterInsertion 56 = .ok (.invokestatic 303, 3) := dk_184 1 47 (dk_at dksJ4_fixAfterInsertion_2 8 rfl rfl)
theorem dJ4_fixAfterInsertion_59 : decode cJ4_fixAfterInsertion 59 = .ok (.ifCond .ne 38, 3) := dk_154 0 38 (dk_at dksJ4_fixAfterInsertion_2 11 rfl rfl)
theorem dJ4_fixAfterInsertion_62 : decode cJ4_fixAfterInsertion 62 = .ok (.aload_n 1, 1) := dk_43 (dk_at dksJ4_fixAfterInsertion_2 14 rfl rfl)
theorem dJ4_fixAfterInsertion_63 : decode cJ4_fixAfterInsertion 63 = .ok (.invokestatic 294, 3) := dk_184 1 38 (dk_at dksJ4_fixAfterInsertion_2 15 rfl rfl)
theorem dJ4_fixAfterInsertion_66 : decode cJ4_fixAfterInsertion 66 = .ok (.iconst 1, 1) := dk_4 (dk_at dksJ4_fixAfterInsertion_2 18 rfl rfl)
theorem dJ4_fixAfterInsertion_67 : decode cJ4_fixAfterInsertion 67 = .ok (.invokestatic 307, 3) := dk_184 1 51 (dk_at dksJ4_fixAfterInsertion_2 19 rfl rfl)
theorem dJ4_fixAfterInsertion_70 : decode cJ4_fixAfterInsertion 70 = .ok (.aload_n 2, 1) := dk_44 (dk_at dksJ4_fixAfterInsertion_2 22 rfl rfl)
theorem dJ4_fixAfterInsertion_71 : decode cJ4_fixAfterInsertion 71 = .ok (.iconst 1, 1) := dk_4 (dk_at dksJ4_fixAfterInsertion_2 23 rfl rfl)
theorem dJ4_fixAfterInsertion_72 : decode cJ4_fixAfterInsertion 72 = .ok (.invokestatic 307, 3) := dk_184 1 51 (dk_at dksJ4_fixAfterInsertion_3 0 rfl rfl)
theorem dJ4_fixAfterInsertion_75 : decode cJ4_fixAfterInsertion 75 = .ok (.aload_n 1, 1) := dk_43 (dk_at dksJ4_fixAfterInsertion_3 3 rfl rfl)
theorem dJ4_fixAfterInsertion_76 : decode cJ4_fixAfterInsertion 76 = .ok (.invokestatic 294, 3) := dk_184 1 38 (dk_at dksJ4_fixAfterInsertion_3 4 rfl rfl)
theorem dJ4_fixAfterInsertion_79 : decode cJ4_fixAfterInsertion 79 = .ok (.invokestatic 294, 3) := dk_184 1 38 (dk_at dksJ4_fixAfterInsertion_3 7 rfl rfl)
theorem dJ4_fixAfterInsertion_82 : decode cJ4_fixAfterInsertion 82 = .ok (.iconst 0, 1) := dk_3 (dk_at dksJ4_fixAfterInsertion_3 10 rfl rfl)
theorem dJ4_fixAfterInsertion_83 : decode cJ4_fixAfterInsertion 83 = .ok (.invokestatic 307, 3) := dk_184 1 51 (dk_at dksJ4_fixAfterInsertion_3 11 rfl rfl)
theorem dJ4_fixAfterInsertion_86 : decode cJ4_fixAfterInsertion 86 = .ok (.aload_n 1, 1) := dk_43 (dk_at dksJ4_fixAfterInsertion_3 14 rfl rfl)
theorem dJ4_fixAfterInsertion_87 : decode cJ4_fixAfterInsertion 87 = .ok (.invokestatic 294, 3) := dk_184 1 38 (dk_at dksJ4_fixAfterInsertion_3 15 rfl rfl)
theorem dJ4_fixAfterInsertion_90 : decode cJ4_fixAfterInsertion 90 = .ok (.invokestatic 294, 3) := dk_184 1 38 (dk_at dksJ4_fixAfterInsertion_3 18 rfl rfl)
theorem dJ4_fixAfterInsertion_93 : decode cJ4_fixAfterInsertion 93 = .ok (.astore_n 1, 1) := dk_76 (dk_at dksJ4_fixAfterInsertion_3 21 rfl rfl)
theorem dJ4_fixAfterInsertion_94 : decode cJ4_fixAfterInsertion 94 = .ok (.goto 54, 3) := dk_167 0 54 (dk_at dksJ4_fixAfterInsertion_4 0 rfl rfl)
theorem dJ4_fixAfterInsertion_97 : decode cJ4_fixAfterInsertion 97 = .ok (.aload_n 1, 1) := dk_43 (dk_at dksJ4_fixAfterInsertion_4 3 rfl rfl)
theorem dJ4_fixAfterInsertion_98 : decode cJ4_fixAfterInsertion 98 = .ok (.aload_n 1, 1) := dk_43 (dk_at dksJ4_fixAfterInsertion_4 4 rfl rfl)
theorem dJ4_fixAfterInsertion_99 : decode cJ4_fixAfterInsertion 99 = .ok (.invokestatic 294, 3) := dk_184 1 38 (dk_at dksJ4_fixAfterInsertion_4 5 rfl rfl)
theorem dJ4_fixAfterInsertion_102 : decode cJ4_fixAfterInsertion 102 = .ok (.invokestatic 300, 3) := dk_184 1 44 (dk_at dksJ4_fixAfterInsertion_4 8 rfl rfl)
theorem dJ4_fixAfterInsertion_105 : decode cJ4_fixAfterInsertion 105 = .ok (.if_acmp .ne 13, 3) := dk_166 0 13 (dk_at dksJ4_fixAfterInsertion_4 11 rfl rfl)
theorem dJ4_fixAfterInsertion_108 : decode cJ4_fixAfterInsertion 108 = .ok (.aload_n 1, 1) := dk_43 (dk_at dksJ4_fixAfterInsertion_4 14 rfl rfl)
theorem dJ4_fixAfterInsertion_109 : decode cJ4_fixAfterInsertion 109 = .ok (.invokestatic 294, 3) := dk_184 1 38 (dk_at dksJ4_fixAfterInsertion_4 15 rfl rfl)
theorem dJ4_fixAfterInsertion_112 : decode cJ4_fixAfterInsertion 112 = .ok (.astore_n 1, 1) := dk_76 (dk_at dksJ4_fixAfterInsertion_4 18 rfl rfl)
theorem dJ4_fixAfterInsertion_113 : decode cJ4_fixAfterInsertion 113 = .ok (.aload_n 0, 1) := dk_42 (dk_at dksJ4_fixAfterInsertion_4 19 rfl rfl)
theorem dJ4_fixAfterInsertion_114 : decode cJ4_fixAfterInsertion 114 = .ok (.aload_n 1, 1) := dk_43 (dk_at dksJ4_fixAfterInsertion_4 20 rfl rfl)
theorem dJ4_fixAfterInsertion_115 : decode cJ4_fixAfterInsertion 115 = .ok (.invokevirtual 311, 3) := dk_182 1 55 (dk_at dksJ4_fixAfterInsertion_4 21 rfl rfl)
theorem dJ4_fixAfterInsertion_118 : decode cJ4_fixAfterInsertion 118 = .ok (.aload_n 1, 1) := dk_43 (dk_at dksJ4_fixAfterInsertion_5 0 rfl rfl)
theorem dJ4_fixAfterInsertion_119 : decode cJ4_fixAfterInsertion 119 = .ok (.invokestatic 294, 3) := dk_184 1 38 (dk_at dksJ4_fixAfterInsertion_5 1 rfl rfl)
theorem dJ4_fixAfterInsertion_122 : decode cJ4_fixAfterInsertion 122 = .ok (.iconst 1, 1) := dk_4 (dk_at dksJ4_fixAfterInsertion_5 4 rfl rfl)
theorem dJ4_fixAfterInsertion_123 : decode cJ4_fixAfterInsertion 123 = .ok (.invokestatic 307, 3) := dk_184 1 51 (dk_at dksJ4_fixAfterInsertion_5 5 rfl rfl)
theorem dJ4_fixAfterInsertion_126 : decode cJ4_fixAfterInsertion 126 = .ok (.aload_n 1, 1) := dk_43 (dk_at dksJ4_fixAfterInsertion_5 8 rfl rfl)
theorem dJ4_fixAfterInsertion_127 : decode cJ4_fixAfterInsertion 127 = .ok (.invokestatic 294, 3) := dk_184 1 38 (dk_at dksJ4_fixAfterInsertion_5 9 rfl rfl)
theorem dJ4_fixAfterInsertion_130 : decode cJ4_fixAfterInsertion 130 = .ok (.invokestatic 294, 3) := dk_184 1 38 (dk_at dksJ4_fixAfterInsertion_5 12 rfl rfl)
theorem dJ4_fixAfterInsertion_133 : decode cJ4_fixAfterInsertion 133 = .ok (.iconst 0, 1) := dk_3 (dk_at dksJ4_fixAfterInsertion_5 15 rfl rfl)
theorem dJ4_fixAfterInsertion_134 : decode cJ4_fixAfterInsertion 134 = .ok (.invokestatic 307, 3) := dk_184 1 51 (dk_at dksJ4_fixAfterInsertion_5 16 rfl rfl)
theorem dJ4_fixAfterInsertion_137 : decode cJ4_fixAfterInsertion 137 = .ok (.aload_n 0, 1) := dk_42 (dk_at dksJ4_fixAfterInsertion_5 19 rfl rfl)
theorem dJ4_fixAfterInsertion_138 : decode cJ4_fixAfterInsertion 138 = .ok (.aload_n 1, 1) := dk_43 (dk_at dksJ4_fixAfterInsertion_5 20 rfl rfl)
theorem dJ4_fixAfterInsertion_139 : decode cJ4_fixAfterInsertion 139 = .ok (.invokestatic 294, 3) := dk_184 1 38 (dk_at dksJ4_fixAfterInsertion_5 21 rfl rfl)
theorem dJ4_fixAfterInsertion_142 : decode cJ4_fixAfterInsertion 142 = .ok (.invokestatic 294, 3) := dk_184 1 38 (dk_at dksJ4_fixAfterInsertion_6 0 rfl rfl)
theorem dJ4_fixAfterInsertion_145 : decode cJ4_fixAfterInsertion 145 = .ok (.invokevirtual 314, 3) := dk_182 1 58 (dk_at dksJ4_fixAfterInsertion_6 3 rfl rfl)
theorem dJ4_fixAfterInsertion_148 : decode cJ4_fixAfterInsertion 148 = .ok (.goto (-143), 3) := dk_167 255 113 (dk_at dksJ4_fixAfterInsertion_6 6 rfl rfl)
theorem dJ4_fixAfterInsertion_151 : decode cJ4_fixAfterInsertion 151 = .ok (.aload_n 1, 1) := dk_43 (dk_at dksJ4_fixAfterInsertion_6 9 rfl rfl)
theorem dJ4_fixAfterInsertion_152 : decode cJ4_fixAfterInsertion 152 = .ok (.invokestatic 294, 3) := dk_184 1 38 (dk_at dksJ4_fixAfterInsertion_6 10 rfl rfl)
theorem dJ4_fixAfterInsertion_155 : decode cJ4_fixAfterInsertion 155 = .ok (.invokestatic 294, 3) := dk_184 1 38 (dk_at dksJ4_fixAfterInsertion_6 13 rfl rfl)
theorem dJ4_fixAfterInsertion_158 : decode cJ4_fixAfterInsertion 158 = .ok (.invokestatic 297, 3) := dk_184 1 41 (dk_at dksJ4_fixAfterInsertion_6 16 rfl rfl)
theorem dJ4_fixAfterInsertion_161 : decode cJ4_fixAfterInsertion 161 = .ok (.astore_n 2, 1) := dk_77 (dk_at dksJ4_fixAfterInsertion_6 19 rfl rfl)
theorem dJ4_fixAfterInsertion_162 : decode cJ4_fixAfterInsertion 162 = .ok (.aload_n 2, 1) := dk_44 (dk_at dksJ4_fixAfterInsertion_6 20 rfl rfl)
theorem dJ4_fixAfterInsertion_163 : decode cJ4_fixAfterInsertion 163 = .ok (.invokestatic 303, 3) := dk_184 1 47 (dk_at dksJ4_fixAfterInsertion_6 21 rfl rfl)
theorem dJ4_fixAfterInsertion_166 : decode cJ4_fixAfterInsertion 166 = .ok (.ifCond .ne 38, 3) := dk_154 0 38 (dk_at dksJ4_fixAfterInsertion_7 0 rfl rfl)
theorem dJ4_fixAfterInsertion_169 : decode cJ4_fixAfterInsertion 169 = .ok (.aload_n 1, 1) := dk_43 (dk_at dksJ4_fixAfterInsertion_7 3 rfl rfl)
theorem dJ4_fixAfterInsertion_170 : decode cJ4_fixAfterInsertion 170 = .ok (.invokestatic 294, 3) := dk_184 1 38 (dk_at dksJ4_fixAfterInsertion_7 4 rfl rfl)
theorem dJ4_fixAfterInsertion_173 : decode cJ4_fixAfterInsertion 173 = .ok (.iconst 1, 1) := dk_4 (dk_at dksJ4_fixAfterInsertion_7 7 rfl rfl)
theorem dJ4_fixAfterInsertion_174 : decode cJ4_fixAfterInsertion 174 = .ok (.invokestatic 307, 3) := dk_184 1 51 (dk_at dksJ4_fixAfterInsertion_7 8 rfl rfl)
theorem dJ4_fixAfterInsertion_177 : decode cJ4_fixAfterInsertion 177 = .ok (.aload_n 2, 1) := dk_44 (dk_at dksJ4_fixAfterInsertion_7 11 rfl rfl)
theorem dJ4_fixAfterInsertion_178 : decode cJ4_fixAfterInsertion 178 = .ok (.iconst 1, 1) := dk_4 (dk_at dksJ4_fixAfterInsertion_7 12 rfl rfl)
theorem dJ4_fixAfterInsertion_179 : decode cJ4_fixAfterInsertion 179 = .ok (.invokestatic 307, 3) := dk_184 1 51 (dk_at dksJ4_fixAfterInsertion_7 13 rfl rfl)
theorem dJ4_fixAfterInsertion_182 : decode cJ4_fixAfterInsertion 182 = .ok (.aload_n 1, 1) := dk_43 (dk_at dksJ4_fixAfterInsertion_7 16 rfl rfl)
theorem dJ4_fixAfterInsertion_183 : decode cJ4_fixAfterInsertion 183 = .ok (.invokestatic 294, 3) := dk_184 1 38 (dk_at dksJ4_fixAfterInsertion_7 17 rfl rfl)
theorem dJ4_fixAfterInsertion_186 : decode cJ4_fixAfterInsertion 186 = .ok (.invokestatic 294, 3) := dk_184 1 38 (dk_at dksJ4_fixAfterInsertion_7 20 rfl rfl)
theorem dJ4_fixAfterInsertion_189 : decode cJ4_fixAfterInsertion 189 = .ok (.iconst 0, 1) := dk_3 (dk_at dksJ4_fixAfterInsertion_7 23 rfl rfl)
theorem dJ4_fixAfterInsertion_190 : decode cJ4_fixAfterInsertion 190 = .ok (.invokestatic 307, 3) := dk_184 1 51 (dk_at dksJ4_fixAfterInsertion_8 0 rfl rfl)
theorem dJ4_fixAfterInsertion_193 : decode cJ4_fixAfterInsertion 193 = .ok (.aload_n 1, 1) := dk_43 (dk_at dksJ4_fixAfterInsertion_8 3 rfl rfl)
theorem dJ4_fixAfterInsertion_194 : decode cJ4_fixAfterInsertion 194 = .ok (.invokestatic 294, 3) := dk_184 1 38 (dk_at dksJ4_fixAfterInsertion_8 4 rfl rfl)
theorem dJ4_fixAfterInsertion_197 : decode cJ4_fixAfterInsertion 197 = .ok (.invokestatic 294, 3) := dk_184 1 38 (dk_at dksJ4_fixAfterInsertion_8 7 rfl rfl)
theorem dJ4_fixAfterInsertion_200 : decode cJ4_fixAfterInsertion 200 = .ok (.astore_n 1, 1) := dk_76 (dk_at dksJ4_fixAfterInsertion_8 10 rfl rfl)
theorem dJ4_fixAfterInsertion_201 : decode cJ4_fixAfterInsertion 201 = .ok (.goto 54, 3) := dk_167 0 54 (dk_at dksJ4_fixAfterInsertion_8 11 rfl rfl)
theorem dJ4_fixAfterInsertion_204 : decode cJ4_fixAfterInsertion 204 = .ok (.aload_n 1, 1) := dk_43 (dk_at dksJ4_fixAfterInsertion_8 14 rfl rfl)
theorem dJ4_fixAfterInsertion_205 : decode cJ4_fixAfterInsertion 205 = .ok (.aload_n 1, 1) := dk_43 (dk_at dksJ4_fixAfterInsertion_8 15 rfl rfl)
theorem dJ4_fixAfterInsertion_206 : decode cJ4_fixAfterInsertion 206 = .ok (.invokestatic 294, 3) := dk_184 1 38 (dk_at dksJ4_fixAfterInsertion_8 16 rfl rfl)
theorem dJ4_fixAfterInsertion_209 : decode cJ4_fixAfterInsertion 209 = .ok (.invokestatic 297, 3) := dk_184 1 41 (dk_at dksJ4_fixAfterInsertion_8 19 rfl rfl)
theorem dJ4_fixAfterInsertion_212 : decode cJ4_fixAfterInsertion 212 = .ok (.if_acmp .ne 13, 3) := dk_166 0 13 (dk_at dksJ4_fixAfterInsertion_9 0 rfl rfl)
theorem dJ4_fixAfterInsertion_215 : decode cJ4_fixAfterInsertion 215 = .ok (.aload_n 1, 1) := dk_43 (dk_at dksJ4_fixAfterInsertion_9 3 rfl rfl)
theorem dJ4_fixAfterInsertion_216 : decode cJ4_fixAfterInsertion 216 = .ok (.invokestatic 294, 3) := dk_184 1 38 (dk_at dksJ4_fixAfterInsertion_9 4 rfl rfl)
theorem dJ4_fixAfterInsertion_219 : decode cJ4_fixAfterInsertion 219 = .ok (.astore_n 1, 1) := dk_76 (dk_at dksJ4_fixAfterInsertion_9 7 rfl rfl)
theorem dJ4_fixAfterInsertion_220 : decode cJ4_fixAfterInsertion 220 = .ok (.aload_n 0, 1) := dk_42 (dk_at dksJ4_fixAfterInsertion_9 8 rfl rfl)
theorem dJ4_fixAfterInsertion_221 : decode cJ4_fixAfterInsertion 221 = .ok (.aload_n 1, 1) := dk_43 (dk_at dksJ4_fixAfterInsertion_9 9 rfl rfl)
theorem dJ4_fixAfterInsertion_222 : decode cJ4_fixAfterInsertion 222 = .ok (.invokevirtual 314, 3) := dk_182 1 58 (dk_at dksJ4_fixAfterInsertion_9 10 rfl rfl)
theorem dJ4_fixAfterInsertion_225 : decode cJ4_fixAfterInsertion 225 = .ok (.aload_n 1, 1) := dk_43 (dk_at dksJ4_fixAfterInsertion_9 13 rfl rfl)
theorem dJ4_fixAfterInsertion_226 : decode cJ4_fixAfterInsertion 226 = .ok (.invokestatic 294, 3) := dk_184 1 38 (dk_at dksJ4_fixAfterInsertion_9 14 rfl rfl)
theorem dJ4_fixAfterInsertion_229 : decode cJ4_fixAfterInsertion 229 = .ok (.iconst 1, 1) := dk_4 (dk_at dksJ4_fixAfterInsertion_9 17 rfl rfl)
theorem dJ4_fixAfterInsertion_230 : decode cJ4_fixAfterInsertion 230 = .ok (.invokestatic 307, 3) := dk_184 1 51 (dk_at dksJ4_fixAfterInsertion_9 18 rfl rfl)
theorem dJ4_fixAfterInsertion_233 : decode cJ4_fixAfterInsertion 233 = .ok (.aload_n 1, 1) := dk_43 (dk_at dksJ4_fixAfterInsertion_9 21 rfl rfl)
theorem dJ4_fixAfterInsertion_234 : decode cJ4_fixAfterInsertion 234 = .ok (.invokestatic 294, 3) := dk_184 1 38 (dk_at dksJ4_fixAfterInsertion_10 0 rfl rfl)
theorem dJ4_fixAfterInsertion_237 : decode cJ4_fixAfterInsertion 237 = .ok (.invokestatic 294, 3) := dk_184 1 38 (dk_at dksJ4_fixAfterInsertion_10 3 rfl rfl)
theorem dJ4_fixAfterInsertion_240 : decode cJ4_fixAfterInsertion 240 = .ok (.iconst 0, 1) := dk_3 (dk_at dksJ4_fixAfterInsertion_10 6 rfl rfl)
theorem dJ4_fixAfterInsertion_241 : decode cJ4_fixAfterInsertion 241 = .ok (.invokestatic 307, 3) := dk_184 1 51 (dk_at dksJ4_fixAfterInsertion_10 7 rfl rfl)
theorem dJ4_fixAfterInsertion_244 : decode cJ4_fixAfterInsertion 244 = .ok (.aload_n 0, 1) := dk_42 (dk_at dksJ4_fixAfterInsertion_10 10 rfl rfl)
theorem dJ4_fixAfterInsertion_245 : decode cJ4_fixAfterInsertion 245 = .ok (.aload_n 1, 1) := dk_43 (dk_at dksJ4_fixAfterInsertion_10 11 rfl rfl)
theorem dJ4_fixAfterInsertion_246 : decode cJ4_fixAfterInsertion 246 = .ok (.invokestatic 294, 3) := dk_184 1 38 (dk_at dksJ4_fixAfterInsertion_10 12 rfl rfl)
theorem dJ4_fixAfterInsertion_249 : decode cJ4_fixAfterInsertion 249 = .ok (.invokestatic 294, 3) := dk_184 1 38 (dk_at dksJ4_fixAfterInsertion_10 15 rfl rfl)
theorem dJ4_fixAfterInsertion_252 : decode cJ4_fixAfterInsertion 252 = .ok (.invokevirtual 311, 3) := dk_182 1 55 (dk_at dksJ4_fixAfterInsertion_10 18 rfl rfl)
theorem dJ4_fixAfterInsertion_255 : decode cJ4_fixAfterInsertion 255 = .ok (.goto (-250), 3) := dk_167 255 6 (dk_at dksJ4_fixAfterInsertion_10 21 rfl rfl)
theorem dJ4_fixAfterInsertion_258 : decode cJ4_fixAfterInsertion 258 = .ok (.aload_n 0, 1) := dk_42 (dk_at dksJ4_fixAfterInsertion_11 0 rfl rfl)
theorem dJ4_fixAfterInsertion_259 : decode cJ4_fixAfterInsertion 259 = .ok (.getfield 101, 3) := dk_180 0 101 (dk_at dksJ4_fixAfterInsertion_11 1 rfl rfl)
theorem dJ4_fixAfterInsertion_262 : decode cJ4_fixAfterInsertion 262 = .ok (.iconst 1, 1) := dk_4 (dk_at dksJ4_fixAfterInsertion_11 4 rfl rfl)
theorem dJ4_fixAfterInsertion_263 : decode cJ4_fixAfterInsertion 263 = .ok (.putfield 290, 3) := dk_181 1 34 (dk_at dksJ4_fixAfterInsertion_11 5 rfl rfl)
theorem dJ4_fixAfterInsertion_266 : decode cJ4_fixAfterInsertion 266 = .ok (.return_, 1) := dk_177 (dk_at dksJ4_fixAfterInsertion_11 8 rfl rfl)
abbrev cJ4_parentOf : ByteArray := prog_54_method_77_code
def yJ4_parentOf : MethodName := ⟨RJ4, "parentOf", "(Ljava/util/TreeMap$Entry;)Ljava/util/TreeMap$Entry;"⟩
def dkwJ4_parentOf_0 : List UInt8 := [42, 199, 0, 7, 1, 167, 0, 7, 42, 180, 0, 124, 176]
abbrev dktJ4_parentOf_0 : List UInt8 := dkwJ4_parentOf_0 ++ []
theorem dksJ4_parentOf_0 : cJ4_parentOf.data.toList.drop 0 = dktJ4_parentOf_0 := by decide +kernel
theorem dJ4_parentOf_0 : decode cJ4_parentOf 0 = .ok (.aload_n 0, 1) := dk_42 (dk_at dksJ4_parentOf_0 0 rfl rfl)
theorem dJ4_parentOf_1 : decode cJ4_parentOf 1 = .ok (.ifnonnull 7, 3) := dk_199 0 7 (dk_at dksJ4_parentOf_0 1 rfl rfl)
theorem dJ4_parentOf_4 : decode cJ4_parentOf 4 = .ok (.aconst_null, 1) := dk_1 (dk_at dksJ4_parentOf_0 4 rfl rfl)
theorem dJ4_parentOf_5 : decode cJ4_parentOf 5 = .ok (.goto 7, 3) := dk_167 0 7 (dk_at dksJ4_parentOf_0 5 rfl rfl)
theorem dJ4_parentOf_8 : decode cJ4_parentOf 8 = .ok (.aload_n 0, 1) := dk_42 (dk_at dksJ4_parentOf_0 8 rfl rfl)
theorem dJ4_parentOf_9 : decode cJ4_parentOf 9 = .ok (.getfield 124, 3) := dk_180 0 124 (dk_at dksJ4_parentOf_0 9 rfl rfl)
theorem dJ4_parentOf_12 : decode cJ4_parentOf 12 = .ok (.areturn, 1) := dk_176 (dk_at dksJ4_parentOf_0 12 rfl rfl)
abbrev cJ4_leftOf : ByteArray := prog_54_method_79_code
def yJ4_leftOf : MethodName := ⟨RJ4, "leftOf", "(Ljava/util/TreeMap$Entry;)Ljava/util/TreeMap$Entry;"⟩
def dkwJ4_leftOf_0 : List UInt8 := [42, 199, 0, 7, 1, 167, 0, 7, 42, 180, 0, 111, 176]
abbrev dktJ4_leftOf_0 : List UInt8 := dkwJ4_leftOf_0 ++ []
theorem dksJ4_leftOf_0 : cJ4_leftOf.data.toList.drop 0 = dktJ4_leftOf_0 := by decide +kernel
theorem dJ4_leftOf_0 : decode cJ4_leftOf 0 = .ok (.aload_n 0, 1) := dk_42 (dk_at dksJ4_leftOf_0 0 rfl rfl)
theorem dJ4_leftOf_1 : decode cJ4_leftOf 1 = .ok (.ifnonnull 7, 3) := dk_199 0 7 (dk_at dksJ4_leftOf_0 1 rfl rfl)
theorem dJ4_leftOf_4 : decode cJ4_leftOf 4 = .ok (.aconst_null, 1) := dk_1 (dk_at dksJ4_leftOf_0 4 rfl rfl)
theorem dJ4_leftOf_5 : decode cJ4_leftOf 5 = .ok (.goto 7, 3) := dk_167 0 7 (dk_at dksJ4_leftOf_0 5 rfl rfl)
theorem dJ4_leftOf_8 : decode cJ4_leftOf 8 = .ok (.aload_n 0, 1) := dk_42 (dk_at dksJ4_leftOf_0 8 rfl rfl)
theorem dJ4_leftOf_9 : decode cJ4_leftOf 9 = .ok (.getfield 111, 3) := dk_180 0 111 (dk_at dksJ4_leftOf_0 9 rfl rfl)
theorem dJ4_leftOf_12 : decode cJ4_leftOf 12 = .ok (.areturn, 1) := dk_176 (dk_at dksJ4_leftOf_0 12 rfl rfl)
abbrev cJ4_rightOf : ByteArray := prog_54_method_80_code
def yJ4_rightOf : MethodName := ⟨RJ4, "rightOf", "(Ljava/util/TreeMap$Entry;)Ljava/util/TreeMap$Entry;"⟩
def dkwJ4_rightOf_0 : List UInt8 := [42, 199, 0, 7, 1, 167, 0, 7, 42, 180, 0, 114, 176]
abbrev dktJ4_rightOf_0 : List UInt8 := dkwJ4_rightOf_0 ++ []
theorem dksJ4_rightOf_0 : cJ4_rightOf.data.toList.drop 0 = dktJ4_rightOf_0 := by decide +kernel
theorem dJ4_rightOf_0 : decode cJ4_rightOf 0 = .ok (.aload_n 0, 1) := dk_42 (dk_at dksJ4_rightOf_0 0 rfl rfl)
theorem dJ4_rightOf_1 : decode cJ4_rightOf 1 = .ok (.ifnonnull 7, 3) := dk_199 0 7 (dk_at dksJ4_rightOf_0 1 rfl rfl)
theorem dJ4_rightOf_4 : decode cJ4_rightOf 4 = .ok (.aconst_null, 1) := dk_1 (dk_at dksJ4_rightOf_0 4 rfl rfl)
theorem dJ4_rightOf_5 : decode cJ4_rightOf 5 = .ok (.goto 7, 3) := dk_167 0 7 (dk_at dksJ4_rightOf_0 5 rfl rfl)
theorem dJ4_rightOf_8 : decode cJ4_rightOf 8 = .ok (.aload_n 0, 1) := dk_42 (dk_at dksJ4_rightOf_0 8 rfl rfl)
theorem dJ4_rightOf_9 : decode cJ4_rightOf 9 = .ok (.getfield 114, 3) := dk_180 0 114 (dk_at dksJ4_rightOf_0 9 rfl rfl)
theorem dJ4_rightOf_12 : decode cJ4_rightOf 12 = .ok (.areturn, 1) := dk_176 (dk_at dksJ4_rightOf_0 12 rfl rfl)
abbrev cJ4_colorOf : ByteArray := prog_54_method_76_code
def yJ4_colorOf : MethodName := ⟨RJ4, "colorOf", "(Ljava/util/TreeMap$Entry;)Z"⟩
def dkwJ4_colorOf_0 : List UInt8 := [42, 199, 0, 7, 4, 167, 0, 7, 42, 180, 1, 34, 172]
abbrev dktJ4_colorOf_0 : List UInt8 := dkwJ4_colorOf_0 ++ []
theorem dksJ4_colorOf_0 : cJ4_colorOf.data.toList.drop 0 = dktJ4_colorOf_0 := by decide +kernel
theorem dJ4_colorOf_0 : decode cJ4_colorOf 0 = .ok (.aload_n 0, 1) := dk_42 (dk_at dksJ4_colorOf_0 0 rfl rfl)
theorem dJ4_colorOf_1 : decode cJ4_colorOf 1 = .ok (.ifnonnull 7, 3) := dk_199 0 7 (dk_at dksJ4_colorOf_0 1 rfl rfl)
theorem dJ4_colorOf_4 : decode cJ4_colorOf 4 = .ok (.iconst 1, 1) := dk_4 (dk_at dksJ4_colorOf_0 4 rfl rfl)
theorem dJ4_colorOf_5 : decode cJ4_colorOf 5 = .ok (.goto 7, 3) := dk_167 0 7 (dk_at dksJ4_colorOf_0 5 rfl rfl)
theorem dJ4_colorOf_8 : decode cJ4_colorOf 8 = .ok (.aload_n 0, 1) := dk_42 (dk_at dksJ4_colorOf_0 8 rfl rfl)
theorem dJ4_colorOf_9 : decode cJ4_colorOf 9 = .ok (.getfield 290, 3) := dk_180 1 34 (dk_at dksJ4_colorOf_0 9 rfl rfl)
theorem dJ4_colorOf_12 : decode cJ4_colorOf 12 = .ok (.ireturn, 1) := dk_172 (dk_at dksJ4_colorOf_0 12 rfl rfl)
abbrev cJ4_setColor : ByteArray := prog_54_method_78_code
def yJ4_setColor : MethodName := ⟨RJ4, "setColor", "(Ljava/util/TreeMap$Entry;Z)V"⟩
def dkwJ4_setColor_0 : List UInt8 := [42, 198, 0, 8, 42, 27, 181, 1, 34, 177]
abbrev dktJ4_setColor_0 : List UInt8 := dkwJ4_setColor_0 ++ []
theorem dksJ4_setColor_0 : cJ4_setColor.data.toList.drop 0 = dktJ4_setColor_0 := by decide +kernel
theorem dJ4_setColor_0 : decode cJ4_setColor 0 = .ok (.aload_n 0, 1) := dk_42 (dk_at dksJ4_setColor_0 0 rfl rfl)
theorem dJ4_setColor_1 : decode cJ4_setColor 1 = .ok (.ifnull 8, 3) := dk_198 0 8 (dk_at dksJ4_setColor_0 1 rfl rfl)
theorem dJ4_setColor_4 : decode cJ4_setColor 4 = .ok (.aload_n 0, 1) := dk_42 (dk_at dksJ4_setColor_0 4 rfl rfl)
theorem dJ4_setColor_5 : decode cJ4_setColor 5 = .ok (.iload_n 1, 1) := dk_27 (dk_at dksJ4_setColor_0 5 rfl rfl)
theorem dJ4_setColor_6 : decode cJ4_setColor 6 = .ok (.putfield 290, 3) := dk_181 1 34 (dk_at dksJ4_setColor_0 6 rfl rfl)
theorem dJ4_setColor_9 : decode cJ4_setColor 9 = .ok (.return_, 1) := dk_177 (dk_at dksJ4_setColor_0 9 rfl rfl)
abbrev cJ4_rotateLeft : ByteArray := prog_54_method_81_code
def yJ4_rotateLeft : MethodName := ⟨RJ4, "rotateLeft", "(Ljava/util/TreeMap$Entry;)V"⟩
def dkwJ4_rotateLeft_4 : List UInt8 := [177]
abbrev dktJ4_rotateLeft_4 : List UInt8 := dkwJ4_rotateLeft_4 ++ []
def dkwJ4_rotateLeft_3 : List UInt8 := [181, 0, 111, 167, 0, 11, 43, 180, 0, 124, 44, 181, 0, 114, 44, 43, 181, 0, 111, 43, 44, 181, 0, 124]
abbrev dktJ4_rotateLeft_3 : List UInt8 := dkwJ4_rotateLeft_3 ++ dktJ4_rotateLeft_4
def dkwJ4_rotateLeft_2 : List UInt8 := [44, 181, 0, 101, 167, 0, 33, 43, 180, 0, 124, 180, 0, 111, 43, 166, 0, 14, 43, 180, 0, 124, 44]
abbrev dktJ4_rotateLeft_2 : List UInt8 := dkwJ4_rotateLeft_2 ++ dktJ4_rotateLeft_3
def dkwJ4_rotateLeft_1 : List UInt8 := [44, 180, 0, 111, 43, 181, 0, 124, 44, 43, 180, 0, 124, 181, 0, 124, 43, 180, 0, 124, 199, 0, 11, 42]
abbrev dktJ4_rotateLeft_1 : List UInt8 := dkwJ4_rotateLeft_1 ++ dktJ4_rotateLeft_2
def dkwJ4_rotateLeft_0 : List UInt8 := [43, 198, 0, 94, 43, 180, 0, 114, 77, 43, 44, 180, 0, 111, 181, 0, 114, 44, 180, 0, 111, 198, 0, 11]
abbrev dktJ4_rotateLeft_0 : List UInt8 := dkwJ4_rotateLeft_0 ++ dktJ4_rotateLeft_1
theorem dksJ4_rotateLeft_0 : cJ4_rotateLeft.data.toList.drop 0 = dktJ4_rotateLeft_0 := by decide +kernel
theorem dksJ4_rotateLeft_1 : cJ4_rotateLeft.data.toList.drop 24 = dktJ4_rotateLeft_1 := dk_seg dksJ4_rotateLeft_0 24 rfl rfl
theorem dksJ4_rotateLeft_2 : cJ4_rotateLeft.data.toList.drop 48 = dktJ4_rotateLeft_2 := dk_seg dksJ4_rotateLeft_1 24 rfl rfl
theorem dksJ4_rotateLeft_3 : cJ4_rotateLeft.data.toList.drop 71 = dktJ4_rotateLeft_3 := dk_seg dksJ4_rotateLeft_2 23 rfl rfl
theorem dksJ4_rotateLeft_4 : cJ4_rotateLeft.data.toList.drop 95 = dktJ4_rotateLeft_4 := dk_seg dksJ4_rotateLeft_3 24 rfl rfl
theorem dJ4_rotateLeft_0 : decode cJ4_rotateLeft 0 = .ok (.aload_n 1, 1) := dk_43 (dk_at dksJ4_rotateLeft_0 0 rfl rfl)
theorem dJ4_rotateLeft_1 : decode cJ4_rotateLeft 1 = .ok (.ifnull 94, 3) := dk_198 0 94 (dk_at dksJ4_rotateLeft_0 1 rfl rfl)
theorem dJ4_rotateLeft_4 : decode cJ4_rotateLeft 4 = .ok (.aload_n 1, 1) := dk_43 (dk_at dksJ4_rotateLeft_0 4 rfl rfl)
theorem dJ4_rotateLeft_5 : decode cJ4_rotateLeft 5 = .ok (.getfield 114, 3) := dk_180 0 114 (dk_at dksJ4_rotateLeft_0 5 rfl rfl)
theorem dJ4_rotateLeft_8 : decode cJ4_rotateLeft 8 = .ok (.astore_n 2, 1) := dk_77 (dk_at dksJ4_rotateLeft_0 8 rfl rfl)
theorem dJ4_rotateLeft_9 : decode cJ4_rotateLeft 9 = .ok (.aload_n 1, 1) := dk_43 (dk_at dksJ4_rotateLeft_0 9 rfl rfl)
theorem dJ4_rotateLeft_10 : decode cJ4_rotateLeft 10 = .ok (.aload_n 2, 1) := dk_44 (dk_at dksJ4_rotateLeft_0 10 rfl rfl)
theorem dJ4_rotateLeft_11 : decode cJ4_rotateLeft 11 = .ok (.getfield 111, 3) := dk_180 0 111 (dk_at dksJ4_rotateLeft_0 11 rfl rfl)
theorem dJ4_rotateLeft_14 : decode cJ4_rotateLeft 14 = .ok (.putfield 114, 3) := dk_181 0 114 (dk_at dksJ4_rotateLeft_0 14 rfl rfl)
theorem dJ4_rotateLeft_17 : decode cJ4_rotateLeft 17 = .ok (.aload_n 2, 1) := dk_44 (dk_at dksJ4_rotateLeft_0 17 rfl rfl)
theorem dJ4_rotateLeft_18 : decode cJ4_rotateLeft 18 = .ok (.getfield 111, 3) := dk_180 0 111 (dk_at dksJ4_rotateLeft_0 18 rfl rfl)
theorem dJ4_rotateLeft_21 : decode cJ4_rotateLeft 21 = .ok (.ifnull 11, 3) := dk_198 0 11 (dk_at dksJ4_rotateLeft_0 21 rfl rfl)
theorem dJ4_rotateLeft_24 : decode cJ4_rotateLeft 24 = .ok (.aload_n 2, 1) := dk_44 (dk_at dksJ4_rotateLeft_1 0 rfl rfl)
theorem dJ4_rotateLeft_25 : decode cJ4_rotateLeft 25 = .ok (.getfield 111, 3) := dk_180 0 111 (dk_at dksJ4_rotateLeft_1 1 rfl rfl)
theorem dJ4_rotateLeft_28 : decode cJ4_rotateLeft 28 = .ok (.aload_n 1, 1) := dk_43 (dk_at dksJ4_rotateLeft_1 4 rfl rfl)
theorem dJ4_rotateLeft_29 : decode cJ4_rotateLeft 29 = .ok (.putfield 124, 3) := dk_181 0 124 (dk_at dksJ4_rotateLeft_1 5 rfl rfl)
theorem dJ4_rotateLeft_32 : decode cJ4_rotateLeft 32 = .ok (.aload_n 2, 1) := dk_44 (dk_at dksJ4_rotateLeft_1 8 rfl rfl)
theorem dJ4_rotateLeft_33 : decode cJ4_rotateLeft 33 = .ok (.aload_n 1, 1) := dk_43 (dk_at dksJ4_rotateLeft_1 9 rfl rfl)
theorem dJ4_rotateLeft_34 : decode cJ4_rotateLeft 34 = .ok (.getfield 124, 3) := dk_180 0 124 (dk_at dksJ4_rotateLeft_1 10 rfl rfl)
theorem dJ4_rotateLeft_37 : decode cJ4_rotateLeft 37 = .ok (.putfield 124, 3) := dk_181 0 124 (dk_at dksJ4_rotateLeft_1 13 rfl rfl)
theorem dJ4_rotateLeft_40 : decode cJ4_rotateLeft 40 = .ok (.aload_n 1, 1) := dk_43 (dk_at dksJ4_rotateLeft_1 16 rfl rfl)
theorem dJ4_rotateLeft_41 : decode cJ4_rotateLeft 41 = .ok (.getfield 124, 3) := dk_180 0 124 (dk_at dksJ4_rotateLeft_1 17 rfl rfl)
theorem dJ4_rotateLeft_44 : decode cJ4_rotateLeft 44 = .ok (.ifnonnull 11, 3) := dk_199 0 11 (dk_at dksJ4_rotateLeft_1 20 rfl rfl)
theorem dJ4_rotateLeft_47 : decode cJ4_rotateLeft 47 = .ok (.aload_n 0, 1) := dk_42 (dk_at dksJ4_rotateLeft_1 23 rfl rfl)
theorem dJ4_rotateLeft_48 : decode cJ4_rotateLeft 48 = .ok (.aload_n 2, 1) := dk_44 (dk_at dksJ4_rotateLeft_2 0 rfl rfl)
theorem dJ4_rotateLeft_49 : decode cJ4_rotateLeft 49 = .ok (.putfield 101, 3) := dk_181 0 101 (dk_at dksJ4_rotateLeft_2 1 rfl rfl)
theorem dJ4_rotateLeft_52 : decode cJ4_rotateLeft 52 = .ok (.goto 33, 3) := dk_167 0 33 (dk_at dksJ4_rotateLeft_2 4 rfl rfl)
theorem dJ4_rotateLeft_55 : decode cJ4_rotateLeft 55 = .ok (.aload_n 1, 1) := dk_43 (dk_at dksJ4_rotateLeft_2 7 rfl rfl)
theorem dJ4_rotateLeft_56 : decode cJ4_rotateLeft 56 = .ok (.getfield 124, 3) := dk_180 0 124 (dk_at dksJ4_rotateLeft_2 8 rfl rfl)
theorem dJ4_rotateLeft_59 : decode cJ4_rotateLeft 59 = .ok (.getfield 111, 3) := dk_180 0 111 (dk_at dksJ4_rotateLeft_2 11 rfl rfl)
theorem dJ4_rotateLeft_62 : decode cJ4_rotateLeft 62 = .ok (.aload_n 1, 1) := dk_43 (dk_at dksJ4_rotateLeft_2 14 rfl rfl)
theorem dJ4_rotateLeft_63 : decode cJ4_rotateLeft 63 = .ok (.if_acmp .ne 14, 3) := dk_166 0 14 (dk_at dksJ4_rotateLeft_2 15 rfl rfl)
theorem dJ4_rotateLeft_66 : decode cJ4_rotateLeft 66 = .ok (.aload_n 1, 1) := dk_43 (dk_at dksJ4_rotateLeft_2 18 rfl rfl)
theorem dJ4_rotateLeft_67 : decode cJ4_rotateLeft 67 = .ok (.getfield 124, 3) := dk_180 0 124 (dk_at dksJ4_rotateLeft_2 19 rfl rfl)
theorem dJ4_rotateLeft_70 : decode cJ4_rotateLeft 70 = .ok (.aload_n 2, 1) := dk_44 (dk_at dksJ4_rotateLeft_2 22 rfl rfl)
theorem dJ4_rotateLeft_71 : decode cJ4_rotateLeft 71 = .ok (.putfield 111, 3) := dk_181 0 111 (dk_at dksJ4_rotateLeft_3 0 rfl rfl)
theorem dJ4_rotateLeft_74 : decode cJ4_rotateLeft 74 = .ok (.goto 11, 3) := dk_167 0 11 (dk_at dksJ4_rotateLeft_3 3 rfl rfl)
theorem dJ4_rotateLeft_77 : decode cJ4_rotateLeft 77 = .ok (.aload_n 1, 1) := dk_43 (dk_at dksJ4_rotateLeft_3 6 rfl rfl)
theorem dJ4_rotateLeft_78 : decode cJ4_rotateLeft 78 = .ok (.getfield 124, 3) := dk_180 0 124 (dk_at dksJ4_rotateLeft_3 7 rfl rfl)
theorem dJ4_rotateLeft_81 : decode cJ4_rotateLeft 81 = .ok (.aload_n 2, 1) := dk_44 (dk_at dksJ4_rotateLeft_3 10 rfl rfl)
theorem dJ4_rotateLeft_82 : decode cJ4_rotateLeft 82 = .ok (.putfield 114, 3) := dk_181 0 114 (dk_at dksJ4_rotateLeft_3 11 rfl rfl)
theorem dJ4_rotateLeft_85 : decode cJ4_rotateLeft 85 = .ok (.aload_n 2, 1) := dk_44 (dk_at dksJ4_rotateLeft_3 14 rfl rfl)
theorem dJ4_rotateLeft_86 : decode cJ4_rotateLeft 86 = .ok (.aload_n 1, 1) := dk_43 (dk_at dksJ4_rotateLeft_3 15 rfl rfl)
theorem dJ4_rotateLeft_87 : decode cJ4_rotateLeft 87 = .ok (.putfield 111, 3) := dk_181 0 111 (dk_at dksJ4_rotateLeft_3 16 rfl rfl)
theorem dJ4_rotateLeft_90 : decode cJ4_rotateLeft 90 = .ok (.aload_n 1, 1) := dk_43 (dk_at dksJ4_rotateLeft_3 19 rfl rfl)
theorem dJ4_rotateLeft_91 : decode cJ4_rotateLeft 91 = .ok (.aload_n 2, 1) := dk_44 (dk_at dksJ4_rotateLeft_3 20 rfl rfl)
theorem dJ4_rotateLeft_92 : decode cJ4_rotateLeft 92 = .ok (.putfield 124, 3) := dk_181 0 124 (dk_at dksJ4_rotateLeft_3 21 rfl rfl)
theorem dJ4_rotateLeft_95 : decode cJ4_rotateLeft 95 = .ok (.return_, 1) := dk_177 (dk_at dksJ4_rotateLeft_4 0 rfl rfl)
abbrev cJ4_rotateRight : ByteArray := prog_54_method_82_code
def yJ4_rotateRight : MethodName := ⟨RJ4, "rotateRight", "(Ljava/util/TreeMap$Entry;)V"⟩
def dkwJ4_rotateRight_4 : List UInt8 := [177]
abbrev dktJ4_rotateRight_4 : List UInt8 := dkwJ4_rotateRight_4 ++ []
def dkwJ4_rotateRight_3 : List UInt8 := [181, 0, 114, 167, 0, 11, 43, 180, 0, 124, 44, 181, 0, 111, 44, 43, 181, 0, 114, 43, 44, 181, 0, 124]
abbrev dktJ4_rotateRight_3 : List UInt8 := dkwJ4_rotateRight_3 ++ dktJ4_rotateRight_4
def dkwJ4_rotateRight_2 : List UInt8 := [44, 181, 0, 101, 167, 0, 33, 43, 180, 0, 124, 180, 0, 114, 43, 166, 0, 14, 43, 180, 0, 124, 44]
abbrev dktJ4_rotateRight_2 : List UInt8 := dkwJ4_rotateRight_2 ++ dktJ4_rotateRight_3
def dkwJ4_rotateRight_1 : List UInt8 := [44, 180, 0, 114, 43, 181, 0, 124, 44, 43, 180, 0, 124, 181, 0, 124, 43, 180, 0, 124, 199, 0, 11, 42]
abbrev dktJ4_rotateRight_1 : List UInt8 := dkwJ4_rotateRight_1 ++ dktJ4_rotateRight_2
def dkwJ4_rotateRight_0 : List UInt8 := [43, 198, 0, 94, 43, 180, 0, 111, 77, 43, 44, 180, 0, 114, 181, 0, 111, 44, 180, 0, 114, 198, 0, 11]
abbrev dktJ4_rotateRight_0 : List UInt8 := dkwJ4_rotateRight_0 ++ dktJ4_rotateRight_1
theorem dksJ4_rotateRight_0 : cJ4_rotateRight.data.toList.drop 0 = dktJ4_rotateRight_0 := by decide +kernel
theorem dksJ4_rotateRight_1 : cJ4_rotateRight.data.toList.drop 24 = dktJ4_rotateRight_1 := dk_seg dksJ4_rotateRight_0 24 rfl rfl
theorem dksJ4_rotateRight_2 : cJ4_rotateRight.data.toList.drop 48 = dktJ4_rotateRight_2 := dk_seg dksJ4_rotateRight_1 24 rfl rfl
theorem dksJ4_rotateRight_3 : cJ4_rotateRight.data.toList.drop 71 = dktJ4_rotateRight_3 := dk_seg dksJ4_rotateRight_2 23 rfl rfl
theorem dksJ4_rotateRight_4 : cJ4_rotateRight.data.toList.drop 95 = dktJ4_rotateRight_4 := dk_seg dksJ4_rotateRight_3 24 rfl rfl
theorem dJ4_rotateRight_0 : decode cJ4_rotateRight 0 = .ok (.aload_n 1, 1) := dk_43 (dk_at dksJ4_rotateRight_0 0 rfl rfl)
theorem dJ4_rotateRight_1 : decode cJ4_rotateRight 1 = .ok (.ifnull 94, 3) := dk_198 0 94 (dk_at dksJ4_rotateRight_0 1 rfl rfl)
theorem dJ4_rotateRight_4 : decode cJ4_rotateRight 4 = .ok (.aload_n 1, 1) := dk_43 (dk_at dksJ4_rotateRight_0 4 rfl rfl)
theorem dJ4_rotateRight_5 : decode cJ4_rotateRight 5 = .ok (.getfield 111, 3) := dk_180 0 111 (dk_at dksJ4_rotateRight_0 5 rfl rfl)
theorem dJ4_rotateRight_8 : decode cJ4_rotateRight 8 = .ok (.astore_n 2, 1) := dk_77 (dk_at dksJ4_rotateRight_0 8 rfl rfl)
theorem dJ4_rotateRight_9 : decode cJ4_rotateRight 9 = .ok (.aload_n 1, 1) := dk_43 (dk_at dksJ4_rotateRight_0 9 rfl rfl)
theorem dJ4_rotateRight_10 : decode cJ4_rotateRight 10 = .ok (.aload_n 2, 1) := dk_44 (dk_at dksJ4_rotateRight_0 10 rfl rfl)
theorem dJ4_rotateRight_11 : decode cJ4_rotateRight 11 = .ok (.getfield 114, 3) := dk_180 0 114 (dk_at dksJ4_rotateRight_0 11 rfl rfl)
theorem dJ4_rotateRight_14 : decode cJ4_rotateRight 14 = .ok (.putfield 111, 3) := dk_181 0 111 (dk_at dksJ4_rotateRight_0 14 rfl rfl)
theorem dJ4_rotateRight_17 : decode cJ4_rotateRight 17 = .ok (.aload_n 2, 1) := dk_44 (dk_at dksJ4_rotateRight_0 17 rfl rfl)
theorem dJ4_rotateRight_18 : decode cJ4_rotateRight 18 = .ok (.getfield 114, 3) := dk_180 0 114 (dk_at dksJ4_rotateRight_0 18 rfl rfl)
theorem dJ4_rotateRight_21 : decode cJ4_rotateRight 21 = .ok (.ifnull 11, 3) := dk_198 0 11 (dk_at dksJ4_rotateRight_0 21 rfl rfl)
theorem dJ4_rotateRight_24 : decode cJ4_rotateRight 24 = .ok (.aload_n 2, 1) := dk_44 (dk_at dksJ4_rotateRight_1 0 rfl rfl)
theorem dJ4_rotateRight_25 : decode cJ4_rotateRight 25 = .ok (.getfield 114, 3) := dk_180 0 114 (dk_at dksJ4_rotateRight_1 1 rfl rfl)
theorem dJ4_rotateRight_28 : decode cJ4_rotateRight 28 = .ok (.aload_n 1, 1) := dk_43 (dk_at dksJ4_rotateRight_1 4 rfl rfl)
theorem dJ4_rotateRight_29 : decode cJ4_rotateRight 29 = .ok (.putfield 124, 3) := dk_181 0 124 (dk_at dksJ4_rotateRight_1 5 rfl rfl)
theorem dJ4_rotateRight_32 : decode cJ4_rotateRight 32 = .ok (.aload_n 2, 1) := dk_44 (dk_at dksJ4_rotateRight_1 8 rfl rfl)
theorem dJ4_rotateRight_33 : decode cJ4_rotateRight 33 = .ok (.aload_n 1, 1) := dk_43 (dk_at dksJ4_rotateRight_1 9 rfl rfl)
theorem dJ4_rotateRight_34 : decode cJ4_rotateRight 34 = .ok (.getfield 124, 3) := dk_180 0 124 (dk_at dksJ4_rotateRight_1 10 rfl rfl)
theorem dJ4_rotateRight_37 : decode cJ4_rotateRight 37 = .ok (.putfield 124, 3) := dk_181 0 124 (dk_at dksJ4_rotateRight_1 13 rfl rfl)
theorem dJ4_rotateRight_40 : decode cJ4_rotateRight 40 = .ok (.aload_n 1, 1) := dk_43 (dk_at dksJ4_rotateRight_1 16 rfl rfl)
theorem dJ4_rotateRight_41 : decode cJ4_rotateRight 41 = .ok (.getfield 124, 3) := dk_180 0 124 (dk_at dksJ4_rotateRight_1 17 rfl rfl)
theorem dJ4_rotateRight_44 : decode cJ4_rotateRight 44 = .ok (.ifnonnull 11, 3) := dk_199 0 11 (dk_at dksJ4_rotateRight_1 20 rfl rfl)
theorem dJ4_rotateRight_47 : decode cJ4_rotateRight 47 = .ok (.aload_n 0, 1) := dk_42 (dk_at dksJ4_rotateRight_1 23 rfl rfl)
theorem dJ4_rotateRight_48 : decode cJ4_rotateRight 48 = .ok (.aload_n 2, 1) := dk_44 (dk_at dksJ4_rotateRight_2 0 rfl rfl)
theorem dJ4_rotateRight_49 : decode cJ4_rotateRight 49 = .ok (.putfield 101, 3) := dk_181 0 101 (dk_at dksJ4_rotateRight_2 1 rfl rfl)
theorem dJ4_rotateRight_52 : decode cJ4_rotateRight 52 = .ok (.goto 33, 3) := dk_167 0 33 (dk_at dksJ4_rotateRight_2 4 rfl rfl)
theorem dJ4_rotateRight_55 : decode cJ4_rotateRight 55 = .ok (.aload_n 1, 1) := dk_43 (dk_at dksJ4_rotateRight_2 7 rfl rfl)
theorem dJ4_rotateRight_56 : decode cJ4_rotateRight 56 = .ok (.getfield 124, 3) := dk_180 0 124 (dk_at dksJ4_rotateRight_2 8 rfl rfl)
theorem dJ4_rotateRight_59 : decode cJ4_rotateRight 59 = .ok (.getfield 114, 3) := dk_180 0 114 (dk_at dksJ4_rotateRight_2 11 rfl rfl)
theorem dJ4_rotateRight_62 : decode cJ4_rotateRight 62 = .ok (.aload_n 1, 1) := dk_43 (dk_at dksJ4_rotateRight_2 14 rfl rfl)
theorem dJ4_rotateRight_63 : decode cJ4_rotateRight 63 = .ok (.if_acmp .ne 14, 3) := dk_166 0 14 (dk_at dksJ4_rotateRight_2 15 rfl rfl)
theorem dJ4_rotateRight_66 : decode cJ4_rotateRight 66 = .ok (.aload_n 1, 1) := dk_43 (dk_at dksJ4_rotateRight_2 18 rfl rfl)
theorem dJ4_rotateRight_67 : decode cJ4_rotateRight 67 = .ok (.getfield 124, 3) := dk_180 0 124 (dk_at dksJ4_rotateRight_2 19 rfl rfl)
theorem dJ4_rotateRight_70 : decode cJ4_rotateRight 70 = .ok (.aload_n 2, 1) := dk_44 (dk_at dksJ4_rotateRight_2 22 rfl rfl)
theorem dJ4_rotateRight_71 : decode cJ4_rotateRight 71 = .ok (.putfield 114, 3) := dk_181 0 114 (dk_at dksJ4_rotateRight_3 0 rfl rfl)
theorem dJ4_rotateRight_74 : decode cJ4_rotateRight 74 = .ok (.goto 11, 3) := dk_167 0 11 (dk_at dksJ4_rotateRight_3 3 rfl rfl)
theorem dJ4_rotateRight_77 : decode cJ4_rotateRight 77 = .ok (.aload_n 1, 1) := dk_43 (dk_at dksJ4_rotateRight_3 6 rfl rfl)
theorem dJ4_rotateRight_78 : decode cJ4_rotateRight 78 = .ok (.getfield 124, 3) := dk_180 0 124 (dk_at dksJ4_rotateRight_3 7 rfl rfl)
theorem dJ4_rotateRight_81 : decode cJ4_rotateRight 81 = .ok (.aload_n 2, 1) := dk_44 (dk_at dksJ4_rotateRight_3 10 rfl rfl)
theorem dJ4_rotateRight_82 : decode cJ4_rotateRight 82 = .ok (.putfield 111, 3) := dk_181 0 111 (dk_at dksJ4_rotateRight_3 11 rfl rfl)
theorem dJ4_rotateRight_85 : decode cJ4_rotateRight 85 = .ok (.aload_n 2, 1) := dk_44 (dk_at dksJ4_rotateRight_3 14 rfl rfl)
theorem dJ4_rotateRight_86 : decode cJ4_rotateRight 86 = .ok (.aload_n 1, 1) := dk_43 (dk_at dksJ4_rotateRight_3 15 rfl rfl)
theorem dJ4_rotateRight_87 : decode cJ4_rotateRight 87 = .ok (.putfield 114, 3) := dk_181 0 114 (dk_at dksJ4_rotateRight_3 16 rfl rfl)
theorem dJ4_rotateRight_90 : decode cJ4_rotateRight 90 = .ok (.aload_n 1, 1) := dk_43 (dk_at dksJ4_rotateRight_3 19 rfl rfl)
theorem dJ4_rotateRight_91 : decode cJ4_rotateRight 91 = .ok (.aload_n 2, 1) := dk_44 (dk_at dksJ4_rotateRight_3 20 rfl rfl)
theorem dJ4_rotateRight_92 : decode cJ4_rotateRight 92 = .ok (.putfield 124, 3) := dk_181 0 124 (dk_at dksJ4_rotateRight_3 21 rfl rfl)
theorem dJ4_rotateRight_95 : decode cJ4_rotateRight 95 = .ok (.return_, 1) := dk_177 (dk_at dksJ4_rotateRight_4 0 rfl rfl)
abbrev cJ4_size : ByteArray := prog_54_method_5_code
def yJ4_size : MethodName := ⟨RJ4, "size", "()I"⟩
theorem dJ4_size_0 : decode cJ4_size 0 = .ok (.aload_n 0, 1) := by decide +kernel
theorem dJ4_size_1 : decode cJ4_size 1 = .ok (.getfield 7, 3) := by decide +kernel
theorem dJ4_size_4 : decode cJ4_size 4 = .ok (.ireturn, 1) := by decide +kernel
abbrev cJ4_firstKey : ByteArray := prog_54_method_10_code
def yJ4_firstKey : MethodName := ⟨RJ4, "firstKey", "()Ljava/lang/Object;"⟩
def dkwJ4_firstKey_0 : List UInt8 := [42, 182, 0, 54, 184, 0, 72, 176]
abbrev dktJ4_firstKey_0 : List UInt8 := dkwJ4_firstKey_0 ++ []
theorem dksJ4_firstKey_0 : cJ4_firstKey.data.toList.drop 0 = dktJ4_firstKey_0 := by decide +kernel
theorem dJ4_firstKey_0 : decode cJ4_firstKey 0 = .ok (.aload_n 0, 1) := dk_42 (dk_at dksJ4_firstKey_0 0 rfl rfl)
theorem dJ4_firstKey_1 : decode cJ4_firstKey 1 = .ok (.invokevirtual 54, 3) := dk_182 0 54 (dk_at dksJ4_firstKey_0 1 rfl rfl)
theorem dJ4_firstKey_4 : decode cJ4_firstKey 4 = .ok (.invokestatic 72, 3) := dk_184 0 72 (dk_at dksJ4_firstKey_0 4 rfl rfl)
theorem dJ4_firstKey_7 : decode cJ4_firstKey 7 = .ok (.areturn, 1) := dk_176 (dk_at dksJ4_firstKey_0 7 rfl rfl)
abbrev cJ4_getFirstEntry : ByteArray := prog_54_method_72_code
def yJ4_getFirstEntry : MethodName := ⟨RJ4, "getFirstEntry", "()Ljava/util/TreeMap$Entry;"⟩
def dkwJ4_getFirstEntry_1 : List UInt8 := [43, 176]
abbrev dktJ4_getFirstEntry_1 : List UInt8 := dkwJ4_getFirstEntry_1 ++ []
def dkwJ4_getFirstEntry_0 : List UInt8 := [42, 180, 0, 101, 76, 43, 198, 0, 18, 43, 180, 0, 111, 198, 0, 11, 43, 180, 0, 111, 76, 167, 255, 244]
abbrev dktJ4_getFirstEntry_0 : List UInt8 := dkwJ4_getFirstEntry_0 ++ dktJ4_getFirstEntry_1
theorem dksJ4_getFirstEntry_0 : cJ4_getFirstEntry.data.toList.drop 0 = dktJ4_getFirstEntry_0 := by decide +kernel
theorem dksJ4_getFirstEntry_1 : cJ4_getFirstEntry.data.toList.drop 24 = dktJ4_getFirstEntry_1 := dk_seg dksJ4_getFirstEntry_0 24 rfl rfl
theorem dJ4_getFirstEntry_0 : decode cJ4_getFirstEntry 0 = .ok (.aload_n 0, 1) := dk_42 (dk_at dksJ4_getFirstEntry_0 0 rfl rfl)
theorem dJ4_getFirstEntry_1 : decode cJ4_getFirstEntry 1 = .ok (.getfield 101, 3) := dk_180 0 101 (dk_at dksJ4_getFirstEntry_0 1 rfl rfl)
theorem dJ4_getFirstEntry_4 : decode cJ4_getFirstEntry 4 = .ok (.astore_n 1, 1) := dk_76 (dk_at dksJ4_getFirstEntry_0 4 rfl rfl)
theorem dJ4_getFirstEntry_5 : decode cJ4_getFirstEntry 5 = .ok (.aload_n 1, 1) := dk_43 (dk_at dksJ4_getFirstEntry_0 5 rfl rfl)
theorem dJ4_getFirstEntry_6 : decode cJ4_getFirstEntry 6 = .ok (.ifnull 18, 3) := dk_198 0 18 (dk_at dksJ4_getFirstEntry_0 6 rfl rfl)
theorem dJ4_getFirstEntry_9 : decode cJ4_getFirstEntry 9 = .ok (.aload_n 1, 1) := dk_43 (dk_at dksJ4_getFirstEntry_0 9 rfl rfl)
theorem dJ4_getFirstEntry_10 : decode cJ4_getFirstEntry 10 = .ok (.getfield 111, 3) := dk_180 0 111 (dk_at dksJ4_getFirstEntry_0 10 rfl rfl)
theorem dJ4_getFirstEntry_13 : decode cJ4_getFirstEntry 13 = .ok (.ifnull 11, 3) := dk_198 0 11 (dk_at dksJ4_getFirstEntry_0 13 rfl rfl)
theorem dJ4_getFirstEntry_16 : decode cJ4_getFirstEntry 16 = .ok (.aload_n 1, 1) := dk_43 (dk_at dksJ4_getFirstEntry_0 16 rfl rfl)
theorem dJ4_getFirstEntry_17 : decode cJ4_getFirstEntry 17 = .ok (.getfield 111, 3) := dk_180 0 111 (dk_at dksJ4_getFirstEntry_0 17 rfl rfl)
theorem dJ4_getFirstEntry_20 : decode cJ4_getFirstEntry 20 = .ok (.astore_n 1, 1) := dk_76 (dk_at dksJ4_getFirstEntry_0 20 rfl rfl)
theorem dJ4_getFirstEntry_21 : decode cJ4_getFirstEntry 21 = .ok (.goto (-12), 3) := dk_167 255 244 (dk_at dksJ4_getFirstEntry_0 21 rfl rfl)
theorem dJ4_getFirstEntry_24 : decode cJ4_getFirstEntry 24 = .ok (.aload_n 1, 1) := dk_43 (dk_at dksJ4_getFirstEntry_1 0 rfl rfl)
theorem dJ4_getFirstEntry_25 : decode cJ4_getFirstEntry 25 = .ok (.areturn, 1) := dk_176 (dk_at dksJ4_getFirstEntry_1 1 rfl rfl)
abbrev cJ4_key : ByteArray := prog_54_method_71_code
def yJ4_key : MethodName := ⟨RJ4, "key", "(Ljava/util/TreeMap$Entry;)Ljava/lang/Object;"⟩
def dkwJ4_key_0 : List UInt8 := [42, 199, 0, 11, 187, 1, 31, 89, 183, 1, 33, 191, 42, 180, 0, 105, 176]
abbrev dktJ4_key_0 : List UInt8 := dkwJ4_key_0 ++ []
theorem dksJ4_key_0 : cJ4_key.data.toList.drop 0 = dktJ4_key_0 := by decide +kernel
theorem dJ4_key_0 : decode cJ4_key 0 = .ok (.aload_n 0, 1) := dk_42 (dk_at dksJ4_key_0 0 rfl rfl)
theorem dJ4_key_1 : decode cJ4_key 1 = .ok (.ifnonnull 11, 3) := dk_199 0 11 (dk_at dksJ4_key_0 1 rfl rfl)
theorem dJ4_key_4 : decode cJ4_key 4 = .ok (.new 287, 3) := dk_187 1 31 (dk_at dksJ4_key_0 4 rfl rfl)
theorem dJ4_key_7 : decode cJ4_key 7 = .ok (.dup, 1) := dk_89 (dk_at dksJ4_key_0 7 rfl rfl)
theorem dJ4_key_8 : decode cJ4_key 8 = .ok (.invokespecial 289, 3) := dk_183 1 33 (dk_at dksJ4_key_0 8 rfl rfl)
theorem dJ4_key_11 : decode cJ4_key 11 = .ok (.athrow, 1) := dk_191 (dk_at dksJ4_key_0 11 rfl rfl)
theorem dJ4_key_12 : decode cJ4_key 12 = .ok (.aload_n 0, 1) := dk_42 (dk_at dksJ4_key_0 12 rfl rfl)
theorem dJ4_key_13 : decode cJ4_key 13 = .ok (.getfield 105, 3) := dk_180 0 105 (dk_at dksJ4_key_0 13 rfl rfl)
theorem dJ4_key_16 : decode cJ4_key 16 = .ok (.areturn, 1) := dk_176 (dk_at dksJ4_key_0 16 rfl rfl)
abbrev cJ4_higherKey : ByteArray := prog_54_method_48_code
def yJ4_higherKey : MethodName := ⟨RJ4, "higherKey", "(Ljava/lang/Object;)Ljava/lang/Object;"⟩
def dkwJ4_higherKey_0 : List UInt8 := [42, 43, 182, 0, 216, 184, 0, 207, 176]
abbrev dktJ4_higherKey_0 : List UInt8 := dkwJ4_higherKey_0 ++ []
theorem dksJ4_higherKey_0 : cJ4_higherKey.data.toList.drop 0 = dktJ4_higherKey_0 := by decide +kernel
theorem dJ4_higherKey_0 : decode cJ4_higherKey 0 = .ok (.aload_n 0, 1) := dk_42 (dk_at dksJ4_higherKey_0 0 rfl rfl)
theorem dJ4_higherKey_1 : decode cJ4_higherKey 1 = .ok (.aload_n 1, 1) := dk_43 (dk_at dksJ4_higherKey_0 1 rfl rfl)
theorem dJ4_higherKey_2 : decode cJ4_higherKey 2 = .ok (.invokevirtual 216, 3) := dk_182 0 216 (dk_at dksJ4_higherKey_0 2 rfl rfl)
theorem dJ4_higherKey_5 : decode cJ4_higherKey 5 = .ok (.invokestatic 207, 3) := dk_184 0 207 (dk_at dksJ4_higherKey_0 5 rfl rfl)
theorem dJ4_higherKey_8 : decode cJ4_higherKey 8 = .ok (.areturn, 1) := dk_176 (dk_at dksJ4_higherKey_0 8 rfl rfl)
abbrev cJ4_getHigherEntry : ByteArray := prog_54_method_19_code
def yJ4_getHigherEntry : MethodName := ⟨RJ4, "getHigherEntry", "(Ljava/lang/Object;)Ljava/util/TreeMap$Entry;"⟩
def dkwJ4_getHigherEntry_4 : List UInt8 := [176, 167, 255, 165, 1, 176]
abbrev dktJ4_getHigherEntry_4 : List UInt8 := dkwJ4_getHigherEntry_4 ++ []
def dkwJ4_getHigherEntry_3 : List UInt8 := [25, 4, 180, 0, 114, 166, 0, 17, 25, 4, 58, 5, 25, 4, 180, 0, 124, 58, 4, 167, 255, 230, 25, 4]
abbrev dktJ4_getHigherEntry_3 : List UInt8 := dkwJ4_getHigherEntry_3 ++ dktJ4_getHigherEntry_4
def dkwJ4_getHigherEntry_2 : List UInt8 := [180, 0, 114, 77, 167, 0, 44, 44, 180, 0, 124, 58, 4, 44, 58, 5, 25, 4, 198, 0, 27, 25, 5]
abbrev dktJ4_getHigherEntry_2 : List UInt8 := dkwJ4_getHigherEntry_2 ++ dktJ4_getHigherEntry_3
def dkwJ4_getHigherEntry_1 : List UInt8 := [180, 0, 111, 198, 0, 11, 44, 180, 0, 111, 77, 167, 0, 61, 44, 176, 44, 180, 0, 114, 198, 0, 11, 44]
abbrev dktJ4_getHigherEntry_1 : List UInt8 := dkwJ4_getHigherEntry_1 ++ dktJ4_getHigherEntry_2
def dkwJ4_getHigherEntry_0 : List UInt8 := [42, 180, 0, 101, 77, 44, 198, 0, 93, 42, 43, 44, 180, 0, 105, 182, 0, 123, 62, 29, 156, 0, 20, 44]
abbrev dktJ4_getHigherEntry_0 : List UInt8 := dkwJ4_getHigherEntry_0 ++ dktJ4_getHigherEntry_1
theorem dksJ4_getHigherEntry_0 : cJ4_getHigherEntry.data.toList.drop 0 = dktJ4_getHigherEntry_0 := by decide +kernel
theorem dksJ4_getHigherEntry_1 : cJ4_getHigherEntry.data.toList.drop 24 = dktJ4_getHigherEntry_1 := dk_seg dksJ4_getHigherEntry_0 24 rfl rfl
theorem dksJ4_getHigherEntry_2 : cJ4_getHigherEntry.data.toList.drop 48 = dktJ4_getHigherEntry_2 := dk_seg dksJ4_getHigherEntry_1 24 rfl rfl
theorem dksJ4_getHigherEntry_3 : cJ4_getHigherEntry.data.toList.drop 71 = dktJ4_getHigherEntry_3 := dk_seg dksJ4_getHigherEntry_2 23 rfl rfl
theorem dksJ4_getHigherEntry_4 : cJ4_getHigherEntry.data.toList.drop 95 = dktJ4_getHigherEntry_4 := dk_seg dksJ4_getHigherEntry_3 24 rfl rfl
theorem dJ4_getHigherEntry_0 : decode cJ4_getHigherEntry 0 = .ok (.aload_n 0, 1) := dk_42 (dk_at dksJ4_getHigherEntry_0 0 rfl rfl)
theorem dJ4_getHigherEntry_1 : decode cJ4_getHigherEntry 1 = .ok (.getfield 101, 3) := dk_180 0 101 (dk_at dksJ4_getHigherEntry_0 1 rfl rfl)
theorem dJ4_getHigherEntry_4 : decode cJ4_getHigherEntry 4 = .ok (.astore_n 2, 1) := dk_77 (dk_at dksJ4_getHigherEntry_0 4 rfl rfl)
theorem dJ4_getHigherEntry_5 : decode cJ4_getHigherEntry 5 = .ok (.aload_n 2, 1) := dk_44 (dk_at dksJ4_getHigherEntry_0 5 rfl rfl)
theorem dJ4_getHigherEntry_6 : decode cJ4_getHigherEntry 6 = .ok (.ifnull 93, 3) := dk_198 0 93 (dk_at dksJ4_getHigherEntry_0 6 rfl rfl)
theorem dJ4_getHigherEntry_9 : decode cJ4_getHigherEntry 9 = .ok (.aload_n 0, 1) := dk_42 (dk_at dksJ4_getHigherEntry_0 9 rfl rfl)
theorem dJ4_getHigherEntry_10 : decode cJ4_getHigherEntry 10 = .ok (.aload_n 1, 1) := dk_43 (dk_at dksJ4_getHigherEntry_0 10 rfl rfl)
theorem dJ4_getHigherEntry_11 : decode cJ4_getHigherEntry 11 = .ok (.aload_n 2, 1) := dk_44 (dk_at dksJ4_getHigherEntry_0 11 rfl rfl)
theorem dJ4_getHigherEntry_12 : decode cJ4_getHigherEntry 12 = .ok (.getfield 105, 3) := dk_180 0 105 (dk_at dksJ4_getHigherEntry_0 12 rfl rfl)
theorem dJ4_getHigherEntry_15 : decode cJ4_getHigherEntry 15 = .ok (.invokevirtual 123, 3) := dk_182 0 123 (dk_at dksJ4_getHigherEntry_0 15 rfl rfl)
theorem dJ4_getHigherEntry_18 : decode cJ4_getHigherEntry 18 = .ok (.istore_n 3, 1) := dk_62 (dk_at dksJ4_getHigherEntry_0 18 rfl rfl)
theorem dJ4_getHigherEntry_19 : decode cJ4_getHigherEntry 19 = .ok (.iload_n 3, 1) := dk_29 (dk_at dksJ4_getHigherEntry_0 19 rfl rfl)
theorem dJ4_getHigherEntry_20 : decode cJ4_getHigherEntry 20 = .ok (.ifCond .ge 20, 3) := dk_156 0 20 (dk_at dksJ4_getHigherEntry_0 20 rfl rfl)
theorem dJ4_getHigherEntry_23 : decode cJ4_getHigherEntry 23 = .ok (.aload_n 2, 1) := dk_44 (dk_at dksJ4_getHigherEntry_0 23 rfl rfl)
theorem dJ4_getHigherEntry_24 : decode cJ4_getHigherEntry 24 = .ok (.getfield 111, 3) := dk_180 0 111 (dk_at dksJ4_getHigherEntry_1 0 rfl rfl)
theorem dJ4_getHigherEntry_27 : decode cJ4_getHigherEntry 27 = .ok (.ifnull 11, 3) := dk_198 0 11 (dk_at dksJ4_getHigherEntry_1 3 rfl rfl)
theorem dJ4_getHigherEntry_30 : decode cJ4_getHigherEntry 30 = .ok (.aload_n 2, 1) := dk_44 (dk_at dksJ4_getHigherEntry_1 6 rfl rfl)
theorem dJ4_getHigherEntry_31 : decode cJ4_getHigherEntry 31 = .ok (.getfield 111, 3) := dk_180 0 111 (dk_at dksJ4_getHigherEntry_1 7 rfl rfl)
theorem dJ4_getHigherEntry_34 : decode cJ4_getHigherEntry 34 = .ok (.astore_n 2, 1) := dk_77 (dk_at dksJ4_getHigherEntry_1 10 rfl rfl)
theorem dJ4_getHigherEntry_35 : decode cJ4_getHigherEntry 35 = .ok (.goto 61, 3) := dk_167 0 61 (dk_at dksJ4_getHigherEntry_1 11 rfl rfl)
theorem dJ4_getHigherEntry_38 : decode cJ4_getHigherEntry 38 = .ok (.aload_n 2, 1) := dk_44 (dk_at dksJ4_getHigherEntry_1 14 rfl rfl)
theorem dJ4_getHigherEntry_39 : decode cJ4_getHigherEntry 39 = .ok (.areturn, 1) := dk_176 (dk_at dksJ4_getHigherEntry_1 15 rfl rfl)
theorem dJ4_getHigherEntry_40 : decode cJ4_getHigherEntry 40 = .ok (.aload_n 2, 1) := dk_44 (dk_at dksJ4_getHigherEntry_1 16 rfl rfl)
theorem dJ4_getHigherEntry_41 : decode cJ4_getHigherEntry 41 = .ok (.getfield 114, 3) := dk_180 0 114 (dk_at dksJ4_getHigherEntry_1 17 rfl rfl)
theorem dJ4_getHigherEntry_44 : decode cJ4_getHigherEntry 44 = .ok (.ifnull 11, 3) := dk_198 0 11 (dk_at dksJ4_getHigherEntry_1 20 rfl rfl)
theorem dJ4_getHigherEntry_47 : decode cJ4_getHigherEntry 47 = .ok (.aload_n 2, 1) := dk_44 (dk_at dksJ4_getHigherEntry_1 23 rfl rfl)
theorem dJ4_getHigherEntry_48 : decode cJ4_getHigherEntry 48 = .ok (.getfield 114, 3) := dk_180 0 114 (dk_at dksJ4_getHigherEntry_2 0 rfl rfl)
theorem dJ4_getHigherEntry_51 : decode cJ4_getHigherEntry 51 = .ok (.astore_n 2, 1) := dk_77 (dk_at dksJ4_getHigherEntry_2 3 rfl rfl)
theorem dJ4_getHigherEntry_52 : decode cJ4_getHigherEntry 52 = .ok (.goto 44, 3) := dk_167 0 44 (dk_at dksJ4_getHigherEntry_2 4 rfl rfl)
theorem dJ4_getHigherEntry_55 : decode cJ4_getHigherEntry 55 = .ok (.aload_n 2, 1) := dk_44 (dk_at dksJ4_getHigherEntry_2 7 rfl rfl)
theorem dJ4_getHigherEntry_56 : decode cJ4_getHigherEntry 56 = .ok (.getfield 124, 3) := dk_180 0 124 (dk_at dksJ4_getHigherEntry_2 8 rfl rfl)
theorem dJ4_getHigherEntry_59 : decode cJ4_getHigherEntry 59 = .ok (.astore 4, 2) := dk_58 4 (dk_at dksJ4_getHigherEntry_2 11 rfl rfl)
theorem dJ4_getHigherEntry_61 : decode cJ4_getHigherEntry 61 = .ok (.aload_n 2, 1) := dk_44 (dk_at dksJ4_getHigherEntry_2 13 rfl rfl)
theorem dJ4_getHigherEntry_62 : decode cJ4_getHigherEntry 62 = .ok (.astore 5, 2) := dk_58 5 (dk_at dksJ4_getHigherEntry_2 14 rfl rfl)
theorem dJ4_getHigherEntry_64 : decode cJ4_getHigherEntry 64 = .ok (.aload 4, 2) := dk_25 4 (dk_at dksJ4_getHigherEntry_2 16 rfl rfl)
theorem dJ4_getHigherEntry_66 : decode cJ4_getHigherEntry 66 = .ok (.ifnull 27, 3) := dk_198 0 27 (dk_at dksJ4_getHigherEntry_2 18 rfl rfl)
theorem dJ4_getHigherEntry_69 : decode cJ4_getHigherEntry 69 = .ok (.aload 5, 2) := dk_25 5 (dk_at dksJ4_getHigherEntry_2 21 rfl rfl)
theorem dJ4_getHigherEntry_71 : decode cJ4_getHigherEntry 71 = .ok (.aload 4, 2) := dk_25 4 (dk_at dksJ4_getHigherEntry_3 0 rfl rfl)
theorem dJ4_getHigherEntry_73 : decode cJ4_getHigherEntry 73 = .ok (.getfield 114, 3) := dk_180 0 114 (dk_at dksJ4_getHigherEntry_3 2 rfl rfl)
theorem dJ4_getHigherEntry_76 : decode cJ4_getHigherEntry 76 = .ok (.if_acmp .ne 17, 3) := dk_166 0 17 (dk_at dksJ4_getHigherEntry_3 5 rfl rfl)
theorem dJ4_getHigherEntry_79 : decode cJ4_getHigherEntry 79 = .ok (.aload 4, 2) := dk_25 4 (dk_at dksJ4_getHigherEntry_3 8 rfl rfl)
theorem dJ4_getHigherEntry_81 : decode cJ4_getHigherEntry 81 = .ok (.astore 5, 2) := dk_58 5 (dk_at dksJ4_getHigherEntry_3 10 rfl rfl)
theorem dJ4_getHigherEntry_83 : decode cJ4_getHigherEntry 83 = .ok (.aload 4, 2) := dk_25 4 (dk_at dksJ4_getHigherEntry_3 12 rfl rfl)
theorem dJ4_getHigherEntry_85 : decode cJ4_getHigherEntry 85 = .ok (.getfield 124, 3) := dk_180 0 124 (dk_at dksJ4_getHigherEntry_3 14 rfl rfl)
theorem dJ4_getHigherEntry_88 : decode cJ4_getHigherEntry 88 = .ok (.astore 4, 2) := dk_58 4 (dk_at dksJ4_getHigherEntry_3 17 rfl rfl)
theorem dJ4_getHigherEntry_90 : decode cJ4_getHigherEntry 90 = .ok (.goto (-26), 3) := dk_167 255 230 (dk_at dksJ4_getHigherEntry_3 19 rfl rfl)
theorem dJ4_getHigherEntry_93 : decode cJ4_getHigherEntry 93 = .ok (.aload 4, 2) := dk_25 4 (dk_at dksJ4_getHigherEntry_3 22 rfl rfl)
theorem dJ4_getHigherEntry_95 : decode cJ4_getHigherEntry 95 = .ok (.areturn, 1) := dk_176 (dk_at dksJ4_getHigherEntry_4 0 rfl rfl)
theorem dJ4_getHigherEntry_96 : decode cJ4_getHigherEntry 96 = .ok (.goto (-91), 3) := dk_167 255 165 (dk_at dksJ4_getHigherEntry_4 1 rfl rfl)
theorem dJ4_getHigherEntry_99 : decode cJ4_getHigherEntry 99 = .ok (.aconst_null, 1) := dk_1 (dk_at dksJ4_getHigherEntry_4 4 rfl rfl)
theorem dJ4_getHigherEntry_100 : decode cJ4_getHigherEntry 100 = .ok (.areturn, 1) := dk_176 (dk_at dksJ4_getHigherEntry_4 5 rfl rfl)
abbrev cJ4_keyOrNull : ByteArray := prog_54_method_70_code
def yJ4_keyOrNull : MethodName := ⟨RJ4, "keyOrNull", "(Ljava/util/TreeMap$Entry;)Ljava/lang/Object;"⟩
def dkwJ4_keyOrNull_0 : List UInt8 := [42, 199, 0, 7, 1, 167, 0, 7, 42, 180, 0, 105, 176]
abbrev dktJ4_keyOrNull_0 : List UInt8 := dkwJ4_keyOrNull_0 ++ []
theorem dksJ4_keyOrNull_0 : cJ4_keyOrNull.data.toList.drop 0 = dktJ4_keyOrNull_0 := by decide +kernel
theorem dJ4_keyOrNull_0 : decode cJ4_keyOrNull 0 = .ok (.aload_n 0, 1) := dk_42 (dk_at dksJ4_keyOrNull_0 0 rfl rfl)
theorem dJ4_keyOrNull_1 : decode cJ4_keyOrNull 1 = .ok (.ifnonnull 7, 3) := dk_199 0 7 (dk_at dksJ4_keyOrNull_0 1 rfl rfl)
theorem dJ4_keyOrNull_4 : decode cJ4_keyOrNull 4 = .ok (.aconst_null, 1) := dk_1 (dk_at dksJ4_keyOrNull_0 4 rfl rfl)
theorem dJ4_keyOrNull_5 : decode cJ4_keyOrNull 5 = .ok (.goto 7, 3) := dk_167 0 7 (dk_at dksJ4_keyOrNull_0 5 rfl rfl)
theorem dJ4_keyOrNull_8 : decode cJ4_keyOrNull 8 = .ok (.aload_n 0, 1) := dk_42 (dk_at dksJ4_keyOrNull_0 8 rfl rfl)
theorem dJ4_keyOrNull_9 : decode cJ4_keyOrNull 9 = .ok (.getfield 105, 3) := dk_180 0 105 (dk_at dksJ4_keyOrNull_0 9 rfl rfl)
theorem dJ4_keyOrNull_12 : decode cJ4_keyOrNull 12 = .ok (.areturn, 1) := dk_176 (dk_at dksJ4_keyOrNull_0 12 rfl rfl)
abbrev cJ4_get : ByteArray := prog_54_method_8_code
def yJ4_get : MethodName := ⟨RJ4, "get", "(Ljava/lang/Object;)Ljava/lang/Object;"⟩
def dkwJ4_get_0 : List UInt8 := [42, 43, 182, 0, 50, 77, 44, 199, 0, 7, 1, 167, 0, 7, 44, 180, 0, 58, 176]
abbrev dktJ4_get_0 : List UInt8 := dkwJ4_get_0 ++ []
theorem dksJ4_get_0 : cJ4_get.data.toList.drop 0 = dktJ4_get_0 := by decide +kernel
theorem dJ4_get_0 : decode cJ4_get 0 = .ok (.aload_n 0, 1) := dk_42 (dk_at dksJ4_get_0 0 rfl rfl)
theorem dJ4_get_1 : decode cJ4_get 1 = .ok (.aload_n 1, 1) := dk_43 (dk_at dksJ4_get_0 1 rfl rfl)
theorem dJ4_get_2 : decode cJ4_get 2 = .ok (.invokevirtual 50, 3) := dk_182 0 50 (dk_at dksJ4_get_0 2 rfl rfl)
theorem dJ4_get_5 : decode cJ4_get 5 = .ok (.astore_n 2, 1) := dk_77 (dk_at dksJ4_get_0 5 rfl rfl)
theorem dJ4_get_6 : decode cJ4_get 6 = .ok (.aload_n 2, 1) := dk_44 (dk_at dksJ4_get_0 6 rfl rfl)
theorem dJ4_get_7 : decode cJ4_get 7 = .ok (.ifnonnull 7, 3) := dk_199 0 7 (dk_at dksJ4_get_0 7 rfl rfl)
theorem dJ4_get_10 : decode cJ4_get 10 = .ok (.aconst_null, 1) := dk_1 (dk_at dksJ4_get_0 10 rfl rfl)
theorem dJ4_get_11 : decode cJ4_get 11 = .ok (.goto 7, 3) := dk_167 0 7 (dk_at dksJ4_get_0 11 rfl rfl)
theorem dJ4_get_14 : decode cJ4_get 14 = .ok (.aload_n 2, 1) := dk_44 (dk_at dksJ4_get_0 14 rfl rfl)
theorem dJ4_get_15 : decode cJ4_get 15 = .ok (.getfield 58, 3) := dk_180 0 58 (dk_at dksJ4_get_0 15 rfl rfl)
theorem dJ4_get_18 : decode cJ4_get 18 = .ok (.areturn, 1) := dk_176 (dk_at dksJ4_get_0 18 rfl rfl)
abbrev cJ4_getEntry : ByteArray := prog_54_method_15_code
def yJ4_getEntry : MethodName := ⟨RJ4, "getEntry", "(Ljava/lang/Object;)Ljava/util/TreeMap$Entry;"⟩
def dkwJ4_getEntry_3 : List UInt8 := [45, 176, 167, 255, 212, 1, 176]
abbrev dktJ4_getEntry_3 : List UInt8 := dkwJ4_getEntry_3 ++ []
def dkwJ4_getEntry_2 : List UInt8 := [156, 0, 11, 45, 180, 0, 111, 78, 167, 0, 18, 21, 4, 158, 0, 11, 45, 180, 0, 114, 78, 167, 0, 5]
abbrev dktJ4_getEntry_2 : List UInt8 := dkwJ4_getEntry_2 ++ dktJ4_getEntry_3
def dkwJ4_getEntry_1 : List UInt8 := [180, 0, 101, 78, 45, 198, 0, 46, 44, 45, 180, 0, 105, 185, 0, 107, 2, 0, 54, 4, 21, 4]
abbrev dktJ4_getEntry_1 : List UInt8 := dkwJ4_getEntry_1 ++ dktJ4_getEntry_2
def dkwJ4_getEntry_0 : List UInt8 := [42, 180, 0, 16, 198, 0, 9, 42, 43, 182, 0, 92, 176, 43, 184, 0, 95, 87, 43, 192, 0, 99, 77, 42]
abbrev dktJ4_getEntry_0 : List UInt8 := dkwJ4_getEntry_0 ++ dktJ4_getEntry_1
theorem dksJ4_getEntry_0 : cJ4_getEntry.data.toList.drop 0 = dktJ4_getEntry_0 := by decide +kernel
theorem dksJ4_getEntry_1 : cJ4_getEntry.data.toList.drop 24 = dktJ4_getEntry_1 := dk_seg dksJ4_getEntry_0 24 rfl rfl
theorem dksJ4_getEntry_2 : cJ4_getEntry.data.toList.drop 46 = dktJ4_getEntry_2 := dk_seg dksJ4_getEntry_1 22 rfl rfl
theorem dksJ4_getEntry_3 : cJ4_getEntry.data.toList.drop 70 = dktJ4_getEntry_3 := dk_seg dksJ4_getEntry_2 24 rfl rfl
theorem dJ4_getEntry_0 : decode cJ4_getEntry 0 = .ok (.aload_n 0, 1) := dk_42 (dk_at dksJ4_getEntry_0 0 rfl rfl)
theorem dJ4_getEntry_1 : decode cJ4_getEntry 1 = .ok (.getfield 16, 3) := dk_180 0 16 (dk_at dksJ4_getEntry_0 1 rfl rfl)
theorem dJ4_getEntry_4 : decode cJ4_getEntry 4 = .ok (.ifnull 9, 3) := dk_198 0 9 (dk_at dksJ4_getEntry_0 4 rfl rfl)
theorem dJ4_getEntry_7 : decode cJ4_getEntry 7 = .ok (.aload_n 0, 1) := dk_42 (dk_at dksJ4_getEntry_0 7 rfl rfl)
theorem dJ4_getEntry_8 : decode cJ4_getEntry 8 = .ok (.aload_n 1, 1) := dk_43 (dk_at dksJ4_getEntry_0 8 rfl rfl)
theorem dJ4_getEntry_9 : decode cJ4_getEntry 9 = .ok (.invokevirtual 92, 3) := dk_182 0 92 (dk_at dksJ4_getEntry_0 9 rfl rfl)
theorem dJ4_getEntry_12 : decode cJ4_getEntry 12 = .ok (.areturn, 1) := dk_176 (dk_at dksJ4_getEntry_0 12 rfl rfl)
theorem dJ4_getEntry_13 : decode cJ4_getEntry 13 = .ok (.aload_n 1, 1) := dk_43 (dk_at dksJ4_getEntry_0 13 rfl rfl)
theorem dJ4_getEntry_14 : decode cJ4_getEntry 14 = .ok (.invokestatic 95, 3) := dk_184 0 95 (dk_at dksJ4_getEntry_0 14 rfl rfl)
theorem dJ4_getEntry_17 : decode cJ4_getEntry 17 = .ok (.pop, 1) := dk_87 (dk_at dksJ4_getEntry_0 17 rfl rfl)
theorem dJ4_getEntry_18 : decode cJ4_getEntry 18 = .ok (.aload_n 1, 1) := dk_43 (dk_at dksJ4_getEntry_0 18 rfl rfl)
theorem dJ4_getEntry_19 : decode cJ4_getEntry 19 = .ok (.checkcast 99, 3) := dk_192 0 99 (dk_at dksJ4_getEntry_0 19 rfl rfl)
theorem dJ4_getEntry_22 : decode cJ4_getEntry 22 = .ok (.astore_n 2, 1) := dk_77 (dk_at dksJ4_getEntry_0 22 rfl rfl)
theorem dJ4_getEntry_23 : decode cJ4_getEntry 23 = .ok (.aload_n 0, 1) := dk_42 (dk_at dksJ4_getEntry_0 23 rfl rfl)
theorem dJ4_getEntry_24 : decode cJ4_getEntry 24 = .ok (.getfield 101, 3) := dk_180 0 101 (dk_at dksJ4_getEntry_1 0 rfl rfl)
theorem dJ4_getEntry_27 : decode cJ4_getEntry 27 = .ok (.astore_n 3, 1) := dk_78 (dk_at dksJ4_getEntry_1 3 rfl rfl)
theorem dJ4_getEntry_28 : decode cJ4_getEntry 28 = .ok (.aload_n 3, 1) := dk_45 (dk_at dksJ4_getEntry_1 4 rfl rfl)
theorem dJ4_getEntry_29 : decode cJ4_getEntry 29 = .ok (.ifnull 46, 3) := dk_198 0 46 (dk_at dksJ4_getEntry_1 5 rfl rfl)
theorem dJ4_getEntry_32 : decode cJ4_getEntry 32 = .ok (.aload_n 2, 1) := dk_44 (dk_at dksJ4_getEntry_1 8 rfl rfl)
theorem dJ4_getEntry_33 : decode cJ4_getEntry 33 = .ok (.aload_n 3, 1) := dk_45 (dk_at dksJ4_getEntry_1 9 rfl rfl)
theorem dJ4_getEntry_34 : decode cJ4_getEntry 34 = .ok (.getfield 105, 3) := dk_180 0 105 (dk_at dksJ4_getEntry_1 10 rfl rfl)
theorem dJ4_getEntry_37 : decode cJ4_getEntry 37 = .ok (.invokeinterface 107 2, 5) := by decide +kernel
theorem dJ4_getEntry_42 : decode cJ4_getEntry 42 = .ok (.istore 4, 2) := dk_54 4 (dk_at dksJ4_getEntry_1 18 rfl rfl)
theorem dJ4_getEntry_44 : decode cJ4_getEntry 44 = .ok (.iload 4, 2) := dk_21 4 (dk_at dksJ4_getEntry_1 20 rfl rfl)
theorem dJ4_getEntry_46 : decode cJ4_getEntry 46 = .ok (.ifCond .ge 11, 3) := dk_156 0 11 (dk_at dksJ4_getEntry_2 0 rfl rfl)
theorem dJ4_getEntry_49 : decode cJ4_getEntry 49 = .ok (.aload_n 3, 1) := dk_45 (dk_at dksJ4_getEntry_2 3 rfl rfl)
theorem dJ4_getEntry_50 : decode cJ4_getEntry 50 = .ok (.getfield 111, 3) := dk_180 0 111 (dk_at dksJ4_getEntry_2 4 rfl rfl)
theorem dJ4_getEntry_53 : decode cJ4_getEntry 53 = .ok (.astore_n 3, 1) := dk_78 (dk_at dksJ4_getEntry_2 7 rfl rfl)
theorem dJ4_getEntry_54 : decode cJ4_getEntry 54 = .ok (.goto 18, 3) := dk_167 0 18 (dk_at dksJ4_getEntry_2 8 rfl rfl)
theorem dJ4_getEntry_57 : decode cJ4_getEntry 57 = .ok (.iload 4, 2) := dk_21 4 (dk_at dksJ4_getEntry_2 11 rfl rfl)
theorem dJ4_getEntry_59 : decode cJ4_getEntry 59 = .ok (.ifCond .le 11, 3) := dk_158 0 11 (dk_at dksJ4_getEntry_2 13 rfl rfl)
theorem dJ4_getEntry_62 : decode cJ4_getEntry 62 = .ok (.aload_n 3, 1) := dk_45 (dk_at dksJ4_getEntry_2 16 rfl rfl)
theorem dJ4_getEntry_63 : decode cJ4_getEntry 63 = .ok (.getfield 114, 3) := dk_180 0 114 (dk_at dksJ4_getEntry_2 17 rfl rfl)
theorem dJ4_getEntry_66 : decode cJ4_getEntry 66 = .ok (.astore_n 3, 1) := dk_78 (dk_at dksJ4_getEntry_2 20 rfl rfl)
theorem dJ4_getEntry_67 : decode cJ4_getEntry 67 = .ok (.goto 5, 3) := dk_167 0 5 (dk_at dksJ4_getEntry_2 21 rfl rfl)
theorem dJ4_getEntry_70 : decode cJ4_getEntry 70 = .ok (.aload_n 3, 1) := dk_45 (dk_at dksJ4_getEntry_3 0 rfl rfl)
theorem dJ4_getEntry_71 : decode cJ4_getEntry 71 = .ok (.areturn, 1) := dk_176 (dk_at dksJ4_getEntry_3 1 rfl rfl)
theorem dJ4_getEntry_72 : decode cJ4_getEntry 72 = .ok (.goto (-44), 3) := dk_167 255 212 (dk_at dksJ4_getEntry_3 2 rfl rfl)
theorem dJ4_getEntry_75 : decode cJ4_getEntry 75 = .ok (.aconst_null, 1) := dk_1 (dk_at dksJ4_getEntry_3 5 rfl rfl)
theorem dJ4_getEntry_76 : decode cJ4_getEntry 76 = .ok (.areturn, 1) := dk_176 (dk_at dksJ4_getEntry_3 6 rfl rfl)
abbrev cJ4_getEntryUsingComparator : ByteArray := prog_54_method_16_code
def yJ4_getEntryUsingComparator : MethodName := ⟨RJ4, "getEntryUsingComparator", "(Ljava/lang/Object;)Ljava/util/TreeMap$Entry;"⟩
def dkwJ4_getEntryUsingComparator_3 : List UInt8 := [1, 176]
abbrev dktJ4_getEntryUsingComparator_3 : List UInt8 := dkwJ4_getEntryUsingComparator_3 ++ []
def dkwJ4_getEntryUsingComparator_2 : List UInt8 := [167, 0, 21, 21, 5, 158, 0, 13, 25, 4, 180, 0, 114, 58, 4, 167, 0, 6, 25, 4, 176, 167, 255, 204]
abbrev dktJ4_getEntryUsingComparator_2 : List UInt8 := dkwJ4_getEntryUsingComparator_2 ++ dktJ4_getEntryUsingComparator_3
def dkwJ4_getEntryUsingComparator_1 : List UInt8 := [25, 4, 180, 0, 105, 185, 0, 117, 3, 0, 54, 5, 21, 5, 156, 0, 13, 25, 4, 180, 0, 111, 58, 4]
abbrev dktJ4_getEntryUsingComparator_1 : List UInt8 := dkwJ4_getEntryUsingComparator_1 ++ dktJ4_getEntryUsingComparator_2
def dkwJ4_getEntryUsingComparator_0 : List UInt8 := [43, 77, 42, 180, 0, 16, 78, 45, 198, 0, 64, 42, 180, 0, 101, 58, 4, 25, 4, 198, 0, 53, 45, 44]
abbrev dktJ4_getEntryUsingComparator_0 : List UInt8 := dkwJ4_getEntryUsingComparator_0 ++ dktJ4_getEntryUsingComparator_1
theorem dksJ4_getEntryUsingComparator_0 : cJ4_getEntryUsingComparator.data.toList.drop 0 = dktJ4_getEntryUsingComparator_0 := by decide +kernel
theorem dksJ4_getEntryUsingComparator_1 : cJ4_getEntryUsingComparator.data.toList.drop 24 = dktJ4_getEntryUsingComparator_1 := dk_seg dksJ4_getEntryUsingComparator_0 24 rfl rfl
theorem dksJ4_getEntryUsingComparator_2 : cJ4_getEntryUsingComparator.data.toList.drop 48 = dktJ4_getEntryUsingComparator_2 := dk_seg dksJ4_getEntryUsingComparator_1 24 rfl rfl
theorem dksJ4_getEntryUsingComparator_3 : cJ4_getEntryUsingComparator.data.toList.drop 72 = dktJ4_getEntryUsingComparator_3 := dk_seg dksJ4_getEntryUsingComparator_2 24 rfl rfl
theorem dJ4_getEntryUsingComparator_0 : decode cJ4_getEntryUsingComparator 0 = .ok (.aload_n 1, 1) := dk_43 (dk_at dksJ4_getEntryUsingComparator_0 0 rfl rfl)
theorem dJ4_getEntryUsingComparator_1 : decode cJ4_getEntryUsingComparator 1 = .ok (.astore_n 2, 1) := dk_77 (dk_at dksJ4_getEntryUsingComparator_0 1 rfl rfl)
theorem dJ4_getEntryUsingComparator_2 : decode cJ4_getEntryUsingComparator 2 = .ok (.aload_n 0, 1) := dk_42 (dk_at dksJ4_getEntryUsingComparator_0 2 rfl rfl)
theorem dJ4_getEntryUsingComparator_3 : decode cJ4_getEntryUsingComparator 3 = .ok (.getfield 16, 3) := dk_180 0 16 (dk_at dksJ4_getEntryUsingComparator_0 3 rfl rfl)
theorem dJ4_getEntryUsingComparator_6 : decode cJ4_getEntryUsingComparator 6 = .ok (.astore_n 3, 1) := dk_78 (dk_at dksJ4_getEntryUsingComparator_0 6 rfl rfl)
theorem dJ4_getEntryUsingComparator_7 : decode cJ4_getEntryUsingComparator 7 = .ok (.aload_n 3, 1) := dk_45 (dk_at dksJ4_getEntryUsingComparator_0 7 rfl rfl)
theorem dJ4_getEntryUsingComparator_8 : decode cJ4_getEntryUsingComparator 8 = .ok (.ifnull 64, 3) := dk_198 0 64 (dk_at dksJ4_getEntryUsingComparator_0 8 rfl rfl)
theorem dJ4_getEntryUsingComparator_11 : decode cJ4_getEntryUsingComparator 11 = .ok (.aload_n 0, 1) := dk_42 (dk_at dksJ4_getEntryUsingComparator_0 11 rfl rfl)
theorem dJ4_getEntryUsingComparator_12 : decode cJ4_getEntryUsingComparator 12 = .ok (.getfield 101, 3) := dk_180 0 101 (dk_at dksJ4_getEntryUsingComparator_0 12 rfl rfl)
theorem dJ4_getEntryUsingComparator_15 : decode cJ4_getEntryUsingComparator 15 = .ok (.astore 4, 2) := dk_58 4 (dk_at dksJ4_getEntryUsingComparator_0 15 rfl rfl)
theorem dJ4_getEntryUsingComparator_17 : decode cJ4_getEntryUsingComparator 17 = .ok (.aload 4, 2) := dk_25 4 (dk_at dksJ4_getEntryUsingComparator_0 17 rfl rfl)
theorem dJ4_getEntryUsingComparator_19 : decode cJ4_getEntryUsingComparator 19 = .ok (.ifnull 53, 3) := dk_198 0 53 (dk_at dksJ4_getEntryUsingComparator_0 19 rfl rfl)
theorem dJ4_getEntryUsingComparator_22 : decode cJ4_getEntryUsingComparator 22 = .ok (.aload_n 3, 1) := dk_45 (dk_at dksJ4_getEntryUsingComparator_0 22 rfl rfl)
theorem dJ4_getEntryUsingComparator_23 : decode cJ4_getEntryUsingComparator 23 = .ok (.aload_n 2, 1) := dk_44 (dk_at dksJ4_getEntryUsingComparator_0 23 rfl rfl)
theorem dJ4_getEntryUsingComparator_24 : decode cJ4_getEntryUsingComparator 24 = .ok (.aload 4, 2) := dk_25 4 (dk_at dksJ4_getEntryUsingComparator_1 0 rfl rfl)
theorem dJ4_getEntryUsingComparator_26 : decode cJ4_getEntryUsingComparator 26 = .ok (.getfield 105, 3) := dk_180 0 105 (dk_at dksJ4_getEntryUsingComparator_1 2 rfl rfl)
theorem dJ4_getEntryUsingComparator_29 : decode cJ4_getEntryUsingComparator 29 = .ok (.invokeinterface 117 3, 5) := by decide +kernel
theorem dJ4_getEntryUsingComparator_34 : decode cJ4_getEntryUsingComparator 34 = .ok (.istore 5, 2) := dk_54 5 (dk_at dksJ4_getEntryUsingComparator_1 10 rfl rfl)
theorem dJ4_getEntryUsingComparator_36 : decode cJ4_getEntryUsingComparator 36 = .ok (.iload 5, 2) := dk_21 5 (dk_at dksJ4_getEntryUsingComparator_1 12 rfl rfl)
theorem dJ4_getEntryUsingComparator_38 : decode cJ4_getEntryUsingComparator 38 = .ok (.ifCond .ge 13, 3) := dk_156 0 13 (dk_at dksJ4_getEntryUsingComparator_1 14 rfl rfl)
theorem dJ4_getEntryUsingComparator_41 : decode cJ4_getEntryUsingComparator 41 = .ok (.aload 4, 2) := dk_25 4 (dk_at dksJ4_getEntryUsingComparator_1 17 rfl rfl)
theorem dJ4_getEntryUsingComparator_43 : decode cJ4_getEntryUsingComparator 43 = .ok (.getfield 111, 3) := dk_180 0 111 (dk_at dksJ4_getEntryUsingComparator_1 19 rfl rfl)
theorem dJ4_getEntryUsingComparator_46 : decode cJ4_getEntryUsingComparator 46 = .ok (.astore 4, 2) := dk_58 4 (dk_at dksJ4_getEntryUsingComparator_1 22 rfl rfl)
theorem dJ4_getEntryUsingComparator_48 : decode cJ4_getEntryUsingComparator 48 = .ok (.goto 21, 3) := dk_167 0 21 (dk_at dksJ4_getEntryUsingComparator_2 0 rfl rfl)
theorem dJ4_getEntryUsingComparator_51 : decode cJ4_getEntryUsingComparator 51 = .ok (.iload 5, 2) := dk_21 5 (dk_at dksJ4_getEntryUsingComparator_2 3 rfl rfl)
theorem dJ4_getEntryUsingComparator_53 : decode cJ4_getEntryUsingComparator 53 = .ok (.ifCond .le 13, 3) := dk_158 0 13 (dk_at dksJ4_getEntryUsingComparator_2 5 rfl rfl)
theorem dJ4_getEntryUsingComparator_56 : decode cJ4_getEntryUsingComparator 56 = .ok (.aload 4, 2) := dk_25 4 (dk_at dksJ4_getEntryUsingComparator_2 8 rfl rfl)
theorem dJ4_getEntryUsingComparator_58 : decode cJ4_getEntryUsingComparator 58 = .ok (.getfield 114, 3) := dk_180 0 114 (dk_at dksJ4_getEntryUsingComparator_2 10 rfl rfl)
theorem dJ4_getEntryUsingComparator_61 : decode cJ4_getEntryUsingComparator 61 = .ok (.astore 4, 2) := dk_58 4 (dk_at dksJ4_getEntryUsingComparator_2 13 rfl rfl)
theorem dJ4_getEntryUsingComparator_63 : decode cJ4_getEntryUsingComparator 63 = .ok (.goto 6, 3) := dk_167 0 6 (dk_at dksJ4_getEntryUsingComparator_2 15 rfl rfl)
theorem dJ4_getEntryUsingComparator_66 : decode cJ4_getEntryUsingComparator 66 = .ok (.aload 4, 2) := dk_25 4 (dk_at dksJ4_getEntryUsingComparator_2 18 rfl rfl)
theorem dJ4_getEntryUsingComparator_68 : decode cJ4_getEntryUsingComparator 68 = .ok (.areturn, 1) := dk_176 (dk_at dksJ4_getEntryUsingComparator_2 20 rfl rfl)
theorem dJ4_getEntryUsingComparator_69 : decode cJ4_getEntryUsingComparator 69 = .ok (.goto (-52), 3) := dk_167 255 204 (dk_at dksJ4_getEntryUsingComparator_2 21 rfl rfl)
theorem dJ4_getEntryUsingComparator_72 : decode cJ4_getEntryUsingComparator 72 = .ok (.aconst_null, 1) := dk_1 (dk_at dksJ4_getEntryUsingComparator_3 0 rfl rfl)
theorem dJ4_getEntryUsingComparator_73 : decode cJ4_getEntryUsingComparator 73 = .ok (.areturn, 1) := dk_176 (dk_at dksJ4_getEntryUsingComparator_3 1 rfl rfl)
theorem q118 : (Jvm.Cond.initialized "java/util/TreeMap") ∈ lw_all := lw_g (lw_at lw_m1 11 rfl) rfl
theorem q383 : (Jvm.Cond.instantiable "java/util/TreeMap" (9 : Nat)) ∈ lw_all := lw_g (lw_at lw_m2 36 rfl) rfl
theorem q385 : (Jvm.Cond.instanceMethod ({ cls := "java/util/TreeMap", name := "<init>", desc := "()V" } : Jvm.MethodName)) ∈ lw_all := lw_g (lw_at lw_m2 38 rfl) rfl
theorem q386 : (Jvm.Cond.code ({ cls := "java/util/TreeMap", name := "<init>", desc := "()V" } : Jvm.MethodName) prog_54_method_1_code (1 : Nat) (Option.none : Option Jvm.ClassFile.FieldType)) ∈ lw_all := lw_g (lw_at lw_m2 39 rfl) rfl
theorem q387 : (Jvm.Cond.methodLink "java/util/TreeMap" (1 : Nat) ({ cls := "java/util/AbstractMap", name := "<init>", desc := "()V" } : Jvm.MethodName)) ∈ lw_all := lw_g (lw_at lw_m2 40 rfl) rfl
theorem q391 : (Jvm.Cond.fieldLink "java/util/TreeMap" (16 : Nat) "java/util/TreeMap" "comparator" "Ljava/util/Comparator;") ∈ lw_all := lw_g (lw_at lw_m2 44 rfl) rfl
theorem q392 : (Jvm.Cond.fieldLink "java/util/TreeMap" (101 : Nat) "java/util/TreeMap" "root" "Ljava/util/TreeMap$Entry;") ∈ lw_all := lw_g (lw_at lw_m2 45 rfl) rfl
theorem q393 : (Jvm.Cond.fieldLink "java/util/TreeMap" (7 : Nat) "java/util/TreeMap" "size" "I") ∈ lw_all := lw_g (lw_at lw_m2 46 rfl) rfl
theorem q394 : (Jvm.Cond.fieldLink "java/util/TreeMap" (13 : Nat) "java/util/TreeMap" "modCount" "I") ∈ lw_all := lw_g (lw_at lw_m2 47 rfl) rfl
theorem q395 : (Jvm.Cond.fieldLink "java/util/TreeMap" (188 : Nat) "java/util/TreeMap" "entrySet" "Ljava/util/TreeMap$EntrySet;") ∈ lw_all := lw_g (lw_at lw_m2 48 rfl) rfl
theorem q396 : (Jvm.Cond.laysFinal "java/util/TreeMap" "java/util/TreeMap" "comparator" "Ljava/util/Comparator;") ∈ lw_all := lw_g (lw_at lw_m2 49 rfl) rfl
theorem q397 : (Jvm.Cond.soleField "java/util/TreeMap" "comparator") ∈ lw_all := lw_g (lw_at lw_m2 50 rfl) rfl
theorem q398 : (Jvm.Cond.lays "java/util/TreeMap" "java/util/TreeMap" "root" "Ljava/util/TreeMap$Entry;") ∈ lw_all := lw_g (lw_at lw_m2 51 rfl) rfl
theorem q399 : (Jvm.Cond.soleField "java/util/TreeMap" "root") ∈ lw_all := lw_g (lw_at lw_m2 52 rfl) rfl
theorem q400 : (Jvm.Cond.lays "java/util/TreeMap" "java/util/TreeMap" "size" "I") ∈ lw_all := lw_g (lw_at lw_m2 53 rfl) rfl
theorem q401 : (Jvm.Cond.soleField "java/util/TreeMap" "size") ∈ lw_all := lw_g (lw_at lw_m2 54 rfl) rfl
theorem q402 : (Jvm.Cond.lays "java/util/TreeMap" "java/util/TreeMap" "modCount" "I") ∈ lw_all := lw_g (lw_at lw_m2 55 rfl) rfl
theorem q403 : (Jvm.Cond.soleField "java/util/TreeMap" "modCount") ∈ lw_all := lw_g (lw_at lw_m2 56 rfl) rfl
theorem q404 : (Jvm.Cond.lays "java/util/TreeMap" "java/util/TreeMap" "entrySet" "Ljava/util/TreeMap$EntrySet;") ∈ lw_all := lw_g (lw_at lw_m2 57 rfl) rfl
theorem q405 : (Jvm.Cond.soleField "java/util/TreeMap" "entrySet") ∈ lw_all := lw_g (lw_at lw_m2 58 rfl) rfl
theorem q406 : (Jvm.Cond.lays "java/util/TreeMap" "java/util/TreeMap" "navigableKeySet" "Ljava/util/TreeMap$KeySet;") ∈ lw_all := lw_g (lw_at lw_m2 59 rfl) rfl
theorem q407 : (Jvm.Cond.soleField "java/util/TreeMap" "navigableKeySet") ∈ lw_all := lw_g (lw_at lw_m2 60 rfl) rfl
theorem q408 : (Jvm.Cond.lays "java/util/TreeMap" "java/util/TreeMap" "descendingMap" "Ljava/util/NavigableMap;") ∈ lw_all := lw_g (lw_at lw_m2 61 rfl) rfl
theorem q409 : (Jvm.Cond.soleField "java/util/TreeMap" "descendingMap") ∈ lw_all := lw_g (lw_at lw_m2 62 rfl) rfl
theorem q410 : (Jvm.Cond.lays "java/util/TreeMap" "java/util/AbstractMap" "keySet" "Ljava/util/Set;") ∈ lw_all := lw_g (lw_at lw_m2 63 rfl) rfl
theorem q412 : (Jvm.Cond.lays "java/util/TreeMap" "java/util/AbstractMap" "values" "Ljava/util/Collection;") ∈ lw_all := lw_g (lw_at lw_m2 65 rfl) rfl
theorem q414 : (Jvm.Cond.superclass "java/util/TreeMap" "java/util/AbstractMap") ∈ lw_all := lw_g (lw_at lw_m2 67 rfl) rfl
theorem q889 : (Jvm.Cond.selects "java/util/TreeMap" ({ cls := "java/lang/Object", name := "getClass", desc := "()Ljava/lang/Class;" } : Jvm.MethodName) ({ cls := "java/lang/Object", name := "getClass", desc := "()Ljava/lang/Class;" } : Jvm.MethodName)) ∈ lw_all := lw_g (lw_at lw_m4 62 rfl) rfl
theorem q956 : (Jvm.Cond.instanceMethod ({ cls := "java/util/TreeMap", name := "clear", desc := "()V" } : Jvm.MethodName)) ∈ lw_all := lw_g (lw_at lw_m4 129 rfl) rfl
theorem q957 : (Jvm.Cond.selects "java/util/TreeMap" ({ cls := "java/util/TreeMap", name := "clear", desc := "()V" } : Jvm.MethodName) ({ cls := "java/util/TreeMap", name := "clear", desc := "()V" } : Jvm.MethodName)) ∈ lw_all := lw_g (lw_at lw_m4 130 rfl) rfl
theorem q958 : (Jvm.Cond.code ({ cls := "java/util/TreeMap", name := "clear", desc := "()V" } : Jvm.MethodName) prog_54_method_35_code (1 : Nat) (Option.none : Option Jvm.ClassFile.FieldType)) ∈ lw_all := lw_g (lw_at lw_m4 131 rfl) rfl
theorem q1043 : (Jvm.Cond.instanceMethod ({ cls := "java/util/TreeMap", name := "put", desc := "(Ljava/lang/Object;Ljava/lang/Object;)Ljava/lang/Object;" } : Jvm.MethodName)) ∈ lw_all := lw_g (lw_at lw_m4 216 rfl) rfl
theorem q1044 : (Jvm.Cond.selects "java/util/TreeMap" ({ cls := "java/util/TreeMap", name := "put", desc := "(Ljava/lang/Object;Ljava/lang/Object;)Ljava/lang/Object;" } : Jvm.MethodName) ({ cls := "java/util/TreeMap", name := "put", desc := "(Ljava/lang/Object;Ljava/lang/Object;)Ljava/lang/Object;" } : Jvm.MethodName)) ∈ lw_all := lw_g (lw_at lw_m4 217 rfl) rfl
theorem q1045 : (Jvm.Cond.code ({ cls := "java/util/TreeMap", name := "put", desc := "(Ljava/lang/Object;Ljava/lang/Object;)Ljava/lang/Object;" } : Jvm.MethodName) prog_54_method_21_code (3 : Nat) (Option.some (Jvm.ClassFile.FieldType.object "java/lang/Object"))) ∈ lw_all := lw_g (lw_at lw_m4 218 rfl) rfl
theorem q1046 : (Jvm.Cond.methodLink "java/util/TreeMap" (127 : Nat) ({ cls := "java/util/TreeMap", name := "put", desc := "(Ljava/lang/Object;Ljava/lang/Object;Z)Ljava/lang/Object;" } : Jvm.MethodName)) ∈ lw_all := lw_g (lw_at lw_m4 219 rfl) rfl
theorem q1047 : (Jvm.Cond.privateMethod ({ cls := "java/util/TreeMap", name := "put", desc := "(Ljava/lang/Object;Ljava/lang/Object;Z)Ljava/lang/Object;" } : Jvm.MethodName)) ∈ lw_tbl := lw_at lw_m4 220 rfl
theorem q1048 : (Jvm.Cond.instanceMethod ({ cls := "java/util/TreeMap", name := "put", desc := "(Ljava/lang/Object;Ljava/lang/Object;Z)Ljava/lang/Object;" } : Jvm.MethodName)) ∈ lw_all := lw_g (lw_at lw_m4 221 rfl) rfl
theorem q1049 : (Jvm.Cond.code ({ cls := "java/util/TreeMap", name := "put", desc := "(Ljava/lang/Object;Ljava/lang/Object;Z)Ljava/lang/Object;" } : Jvm.MethodName) prog_54_method_31_code (10 : Nat) (Option.some (Jvm.ClassFile.FieldType.object "java/lang/Object"))) ∈ lw_all := lw_g (lw_at lw_m4 222 rfl) rfl
theorem q1050 : (Jvm.Cond.methodLink "java/util/TreeMap" (135 : Nat) ({ cls := "java/util/TreeMap", name := "addEntryToEmptyMap", desc := "(Ljava/lang/Object;Ljava/lang/Object;)V" } : Jvm.MethodName)) ∈ lw_all := lw_g (lw_at lw_m4 223 rfl) rfl
theorem q1051 : (Jvm.Cond.privateMethod ({ cls := "java/util/TreeMap", name := "addEntryToEmptyMap", desc := "(Ljava/lang/Object;Ljava/lang/Object;)V" } : Jvm.MethodName)) ∈ lw_tbl := lw_at lw_m4 224 rfl
theorem q1052 : (Jvm.Cond.instanceMethod ({ cls := "java/util/TreeMap", name := "addEntryToEmptyMap", desc := "(Ljava/lang/Object;Ljava/lang/Object;)V" } : Jvm.MethodName)) ∈ lw_all := lw_g (lw_at lw_m4 225 rfl) rfl
theorem q1053 : (Jvm.Cond.code ({ cls := "java/util/TreeMap", name := "addEntryToEmptyMap", desc := "(Ljava/lang/Object;Ljava/lang/Object;)V" } : Jvm.MethodName) prog_54_method_30_code (3 : Nat) (Option.none : Option Jvm.ClassFile.FieldType)) ∈ lw_all := lw_g (lw_at lw_m4 226 rfl) rfl
theorem q1054 : (Jvm.Cond.methodLink "java/util/TreeMap" (123 : Nat) ({ cls := "java/util/TreeMap", name := "compare", desc := "(Ljava/lang/Object;Ljava/lang/Object;)I" } : Jvm.MethodName)) ∈ lw_all := lw_g (lw_at lw_m4 227 rfl) rfl
theorem q1055 : (Jvm.Cond.instanceMethod ({ cls := "java/util/TreeMap", name := "compare", desc := "(Ljava/lang/Object;Ljava/lang/Object;)I" } : Jvm.MethodName)) ∈ lw_all := lw_g (lw_at lw_m4 228 rfl) rfl
theorem q1056 : (Jvm.Cond.selects "java/util/TreeMap" ({ cls := "java/util/TreeMap", name := "compare", desc := "(Ljava/lang/Object;Ljava/lang/Object;)I" } : Jvm.MethodName) ({ cls := "java/util/TreeMap", name := "compare", desc := "(Ljava/lang/Object;Ljava/lang/Object;)I" } : Jvm.MethodName)) ∈ lw_all := lw_g (lw_at lw_m4 229 rfl) rfl
theorem q1057 : (Jvm.Cond.code ({ cls := "java/util/TreeMap", name := "compare", desc := "(Ljava/lang/Object;Ljava/lang/Object;)I" } : Jvm.MethodName) prog_54_method_67_code (3 : Nat) (Option.some Jvm.ClassFile.FieldType.int)) ∈ lw_all := lw_g (lw_at lw_m4 230 rfl) rfl
theorem q1058 : (Jvm.Cond.classLink "java/util/TreeMap" (99 : Nat) "java/lang/Comparable") ∈ lw_all := lw_g (lw_at lw_m4 231 rfl) rfl
theorem q1059 : (Jvm.Cond.interfaceEntry "java/util/TreeMap" (107 : Nat)) ∈ lw_tbl := lw_at lw_m4 232 rfl
theorem q1060 : (Jvm.Cond.methodLink "java/util/TreeMap" (107 : Nat) ({ cls := "java/lang/Comparable", name := "compareTo", desc := "(Ljava/lang/Object;)I" } : Jvm.MethodName)) ∈ lw_all := lw_g (lw_at lw_m4 233 rfl) rfl
theorem q1245 : (Jvm.Cond.interfaceEntry "java/util/TreeMap" (117 : Nat)) ∈ lw_tbl := lw_at lw_m5 178 rfl
theorem q1246 : (Jvm.Cond.methodLink "java/util/TreeMap" (117 : Nat) ({ cls := "java/util/Comparator", name := "compare", desc := "(Ljava/lang/Object;Ljava/lang/Object;)I" } : Jvm.MethodName)) ∈ lw_all := lw_g (lw_at lw_m5 179 rfl) rfl
theorem q1274 : (Jvm.Cond.classLink "java/util/TreeMap" (59 : Nat) "java/util/TreeMap$Entry") ∈ lw_all := lw_g (lw_at lw_m5 207 rfl) rfl
theorem q1276 : (Jvm.Cond.methodLink "java/util/TreeMap" (167 : Nat) ({ cls := "java/util/TreeMap$Entry", name := "<init>", desc := "(Ljava/lang/Object;Ljava/lang/Object;Ljava/util/TreeMap$Entry;)V" } : Jvm.MethodName)) ∈ lw_all := lw_g (lw_at lw_m5 209 rfl) rfl
theorem q1281 : (Jvm.Cond.fieldLink "java/util/TreeMap" (105 : Nat) "java/util/TreeMap$Entry" "key" "Ljava/lang/Object;") ∈ lw_all := lw_g (lw_at lw_m5 214 rfl) rfl
theorem q1283 : (Jvm.Cond.fieldLink "java/util/TreeMap" (58 : Nat) "java/util/TreeMap$Entry" "value" "Ljava/lang/Object;") ∈ lw_all := lw_g (lw_at lw_m5 216 rfl) rfl
theorem q1284 : (Jvm.Cond.fieldLink "java/util/TreeMap" (111 : Nat) "java/util/TreeMap$Entry" "left" "Ljava/util/TreeMap$Entry;") ∈ lw_all := lw_g (lw_at lw_m5 217 rfl) rfl
theorem q1285 : (Jvm.Cond.fieldLink "java/util/TreeMap" (114 : Nat) "java/util/TreeMap$Entry" "right" "Ljava/util/TreeMap$Entry;") ∈ lw_all := lw_g (lw_at lw_m5 218 rfl) rfl
theorem q1287 : (Jvm.Cond.fieldLink "java/util/TreeMap" (124 : Nat) "java/util/TreeMap$Entry" "parent" "Ljava/util/TreeMap$Entry;") ∈ lw_all := lw_g (lw_at lw_m5 220 rfl) rfl
theorem q1289 : (Jvm.Cond.fieldLink "java/util/TreeMap" (290 : Nat) "java/util/TreeMap$Entry" "color" "Z") ∈ lw_all := lw_g (lw_at lw_m5 222 rfl) rfl
theorem q1303 : (Jvm.Cond.methodLink "java/util/TreeMap" (95 : Nat) ({ cls := "java/util/Objects", name := "requireNonNull", desc := "(Ljava/lang/Object;)Ljava/lang/Object;" } : Jvm.MethodName)) ∈ lw_all := lw_g (lw_at lw_m5 236 rfl) rfl
theorem q1306 : (Jvm.Cond.methodLink "java/util/TreeMap" (139 : Nat) ({ cls := "java/util/TreeMap", name := "addEntry", desc := "(Ljava/lang/Object;Ljava/lang/Object;Ljava/util/TreeMap$Entry;Z)V" } : Jvm.MethodName)) ∈ lw_all := lw_g (lw_at lw_m5 239 rfl) rfl
theorem q1307 : (Jvm.Cond.privateMethod ({ cls := "java/util/TreeMap", name := "addEntry", desc := "(Ljava/lang/Object;Ljava/lang/Object;Ljava/util/TreeMap$Entry;Z)V" } : Jvm.MethodName)) ∈ lw_tbl := lw_at lw_m6 0 rfl
theorem q1308 : (Jvm.Cond.instanceMethod ({ cls := "java/util/TreeMap", name := "addEntry", desc := "(Ljava/lang/Object;Ljava/lang/Object;Ljava/util/TreeMap$Entry;Z)V" } : Jvm.MethodName)) ∈ lw_all := lw_g (lw_at lw_m6 1 rfl) rfl
theorem q1309 : (Jvm.Cond.code ({ cls := "java/util/TreeMap", name := "addEntry", desc := "(Ljava/lang/Object;Ljava/lang/Object;Ljava/util/TreeMap$Entry;Z)V" } : Jvm.MethodName) prog_54_method_29_code (6 : Nat) (Option.none : Option Jvm.ClassFile.FieldType)) ∈ lw_all := lw_g (lw_at lw_m6 2 rfl) rfl
theorem q1310 : (Jvm.Cond.methodLink "java/util/TreeMap" (170 : Nat) ({ cls := "java/util/TreeMap", name := "fixAfterInsertion", desc := "(Ljava/util/TreeMap$Entry;)V" } : Jvm.MethodName)) ∈ lw_all := lw_g (lw_at lw_m6 3 rfl) rfl
theorem q1311 : (Jvm.Cond.privateMethod ({ cls := "java/util/TreeMap", name := "fixAfterInsertion", desc := "(Ljava/util/TreeMap$Entry;)V" } : Jvm.MethodName)) ∈ lw_tbl := lw_at lw_m6 4 rfl
theorem q1312 : (Jvm.Cond.instanceMethod ({ cls := "java/util/TreeMap", name := "fixAfterInsertion", desc := "(Ljava/util/TreeMap$Entry;)V" } : Jvm.MethodName)) ∈ lw_all := lw_g (lw_at lw_m6 5 rfl) rfl
theorem q1313 : (Jvm.Cond.code ({ cls := "java/util/TreeMap", name := "fixAfterInsertion", desc := "(Ljava/util/TreeMap$Entry;)V" } : Jvm.MethodName) prog_54_method_83_code (3 : Nat) (Option.none : Option Jvm.ClassFile.FieldType)) ∈ lw_all := lw_g (lw_at lw_m6 6 rfl) rfl
theorem q1314 : (Jvm.Cond.methodLink "java/util/TreeMap" (294 : Nat) ({ cls := "java/util/TreeMap", name := "parentOf", desc := "(Ljava/util/TreeMap$Entry;)Ljava/util/TreeMap$Entry;" } : Jvm.MethodName)) ∈ lw_all := lw_g (lw_at lw_m6 7 rfl) rfl
theorem q1315 : (Jvm.Cond.static ({ cls := "java/util/TreeMap", name := "parentOf", desc := "(Ljava/util/TreeMap$Entry;)Ljava/util/TreeMap$Entry;" } : Jvm.MethodName)) ∈ lw_all := lw_g (lw_at lw_m6 8 rfl) rfl
theorem q1316 : (Jvm.Cond.code ({ cls := "java/util/TreeMap", name := "parentOf", desc := "(Ljava/util/TreeMap$Entry;)Ljava/util/TreeMap$Entry;" } : Jvm.MethodName) prog_54_method_77_code (1 : Nat) (Option.some (Jvm.ClassFile.FieldType.object "java/util/TreeMap$Entry"))) ∈ lw_all := lw_g (lw_at lw_m6 9 rfl) rfl
theorem q1317 : (Jvm.Cond.methodLink "java/util/TreeMap" (297 : Nat) ({ cls := "java/util/TreeMap", name := "leftOf", desc := "(Ljava/util/TreeMap$Entry;)Ljava/util/TreeMap$Entry;" } : Jvm.MethodName)) ∈ lw_all := lw_g (lw_at lw_m6 10 rfl) rfl
theorem q1318 : (Jvm.Cond.static ({ cls := "java/util/TreeMap", name := "leftOf", desc := "(Ljava/util/TreeMap$Entry;)Ljava/util/TreeMap$Entry;" } : Jvm.MethodName)) ∈ lw_all := lw_g (lw_at lw_m6 11 rfl) rfl
theorem q1319 : (Jvm.Cond.code ({ cls := "java/util/TreeMap", name := "leftOf", desc := "(Ljava/util/TreeMap$Entry;)Ljava/util/TreeMap$Entry;" } : Jvm.MethodName) prog_54_method_79_code (1 : Nat) (Option.some (Jvm.ClassFile.FieldType.object "java/util/TreeMap$Entry"))) ∈ lw_all := lw_g (lw_at lw_m6 12 rfl) rfl
theorem q1320 : (Jvm.Cond.methodLink "java/util/TreeMap" (300 : Nat) ({ cls := "java/util/TreeMap", name := "rightOf", desc := "(Ljava/util/TreeMap$Entry;)Ljava/util/TreeMap$Entry;" } : Jvm.MethodName)) ∈ lw_all := lw_g (lw_at lw_m6 13 rfl) rfl
theorem q1321 : (Jvm.Cond.static ({ cls := "java/util/TreeMap", name := "rightOf", desc := "(Ljava/util/TreeMap$Entry;)Ljava/util/TreeMap$Entry;" } : Jvm.MethodName)) ∈ lw_all := lw_g (lw_at lw_m6 14 rfl) rfl
theorem q1322 : (Jvm.Cond.code ({ cls := "java/util/TreeMap", name := "rightOf", desc := "(Ljava/util/TreeMap$Entry;)Ljava/util/TreeMap$Entry;" } : Jvm.MethodName) prog_54_method_80_code (1 : Nat) (Option.some (Jvm.ClassFile.FieldType.object "java/util/TreeMap$Entry"))) ∈ lw_all := lw_g (lw_at lw_m6 15 rfl) rfl
theorem q1323 : (Jvm.Cond.methodLink "java/util/TreeMap" (303 : Nat) ({ cls := "java/util/TreeMap", name := "colorOf", desc := "(Ljava/util/TreeMap$Entry;)Z" } : Jvm.MethodName)) ∈ lw_all := lw_g (lw_at lw_m6 16 rfl) rfl
theorem q1324 : (Jvm.Cond.static ({ cls := "java/util/TreeMap", name := "colorOf", desc := "(Ljava/util/TreeMap$Entry;)Z" } : Jvm.MethodName)) ∈ lw_all := lw_g (lw_at lw_m6 17 rfl) rfl
theorem q1325 : (Jvm.Cond.code ({ cls := "java/util/TreeMap", name := "colorOf", desc := "(Ljava/util/TreeMap$Entry;)Z" } : Jvm.MethodName) prog_54_method_76_code (1 : Nat) (Option.some Jvm.ClassFile.FieldType.boolean)) ∈ lw_all := lw_g (lw_at lw_m6 18 rfl) rfl
theorem q1326 : (Jvm.Cond.methodLink "java/util/TreeMap" (307 : Nat) ({ cls := "java/util/TreeMap", name := "setColor", desc := "(Ljava/util/TreeMap$Entry;Z)V" } : Jvm.MethodName)) ∈ lw_all := lw_g (lw_at lw_m6 19 rfl) rfl
theorem q1327 : (Jvm.Cond.static ({ cls := "java/util/TreeMap", name := "setColor", desc := "(Ljava/util/TreeMap$Entry;Z)V" } : Jvm.MethodName)) ∈ lw_all := lw_g (lw_at lw_m6 20 rfl) rfl
theorem q1328 : (Jvm.Cond.code ({ cls := "java/util/TreeMap", name := "setColor", desc := "(Ljava/util/TreeMap$Entry;Z)V" } : Jvm.MethodName) prog_54_method_78_code (2 : Nat) (Option.none : Option Jvm.ClassFile.FieldType)) ∈ lw_all := lw_g (lw_at lw_m6 21 rfl) rfl
theorem q1329 : (Jvm.Cond.methodLink "java/util/TreeMap" (311 : Nat) ({ cls := "java/util/TreeMap", name := "rotateLeft", desc := "(Ljava/util/TreeMap$Entry;)V" } : Jvm.MethodName)) ∈ lw_all := lw_g (lw_at lw_m6 22 rfl) rfl
theorem q1330 : (Jvm.Cond.privateMethod ({ cls := "java/util/TreeMap", name := "rotateLeft", desc := "(Ljava/util/TreeMap$Entry;)V" } : Jvm.MethodName)) ∈ lw_tbl := lw_at lw_m6 23 rfl
theorem q1331 : (Jvm.Cond.instanceMethod ({ cls := "java/util/TreeMap", name := "rotateLeft", desc := "(Ljava/util/TreeMap$Entry;)V" } : Jvm.MethodName)) ∈ lw_all := lw_g (lw_at lw_m6 24 rfl) rfl
theorem q1332 : (Jvm.Cond.code ({ cls := "java/util/TreeMap", name := "rotateLeft", desc := "(Ljava/util/TreeMap$Entry;)V" } : Jvm.MethodName) prog_54_method_81_code (3 : Nat) (Option.none : Option Jvm.ClassFile.FieldType)) ∈ lw_all := lw_g (lw_at lw_m6 25 rfl) rfl
theorem q1333 : (Jvm.Cond.methodLink "java/util/TreeMap" (314 : Nat) ({ cls := "java/util/TreeMap", name := "rotateRight", desc := "(Ljava/util/TreeMap$Entry;)V" } : Jvm.MethodName)) ∈ lw_all := lw_g (lw_at lw_m6 26 rfl) rfl
theorem q1334 : (Jvm.Cond.privateMethod ({ cls := "java/util/TreeMap", name := "rotateRight", desc := "(Ljava/util/TreeMap$Entry;)V" } : Jvm.MethodName)) ∈ lw_tbl := lw_at lw_m6 27 rfl
theorem q1335 : (Jvm.Cond.instanceMethod ({ cls := "java/util/TreeMap", name := "rotateRight", desc := "(Ljava/util/TreeMap$Entry;)V" } : Jvm.MethodName)) ∈ lw_all := lw_g (lw_at lw_m6 28 rfl) rfl
theorem q1336 : (Jvm.Cond.code ({ cls := "java/util/TreeMap", name := "rotateRight", desc := "(Ljava/util/TreeMap$Entry;)V" } : Jvm.MethodName) prog_54_method_82_code (3 : Nat) (Option.none : Option Jvm.ClassFile.FieldType)) ∈ lw_all := lw_g (lw_at lw_m6 29 rfl) rfl
theorem q1351 : (Jvm.Cond.sameMethod "java/util/TreeMap" "java/util/AbstractMap" "isEmpty" "()Z") ∈ lw_all := lw_g (lw_at lw_m6 44 rfl) rfl
theorem q1353 : (Jvm.Cond.selects "java/util/TreeMap" ({ cls := "java/util/TreeMap", name := "isEmpty", desc := "()Z" } : Jvm.MethodName) ({ cls := "java/util/AbstractMap", name := "isEmpty", desc := "()Z" } : Jvm.MethodName)) ∈ lw_all := lw_g (lw_at lw_m6 46 rfl) rfl
theorem q1359 : (Jvm.Cond.selects "java/util/TreeMap" ({ cls := "java/util/AbstractMap", name := "size", desc := "()I" } : Jvm.MethodName) ({ cls := "java/util/TreeMap", name := "size", desc := "()I" } : Jvm.MethodName)) ∈ lw_all := lw_g (lw_at lw_m6 52 rfl) rfl
theorem q1360 : (Jvm.Cond.instanceMethod ({ cls := "java/util/TreeMap", name := "size", desc := "()I" } : Jvm.MethodName)) ∈ lw_all := lw_g (lw_at lw_m6 53 rfl) rfl
theorem q1361 : (Jvm.Cond.code ({ cls := "java/util/TreeMap", name := "size", desc := "()I" } : Jvm.MethodName) prog_54_method_5_code (1 : Nat) (Option.some Jvm.ClassFile.FieldType.int)) ∈ lw_all := lw_g (lw_at lw_m6 54 rfl) rfl
theorem q1364 : (Jvm.Cond.instanceMethod ({ cls := "java/util/TreeMap", name := "firstKey", desc := "()Ljava/lang/Object;" } : Jvm.MethodName)) ∈ lw_all := lw_g (lw_at lw_m6 57 rfl) rfl
theorem q1365 : (Jvm.Cond.selects "java/util/TreeMap" ({ cls := "java/util/TreeMap", name := "firstKey", desc := "()Ljava/lang/Object;" } : Jvm.MethodName) ({ cls := "java/util/TreeMap", name := "firstKey", desc := "()Ljava/lang/Object;" } : Jvm.MethodName)) ∈ lw_all := lw_g (lw_at lw_m6 58 rfl) rfl
theorem q1366 : (Jvm.Cond.code ({ cls := "java/util/TreeMap", name := "firstKey", desc := "()Ljava/lang/Object;" } : Jvm.MethodName) prog_54_method_10_code (1 : Nat) (Option.some (Jvm.ClassFile.FieldType.object "java/lang/Object"))) ∈ lw_all := lw_g (lw_at lw_m6 59 rfl) rfl
theorem q1367 : (Jvm.Cond.methodLink "java/util/TreeMap" (54 : Nat) ({ cls := "java/util/TreeMap", name := "getFirstEntry", desc := "()Ljava/util/TreeMap$Entry;" } : Jvm.MethodName)) ∈ lw_all := lw_g (lw_at lw_m6 60 rfl) rfl
theorem q1368 : (Jvm.Cond.instanceMethod ({ cls := "java/util/TreeMap", name := "getFirstEntry", desc := "()Ljava/util/TreeMap$Entry;" } : Jvm.MethodName)) ∈ lw_all := lw_g (lw_at lw_m6 61 rfl) rfl
theorem q1369 : (Jvm.Cond.selects "java/util/TreeMap" ({ cls := "java/util/TreeMap", name := "getFirstEntry", desc := "()Ljava/util/TreeMap$Entry;" } : Jvm.MethodName) ({ cls := "java/util/TreeMap", name := "getFirstEntry", desc := "()Ljava/util/TreeMap$Entry;" } : Jvm.MethodName)) ∈ lw_all := lw_g (lw_at lw_m6 62 rfl) rfl
theorem q1370 : (Jvm.Cond.code ({ cls := "java/util/TreeMap", name := "getFirstEntry", desc := "()Ljava/util/TreeMap$Entry;" } : Jvm.MethodName) prog_54_method_72_code (2 : Nat) (Option.some (Jvm.ClassFile.FieldType.object "java/util/TreeMap$Entry"))) ∈ lw_all := lw_g (lw_at lw_m6 63 rfl) rfl
theorem q1371 : (Jvm.Cond.methodLink "java/util/TreeMap" (72 : Nat) ({ cls := "java/util/TreeMap", name := "key", desc := "(Ljava/util/TreeMap$Entry;)Ljava/lang/Object;" } : Jvm.MethodName)) ∈ lw_all := lw_g (lw_at lw_m6 64 rfl) rfl
theorem q1372 : (Jvm.Cond.static ({ cls := "java/util/TreeMap", name := "key", desc := "(Ljava/util/TreeMap$Entry;)Ljava/lang/Object;" } : Jvm.MethodName)) ∈ lw_all := lw_g (lw_at lw_m6 65 rfl) rfl
theorem q1373 : (Jvm.Cond.code ({ cls := "java/util/TreeMap", name := "key", desc := "(Ljava/util/TreeMap$Entry;)Ljava/lang/Object;" } : Jvm.MethodName) prog_54_method_71_code (1 : Nat) (Option.some (Jvm.ClassFile.FieldType.object "java/lang/Object"))) ∈ lw_all := lw_g (lw_at lw_m6 66 rfl) rfl
theorem q1418 : (Jvm.Cond.instanceMethod ({ cls := "java/util/TreeMap", name := "higherKey", desc := "(Ljava/lang/Object;)Ljava/lang/Object;" } : Jvm.MethodName)) ∈ lw_all := lw_g (lw_at lw_m6 111 rfl) rfl
theorem q1419 : (Jvm.Cond.selects "java/util/TreeMap" ({ cls := "java/util/TreeMap", name := "higherKey", desc := "(Ljava/lang/Object;)Ljava/lang/Object;" } : Jvm.MethodName) ({ cls := "java/util/TreeMap", name := "higherKey", desc := "(Ljava/lang/Object;)Ljava/lang/Object;" } : Jvm.MethodName)) ∈ lw_all := lw_g (lw_at lw_m6 112 rfl) rfl
theorem q1420 : (Jvm.Cond.code ({ cls := "java/util/TreeMap", name := "higherKey", desc := "(Ljava/lang/Object;)Ljava/lang/Object;" } : Jvm.MethodName) prog_54_method_48_code (2 : Nat) (Option.some (Jvm.ClassFile.FieldType.object "java/lang/Object"))) ∈ lw_all := lw_g (lw_at lw_m6 113 rfl) rfl
theorem q1421 : (Jvm.Cond.methodLink "java/util/TreeMap" (216 : Nat) ({ cls := "java/util/TreeMap", name := "getHigherEntry", desc := "(Ljava/lang/Object;)Ljava/util/TreeMap$Entry;" } : Jvm.MethodName)) ∈ lw_all := lw_g (lw_at lw_m6 114 rfl) rfl
theorem q1422 : (Jvm.Cond.instanceMethod ({ cls := "java/util/TreeMap", name := "getHigherEntry", desc := "(Ljava/lang/Object;)Ljava/util/TreeMap$Entry;" } : Jvm.MethodName)) ∈ lw_all := lw_g (lw_at lw_m6 115 rfl) rfl
theorem q1423 : (Jvm.Cond.selects "java/util/TreeMap" ({ cls := "java/util/TreeMap", name := "getHigherEntry", desc := "(Ljava/lang/Object;)Ljava/util/TreeMap$Entry;" } : Jvm.MethodName) ({ cls := "java/util/TreeMap", name := "getHigherEntry", desc := "(Ljava/lang/Object;)Ljava/util/TreeMap$Entry;" } : Jvm.MethodName)) ∈ lw_all := lw_g (lw_at lw_m6 116 rfl) rfl
theorem q1424 : (Jvm.Cond.code ({ cls := "java/util/TreeMap", name := "getHigherEntry", desc := "(Ljava/lang/Object;)Ljava/util/TreeMap$Entry;" } : Jvm.MethodName) prog_54_method_19_code (6 : Nat) (Option.some (Jvm.ClassFile.FieldType.object "java/util/TreeMap$Entry"))) ∈ lw_all := lw_g (lw_at lw_m6 117 rfl) rfl
theorem q1425 : (Jvm.Cond.methodLink "java/util/TreeMap" (207 : Nat) ({ cls := "java/util/TreeMap", name := "keyOrNull", desc := "(Ljava/util/TreeMap$Entry;)Ljava/lang/Object;" } : Jvm.MethodName)) ∈ lw_all := lw_g (lw_at lw_m6 118 rfl) rfl
theorem q1426 : (Jvm.Cond.static ({ cls := "java/util/TreeMap", name := "keyOrNull", desc := "(Ljava/util/TreeMap$Entry;)Ljava/lang/Object;" } : Jvm.MethodName)) ∈ lw_all := lw_g (lw_at lw_m6 119 rfl) rfl
theorem q1427 : (Jvm.Cond.code ({ cls := "java/util/TreeMap", name := "keyOrNull", desc := "(Ljava/util/TreeMap$Entry;)Ljava/lang/Object;" } : Jvm.MethodName) prog_54_method_70_code (1 : Nat) (Option.some (Jvm.ClassFile.FieldType.object "java/lang/Object"))) ∈ lw_all := lw_g (lw_at lw_m6 120 rfl) rfl
theorem q1429 : (Jvm.Cond.instanceMethod ({ cls := "java/util/TreeMap", name := "get", desc := "(Ljava/lang/Object;)Ljava/lang/Object;" } : Jvm.MethodName)) ∈ lw_all := lw_g (lw_at lw_m6 122 rfl) rfl
theorem q1430 : (Jvm.Cond.selects "java/util/TreeMap" ({ cls := "java/util/TreeMap", name := "get", desc := "(Ljava/lang/Object;)Ljava/lang/Object;" } : Jvm.MethodName) ({ cls := "java/util/TreeMap", name := "get", desc := "(Ljava/lang/Object;)Ljava/lang/Object;" } : Jvm.MethodName)) ∈ lw_all := lw_g (lw_at lw_m6 123 rfl) rfl
theorem q1431 : (Jvm.Cond.code ({ cls := "java/util/TreeMap", name := "get", desc := "(Ljava/lang/Object;)Ljava/lang/Object;" } : Jvm.MethodName) prog_54_method_8_code (3 : Nat) (Option.some (Jvm.ClassFile.FieldType.object "java/lang/Object"))) ∈ lw_all := lw_g (lw_at lw_m6 124 rfl) rfl
theorem q1432 : (Jvm.Cond.methodLink "java/util/TreeMap" (50 : Nat) ({ cls := "java/util/TreeMap", name := "getEntry", desc := "(Ljava/lang/Object;)Ljava/util/TreeMap$Entry;" } : Jvm.MethodName)) ∈ lw_all := lw_g (lw_at lw_m6 125 rfl) rfl
theorem q1433 : (Jvm.Cond.instanceMethod ({ cls := "java/util/TreeMap", name := "getEntry", desc := "(Ljava/lang/Object;)Ljava/util/TreeMap$Entry;" } : Jvm.MethodName)) ∈ lw_all := lw_g (lw_at lw_m6 126 rfl) rfl
theorem q1434 : (Jvm.Cond.selects "java/util/TreeMap" ({ cls := "java/util/TreeMap", name := "getEntry", desc := "(Ljava/lang/Object;)Ljava/util/TreeMap$Entry;" } : Jvm.MethodName) ({ cls := "java/util/TreeMap", name := "getEntry", desc := "(Ljava/lang/Object;)Ljava/util/TreeMap$Entry;" } : Jvm.MethodName)) ∈ lw_all := lw_g (lw_at lw_m6 127 rfl) rfl
theorem q1435 : (Jvm.Cond.code ({ cls := "java/util/TreeMap", name := "getEntry", desc := "(Ljava/lang/Object;)Ljava/util/TreeMap$Entry;" } : Jvm.MethodName) prog_54_method_15_code (5 : Nat) (Option.some (Jvm.ClassFile.FieldType.object "java/util/TreeMap$Entry"))) ∈ lw_all := lw_g (lw_at lw_m6 128 rfl) rfl
theorem q1436 : (Jvm.Cond.methodLink "java/util/TreeMap" (92 : Nat) ({ cls := "java/util/TreeMap", name := "getEntryUsingComparator", desc := "(Ljava/lang/Object;)Ljava/util/TreeMap$Entry;" } : Jvm.MethodName)) ∈ lw_all := lw_g (lw_at lw_m6 129 rfl) rfl
theorem q1437 : (Jvm.Cond.instanceMethod ({ cls := "java/util/TreeMap", name := "getEntryUsingComparator", desc := "(Ljava/lang/Object;)Ljava/util/TreeMap$Entry;" } : Jvm.MethodName)) ∈ lw_all := lw_g (lw_at lw_m6 130 rfl) rfl
theorem q1438 : (Jvm.Cond.selects "java/util/TreeMap" ({ cls := "java/util/TreeMap", name := "getEntryUsingComparator", desc := "(Ljava/lang/Object;)Ljava/util/TreeMap$Entry;" } : Jvm.MethodName) ({ cls := "java/util/TreeMap", name := "getEntryUsingComparator", desc := "(Ljava/lang/Object;)Ljava/util/TreeMap$Entry;" } : Jvm.MethodName)) ∈ lw_all := lw_g (lw_at lw_m6 131 rfl) rfl
theorem q1439 : (Jvm.Cond.code ({ cls := "java/util/TreeMap", name := "getEntryUsingComparator", desc := "(Ljava/lang/Object;)Ljava/util/TreeMap$Entry;" } : Jvm.MethodName) prog_54_method_16_code (6 : Nat) (Option.some (Jvm.ClassFile.FieldType.object "java/util/TreeMap$Entry"))) ∈ lw_all := lw_g (lw_at lw_m6 132 rfl) rfl
theorem q2386 : (Jvm.Cond.selects "java/util/TreeMap" ({ cls := "java/util/TreeMap", name := "size", desc := "()I" } : Jvm.MethodName) ({ cls := "java/util/TreeMap", name := "size", desc := "()I" } : Jvm.MethodName)) ∈ lw_all := lw_g (lw_at lw_m10 119 rfl) rfl
theorem q2395 : (Jvm.Cond.castable "java/util/TreeMap" "java/lang/Object") ∈ lw_tbl := lw_at lw_m10 128 rfl
theorem in_J4 : ∀ w ∈ wsJ40, w ∈ lw_all := lw_in wsJ40 [410, 412, 396, 398, 400, 402, 404, 406, 408] (by decide +kernel) (by decide +kernel)
/-! java/util/TreeMap$Entry -/
set_option maxRecDepth 100000
def RJ18 : String := "java/util/TreeMap$Entry"
def TJ18 : u_T := fun k => match k with
  | 0 => ("java/util/TreeMap$Entry", "key", "Ljava/lang/Object;", false)
  | 1 => ("java/util/TreeMap$Entry", "value", "Ljava/lang/Object;", false)
  | 2 => ("java/util/TreeMap$Entry", "left", "Ljava/util/TreeMap$Entry;", false)
  | 3 => ("java/util/TreeMap$Entry", "right", "Ljava/util/TreeMap$Entry;", false)
  | 4 => ("java/util/TreeMap$Entry", "parent", "Ljava/util/TreeMap$Entry;", false)
  | _ => ("java/util/TreeMap$Entry", "color", "Z", false)
def tyJ18 : Nat → FieldType := fun k => match k with
  | 0 => .object "java/lang/Object"
  | 1 => .object "java/lang/Object"
  | 2 => .object "java/util/TreeMap$Entry"
  | 3 => .object "java/util/TreeMap$Entry"
  | 4 => .object "java/util/TreeMap$Entry"
  | _ => .boolean
abbrev wsJ180 : List Cond := u_ws RJ18 TJ18 6
theorem nmJ18 : ∀ a, a < 6 → ∀ b, b < 6 → a ≠ b → (TJ18 a).2.1 ≠ (TJ18 b).2.1 := by decide +kernel
theorem tyJ18_ok : ∀ k, k < 6 → parseFieldDescriptor (TJ18 k).2.2.1 = some (tyJ18 k) := by decide +kernel
abbrev cJ18_init : ByteArray := prog_55_method_1_code
def yJ18_init : MethodName := ⟨RJ18, "<init>", "(Ljava/lang/Object;Ljava/lang/Object;Ljava/util/TreeMap$Entry;)V"⟩
def dkwJ18_init_1 : List UInt8 := [177]
abbrev dktJ18_init_1 : List UInt8 := dkwJ18_init_1 ++ []
def dkwJ18_init_0 : List UInt8 := [42, 183, 0, 3, 42, 4, 181, 0, 9, 42, 43, 181, 0, 15, 42, 44, 181, 0, 19, 42, 45, 181, 0, 22]
abbrev dktJ18_init_0 : List UInt8 := dkwJ18_init_0 ++ dktJ18_init_1
theorem dksJ18_init_0 : cJ18_init.data.toList.drop 0 = dktJ18_init_0 := by decide +kernel
theorem dksJ18_init_1 : cJ18_init.data.toList.drop 24 = dktJ18_init_1 := dk_seg dksJ18_init_0 24 rfl rfl
theorem dJ18_init_0 : decode cJ18_init 0 = .ok (.aload_n 0, 1) := dk_42 (dk_at dksJ18_init_0 0 rfl rfl)
theorem dJ18_init_1 : decode cJ18_init 1 = .ok (.invokespecial 3, 3) := dk_183 0 3 (dk_at dksJ18_init_0 1 rfl rfl)
theorem dJ18_init_4 : decode cJ18_init 4 = .ok (.aload_n 0, 1) := dk_42 (dk_at dksJ18_init_0 4 rfl rfl)
theorem dJ18_init_5 : decode cJ18_init 5 = .ok (.iconst 1, 1) := dk_4 (dk_at dksJ18_init_0 5 rfl rfl)
theorem dJ18_init_6 : decode cJ18_init 6 = .ok (.putfield 9, 3) := dk_181 0 9 (dk_at dksJ18_init_0 6 rfl rfl)
theorem dJ18_init_9 : decode cJ18_init 9 = .ok (.aload_n 0, 1) := dk_42 (dk_at dksJ18_init_0 9 rfl rfl)
theorem dJ18_init_10 : decode cJ18_init 10 = .ok (.aload_n 1, 1) := dk_43 (dk_at dksJ18_init_0 10 rfl rfl)
theorem dJ18_init_11 : decode cJ18_init 11 = .ok (.putfield 15, 3) := dk_181 0 15 (dk_at dksJ18_init_0 11 rfl rfl)
theorem dJ18_init_14 : decode cJ18_init 14 = .ok (.aload_n 0, 1) := dk_42 (dk_at dksJ18_init_0 14 rfl rfl)
theorem dJ18_init_15 : decode cJ18_init 15 = .ok (.aload_n 2, 1) := dk_44 (dk_at dksJ18_init_0 15 rfl rfl)
theorem dJ18_init_16 : decode cJ18_init 16 = .ok (.putfield 19, 3) := dk_181 0 19 (dk_at dksJ18_init_0 16 rfl rfl)
theorem dJ18_init_19 : decode cJ18_init 19 = .ok (.aload_n 0, 1) := dk_42 (dk_at dksJ18_init_0 19 rfl rfl)
theorem dJ18_init_20 : decode cJ18_init 20 = .ok (.aload_n 3, 1) := dk_45 (dk_at dksJ18_init_0 20 rfl rfl)
theorem dJ18_init_21 : decode cJ18_init 21 = .ok (.putfield 22, 3) := dk_181 0 22 (dk_at dksJ18_init_0 21 rfl rfl)
theorem dJ18_init_24 : decode cJ18_init 24 = .ok (.return_, 1) := dk_177 (dk_at dksJ18_init_1 0 rfl rfl)
theorem q140 : (Jvm.Cond.initialized "java/util/TreeMap$Entry") ∈ lw_all := lw_g (lw_at lw_m1 33 rfl) rfl
theorem q890 : (Jvm.Cond.selects "java/util/TreeMap$Entry" ({ cls := "java/lang/Object", name := "getClass", desc := "()Ljava/lang/Class;" } : Jvm.MethodName) ({ cls := "java/lang/Object", name := "getClass", desc := "()Ljava/lang/Class;" } : Jvm.MethodName)) ∈ lw_all := lw_g (lw_at lw_m4 63 rfl) rfl
theorem q1275 : (Jvm.Cond.instantiable "java/util/TreeMap$Entry" (6 : Nat)) ∈ lw_all := lw_g (lw_at lw_m5 208 rfl) rfl
theorem q1277 : (Jvm.Cond.instanceMethod ({ cls := "java/util/TreeMap$Entry", name := "<init>", desc := "(Ljava/lang/Object;Ljava/lang/Object;Ljava/util/TreeMap$Entry;)V" } : Jvm.MethodName)) ∈ lw_all := lw_g (lw_at lw_m5 210 rfl) rfl
theorem q1278 : (Jvm.Cond.code ({ cls := "java/util/TreeMap$Entry", name := "<init>", desc := "(Ljava/lang/Object;Ljava/lang/Object;Ljava/util/TreeMap$Entry;)V" } : Jvm.MethodName) prog_55_method_1_code (4 : Nat) (Option.none : Option Jvm.ClassFile.FieldType)) ∈ lw_all := lw_g (lw_at lw_m5 211 rfl) rfl
theorem q1279 : (Jvm.Cond.methodLink "java/util/TreeMap$Entry" (3 : Nat) ({ cls := "java/lang/Object", name := "<init>", desc := "()V" } : Jvm.MethodName)) ∈ lw_all := lw_g (lw_at lw_m5 212 rfl) rfl
theorem q1280 : (Jvm.Cond.fieldLink "java/util/TreeMap$Entry" (15 : Nat) "java/util/TreeMap$Entry" "key" "Ljava/lang/Object;") ∈ lw_all := lw_g (lw_at lw_m5 213 rfl) rfl
theorem q1282 : (Jvm.Cond.fieldLink "java/util/TreeMap$Entry" (19 : Nat) "java/util/TreeMap$Entry" "value" "Ljava/lang/Object;") ∈ lw_all := lw_g (lw_at lw_m5 215 rfl) rfl
theorem q1286 : (Jvm.Cond.fieldLink "java/util/TreeMap$Entry" (22 : Nat) "java/util/TreeMap$Entry" "parent" "Ljava/util/TreeMap$Entry;") ∈ lw_all := lw_g (lw_at lw_m5 219 rfl) rfl
theorem q1288 : (Jvm.Cond.fieldLink "java/util/TreeMap$Entry" (9 : Nat) "java/util/TreeMap$Entry" "color" "Z") ∈ lw_all := lw_g (lw_at lw_m5 221 rfl) rfl
theorem q1290 : (Jvm.Cond.lays "java/util/TreeMap$Entry" "java/util/TreeMap$Entry" "key" "Ljava/lang/Object;") ∈ lw_all := lw_g (lw_at lw_m5 223 rfl) rfl
theorem q1291 : (Jvm.Cond.soleField "java/util/TreeMap$Entry" "key") ∈ lw_all := lw_g (lw_at lw_m5 224 rfl) rfl
theorem q1292 : (Jvm.Cond.lays "java/util/TreeMap$Entry" "java/util/TreeMap$Entry" "value" "Ljava/lang/Object;") ∈ lw_all := lw_g (lw_at lw_m5 225 rfl) rfl
theorem q1293 : (Jvm.Cond.soleField "java/util/TreeMap$Entry" "value") ∈ lw_all := lw_g (lw_at lw_m5 226 rfl) rfl
theorem q1294 : (Jvm.Cond.lays "java/util/TreeMap$Entry" "java/util/TreeMap$Entry" "left" "Ljava/util/TreeMap$Entry;") ∈ lw_all := lw_g (lw_at lw_m5 227 rfl) rfl
theorem q1295 : (Jvm.Cond.soleField "java/util/TreeMap$Entry" "left") ∈ lw_all := lw_g (lw_at lw_m5 228 rfl) rfl
theorem q1296 : (Jvm.Cond.lays "java/util/TreeMap$Entry" "java/util/TreeMap$Entry" "right" "Ljava/util/TreeMap$Entry;") ∈ lw_all := lw_g (lw_at lw_m5 229 rfl) rfl
theorem q1297 : (Jvm.Cond.soleField "java/util/TreeMap$Entry" "right") ∈ lw_all := lw_g (lw_at lw_m5 230 rfl) rfl
theorem q1298 : (Jvm.Cond.lays "java/util/TreeMap$Entry" "java/util/TreeMap$Entry" "parent" "Ljava/util/TreeMap$Entry;") ∈ lw_all := lw_g (lw_at lw_m5 231 rfl) rfl
theorem q1299 : (Jvm.Cond.soleField "java/util/TreeMap$Entry" "parent") ∈ lw_all := lw_g (lw_at lw_m5 232 rfl) rfl
theorem q1300 : (Jvm.Cond.lays "java/util/TreeMap$Entry" "java/util/TreeMap$Entry" "color" "Z") ∈ lw_all := lw_g (lw_at lw_m5 233 rfl) rfl
theorem q1301 : (Jvm.Cond.soleField "java/util/TreeMap$Entry" "color") ∈ lw_all := lw_g (lw_at lw_m5 234 rfl) rfl
theorem q1302 : (Jvm.Cond.superclass "java/util/TreeMap$Entry" "java/lang/Object") ∈ lw_all := lw_g (lw_at lw_m5 235 rfl) rfl
theorem q2403 : (Jvm.Cond.castable "java/util/TreeMap$Entry" "java/lang/Object") ∈ lw_tbl := lw_at lw_m10 136 rfl
theorem in_J18 : ∀ w ∈ wsJ180, w ∈ lw_all := lw_in wsJ180 [1290, 1292, 1294, 1296, 1298, 1300] (by decide +kernel) (by decide +kernel)
/-! java/lang/Integer -/
set_option maxRecDepth 100000
def RJ14 : String := "java/lang/Integer"
def TJ14 : u_T := fun k => match k with
  | _ => ("java/lang/Integer", "value", "I", true)
def tyJ14 : Nat → FieldType := fun k => match k with
  | _ => .int
abbrev wsJ140 : List Cond := u_ws RJ14 TJ14 1
theorem nmJ14 : ∀ a, a < 1 → ∀ b, b < 1 → a ≠ b → (TJ14 a).2.1 ≠ (TJ14 b).2.1 := by decide +kernel
theorem tyJ14_ok : ∀ k, k < 1 → parseFieldDescriptor (TJ14 k).2.2.1 = some (tyJ14 k) := by decide +kernel
abbrev cJ14_numberOfTrailingZeros : ByteArray := prog_20_method_48_code
def yJ14_numberOfTrailingZeros : MethodName := ⟨RJ14, "numberOfTrailingZeros", "(I)I"⟩
def dkwJ14_numberOfTrailingZeros_3 : List UInt8 := [5, 124, 59, 27, 26, 4, 124, 96, 172]
abbrev dktJ14_numberOfTrailingZeros_3 : List UInt8 := dkwJ14_numberOfTrailingZeros_3 ++ []
def dkwJ14_numberOfTrailingZeros_2 : List UInt8 := [124, 59, 26, 16, 16, 164, 0, 10, 132, 1, 4, 26, 7, 124, 59, 26, 7, 164, 0, 10, 132, 1, 2, 26]
abbrev dktJ14_numberOfTrailingZeros_2 : List UInt8 := dkwJ14_numberOfTrailingZeros_2 ++ dktJ14_numberOfTrailingZeros_3
def dkwJ14_numberOfTrailingZeros_1 : List UInt8 := [164, 0, 11, 132, 1, 16, 26, 16, 16, 124, 59, 26, 17, 1, 0, 164, 0, 11, 132, 1, 8, 26, 16, 8]
abbrev dktJ14_numberOfTrailingZeros_1 : List UInt8 := dkwJ14_numberOfTrailingZeros_1 ++ dktJ14_numberOfTrailingZeros_2
def dkwJ14_numberOfTrailingZeros_0 : List UInt8 := [26, 2, 130, 26, 4, 100, 126, 59, 26, 157, 0, 8, 26, 16, 32, 126, 172, 4, 60, 26, 19, 1, 8]
abbrev dktJ14_numberOfTrailingZeros_0 : List UInt8 := dkwJ14_numberOfTrailingZeros_0 ++ dktJ14_numberOfTrailingZeros_1
theorem dksJ14_numberOfTrailingZeros_0 : cJ14_numberOfTrailingZeros.data.toList.drop 0 = dktJ14_numberOfTrailingZeros_0 := by decide +kernel
theorem dksJ14_numberOfTrailingZeros_1 : cJ14_numberOfTrailingZeros.data.toList.drop 23 = dktJ14_numberOfTrailingZeros_1 := dk_seg dksJ14_numberOfTrailingZeros_0 23 rfl rfl
theorem dksJ14_numberOfTrailingZeros_2 : cJ14_numberOfTrailingZeros.data.toList.drop 47 = dktJ14_numberOfTrailingZeros_2 := dk_seg dksJ14_numberOfTrailingZeros_1 24 rfl rfl
theorem dksJ14_numberOfTrailingZeros_3 : cJ14_numberOfTrailingZeros.data.toList.drop 71 = dktJ14_numberOfTrailingZeros_3 := dk_seg dksJ14_numberOfTrailingZeros_2 24 rfl rfl
theorem dJ14_numberOfTrailingZeros_0 : decode cJ14_numberOfTrailingZeros 0 = .ok (.iload_n 0, 1) := dk_26 (dk_at dksJ14_numberOfTrailingZeros_0 0 rfl rfl)
theorem dJ14_numberOfTrailingZeros_1 : decode cJ14_numberOfTrailingZeros 1 = .ok (.iconst (-1), 1) := dk_2 (dk_at dksJ14_numberOfTrailingZeros_0 1 rfl rfl)
theorem dJ14_numberOfTrailingZeros_2 : decode cJ14_numberOfTrailingZeros 2 = .ok (.ixor, 1) := dk_130 (dk_at dksJ14_numberOfTrailingZeros_0 2 rfl rfl)
theorem dJ14_numberOfTrailingZeros_3 : decode cJ14_numberOfTrailingZeros 3 = .ok (.iload_n 0, 1) := dk_26 (dk_at dksJ14_numberOfTrailingZeros_0 3 rfl rfl)
theorem dJ14_numberOfTrailingZeros_4 : decode cJ14_numberOfTrailingZeros 4 = .ok (.iconst 1, 1) := dk_4 (dk_at dksJ14_numberOfTrailingZeros_0 4 rfl rfl)
theorem dJ14_numberOfTrailingZeros_5 : decode cJ14_numberOfTrailingZeros 5 = .ok (.isub, 1) := dk_100 (dk_at dksJ14_numberOfTrailingZeros_0 5 rfl rfl)
theorem dJ14_numberOfTrailingZeros_6 : decode cJ14_numberOfTrailingZeros 6 = .ok (.iand, 1) := dk_126 (dk_at dksJ14_numberOfTrailingZeros_0 6 rfl rfl)
theorem dJ14_numberOfTrailingZeros_7 : decode cJ14_numberOfTrailingZeros 7 = .ok (.istore_n 0, 1) := dk_59 (dk_at dksJ14_numberOfTrailingZeros_0 7 rfl rfl)
theorem dJ14_numberOfTrailingZeros_8 : decode cJ14_numberOfTrailingZeros 8 = .ok (.iload_n 0, 1) := dk_26 (dk_at dksJ14_numberOfTrailingZeros_0 8 rfl rfl)
theorem dJ14_numberOfTrailingZeros_9 : decode cJ14_numberOfTrailingZeros 9 = .ok (.ifCond .gt 8, 3) := dk_157 0 8 (dk_at dksJ14_numberOfTrailingZeros_0 9 rfl rfl)
theorem dJ14_numberOfTrailingZeros_12 : decode cJ14_numberOfTrailingZeros 12 = .ok (.iload_n 0, 1) := dk_26 (dk_at dksJ14_numberOfTrailingZeros_0 12 rfl rfl)
theorem dJ14_numberOfTrailingZeros_13 : decode cJ14_numberOfTrailingZeros 13 = .ok (.bipush 32, 2) := dk_16 32 (dk_at dksJ14_numberOfTrailingZeros_0 13 rfl rfl)
theorem dJ14_numberOfTrailingZeros_15 : decode cJ14_numberOfTrailingZeros 15 = .ok (.iand, 1) := dk_126 (dk_at dksJ14_numberOfTrailingZeros_0 15 rfl rfl)
theorem dJ14_numberOfTrailingZeros_16 : decode cJ14_numberOfTrailingZeros 16 = .ok (.ireturn, 1) := dk_172 (dk_at dksJ14_numberOfTrailingZeros_0 16 rfl rfl)
theorem dJ14_numberOfTrailingZeros_17 : decode cJ14_numberOfTrailingZeros 17 = .ok (.iconst 1, 1) := dk_4 (dk_at dksJ14_numberOfTrailingZeros_0 17 rfl rfl)
theorem dJ14_numberOfTrailingZeros_18 : decode cJ14_numberOfTrailingZeros 18 = .ok (.istore_n 1, 1) := dk_60 (dk_at dksJ14_numberOfTrailingZeros_0 18 rfl rfl)
theorem dJ14_numberOfTrailingZeros_19 : decode cJ14_numberOfTrailingZeros 19 = .ok (.iload_n 0, 1) := dk_26 (dk_at dksJ14_numberOfTrailingZeros_0 19 rfl rfl)
theorem dJ14_numberOfTrailingZeros_20 : decode cJ14_numberOfTrailingZeros 20 = .ok (.ldc_w 264, 3) := dk_19 1 8 (dk_at dksJ14_numberOfTrailingZeros_0 20 rfl rfl)
theorem dJ14_numberOfTrailingZeros_23 : decode cJ14_numberOfTrailingZeros 23 = .ok (.if_icmp .le 11, 3) := dk_164 0 11 (dk_at dksJ14_numberOfTrailingZeros_1 0 rfl rfl)
theorem dJ14_numberOfTrailingZeros_26 : decode cJ14_numberOfTrailingZeros 26 = .ok (.iinc 1 16, 3) := dk_132 1 16 (dk_at dksJ14_numberOfTrailingZeros_1 3 rfl rfl)
theorem dJ14_numberOfTrailingZeros_29 : decode cJ14_numberOfTrailingZeros 29 = .ok (.iload_n 0, 1) := dk_26 (dk_at dksJ14_numberOfTrailingZeros_1 6 rfl rfl)
theorem dJ14_numberOfTrailingZeros_30 : decode cJ14_numberOfTrailingZeros 30 = .ok (.bipush 16, 2) := dk_16 16 (dk_at dksJ14_numberOfTrailingZeros_1 7 rfl rfl)
theorem dJ14_numberOfTrailingZeros_32 : decode cJ14_numberOfTrailingZeros 32 = .ok (.iushr, 1) := dk_124 (dk_at dksJ14_numberOfTrailingZeros_1 9 rfl rfl)
theorem dJ14_numberOfTrailingZeros_33 : decode cJ14_numberOfTrailingZeros 33 = .ok (.istore_n 0, 1) := dk_59 (dk_at dksJ14_numberOfTrailingZeros_1 10 rfl rfl)
theorem dJ14_numberOfTrailingZeros_34 : decode cJ14_numberOfTrailingZeros 34 = .ok (.iload_n 0, 1) := dk_26 (dk_at dksJ14_numberOfTrailingZeros_1 11 rfl rfl)
theorem dJ14_numberOfTrailingZeros_35 : decode cJ14_numberOfTrailingZeros 35 = .ok (.sipush 256, 3) := dk_17 1 0 (dk_at dksJ14_numberOfTrailingZeros_1 12 rfl rfl)
theorem dJ14_numberOfTrailingZeros_38 : decode cJ14_numberOfTrailingZeros 38 = .ok (.if_icmp .le 11, 3) := dk_164 0 11 (dk_at dksJ14_numberOfTrailingZeros_1 15 rfl rfl)
theorem dJ14_numberOfTrailingZeros_41 : decode cJ14_numberOfTrailingZeros 41 = .ok (.iinc 1 8, 3) := dk_132 1 8 (dk_at dksJ14_numberOfTrailingZeros_1 18 rfl rfl)
theorem dJ14_numberOfTrailingZeros_44 : decode cJ14_numberOfTrailingZeros 44 = .ok (.iload_n 0, 1) := dk_26 (dk_at dksJ14_numberOfTrailingZeros_1 21 rfl rfl)
theorem dJ14_numberOfTrailingZeros_45 : decode cJ14_numberOfTrailingZeros 45 = .ok (.bipush 8, 2) := dk_16 8 (dk_at dksJ14_numberOfTrailingZeros_1 22 rfl rfl)
theorem dJ14_numberOfTrailingZeros_47 : decode cJ14_numberOfTrailingZeros 47 = .ok (.iushr, 1) := dk_124 (dk_at dksJ14_numberOfTrailingZeros_2 0 rfl rfl)
theorem dJ14_numberOfTrailingZeros_48 : decode cJ14_numberOfTrailingZeros 48 = .ok (.istore_n 0, 1) := dk_59 (dk_at dksJ14_numberOfTrailingZeros_2 1 rfl rfl)
theorem dJ14_numberOfTrailingZeros_49 : decode cJ14_numberOfTrailingZeros 49 = .ok (.iload_n 0, 1) := dk_26 (dk_at dksJ14_numberOfTrailingZeros_2 2 rfl rfl)
theorem dJ14_numberOfTrailingZeros_50 : decode cJ14_numberOfTrailingZeros 50 = .ok (.bipush 16, 2) := dk_16 16 (dk_at dksJ14_numberOfTrailingZeros_2 3 rfl rfl)
theorem dJ14_numberOfTrailingZeros_52 : decode cJ14_numberOfTrailingZeros 52 = .ok (.if_icmp .le 10, 3) := dk_164 0 10 (dk_at dksJ14_numberOfTrailingZeros_2 5 rfl rfl)
theorem dJ14_numberOfTrailingZeros_55 : decode cJ14_numberOfTrailingZeros 55 = .ok (.iinc 1 4, 3) := dk_132 1 4 (dk_at dksJ14_numberOfTrailingZeros_2 8 rfl rfl)
theorem dJ14_numberOfTrailingZeros_58 : decode cJ14_numberOfTrailingZeros 58 = .ok (.iload_n 0, 1) := dk_26 (dk_at dksJ14_numberOfTrailingZeros_2 11 rfl rfl)
theorem dJ14_numberOfTrailingZeros_59 : decode cJ14_numberOfTrailingZeros 59 = .ok (.iconst 4, 1) := dk_7 (dk_at dksJ14_numberOfTrailingZeros_2 12 rfl rfl)
theorem dJ14_numberOfTrailingZeros_60 : decode cJ14_numberOfTrailingZeros 60 = .ok (.iushr, 1) := dk_124 (dk_at dksJ14_numberOfTrailingZeros_2 13 rfl rfl)
theorem dJ14_numberOfTrailingZeros_61 : decode cJ14_numberOfTrailingZeros 61 = .ok (.istore_n 0, 1) := dk_59 (dk_at dksJ14_numberOfTrailingZeros_2 14 rfl rfl)
theorem dJ14_numberOfTrailingZeros_62 : decode cJ14_numberOfTrailingZeros 62 = .ok (.iload_n 0, 1) := dk_26 (dk_at dksJ14_numberOfTrailingZeros_2 15 rfl rfl)
theorem dJ14_numberOfTrailingZeros_63 : decode cJ14_numberOfTrailingZeros 63 = .ok (.iconst 4, 1) := dk_7 (dk_at dksJ14_numberOfTrailingZeros_2 16 rfl rfl)
theorem dJ14_numberOfTrailingZeros_64 : decode cJ14_numberOfTrailingZeros 64 = .ok (.if_icmp .le 10, 3) := dk_164 0 10 (dk_at dksJ14_numberOfTrailingZeros_2 17 rfl rfl)
theorem dJ14_numberOfTrailingZeros_67 : decode cJ14_numberOfTrailingZeros 67 = .ok (.iinc 1 2, 3) := dk_132 1 2 (dk_at dksJ14_numberOfTrailingZeros_2 20 rfl rfl)
theorem dJ14_numberOfTrailingZeros_70 : decode cJ14_numberOfTrailingZeros 70 = .ok (.iload_n 0, 1) := dk_26 (dk_at dksJ14_numberOfTrailingZeros_2 23 rfl rfl)
theorem dJ14_numberOfTrailingZeros_71 : decode cJ14_numberOfTrailingZeros 71 = .ok (.iconst 2, 1) := dk_5 (dk_at dksJ14_numberOfTrailingZeros_3 0 rfl rfl)
theorem dJ14_numberOfTrailingZeros_72 : decode cJ14_numberOfTrailingZeros 72 = .ok (.iushr, 1) := dk_124 (dk_at dksJ14_numberOfTrailingZeros_3 1 rfl rfl)
theorem dJ14_numberOfTrailingZeros_73 : decode cJ14_numberOfTrailingZeros 73 = .ok (.istore_n 0, 1) := dk_59 (dk_at dksJ14_numberOfTrailingZeros_3 2 rfl rfl)
theorem dJ14_numberOfTrailingZeros_74 : decode cJ14_numberOfTrailingZeros 74 = .ok (.iload_n 1, 1) := dk_27 (dk_at dksJ14_numberOfTrailingZeros_3 3 rfl rfl)
theorem dJ14_numberOfTrailingZeros_75 : decode cJ14_numberOfTrailingZeros 75 = .ok (.iload_n 0, 1) := dk_26 (dk_at dksJ14_numberOfTrailingZeros_3 4 rfl rfl)
theorem dJ14_numberOfTrailingZeros_76 : decode cJ14_numberOfTrailingZeros 76 = .ok (.iconst 1, 1) := dk_4 (dk_at dksJ14_numberOfTrailingZeros_3 5 rfl rfl)
theorem dJ14_numberOfTrailingZeros_77 : decode cJ14_numberOfTrailingZeros 77 = .ok (.iushr, 1) := dk_124 (dk_at dksJ14_numberOfTrailingZeros_3 6 rfl rfl)
theorem dJ14_numberOfTrailingZeros_78 : decode cJ14_numberOfTrailingZeros 78 = .ok (.iadd, 1) := dk_96 (dk_at dksJ14_numberOfTrailingZeros_3 7 rfl rfl)
theorem dJ14_numberOfTrailingZeros_79 : decode cJ14_numberOfTrailingZeros 79 = .ok (.ireturn, 1) := dk_172 (dk_at dksJ14_numberOfTrailingZeros_3 8 rfl rfl)
abbrev cJ14_valueOf : ByteArray := prog_20_method_22_code
def yJ14_valueOf : MethodName := ⟨RJ14, "valueOf", "(I)Ljava/lang/Integer;"⟩
def dkwJ14_valueOf_1 : List UInt8 := [187, 0, 1, 89, 26, 183, 0, 199, 176]
abbrev dktJ14_valueOf_1 : List UInt8 := dkwJ14_valueOf_1 ++ []
def dkwJ14_valueOf_0 : List UInt8 := [26, 16, 128, 161, 0, 20, 26, 178, 0, 191, 163, 0, 13, 178, 0, 195, 26, 17, 0, 128, 96, 50, 176]
abbrev dktJ14_valueOf_0 : List UInt8 := dkwJ14_valueOf_0 ++ dktJ14_valueOf_1
theorem dksJ14_valueOf_0 : cJ14_valueOf.data.toList.drop 0 = dktJ14_valueOf_0 := by decide +kernel
theorem dksJ14_valueOf_1 : cJ14_valueOf.data.toList.drop 23 = dktJ14_valueOf_1 := dk_seg dksJ14_valueOf_0 23 rfl rfl
theorem dJ14_valueOf_0 : decode cJ14_valueOf 0 = .ok (.iload_n 0, 1) := dk_26 (dk_at dksJ14_valueOf_0 0 rfl rfl)
theorem dJ14_valueOf_1 : decode cJ14_valueOf 1 = .ok (.bipush (-128), 2) := dk_16 128 (dk_at dksJ14_valueOf_0 1 rfl rfl)
theorem dJ14_valueOf_3 : decode cJ14_valueOf 3 = .ok (.if_icmp .lt 20, 3) := dk_161 0 20 (dk_at dksJ14_valueOf_0 3 rfl rfl)
theorem dJ14_valueOf_6 : decode cJ14_valueOf 6 = .ok (.iload_n 0, 1) := dk_26 (dk_at dksJ14_valueOf_0 6 rfl rfl)
theorem dJ14_valueOf_7 : decode cJ14_valueOf 7 = .ok (.getstatic 191, 3) := dk_178 0 191 (dk_at dksJ14_valueOf_0 7 rfl rfl)
theorem dJ14_valueOf_10 : decode cJ14_valueOf 10 = .ok (.if_icmp .gt 13, 3) := dk_163 0 13 (dk_at dksJ14_valueOf_0 10 rfl rfl)
theorem dJ14_valueOf_13 : decode cJ14_valueOf 13 = .ok (.getstatic 195, 3) := dk_178 0 195 (dk_at dksJ14_valueOf_0 13 rfl rfl)
theorem dJ14_valueOf_16 : decode cJ14_valueOf 16 = .ok (.iload_n 0, 1) := dk_26 (dk_at dksJ14_valueOf_0 16 rfl rfl)
theorem dJ14_valueOf_17 : decode cJ14_valueOf 17 = .ok (.sipush 128, 3) := dk_17 0 128 (dk_at dksJ14_valueOf_0 17 rfl rfl)
theorem dJ14_valueOf_20 : decode cJ14_valueOf 20 = .ok (.iadd, 1) := dk_96 (dk_at dksJ14_valueOf_0 20 rfl rfl)
theorem dJ14_valueOf_21 : decode cJ14_valueOf 21 = .ok (.aaload, 1) := dk_50 (dk_at dksJ14_valueOf_0 21 rfl rfl)
theorem dJ14_valueOf_22 : decode cJ14_valueOf 22 = .ok (.areturn, 1) := dk_176 (dk_at dksJ14_valueOf_0 22 rfl rfl)
theorem dJ14_valueOf_23 : decode cJ14_valueOf 23 = .ok (.new 1, 3) := dk_187 0 1 (dk_at dksJ14_valueOf_1 0 rfl rfl)
theorem dJ14_valueOf_26 : decode cJ14_valueOf 26 = .ok (.dup, 1) := dk_89 (dk_at dksJ14_valueOf_1 3 rfl rfl)
theorem dJ14_valueOf_27 : decode cJ14_valueOf 27 = .ok (.iload_n 0, 1) := dk_26 (dk_at dksJ14_valueOf_1 4 rfl rfl)
theorem dJ14_valueOf_28 : decode cJ14_valueOf 28 = .ok (.invokespecial 199, 3) := dk_183 0 199 (dk_at dksJ14_valueOf_1 5 rfl rfl)
theorem dJ14_valueOf_31 : decode cJ14_valueOf 31 = .ok (.areturn, 1) := dk_176 (dk_at dksJ14_valueOf_1 8 rfl rfl)
abbrev cJ14_init : ByteArray := prog_20_method_23_code
def yJ14_init : MethodName := ⟨RJ14, "<init>", "(I)V"⟩
def dkwJ14_init_0 : List UInt8 := [42, 183, 0, 202, 42, 27, 181, 0, 205, 177]
abbrev dktJ14_init_0 : List UInt8 := dkwJ14_init_0 ++ []
theorem dksJ14_init_0 : cJ14_init.data.toList.drop 0 = dktJ14_init_0 := by decide +kernel
theorem dJ14_init_0 : decode cJ14_init 0 = .ok (.aload_n 0, 1) := dk_42 (dk_at dksJ14_init_0 0 rfl rfl)
theorem dJ14_init_1 : decode cJ14_init 1 = .ok (.invokespecial 202, 3) := dk_183 0 202 (dk_at dksJ14_init_0 1 rfl rfl)
theorem dJ14_init_4 : decode cJ14_init 4 = .ok (.aload_n 0, 1) := dk_42 (dk_at dksJ14_init_0 4 rfl rfl)
theorem dJ14_init_5 : decode cJ14_init 5 = .ok (.iload_n 1, 1) := dk_27 (dk_at dksJ14_init_0 5 rfl rfl)
theorem dJ14_init_6 : decode cJ14_init 6 = .ok (.putfield 205, 3) := dk_181 0 205 (dk_at dksJ14_init_0 6 rfl rfl)
theorem dJ14_init_9 : decode cJ14_init 9 = .ok (.return_, 1) := dk_177 (dk_at dksJ14_init_0 9 rfl rfl)
abbrev cJ14_compareTo : ByteArray := prog_20_method_63_code
def yJ14_compareTo : MethodName := ⟨RJ14, "compareTo", "(Ljava/lang/Object;)I"⟩
def dkwJ14_compareTo_0 : List UInt8 := [42, 43, 192, 0, 1, 182, 1, 28, 172]
abbrev dktJ14_compareTo_0 : List UInt8 := dkwJ14_compareTo_0 ++ []
theorem dksJ14_compareTo_0 : cJ14_compareTo.data.toList.drop 0 = dktJ14_compareTo_0 := by decide +kernel
theorem dJ14_compareTo_0 : decode cJ14_compareTo 0 = .ok (.aload_n 0, 1) := dk_42 (dk_at dksJ14_compareTo_0 0 rfl rfl)
theorem dJ14_compareTo_1 : decode cJ14_compareTo 1 = .ok (.aload_n 1, 1) := dk_43 (dk_at dksJ14_compareTo_0 1 rfl rfl)
theorem dJ14_compareTo_2 : decode cJ14_compareTo 2 = .ok (.checkcast 1, 3) := dk_192 0 1 (dk_at dksJ14_compareTo_0 2 rfl rfl)
theorem dJ14_compareTo_5 : decode cJ14_compareTo 5 = .ok (.invokevirtual 284, 3) := dk_182 1 28 (dk_at dksJ14_compareTo_0 5 rfl rfl)
theorem dJ14_compareTo_8 : decode cJ14_compareTo 8 = .ok (.ireturn, 1) := dk_172 (dk_at dksJ14_compareTo_0 8 rfl rfl)
abbrev cJ14_compareTo_2 : ByteArray := prog_20_method_39_code
def yJ14_compareTo_2 : MethodName := ⟨RJ14, "compareTo", "(Ljava/lang/Integer;)I"⟩
def dkwJ14_compareTo_2_0 : List UInt8 := [42, 180, 0, 205, 43, 180, 0, 205, 184, 1, 3, 172]
abbrev dktJ14_compareTo_2_0 : List UInt8 := dkwJ14_compareTo_2_0 ++ []
theorem dksJ14_compareTo_2_0 : cJ14_compareTo_2.data.toList.drop 0 = dktJ14_compareTo_2_0 := by decide +kernel
theorem dJ14_compareTo_2_0 : decode cJ14_compareTo_2 0 = .ok (.aload_n 0, 1) := dk_42 (dk_at dksJ14_compareTo_2_0 0 rfl rfl)
theorem dJ14_compareTo_2_1 : decode cJ14_compareTo_2 1 = .ok (.getfield 205, 3) := dk_180 0 205 (dk_at dksJ14_compareTo_2_0 1 rfl rfl)
theorem dJ14_compareTo_2_4 : decode cJ14_compareTo_2 4 = .ok (.aload_n 1, 1) := dk_43 (dk_at dksJ14_compareTo_2_0 4 rfl rfl)
theorem dJ14_compareTo_2_5 : decode cJ14_compareTo_2 5 = .ok (.getfield 205, 3) := dk_180 0 205 (dk_at dksJ14_compareTo_2_0 5 rfl rfl)
theorem dJ14_compareTo_2_8 : decode cJ14_compareTo_2 8 = .ok (.invokestatic 259, 3) := dk_184 1 3 (dk_at dksJ14_compareTo_2_0 8 rfl rfl)
theorem dJ14_compareTo_2_11 : decode cJ14_compareTo_2 11 = .ok (.ireturn, 1) := dk_172 (dk_at dksJ14_compareTo_2_0 11 rfl rfl)
abbrev cJ14_compare : ByteArray := prog_20_method_40_code
def yJ14_compare : MethodName := ⟨RJ14, "compare", "(II)I"⟩
def dkwJ14_compare_0 : List UInt8 := [26, 27, 162, 0, 7, 2, 167, 0, 13, 26, 27, 160, 0, 7, 3, 167, 0, 4, 4, 172]
abbrev dktJ14_compare_0 : List UInt8 := dkwJ14_compare_0 ++ []
theorem dksJ14_compare_0 : cJ14_compare.data.toList.drop 0 = dktJ14_compare_0 := by decide +kernel
theorem dJ14_compare_0 : decode cJ14_compare 0 = .ok (.iload_n 0, 1) := dk_26 (dk_at dksJ14_compare_0 0 rfl rfl)
theorem dJ14_compare_1 : decode cJ14_compare 1 = .ok (.iload_n 1, 1) := dk_27 (dk_at dksJ14_compare_0 1 rfl rfl)
theorem dJ14_compare_2 : decode cJ14_compare 2 = .ok (.if_icmp .ge 7, 3) := dk_162 0 7 (dk_at dksJ14_compare_0 2 rfl rfl)
theorem dJ14_compare_5 : decode cJ14_compare 5 = .ok (.iconst (-1), 1) := dk_2 (dk_at dksJ14_compare_0 5 rfl rfl)
theorem dJ14_compare_6 : decode cJ14_compare 6 = .ok (.goto 13, 3) := dk_167 0 13 (dk_at dksJ14_compare_0 6 rfl rfl)
theorem dJ14_compare_9 : decode cJ14_compare 9 = .ok (.iload_n 0, 1) := dk_26 (dk_at dksJ14_compare_0 9 rfl rfl)
theorem dJ14_compare_10 : decode cJ14_compare 10 = .ok (.iload_n 1, 1) := dk_27 (dk_at dksJ14_compare_0 10 rfl rfl)
theorem dJ14_compare_11 : decode cJ14_compare 11 = .ok (.if_icmp .ne 7, 3) := dk_160 0 7 (dk_at dksJ14_compare_0 11 rfl rfl)
theorem dJ14_compare_14 : decode cJ14_compare 14 = .ok (.iconst 0, 1) := dk_3 (dk_at dksJ14_compare_0 14 rfl rfl)
theorem dJ14_compare_15 : decode cJ14_compare 15 = .ok (.goto 4, 3) := dk_167 0 4 (dk_at dksJ14_compare_0 15 rfl rfl)
theorem dJ14_compare_18 : decode cJ14_compare 18 = .ok (.iconst 1, 1) := dk_4 (dk_at dksJ14_compare_0 18 rfl rfl)
theorem dJ14_compare_19 : decode cJ14_compare 19 = .ok (.ireturn, 1) := dk_172 (dk_at dksJ14_compare_0 19 rfl rfl)
abbrev cJ14_numberOfLeadingZeros : ByteArray := prog_20_method_47_code
def yJ14_numberOfLeadingZeros : MethodName := ⟨RJ14, "numberOfLeadingZeros", "(I)I"⟩
def dkwJ14_numberOfLeadingZeros_3 : List UInt8 := [5, 124, 59, 27, 26, 4, 124, 100, 172]
abbrev dktJ14_numberOfLeadingZeros_3 : List UInt8 := dkwJ14_numberOfLeadingZeros_3 ++ []
def dkwJ14_numberOfLeadingZeros_2 : List UInt8 := [124, 59, 26, 16, 16, 161, 0, 10, 132, 1, 252, 26, 7, 124, 59, 26, 7, 161, 0, 10, 132, 1, 254, 26]
abbrev dktJ14_numberOfLeadingZeros_2 : List UInt8 := dkwJ14_numberOfLeadingZeros_2 ++ dktJ14_numberOfLeadingZeros_3
def dkwJ14_numberOfLeadingZeros_1 : List UInt8 := [161, 0, 11, 132, 1, 240, 26, 16, 16, 124, 59, 26, 17, 1, 0, 161, 0, 11, 132, 1, 248, 26, 16, 8]
abbrev dktJ14_numberOfLeadingZeros_1 : List UInt8 := dkwJ14_numberOfLeadingZeros_1 ++ dktJ14_numberOfLeadingZeros_2
def dkwJ14_numberOfLeadingZeros_0 : List UInt8 := [26, 157, 0, 14, 26, 154, 0, 8, 16, 32, 167, 0, 4, 3, 172, 16, 31, 60, 26, 19, 1, 8]
abbrev dktJ14_numberOfLeadingZeros_0 : List UInt8 := dkwJ14_numberOfLeadingZeros_0 ++ dktJ14_numberOfLeadingZeros_1
theorem dksJ14_numberOfLeadingZeros_0 : cJ14_numberOfLeadingZeros.data.toList.drop 0 = dktJ14_numberOfLeadingZeros_0 := by decide +kernel
theorem dksJ14_numberOfLeadingZeros_1 : cJ14_numberOfLeadingZeros.data.toList.drop 22 = dktJ14_numberOfLeadingZeros_1 := dk_seg dksJ14_numberOfLeadingZeros_0 22 rfl rfl
theorem dksJ14_numberOfLeadingZeros_2 : cJ14_numberOfLeadingZeros.data.toList.drop 46 = dktJ14_numberOfLeadingZeros_2 := dk_seg dksJ14_numberOfLeadingZeros_1 24 rfl rfl
theorem dksJ14_numberOfLeadingZeros_3 : cJ14_numberOfLeadingZeros.data.toList.drop 70 = dktJ14_numberOfLeadingZeros_3 := dk_seg dksJ14_numberOfLeadingZeros_2 24 rfl rfl
theorem dJ14_numberOfLeadingZeros_0 : decode cJ14_numberOfLeadingZeros 0 = .ok (.iload_n 0, 1) := dk_26 (dk_at dksJ14_numberOfLeadingZeros_0 0 rfl rfl)
theorem dJ14_numberOfLeadingZeros_1 : decode cJ14_numberOfLeadingZeros 1 = .ok (.ifCond .gt 14, 3) := dk_157 0 14 (dk_at dksJ14_numberOfLeadingZeros_0 1 rfl rfl)
theorem dJ14_numberOfLeadingZeros_4 : decode cJ14_numberOfLeadingZeros 4 = .ok (.iload_n 0, 1) := dk_26 (dk_at dksJ14_numberOfLeadingZeros_0 4 rfl rfl)
theorem dJ14_numberOfLeadingZeros_5 : decode cJ14_numberOfLeadingZeros 5 = .ok (.ifCond .ne 8, 3) := dk_154 0 8 (dk_at dksJ14_numberOfLeadingZeros_0 5 rfl rfl)
theorem dJ14_numberOfLeadingZeros_8 : decode cJ14_numberOfLeadingZeros 8 = .ok (.bipush 32, 2) := dk_16 32 (dk_at dksJ14_numberOfLeadingZeros_0 8 rfl rfl)
theorem dJ14_numberOfLeadingZeros_10 : decode cJ14_numberOfLeadingZeros 10 = .ok (.goto 4, 3) := dk_167 0 4 (dk_at dksJ14_numberOfLeadingZeros_0 10 rfl rfl)
theorem dJ14_numberOfLeadingZeros_13 : decode cJ14_numberOfLeadingZeros 13 = .ok (.iconst 0, 1) := dk_3 (dk_at dksJ14_numberOfLeadingZeros_0 13 rfl rfl)
theorem dJ14_numberOfLeadingZeros_14 : decode cJ14_numberOfLeadingZeros 14 = .ok (.ireturn, 1) := dk_172 (dk_at dksJ14_numberOfLeadingZeros_0 14 rfl rfl)
theorem dJ14_numberOfLeadingZeros_15 : decode cJ14_numberOfLeadingZeros 15 = .ok (.bipush 31, 2) := dk_16 31 (dk_at dksJ14_numberOfLeadingZeros_0 15 rfl rfl)
theorem dJ14_numberOfLeadingZeros_17 : decode cJ14_numberOfLeadingZeros 17 = .ok (.istore_n 1, 1) := dk_60 (dk_at dksJ14_numberOfLeadingZeros_0 17 rfl rfl)
theorem dJ14_numberOfLeadingZeros_18 : decode cJ14_numberOfLeadingZeros 18 = .ok (.iload_n 0, 1) := dk_26 (dk_at dksJ14_numberOfLeadingZeros_0 18 rfl rfl)
theorem dJ14_numberOfLeadingZeros_19 : decode cJ14_numberOfLeadingZeros 19 = .ok (.ldc_w 264, 3) := dk_19 1 8 (dk_at dksJ14_numberOfLeadingZeros_0 19 rfl rfl)
theorem dJ14_numberOfLeadingZeros_22 : decode cJ14_numberOfLeadingZeros 22 = .ok (.if_icmp .lt 11, 3) := dk_161 0 11 (dk_at dksJ14_numberOfLeadingZeros_1 0 rfl rfl)
theorem dJ14_numberOfLeadingZeros_25 : decode cJ14_numberOfLeadingZeros 25 = .ok (.iinc 1 (-16), 3) := dk_132 1 240 (dk_at dksJ14_numberOfLeadingZeros_1 3 rfl rfl)
theorem dJ14_numberOfLeadingZeros_28 : decode cJ14_numberOfLeadingZeros 28 = .ok (.iload_n 0, 1) := dk_26 (dk_at dksJ14_numberOfLeadingZeros_1 6 rfl rfl)
theorem dJ14_numberOfLeadingZeros_29 : decode cJ14_numberOfLeadingZeros 29 = .ok (.bipush 16, 2) := dk_16 16 (dk_at dksJ14_numberOfLeadingZeros_1 7 rfl rfl)
theorem dJ14_numberOfLeadingZeros_31 : decode cJ14_numberOfLeadingZeros 31 = .ok (.iushr, 1) := dk_124 (dk_at dksJ14_numberOfLeadingZeros_1 9 rfl rfl)
theorem dJ14_numberOfLeadingZeros_32 : decode cJ14_numberOfLeadingZeros 32 = .ok (.istore_n 0, 1) := dk_59 (dk_at dksJ14_numberOfLeadingZeros_1 10 rfl rfl)
theorem dJ14_numberOfLeadingZeros_33 : decode cJ14_numberOfLeadingZeros 33 = .ok (.iload_n 0, 1) := dk_26 (dk_at dksJ14_numberOfLeadingZeros_1 11 rfl rfl)
theorem dJ14_numberOfLeadingZeros_34 : decode cJ14_numberOfLeadingZeros 34 = .ok (.sipush 256, 3) := dk_17 1 0 (dk_at dksJ14_numberOfLeadingZeros_1 12 rfl rfl)
theorem dJ14_numberOfLeadingZeros_37 : decode cJ14_numberOfLeadingZeros 37 = .ok (.if_icmp .lt 11, 3) := dk_161 0 11 (dk_at dksJ14_numberOfLeadingZeros_1 15 rfl rfl)
theorem dJ14_numberOfLeadingZeros_40 : decode cJ14_numberOfLeadingZeros 40 = .ok (.iinc 1 (-8), 3) := dk_132 1 248 (dk_at dksJ14_numberOfLeadingZeros_1 18 rfl rfl)
theorem dJ14_numberOfLeadingZeros_43 : decode cJ14_numberOfLeadingZeros 43 = .ok (.iload_n 0, 1) := dk_26 (dk_at dksJ14_numberOfLeadingZeros_1 21 rfl rfl)
theorem dJ14_numberOfLeadingZeros_44 : decode cJ14_numberOfLeadingZeros 44 = .ok (.bipush 8, 2) := dk_16 8 (dk_at dksJ14_numberOfLeadingZeros_1 22 rfl rfl)
theorem dJ14_numberOfLeadingZeros_46 : decode cJ14_numberOfLeadingZeros 46 = .ok (.iushr, 1) := dk_124 (dk_at dksJ14_numberOfLeadingZeros_2 0 rfl rfl)
theorem dJ14_numberOfLeadingZeros_47 : decode cJ14_numberOfLeadingZeros 47 = .ok (.istore_n 0, 1) := dk_59 (dk_at dksJ14_numberOfLeadingZeros_2 1 rfl rfl)
theorem dJ14_numberOfLeadingZeros_48 : decode cJ14_numberOfLeadingZeros 48 = .ok (.iload_n 0, 1) := dk_26 (dk_at dksJ14_numberOfLeadingZeros_2 2 rfl rfl)
theorem dJ14_numberOfLeadingZeros_49 : decode cJ14_numberOfLeadingZeros 49 = .ok (.bipush 16, 2) := dk_16 16 (dk_at dksJ14_numberOfLeadingZeros_2 3 rfl rfl)
theorem dJ14_numberOfLeadingZeros_51 : decode cJ14_numberOfLeadingZeros 51 = .ok (.if_icmp .lt 10, 3) := dk_161 0 10 (dk_at dksJ14_numberOfLeadingZeros_2 5 rfl rfl)
theorem dJ14_numberOfLeadingZeros_54 : decode cJ14_numberOfLeadingZeros 54 = .ok (.iinc 1 (-4), 3) := dk_132 1 252 (dk_at dksJ14_numberOfLeadingZeros_2 8 rfl rfl)
theorem dJ14_numberOfLeadingZeros_57 : decode cJ14_numberOfLeadingZeros 57 = .ok (.iload_n 0, 1) := dk_26 (dk_at dksJ14_numberOfLeadingZeros_2 11 rfl rfl)
theorem dJ14_numberOfLeadingZeros_58 : decode cJ14_numberOfLeadingZeros 58 = .ok (.iconst 4, 1) := dk_7 (dk_at dksJ14_numberOfLeadingZeros_2 12 rfl rfl)
theorem dJ14_numberOfLeadingZeros_59 : decode cJ14_numberOfLeadingZeros 59 = .ok (.iushr, 1) := dk_124 (dk_at dksJ14_numberOfLeadingZeros_2 13 rfl rfl)
theorem dJ14_numberOfLeadingZeros_60 : decode cJ14_numberOfLeadingZeros 60 = .ok (.istore_n 0, 1) := dk_59 (dk_at dksJ14_numberOfLeadingZeros_2 14 rfl rfl)
theorem dJ14_numberOfLeadingZeros_61 : decode cJ14_numberOfLeadingZeros 61 = .ok (.iload_n 0, 1) := dk_26 (dk_at dksJ14_numberOfLeadingZeros_2 15 rfl rfl)
theorem dJ14_numberOfLeadingZeros_62 : decode cJ14_numberOfLeadingZeros 62 = .ok (.iconst 4, 1) := dk_7 (dk_at dksJ14_numberOfLeadingZeros_2 16 rfl rfl)
theorem dJ14_numberOfLeadingZeros_63 : decode cJ14_numberOfLeadingZeros 63 = .ok (.if_icmp .lt 10, 3) := dk_161 0 10 (dk_at dksJ14_numberOfLeadingZeros_2 17 rfl rfl)
theorem dJ14_numberOfLeadingZeros_66 : decode cJ14_numberOfLeadingZeros 66 = .ok (.iinc 1 (-2), 3) := dk_132 1 254 (dk_at dksJ14_numberOfLeadingZeros_2 20 rfl rfl)
theorem dJ14_numberOfLeadingZeros_69 : decode cJ14_numberOfLeadingZeros 69 = .ok (.iload_n 0, 1) := dk_26 (dk_at dksJ14_numberOfLeadingZeros_2 23 rfl rfl)
theorem dJ14_numberOfLeadingZeros_70 : decode cJ14_numberOfLeadingZeros 70 = .ok (.iconst 2, 1) := dk_5 (dk_at dksJ14_numberOfLeadingZeros_3 0 rfl rfl)
theorem dJ14_numberOfLeadingZeros_71 : decode cJ14_numberOfLeadingZeros 71 = .ok (.iushr, 1) := dk_124 (dk_at dksJ14_numberOfLeadingZeros_3 1 rfl rfl)
theorem dJ14_numberOfLeadingZeros_72 : decode cJ14_numberOfLeadingZeros 72 = .ok (.istore_n 0, 1) := dk_59 (dk_at dksJ14_numberOfLeadingZeros_3 2 rfl rfl)
theorem dJ14_numberOfLeadingZeros_73 : decode cJ14_numberOfLeadingZeros 73 = .ok (.iload_n 1, 1) := dk_27 (dk_at dksJ14_numberOfLeadingZeros_3 3 rfl rfl)
theorem dJ14_numberOfLeadingZeros_74 : decode cJ14_numberOfLeadingZeros 74 = .ok (.iload_n 0, 1) := dk_26 (dk_at dksJ14_numberOfLeadingZeros_3 4 rfl rfl)
theorem dJ14_numberOfLeadingZeros_75 : decode cJ14_numberOfLeadingZeros 75 = .ok (.iconst 1, 1) := dk_4 (dk_at dksJ14_numberOfLeadingZeros_3 5 rfl rfl)
theorem dJ14_numberOfLeadingZeros_76 : decode cJ14_numberOfLeadingZeros 76 = .ok (.iushr, 1) := dk_124 (dk_at dksJ14_numberOfLeadingZeros_3 6 rfl rfl)
theorem dJ14_numberOfLeadingZeros_77 : decode cJ14_numberOfLeadingZeros 77 = .ok (.isub, 1) := dk_100 (dk_at dksJ14_numberOfLeadingZeros_3 7 rfl rfl)
theorem dJ14_numberOfLeadingZeros_78 : decode cJ14_numberOfLeadingZeros 78 = .ok (.ireturn, 1) := dk_172 (dk_at dksJ14_numberOfLeadingZeros_3 8 rfl rfl)
abbrev cJ14_intValue : ByteArray := prog_20_method_27_code
def yJ14_intValue : MethodName := ⟨RJ14, "intValue", "()I"⟩
theorem dJ14_intValue_0 : decode cJ14_intValue 0 = .ok (.aload_n 0, 1) := by decide +kernel
theorem dJ14_intValue_1 : decode cJ14_intValue 1 = .ok (.getfield 205, 3) := by decide +kernel
theorem dJ14_intValue_4 : decode cJ14_intValue 4 = .ok (.ireturn, 1) := by decide +kernel
abbrev cJ14_bitCount : ByteArray := prog_20_method_49_code
def yJ14_bitCount : MethodName := ⟨RJ14, "bitCount", "(I)I"⟩
def dkwJ14_bitCount_2 : List UInt8 := [26, 16, 63, 126, 172]
abbrev dktJ14_bitCount_2 : List UInt8 := dkwJ14_bitCount_2 ++ []
def dkwJ14_bitCount_1 : List UInt8 := [26, 26, 7, 124, 96, 19, 1, 11, 126, 59, 26, 26, 16, 8, 124, 96, 59, 26, 26, 16, 16, 124, 96, 59]
abbrev dktJ14_bitCount_1 : List UInt8 := dkwJ14_bitCount_1 ++ dktJ14_bitCount_2
def dkwJ14_bitCount_0 : List UInt8 := [26, 26, 4, 124, 19, 1, 9, 126, 100, 59, 26, 19, 1, 10, 126, 26, 5, 124, 19, 1, 10, 126, 96, 59]
abbrev dktJ14_bitCount_0 : List UInt8 := dkwJ14_bitCount_0 ++ dktJ14_bitCount_1
theorem dksJ14_bitCount_0 : cJ14_bitCount.data.toList.drop 0 = dktJ14_bitCount_0 := by decide +kernel
theorem dksJ14_bitCount_1 : cJ14_bitCount.data.toList.drop 24 = dktJ14_bitCount_1 := dk_seg dksJ14_bitCount_0 24 rfl rfl
theorem dksJ14_bitCount_2 : cJ14_bitCount.data.toList.drop 48 = dktJ14_bitCount_2 := dk_seg dksJ14_bitCount_1 24 rfl rfl
theorem dJ14_bitCount_0 : decode cJ14_bitCount 0 = .ok (.iload_n 0, 1) := dk_26 (dk_at dksJ14_bitCount_0 0 rfl rfl)
theorem dJ14_bitCount_1 : decode cJ14_bitCount 1 = .ok (.iload_n 0, 1) := dk_26 (dk_at dksJ14_bitCount_0 1 rfl rfl)
theorem dJ14_bitCount_2 : decode cJ14_bitCount 2 = .ok (.iconst 1, 1) := dk_4 (dk_at dksJ14_bitCount_0 2 rfl rfl)
theorem dJ14_bitCount_3 : decode cJ14_bitCount 3 = .ok (.iushr, 1) := dk_124 (dk_at dksJ14_bitCount_0 3 rfl rfl)
theorem dJ14_bitCount_4 : decode cJ14_bitCount 4 = .ok (.ldc_w 265, 3) := dk_19 1 9 (dk_at dksJ14_bitCount_0 4 rfl rfl)
theorem dJ14_bitCount_7 : decode cJ14_bitCount 7 = .ok (.iand, 1) := dk_126 (dk_at dksJ14_bitCount_0 7 rfl rfl)
theorem dJ14_bitCount_8 : decode cJ14_bitCount 8 = .ok (.isub, 1) := dk_100 (dk_at dksJ14_bitCount_0 8 rfl rfl)
theorem dJ14_bitCount_9 : decode cJ14_bitCount 9 = .ok (.istore_n 0, 1) := dk_59 (dk_at dksJ14_bitCount_0 9 rfl rfl)
theorem dJ14_bitCount_10 : decode cJ14_bitCount 10 = .ok (.iload_n 0, 1) := dk_26 (dk_at dksJ14_bitCount_0 10 rfl rfl)
theorem dJ14_bitCount_11 : decode cJ14_bitCount 11 = .ok (.ldc_w 266, 3) := dk_19 1 10 (dk_at dksJ14_bitCount_0 11 rfl rfl)
theorem dJ14_bitCount_14 : decode cJ14_bitCount 14 = .ok (.iand, 1) := dk_126 (dk_at dksJ14_bitCount_0 14 rfl rfl)
theorem dJ14_bitCount_15 : decode cJ14_bitCount 15 = .ok (.iload_n 0, 1) := dk_26 (dk_at dksJ14_bitCount_0 15 rfl rfl)
theorem dJ14_bitCount_16 : decode cJ14_bitCount 16 = .ok (.iconst 2, 1) := dk_5 (dk_at dksJ14_bitCount_0 16 rfl rfl)
theorem dJ14_bitCount_17 : decode cJ14_bitCount 17 = .ok (.iushr, 1) := dk_124 (dk_at dksJ14_bitCount_0 17 rfl rfl)
theorem dJ14_bitCount_18 : decode cJ14_bitCount 18 = .ok (.ldc_w 266, 3) := dk_19 1 10 (dk_at dksJ14_bitCount_0 18 rfl rfl)
theorem dJ14_bitCount_21 : decode cJ14_bitCount 21 = .ok (.iand, 1) := dk_126 (dk_at dksJ14_bitCount_0 21 rfl rfl)
theorem dJ14_bitCount_22 : decode cJ14_bitCount 22 = .ok (.iadd, 1) := dk_96 (dk_at dksJ14_bitCount_0 22 rfl rfl)
theorem dJ14_bitCount_23 : decode cJ14_bitCount 23 = .ok (.istore_n 0, 1) := dk_59 (dk_at dksJ14_bitCount_0 23 rfl rfl)
theorem dJ14_bitCount_24 : decode cJ14_bitCount 24 = .ok (.iload_n 0, 1) := dk_26 (dk_at dksJ14_bitCount_1 0 rfl rfl)
theorem dJ14_bitCount_25 : decode cJ14_bitCount 25 = .ok (.iload_n 0, 1) := dk_26 (dk_at dksJ14_bitCount_1 1 rfl rfl)
theorem dJ14_bitCount_26 : decode cJ14_bitCount 26 = .ok (.iconst 4, 1) := dk_7 (dk_at dksJ14_bitCount_1 2 rfl rfl)
theorem dJ14_bitCount_27 : decode cJ14_bitCount 27 = .ok (.iushr, 1) := dk_124 (dk_at dksJ14_bitCount_1 3 rfl rfl)
theorem dJ14_bitCount_28 : decode cJ14_bitCount 28 = .ok (.iadd, 1) := dk_96 (dk_at dksJ14_bitCount_1 4 rfl rfl)
theorem dJ14_bitCount_29 : decode cJ14_bitCount 29 = .ok (.ldc_w 267, 3) := dk_19 1 11 (dk_at dksJ14_bitCount_1 5 rfl rfl)
theorem dJ14_bitCount_32 : decode cJ14_bitCount 32 = .ok (.iand, 1) := dk_126 (dk_at dksJ14_bitCount_1 8 rfl rfl)
theorem dJ14_bitCount_33 : decode cJ14_bitCount 33 = .ok (.istore_n 0, 1) := dk_59 (dk_at dksJ14_bitCount_1 9 rfl rfl)
theorem dJ14_bitCount_34 : decode cJ14_bitCount 34 = .ok (.iload_n 0, 1) := dk_26 (dk_at dksJ14_bitCount_1 10 rfl rfl)
theorem dJ14_bitCount_35 : decode cJ14_bitCount 35 = .ok (.iload_n 0, 1) := dk_26 (dk_at dksJ14_bitCount_1 11 rfl rfl)
theorem dJ14_bitCount_36 : decode cJ14_bitCount 36 = .ok (.bipush 8, 2) := dk_16 8 (dk_at dksJ14_bitCount_1 12 rfl rfl)
theorem dJ14_bitCount_38 : decode cJ14_bitCount 38 = .ok (.iushr, 1) := dk_124 (dk_at dksJ14_bitCount_1 14 rfl rfl)
theorem dJ14_bitCount_39 : decode cJ14_bitCount 39 = .ok (.iadd, 1) := dk_96 (dk_at dksJ14_bitCount_1 15 rfl rfl)
theorem dJ14_bitCount_40 : decode cJ14_bitCount 40 = .ok (.istore_n 0, 1) := dk_59 (dk_at dksJ14_bitCount_1 16 rfl rfl)
theorem dJ14_bitCount_41 : decode cJ14_bitCount 41 = .ok (.iload_n 0, 1) := dk_26 (dk_at dksJ14_bitCount_1 17 rfl rfl)
theorem dJ14_bitCount_42 : decode cJ14_bitCount 42 = .ok (.iload_n 0, 1) := dk_26 (dk_at dksJ14_bitCount_1 18 rfl rfl)
theorem dJ14_bitCount_43 : decode cJ14_bitCount 43 = .ok (.bipush 16, 2) := dk_16 16 (dk_at dksJ14_bitCount_1 19 rfl rfl)
theorem dJ14_bitCount_45 : decode cJ14_bitCount 45 = .ok (.iushr, 1) := dk_124 (dk_at dksJ14_bitCount_1 21 rfl rfl)
theorem dJ14_bitCount_46 : decode cJ14_bitCount 46 = .ok (.iadd, 1) := dk_96 (dk_at dksJ14_bitCount_1 22 rfl rfl)
theorem dJ14_bitCount_47 : decode cJ14_bitCount 47 = .ok (.istore_n 0, 1) := dk_59 (dk_at dksJ14_bitCount_1 23 rfl rfl)
theorem dJ14_bitCount_48 : decode cJ14_bitCount 48 = .ok (.iload_n 0, 1) := dk_26 (dk_at dksJ14_bitCount_2 0 rfl rfl)
theorem dJ14_bitCount_49 : decode cJ14_bitCount 49 = .ok (.bipush 63, 2) := dk_16 63 (dk_at dksJ14_bitCount_2 1 rfl rfl)
theorem dJ14_bitCount_51 : decode cJ14_bitCount 51 = .ok (.iand, 1) := dk_126 (dk_at dksJ14_bitCount_2 3 rfl rfl)
theorem dJ14_bitCount_52 : decode cJ14_bitCount 52 = .ok (.ireturn, 1) := dk_172 (dk_at dksJ14_bitCount_2 4 rfl rfl)
theorem q133 : (Jvm.Cond.initialized "java/lang/Integer") ∈ lw_all := lw_g (lw_at lw_m1 26 rfl) rfl
theorem q885 : (Jvm.Cond.selects "java/lang/Integer" ({ cls := "java/lang/Object", name := "getClass", desc := "()Ljava/lang/Class;" } : Jvm.MethodName) ({ cls := "java/lang/Object", name := "getClass", desc := "()Ljava/lang/Class;" } : Jvm.MethodName)) ∈ lw_all := lw_g (lw_at lw_m4 58 rfl) rfl
theorem q970 : (Jvm.Cond.static ({ cls := "java/lang/Integer", name := "numberOfTrailingZeros", desc := "(I)I" } : Jvm.MethodName)) ∈ lw_all := lw_g (lw_at lw_m4 143 rfl) rfl
theorem q971 : (Jvm.Cond.code ({ cls := "java/lang/Integer", name := "numberOfTrailingZeros", desc := "(I)I" } : Jvm.MethodName) prog_20_method_48_code (2 : Nat) (Option.some Jvm.ClassFile.FieldType.int)) ∈ lw_all := lw_g (lw_at lw_m4 144 rfl) rfl
theorem q972 : (Jvm.Cond.constant "java/lang/Integer" (264 : Nat) (65536 : Int32)) ∈ lw_all := lw_g (lw_at lw_m4 145 rfl) rfl
theorem q1023 : (Jvm.Cond.static ({ cls := "java/lang/Integer", name := "valueOf", desc := "(I)Ljava/lang/Integer;" } : Jvm.MethodName)) ∈ lw_all := lw_g (lw_at lw_m4 196 rfl) rfl
theorem q1024 : (Jvm.Cond.code ({ cls := "java/lang/Integer", name := "valueOf", desc := "(I)Ljava/lang/Integer;" } : Jvm.MethodName) prog_20_method_22_code (1 : Nat) (Option.some (Jvm.ClassFile.FieldType.object "java/lang/Integer"))) ∈ lw_all := lw_g (lw_at lw_m4 197 rfl) rfl
theorem q1025 : (Jvm.Cond.fieldLink "java/lang/Integer" (191 : Nat) "java/lang/Integer$IntegerCache" "high" "I") ∈ lw_all := lw_g (lw_at lw_m4 198 rfl) rfl
theorem q1027 : (Jvm.Cond.fieldLink "java/lang/Integer" (195 : Nat) "java/lang/Integer$IntegerCache" "cache" "[Ljava/lang/Integer;") ∈ lw_all := lw_g (lw_at lw_m4 200 rfl) rfl
theorem q1029 : (Jvm.Cond.classLink "java/lang/Integer" (1 : Nat) "java/lang/Integer") ∈ lw_all := lw_g (lw_at lw_m4 202 rfl) rfl
theorem q1030 : (Jvm.Cond.instantiable "java/lang/Integer" (1 : Nat)) ∈ lw_all := lw_g (lw_at lw_m4 203 rfl) rfl
theorem q1031 : (Jvm.Cond.methodLink "java/lang/Integer" (199 : Nat) ({ cls := "java/lang/Integer", name := "<init>", desc := "(I)V" } : Jvm.MethodName)) ∈ lw_all := lw_g (lw_at lw_m4 204 rfl) rfl
theorem q1032 : (Jvm.Cond.instanceMethod ({ cls := "java/lang/Integer", name := "<init>", desc := "(I)V" } : Jvm.MethodName)) ∈ lw_all := lw_g (lw_at lw_m4 205 rfl) rfl
theorem q1033 : (Jvm.Cond.code ({ cls := "java/lang/Integer", name := "<init>", desc := "(I)V" } : Jvm.MethodName) prog_20_method_23_code (2 : Nat) (Option.none : Option Jvm.ClassFile.FieldType)) ∈ lw_all := lw_g (lw_at lw_m4 206 rfl) rfl
theorem q1034 : (Jvm.Cond.methodLink "java/lang/Integer" (202 : Nat) ({ cls := "java/lang/Number", name := "<init>", desc := "()V" } : Jvm.MethodName)) ∈ lw_all := lw_g (lw_at lw_m4 207 rfl) rfl
theorem q1038 : (Jvm.Cond.fieldLink "java/lang/Integer" (205 : Nat) "java/lang/Integer" "value" "I") ∈ lw_all := lw_g (lw_at lw_m4 211 rfl) rfl
theorem q1039 : (Jvm.Cond.laysFinal "java/lang/Integer" "java/lang/Integer" "value" "I") ∈ lw_all := lw_g (lw_at lw_m4 212 rfl) rfl
theorem q1040 : (Jvm.Cond.soleField "java/lang/Integer" "value") ∈ lw_all := lw_g (lw_at lw_m4 213 rfl) rfl
theorem q1041 : (Jvm.Cond.superclass "java/lang/Integer" "java/lang/Number") ∈ lw_all := lw_g (lw_at lw_m4 214 rfl) rfl
theorem q1074 : (Jvm.Cond.castable "java/lang/Integer" "java/lang/Comparable") ∈ lw_tbl := lw_at lw_m5 7 rfl
theorem q1075 : (Jvm.Cond.selects "java/lang/Integer" ({ cls := "java/lang/Comparable", name := "compareTo", desc := "(Ljava/lang/Object;)I" } : Jvm.MethodName) ({ cls := "java/lang/Integer", name := "compareTo", desc := "(Ljava/lang/Object;)I" } : Jvm.MethodName)) ∈ lw_all := lw_g (lw_at lw_m5 8 rfl) rfl
theorem q1076 : (Jvm.Cond.unhidden "java/lang/Integer" "compareTo" "(Ljava/lang/Object;)I") ∈ lw_tbl := lw_at lw_m5 9 rfl
theorem q1077 : (Jvm.Cond.instanceMethod ({ cls := "java/lang/Integer", name := "compareTo", desc := "(Ljava/lang/Object;)I" } : Jvm.MethodName)) ∈ lw_all := lw_g (lw_at lw_m5 10 rfl) rfl
theorem q1078 : (Jvm.Cond.publicMethod ({ cls := "java/lang/Integer", name := "compareTo", desc := "(Ljava/lang/Object;)I" } : Jvm.MethodName)) ∈ lw_tbl := lw_at lw_m5 11 rfl
theorem q1079 : (Jvm.Cond.code ({ cls := "java/lang/Integer", name := "compareTo", desc := "(Ljava/lang/Object;)I" } : Jvm.MethodName) prog_20_method_63_code (2 : Nat) (Option.some Jvm.ClassFile.FieldType.int)) ∈ lw_all := lw_g (lw_at lw_m5 12 rfl) rfl
theorem q1080 : (Jvm.Cond.methodLink "java/lang/Integer" (284 : Nat) ({ cls := "java/lang/Integer", name := "compareTo", desc := "(Ljava/lang/Integer;)I" } : Jvm.MethodName)) ∈ lw_all := lw_g (lw_at lw_m5 13 rfl) rfl
theorem q1081 : (Jvm.Cond.instanceMethod ({ cls := "java/lang/Integer", name := "compareTo", desc := "(Ljava/lang/Integer;)I" } : Jvm.MethodName)) ∈ lw_all := lw_g (lw_at lw_m5 14 rfl) rfl
theorem q1082 : (Jvm.Cond.selects "java/lang/Integer" ({ cls := "java/lang/Integer", name := "compareTo", desc := "(Ljava/lang/Integer;)I" } : Jvm.MethodName) ({ cls := "java/lang/Integer", name := "compareTo", desc := "(Ljava/lang/Integer;)I" } : Jvm.MethodName)) ∈ lw_all := lw_g (lw_at lw_m5 15 rfl) rfl
theorem q1083 : (Jvm.Cond.code ({ cls := "java/lang/Integer", name := "compareTo", desc := "(Ljava/lang/Integer;)I" } : Jvm.MethodName) prog_20_method_39_code (2 : Nat) (Option.some Jvm.ClassFile.FieldType.int)) ∈ lw_all := lw_g (lw_at lw_m5 16 rfl) rfl
theorem q1084 : (Jvm.Cond.methodLink "java/lang/Integer" (259 : Nat) ({ cls := "java/lang/Integer", name := "compare", desc := "(II)I" } : Jvm.MethodName)) ∈ lw_all := lw_g (lw_at lw_m5 17 rfl) rfl
theorem q1085 : (Jvm.Cond.static ({ cls := "java/lang/Integer", name := "compare", desc := "(II)I" } : Jvm.MethodName)) ∈ lw_all := lw_g (lw_at lw_m5 18 rfl) rfl
theorem q1086 : (Jvm.Cond.code ({ cls := "java/lang/Integer", name := "compare", desc := "(II)I" } : Jvm.MethodName) prog_20_method_40_code (2 : Nat) (Option.some Jvm.ClassFile.FieldType.int)) ∈ lw_all := lw_g (lw_at lw_m5 19 rfl) rfl
theorem q1191 : (Jvm.Cond.static ({ cls := "java/lang/Integer", name := "numberOfLeadingZeros", desc := "(I)I" } : Jvm.MethodName)) ∈ lw_all := lw_g (lw_at lw_m5 124 rfl) rfl
theorem q1192 : (Jvm.Cond.code ({ cls := "java/lang/Integer", name := "numberOfLeadingZeros", desc := "(I)I" } : Jvm.MethodName) prog_20_method_47_code (2 : Nat) (Option.some Jvm.ClassFile.FieldType.int)) ∈ lw_all := lw_g (lw_at lw_m5 125 rfl) rfl
theorem q1261 : (Jvm.Cond.instanceMethod ({ cls := "java/lang/Integer", name := "intValue", desc := "()I" } : Jvm.MethodName)) ∈ lw_all := lw_g (lw_at lw_m5 194 rfl) rfl
theorem q1262 : (Jvm.Cond.selects "java/lang/Integer" ({ cls := "java/lang/Integer", name := "intValue", desc := "()I" } : Jvm.MethodName) ({ cls := "java/lang/Integer", name := "intValue", desc := "()I" } : Jvm.MethodName)) ∈ lw_all := lw_g (lw_at lw_m5 195 rfl) rfl
theorem q1263 : (Jvm.Cond.code ({ cls := "java/lang/Integer", name := "intValue", desc := "()I" } : Jvm.MethodName) prog_20_method_27_code (1 : Nat) (Option.some Jvm.ClassFile.FieldType.int)) ∈ lw_all := lw_g (lw_at lw_m5 196 rfl) rfl
theorem q1268 : (Jvm.Cond.static ({ cls := "java/lang/Integer", name := "bitCount", desc := "(I)I" } : Jvm.MethodName)) ∈ lw_all := lw_g (lw_at lw_m5 201 rfl) rfl
theorem q1269 : (Jvm.Cond.code ({ cls := "java/lang/Integer", name := "bitCount", desc := "(I)I" } : Jvm.MethodName) prog_20_method_49_code (1 : Nat) (Option.some Jvm.ClassFile.FieldType.int)) ∈ lw_all := lw_g (lw_at lw_m5 202 rfl) rfl
theorem q1270 : (Jvm.Cond.constant "java/lang/Integer" (265 : Nat) (1431655765 : Int32)) ∈ lw_all := lw_g (lw_at lw_m5 203 rfl) rfl
theorem q1271 : (Jvm.Cond.constant "java/lang/Integer" (266 : Nat) (858993459 : Int32)) ∈ lw_all := lw_g (lw_at lw_m5 204 rfl) rfl
theorem q1272 : (Jvm.Cond.constant "java/lang/Integer" (267 : Nat) (252645135 : Int32)) ∈ lw_all := lw_g (lw_at lw_m5 205 rfl) rfl
theorem q2401 : (Jvm.Cond.castable "java/lang/Integer" "java/lang/Object") ∈ lw_tbl := lw_at lw_m10 134 rfl
theorem in_J14 : ∀ w ∈ wsJ140, w ∈ lw_all := lw_in wsJ140 [1039] (by decide +kernel) (by decide +kernel)
/-! java/lang/Long -/
set_option maxRecDepth 100000
def RJ15 : String := "java/lang/Long"
def TJ15 : u_T := fun k => match k with
  | _ => ("java/lang/Long", "value", "J", true)
def tyJ15 : Nat → FieldType := fun k => match k with
  | _ => .long
abbrev wsJ150 : List Cond := u_ws RJ15 TJ15 1
theorem nmJ15 : ∀ a, a < 1 → ∀ b, b < 1 → a ≠ b → (TJ15 a).2.1 ≠ (TJ15 b).2.1 := by decide +kernel
theorem tyJ15_ok : ∀ k, k < 1 → parseFieldDescriptor (TJ15 k).2.2.1 = some (tyJ15 k) := by decide +kernel
abbrev cJ15_compareTo : ByteArray := prog_23_method_64_code
def yJ15_compareTo : MethodName := ⟨RJ15, "compareTo", "(Ljava/lang/Object;)I"⟩
def dkwJ15_compareTo_0 : List UInt8 := [42, 43, 192, 0, 1, 182, 1, 87, 172]
abbrev dktJ15_compareTo_0 : List UInt8 := dkwJ15_compareTo_0 ++ []
theorem dksJ15_compareTo_0 : cJ15_compareTo.data.toList.drop 0 = dktJ15_compareTo_0 := by decide +kernel
theorem dJ15_compareTo_0 : decode cJ15_compareTo 0 = .ok (.aload_n 0, 1) := dk_42 (dk_at dksJ15_compareTo_0 0 rfl rfl)
theorem dJ15_compareTo_1 : decode cJ15_compareTo 1 = .ok (.aload_n 1, 1) := dk_43 (dk_at dksJ15_compareTo_0 1 rfl rfl)
theorem dJ15_compareTo_2 : decode cJ15_compareTo 2 = .ok (.checkcast 1, 3) := dk_192 0 1 (dk_at dksJ15_compareTo_0 2 rfl rfl)
theorem dJ15_compareTo_5 : decode cJ15_compareTo 5 = .ok (.invokevirtual 343, 3) := dk_182 1 87 (dk_at dksJ15_compareTo_0 5 rfl rfl)
theorem dJ15_compareTo_8 : decode cJ15_compareTo 8 = .ok (.ireturn, 1) := dk_172 (dk_at dksJ15_compareTo_0 8 rfl rfl)
abbrev cJ15_compareTo_2 : ByteArray := prog_23_method_41_code
def yJ15_compareTo_2 : MethodName := ⟨RJ15, "compareTo", "(Ljava/lang/Long;)I"⟩
def dkwJ15_compareTo_2_0 : List UInt8 := [42, 180, 1, 17, 43, 180, 1, 17, 184, 1, 46, 172]
abbrev dktJ15_compareTo_2_0 : List UInt8 := dkwJ15_compareTo_2_0 ++ []
theorem dksJ15_compareTo_2_0 : cJ15_compareTo_2.data.toList.drop 0 = dktJ15_compareTo_2_0 := by decide +kernel
theorem dJ15_compareTo_2_0 : decode cJ15_compareTo_2 0 = .ok (.aload_n 0, 1) := dk_42 (dk_at dksJ15_compareTo_2_0 0 rfl rfl)
theorem dJ15_compareTo_2_1 : decode cJ15_compareTo_2 1 = .ok (.getfield 273, 3) := dk_180 1 17 (dk_at dksJ15_compareTo_2_0 1 rfl rfl)
theorem dJ15_compareTo_2_4 : decode cJ15_compareTo_2 4 = .ok (.aload_n 1, 1) := dk_43 (dk_at dksJ15_compareTo_2_0 4 rfl rfl)
theorem dJ15_compareTo_2_5 : decode cJ15_compareTo_2 5 = .ok (.getfield 273, 3) := dk_180 1 17 (dk_at dksJ15_compareTo_2_0 5 rfl rfl)
theorem dJ15_compareTo_2_8 : decode cJ15_compareTo_2 8 = .ok (.invokestatic 302, 3) := dk_184 1 46 (dk_at dksJ15_compareTo_2_0 8 rfl rfl)
theorem dJ15_compareTo_2_11 : decode cJ15_compareTo_2 11 = .ok (.ireturn, 1) := dk_172 (dk_at dksJ15_compareTo_2_0 11 rfl rfl)
abbrev cJ15_compare : ByteArray := prog_23_method_42_code
def yJ15_compare : MethodName := ⟨RJ15, "compare", "(JJ)I"⟩
def dkwJ15_compare_0 : List UInt8 := [30, 32, 148, 156, 0, 7, 2, 167, 0, 14, 30, 32, 148, 154, 0, 7, 3, 167, 0, 4, 4, 172]
abbrev dktJ15_compare_0 : List UInt8 := dkwJ15_compare_0 ++ []
theorem dksJ15_compare_0 : cJ15_compare.data.toList.drop 0 = dktJ15_compare_0 := by decide +kernel
theorem dJ15_compare_0 : decode cJ15_compare 0 = .ok (.lload_n 0, 1) := dk_30 (dk_at dksJ15_compare_0 0 rfl rfl)
theorem dJ15_compare_1 : decode cJ15_compare 1 = .ok (.lload_n 2, 1) := dk_32 (dk_at dksJ15_compare_0 1 rfl rfl)
theorem dJ15_compare_2 : decode cJ15_compare 2 = .ok (.lcmp, 1) := dk_148 (dk_at dksJ15_compare_0 2 rfl rfl)
theorem dJ15_compare_3 : decode cJ15_compare 3 = .ok (.ifCond .ge 7, 3) := dk_156 0 7 (dk_at dksJ15_compare_0 3 rfl rfl)
theorem dJ15_compare_6 : decode cJ15_compare 6 = .ok (.iconst (-1), 1) := dk_2 (dk_at dksJ15_compare_0 6 rfl rfl)
theorem dJ15_compare_7 : decode cJ15_compare 7 = .ok (.goto 14, 3) := dk_167 0 14 (dk_at dksJ15_compare_0 7 rfl rfl)
theorem dJ15_compare_10 : decode cJ15_compare 10 = .ok (.lload_n 0, 1) := dk_30 (dk_at dksJ15_compare_0 10 rfl rfl)
theorem dJ15_compare_11 : decode cJ15_compare 11 = .ok (.lload_n 2, 1) := dk_32 (dk_at dksJ15_compare_0 11 rfl rfl)
theorem dJ15_compare_12 : decode cJ15_compare 12 = .ok (.lcmp, 1) := dk_148 (dk_at dksJ15_compare_0 12 rfl rfl)
theorem dJ15_compare_13 : decode cJ15_compare 13 = .ok (.ifCond .ne 7, 3) := dk_154 0 7 (dk_at dksJ15_compare_0 13 rfl rfl)
theorem dJ15_compare_16 : decode cJ15_compare 16 = .ok (.iconst 0, 1) := dk_3 (dk_at dksJ15_compare_0 16 rfl rfl)
theorem dJ15_compare_17 : decode cJ15_compare 17 = .ok (.goto 4, 3) := dk_167 0 4 (dk_at dksJ15_compare_0 17 rfl rfl)
theorem dJ15_compare_20 : decode cJ15_compare 20 = .ok (.iconst 1, 1) := dk_4 (dk_at dksJ15_compare_0 20 rfl rfl)
theorem dJ15_compare_21 : decode cJ15_compare 21 = .ok (.ireturn, 1) := dk_172 (dk_at dksJ15_compare_0 21 rfl rfl)
abbrev cJ15_numberOfLeadingZeros : ByteArray := prog_23_method_48_code
def yJ15_numberOfLeadingZeros : MethodName := ⟨RJ15, "numberOfLeadingZeros", "(J)I"⟩
def dkwJ15_numberOfLeadingZeros_1 : List UInt8 := [184, 1, 52, 172]
abbrev dktJ15_numberOfLeadingZeros_1 : List UInt8 := dkwJ15_numberOfLeadingZeros_1 ++ []
def dkwJ15_numberOfLeadingZeros_0 : List UInt8 := [30, 16, 32, 125, 136, 61, 28, 154, 0, 14, 16, 32, 30, 136, 184, 1, 52, 96, 167, 0, 7, 28]
abbrev dktJ15_numberOfLeadingZeros_0 : List UInt8 := dkwJ15_numberOfLeadingZeros_0 ++ dktJ15_numberOfLeadingZeros_1
theorem dksJ15_numberOfLeadingZeros_0 : cJ15_numberOfLeadingZeros.data.toList.drop 0 = dktJ15_numberOfLeadingZeros_0 := by decide +kernel
theorem dksJ15_numberOfLeadingZeros_1 : cJ15_numberOfLeadingZeros.data.toList.drop 22 = dktJ15_numberOfLeadingZeros_1 := dk_seg dksJ15_numberOfLeadingZeros_0 22 rfl rfl
theorem dJ15_numberOfLeadingZeros_0 : decode cJ15_numberOfLeadingZeros 0 = .ok (.lload_n 0, 1) := dk_30 (dk_at dksJ15_numberOfLeadingZeros_0 0 rfl rfl)
theorem dJ15_numberOfLeadingZeros_1 : decode cJ15_numberOfLeadingZeros 1 = .ok (.bipush 32, 2) := dk_16 32 (dk_at dksJ15_numberOfLeadingZeros_0 1 rfl rfl)
theorem dJ15_numberOfLeadingZeros_3 : decode cJ15_numberOfLeadingZeros 3 = .ok (.lushr, 1) := dk_125 (dk_at dksJ15_numberOfLeadingZeros_0 3 rfl rfl)
theorem dJ15_numberOfLeadingZeros_4 : decode cJ15_numberOfLeadingZeros 4 = .ok (.l2i, 1) := dk_136 (dk_at dksJ15_numberOfLeadingZeros_0 4 rfl rfl)
theorem dJ15_numberOfLeadingZeros_5 : decode cJ15_numberOfLeadingZeros 5 = .ok (.istore_n 2, 1) := dk_61 (dk_at dksJ15_numberOfLeadingZeros_0 5 rfl rfl)
theorem dJ15_numberOfLeadingZeros_6 : decode cJ15_numberOfLeadingZeros 6 = .ok (.iload_n 2, 1) := dk_28 (dk_at dksJ15_numberOfLeadingZeros_0 6 rfl rfl)
theorem dJ15_numberOfLeadingZeros_7 : decode cJ15_numberOfLeadingZeros 7 = .ok (.ifCond .ne 14, 3) := dk_154 0 14 (dk_at dksJ15_numberOfLeadingZeros_0 7 rfl rfl)
theorem dJ15_numberOfLeadingZeros_10 : decode cJ15_numberOfLeadingZeros 10 = .ok (.bipush 32, 2) := dk_16 32 (dk_at dksJ15_numberOfLeadingZeros_0 10 rfl rfl)
theorem dJ15_numberOfLeadingZeros_12 : decode cJ15_numberOfLeadingZeros 12 = .ok (.lload_n 0, 1) := dk_30 (dk_at dksJ15_numberOfLeadingZeros_0 12 rfl rfl)
theorem dJ15_numberOfLeadingZeros_13 : decode cJ15_numberOfLeadingZeros 13 = .ok (.l2i, 1) := dk_136 (dk_at dksJ15_numberOfLeadingZeros_0 13 rfl rfl)
theorem dJ15_numberOfLeadingZeros_14 : decode cJ15_numberOfLeadingZeros 14 = .ok (.invokestatic 308, 3) := dk_184 1 52 (dk_at dksJ15_numberOfLeadingZeros_0 14 rfl rfl)
theorem dJ15_numberOfLeadingZeros_17 : decode cJ15_numberOfLeadingZeros 17 = .ok (.iadd, 1) := dk_96 (dk_at dksJ15_numberOfLeadingZeros_0 17 rfl rfl)
theorem dJ15_numberOfLeadingZeros_18 : decode cJ15_numberOfLeadingZeros 18 = .ok (.goto 7, 3) := dk_167 0 7 (dk_at dksJ15_numberOfLeadingZeros_0 18 rfl rfl)
theorem dJ15_numberOfLeadingZeros_21 : decode cJ15_numberOfLeadingZeros 21 = .ok (.iload_n 2, 1) := dk_28 (dk_at dksJ15_numberOfLeadingZeros_0 21 rfl rfl)
theorem dJ15_numberOfLeadingZeros_22 : decode cJ15_numberOfLeadingZeros 22 = .ok (.invokestatic 308, 3) := dk_184 1 52 (dk_at dksJ15_numberOfLeadingZeros_1 0 rfl rfl)
theorem dJ15_numberOfLeadingZeros_25 : decode cJ15_numberOfLeadingZeros 25 = .ok (.ireturn, 1) := dk_172 (dk_at dksJ15_numberOfLeadingZeros_1 3 rfl rfl)
abbrev cJ15_numberOfTrailingZeros : ByteArray := prog_23_method_49_code
def yJ15_numberOfTrailingZeros : MethodName := ⟨RJ15, "numberOfTrailingZeros", "(J)I"⟩
def dkwJ15_numberOfTrailingZeros_1 : List UInt8 := [184, 1, 55, 172]
abbrev dktJ15_numberOfTrailingZeros_1 : List UInt8 := dkwJ15_numberOfTrailingZeros_1 ++ []
def dkwJ15_numberOfTrailingZeros_0 : List UInt8 := [30, 136, 61, 28, 154, 0, 17, 16, 32, 30, 16, 32, 125, 136, 184, 1, 55, 96, 167, 0, 7, 28]
abbrev dktJ15_numberOfTrailingZeros_0 : List UInt8 := dkwJ15_numberOfTrailingZeros_0 ++ dktJ15_numberOfTrailingZeros_1
theorem dksJ15_numberOfTrailingZeros_0 : cJ15_numberOfTrailingZeros.data.toList.drop 0 = dktJ15_numberOfTrailingZeros_0 := by decide +kernel
theorem dksJ15_numberOfTrailingZeros_1 : cJ15_numberOfTrailingZeros.data.toList.drop 22 = dktJ15_numberOfTrailingZeros_1 := dk_seg dksJ15_numberOfTrailingZeros_0 22 rfl rfl
theorem dJ15_numberOfTrailingZeros_0 : decode cJ15_numberOfTrailingZeros 0 = .ok (.lload_n 0, 1) := dk_30 (dk_at dksJ15_numberOfTrailingZeros_0 0 rfl rfl)
theorem dJ15_numberOfTrailingZeros_1 : decode cJ15_numberOfTrailingZeros 1 = .ok (.l2i, 1) := dk_136 (dk_at dksJ15_numberOfTrailingZeros_0 1 rfl rfl)
theorem dJ15_numberOfTrailingZeros_2 : decode cJ15_numberOfTrailingZeros 2 = .ok (.istore_n 2, 1) := dk_61 (dk_at dksJ15_numberOfTrailingZeros_0 2 rfl rfl)
theorem dJ15_numberOfTrailingZeros_3 : decode cJ15_numberOfTrailingZeros 3 = .ok (.iload_n 2, 1) := dk_28 (dk_at dksJ15_numberOfTrailingZeros_0 3 rfl rfl)
theorem dJ15_numberOfTrailingZeros_4 : decode cJ15_numberOfTrailingZeros 4 = .ok (.ifCond .ne 17, 3) := dk_154 0 17 (dk_at dksJ15_numberOfTrailingZeros_0 4 rfl rfl)
theorem dJ15_numberOfTrailingZeros_7 : decode cJ15_numberOfTrailingZeros 7 = .ok (.bipush 32, 2) := dk_16 32 (dk_at dksJ15_numberOfTrailingZeros_0 7 rfl rfl)
theorem dJ15_numberOfTrailingZeros_9 : decode cJ15_numberOfTrailingZeros 9 = .ok (.lload_n 0, 1) := dk_30 (dk_at dksJ15_numberOfTrailingZeros_0 9 rfl rfl)
theorem dJ15_numberOfTrailingZeros_10 : decode cJ15_numberOfTrailingZeros 10 = .ok (.bipush 32, 2) := dk_16 32 (dk_at dksJ15_numberOfTrailingZeros_0 10 rfl rfl)
theorem dJ15_numberOfTrailingZeros_12 : decode cJ15_numberOfTrailingZeros 12 = .ok (.lushr, 1) := dk_125 (dk_at dksJ15_numberOfTrailingZeros_0 12 rfl rfl)
theorem dJ15_numberOfTrailingZeros_13 : decode cJ15_numberOfTrailingZeros 13 = .ok (.l2i, 1) := dk_136 (dk_at dksJ15_numberOfTrailingZeros_0 13 rfl rfl)
theorem dJ15_numberOfTrailingZeros_14 : decode cJ15_numberOfTrailingZeros 14 = .ok (.invokestatic 311, 3) := dk_184 1 55 (dk_at dksJ15_numberOfTrailingZeros_0 14 rfl rfl)
theorem dJ15_numberOfTrailingZeros_17 : decode cJ15_numberOfTrailingZeros 17 = .ok (.iadd, 1) := dk_96 (dk_at dksJ15_numberOfTrailingZeros_0 17 rfl rfl)
theorem dJ15_numberOfTrailingZeros_18 : decode cJ15_numberOfTrailingZeros 18 = .ok (.goto 7, 3) := dk_167 0 7 (dk_at dksJ15_numberOfTrailingZeros_0 18 rfl rfl)
theorem dJ15_numberOfTrailingZeros_21 : decode cJ15_numberOfTrailingZeros 21 = .ok (.iload_n 2, 1) := dk_28 (dk_at dksJ15_numberOfTrailingZeros_0 21 rfl rfl)
theorem dJ15_numberOfTrailingZeros_22 : decode cJ15_numberOfTrailingZeros 22 = .ok (.invokestatic 311, 3) := dk_184 1 55 (dk_at dksJ15_numberOfTrailingZeros_1 0 rfl rfl)
theorem dJ15_numberOfTrailingZeros_25 : decode cJ15_numberOfTrailingZeros 25 = .ok (.ireturn, 1) := dk_172 (dk_at dksJ15_numberOfTrailingZeros_1 3 rfl rfl)
abbrev cJ15_valueOf : ByteArray := prog_23_method_24_code
def yJ15_valueOf : MethodName := ⟨RJ15, "valueOf", "(J)Ljava/lang/Long;"⟩
def dkwJ15_valueOf_1 : List UInt8 := [136, 17, 0, 128, 96, 50, 176, 187, 0, 1, 89, 30, 183, 0, 240, 176]
abbrev dktJ15_valueOf_1 : List UInt8 := dkwJ15_valueOf_1 ++ []
def dkwJ15_valueOf_0 : List UInt8 := [17, 0, 128, 61, 30, 20, 0, 230, 148, 155, 0, 22, 30, 20, 0, 232, 148, 157, 0, 14, 178, 0, 234, 30]
abbrev dktJ15_valueOf_0 : List UInt8 := dkwJ15_valueOf_0 ++ dktJ15_valueOf_1
theorem dksJ15_valueOf_0 : cJ15_valueOf.data.toList.drop 0 = dktJ15_valueOf_0 := by decide +kernel
theorem dksJ15_valueOf_1 : cJ15_valueOf.data.toList.drop 24 = dktJ15_valueOf_1 := dk_seg dksJ15_valueOf_0 24 rfl rfl
theorem dJ15_valueOf_0 : decode cJ15_valueOf 0 = .ok (.sipush 128, 3) := dk_17 0 128 (dk_at dksJ15_valueOf_0 0 rfl rfl)
theorem dJ15_valueOf_3 : decode cJ15_valueOf 3 = .ok (.istore_n 2, 1) := dk_61 (dk_at dksJ15_valueOf_0 3 rfl rfl)
theorem dJ15_valueOf_4 : decode cJ15_valueOf 4 = .ok (.lload_n 0, 1) := dk_30 (dk_at dksJ15_valueOf_0 4 rfl rfl)
theorem dJ15_valueOf_5 : decode cJ15_valueOf 5 = .ok (.ldc2_w 230, 3) := dk_20 0 230 (dk_at dksJ15_valueOf_0 5 rfl rfl)
theorem dJ15_valueOf_8 : decode cJ15_valueOf 8 = .ok (.lcmp, 1) := dk_148 (dk_at dksJ15_valueOf_0 8 rfl rfl)
theorem dJ15_valueOf_9 : decode cJ15_valueOf 9 = .ok (.ifCond .lt 22, 3) := dk_155 0 22 (dk_at dksJ15_valueOf_0 9 rfl rfl)
theorem dJ15_valueOf_12 : decode cJ15_valueOf 12 = .ok (.lload_n 0, 1) := dk_30 (dk_at dksJ15_valueOf_0 12 rfl rfl)
theorem dJ15_valueOf_13 : decode cJ15_valueOf 13 = .ok (.ldc2_w 232, 3) := dk_20 0 232 (dk_at dksJ15_valueOf_0 13 rfl rfl)
theorem dJ15_valueOf_16 : decode cJ15_valueOf 16 = .ok (.lcmp, 1) := dk_148 (dk_at dksJ15_valueOf_0 16 rfl rfl)
theorem dJ15_valueOf_17 : decode cJ15_valueOf 17 = .ok (.ifCond .gt 14, 3) := dk_157 0 14 (dk_at dksJ15_valueOf_0 17 rfl rfl)
theorem dJ15_valueOf_20 : decode cJ15_valueOf 20 = .ok (.getstatic 234, 3) := dk_178 0 234 (dk_at dksJ15_valueOf_0 20 rfl rfl)
theorem dJ15_valueOf_23 : decode cJ15_valueOf 23 = .ok (.lload_n 0, 1) := dk_30 (dk_at dksJ15_valueOf_0 23 rfl rfl)
theorem dJ15_valueOf_24 : decode cJ15_valueOf 24 = .ok (.l2i, 1) := dk_136 (dk_at dksJ15_valueOf_1 0 rfl rfl)
theorem dJ15_valueOf_25 : decode cJ15_valueOf 25 = .ok (.sipush 128, 3) := dk_17 0 128 (dk_at dksJ15_valueOf_1 1 rfl rfl)
theorem dJ15_valueOf_28 : decode cJ15_valueOf 28 = .ok (.iadd, 1) := dk_96 (dk_at dksJ15_valueOf_1 4 rfl rfl)
theorem dJ15_valueOf_29 : decode cJ15_valueOf 29 = .ok (.aaload, 1) := dk_50 (dk_at dksJ15_valueOf_1 5 rfl rfl)
theorem dJ15_valueOf_30 : decode cJ15_valueOf 30 = .ok (.areturn, 1) := dk_176 (dk_at dksJ15_valueOf_1 6 rfl rfl)
theorem dJ15_valueOf_31 : decode cJ15_valueOf 31 = .ok (.new 1, 3) := dk_187 0 1 (dk_at dksJ15_valueOf_1 7 rfl rfl)
theorem dJ15_valueOf_34 : decode cJ15_valueOf 34 = .ok (.dup, 1) := dk_89 (dk_at dksJ15_valueOf_1 10 rfl rfl)
theorem dJ15_valueOf_35 : decode cJ15_valueOf 35 = .ok (.lload_n 0, 1) := dk_30 (dk_at dksJ15_valueOf_1 11 rfl rfl)
theorem dJ15_valueOf_36 : decode cJ15_valueOf 36 = .ok (.invokespecial 240, 3) := dk_183 0 240 (dk_at dksJ15_valueOf_1 12 rfl rfl)
theorem dJ15_valueOf_39 : decode cJ15_valueOf 39 = .ok (.areturn, 1) := dk_176 (dk_at dksJ15_valueOf_1 15 rfl rfl)
abbrev cJ15_init : ByteArray := prog_23_method_26_code
def yJ15_init : MethodName := ⟨RJ15, "<init>", "(J)V"⟩
def dkwJ15_init_0 : List UInt8 := [42, 183, 1, 14, 42, 31, 181, 1, 17, 177]
abbrev dktJ15_init_0 : List UInt8 := dkwJ15_init_0 ++ []
theorem dksJ15_init_0 : cJ15_init.data.toList.drop 0 = dktJ15_init_0 := by decide +kernel
theorem dJ15_init_0 : decode cJ15_init 0 = .ok (.aload_n 0, 1) := dk_42 (dk_at dksJ15_init_0 0 rfl rfl)
theorem dJ15_init_1 : decode cJ15_init 1 = .ok (.invokespecial 270, 3) := dk_183 1 14 (dk_at dksJ15_init_0 1 rfl rfl)
theorem dJ15_init_4 : decode cJ15_init 4 = .ok (.aload_n 0, 1) := dk_42 (dk_at dksJ15_init_0 4 rfl rfl)
theorem dJ15_init_5 : decode cJ15_init 5 = .ok (.lload_n 1, 1) := dk_31 (dk_at dksJ15_init_0 5 rfl rfl)
theorem dJ15_init_6 : decode cJ15_init 6 = .ok (.putfield 273, 3) := dk_181 1 17 (dk_at dksJ15_init_0 6 rfl rfl)
theorem dJ15_init_9 : decode cJ15_init 9 = .ok (.return_, 1) := dk_177 (dk_at dksJ15_init_0 9 rfl rfl)
abbrev cJ15_longValue : ByteArray := prog_23_method_31_code
def yJ15_longValue : MethodName := ⟨RJ15, "longValue", "()J"⟩
theorem dJ15_longValue_0 : decode cJ15_longValue 0 = .ok (.aload_n 0, 1) := by decide +kernel
theorem dJ15_longValue_1 : decode cJ15_longValue 1 = .ok (.getfield 273, 3) := by decide +kernel
theorem dJ15_longValue_4 : decode cJ15_longValue 4 = .ok (.lreturn, 1) := by decide +kernel
theorem q136 : (Jvm.Cond.initialized "java/lang/Long") ∈ lw_all := lw_g (lw_at lw_m1 29 rfl) rfl
theorem q886 : (Jvm.Cond.selects "java/lang/Long" ({ cls := "java/lang/Object", name := "getClass", desc := "()Ljava/lang/Class;" } : Jvm.MethodName) ({ cls := "java/lang/Object", name := "getClass", desc := "()Ljava/lang/Class;" } : Jvm.MethodName)) ∈ lw_all := lw_g (lw_at lw_m4 59 rfl) rfl
theorem q1087 : (Jvm.Cond.castable "java/lang/Long" "java/lang/Comparable") ∈ lw_tbl := lw_at lw_m5 20 rfl
theorem q1088 : (Jvm.Cond.selects "java/lang/Long" ({ cls := "java/lang/Comparable", name := "compareTo", desc := "(Ljava/lang/Object;)I" } : Jvm.MethodName) ({ cls := "java/lang/Long", name := "compareTo", desc := "(Ljava/lang/Object;)I" } : Jvm.MethodName)) ∈ lw_all := lw_g (lw_at lw_m5 21 rfl) rfl
theorem q1089 : (Jvm.Cond.unhidden "java/lang/Long" "compareTo" "(Ljava/lang/Object;)I") ∈ lw_tbl := lw_at lw_m5 22 rfl
theorem q1090 : (Jvm.Cond.instanceMethod ({ cls := "java/lang/Long", name := "compareTo", desc := "(Ljava/lang/Object;)I" } : Jvm.MethodName)) ∈ lw_all := lw_g (lw_at lw_m5 23 rfl) rfl
theorem q1091 : (Jvm.Cond.publicMethod ({ cls := "java/lang/Long", name := "compareTo", desc := "(Ljava/lang/Object;)I" } : Jvm.MethodName)) ∈ lw_tbl := lw_at lw_m5 24 rfl
theorem q1092 : (Jvm.Cond.code ({ cls := "java/lang/Long", name := "compareTo", desc := "(Ljava/lang/Object;)I" } : Jvm.MethodName) prog_23_method_64_code (2 : Nat) (Option.some Jvm.ClassFile.FieldType.int)) ∈ lw_all := lw_g (lw_at lw_m5 25 rfl) rfl
theorem q1093 : (Jvm.Cond.classLink "java/lang/Long" (1 : Nat) "java/lang/Long") ∈ lw_all := lw_g (lw_at lw_m5 26 rfl) rfl
theorem q1094 : (Jvm.Cond.methodLink "java/lang/Long" (343 : Nat) ({ cls := "java/lang/Long", name := "compareTo", desc := "(Ljava/lang/Long;)I" } : Jvm.MethodName)) ∈ lw_all := lw_g (lw_at lw_m5 27 rfl) rfl
theorem q1095 : (Jvm.Cond.instanceMethod ({ cls := "java/lang/Long", name := "compareTo", desc := "(Ljava/lang/Long;)I" } : Jvm.MethodName)) ∈ lw_all := lw_g (lw_at lw_m5 28 rfl) rfl
theorem q1096 : (Jvm.Cond.selects "java/lang/Long" ({ cls := "java/lang/Long", name := "compareTo", desc := "(Ljava/lang/Long;)I" } : Jvm.MethodName) ({ cls := "java/lang/Long", name := "compareTo", desc := "(Ljava/lang/Long;)I" } : Jvm.MethodName)) ∈ lw_all := lw_g (lw_at lw_m5 29 rfl) rfl
theorem q1097 : (Jvm.Cond.code ({ cls := "java/lang/Long", name := "compareTo", desc := "(Ljava/lang/Long;)I" } : Jvm.MethodName) prog_23_method_41_code (2 : Nat) (Option.some Jvm.ClassFile.FieldType.int)) ∈ lw_all := lw_g (lw_at lw_m5 30 rfl) rfl
theorem q1098 : (Jvm.Cond.methodLink "java/lang/Long" (302 : Nat) ({ cls := "java/lang/Long", name := "compare", desc := "(JJ)I" } : Jvm.MethodName)) ∈ lw_all := lw_g (lw_at lw_m5 31 rfl) rfl
theorem q1099 : (Jvm.Cond.static ({ cls := "java/lang/Long", name := "compare", desc := "(JJ)I" } : Jvm.MethodName)) ∈ lw_all := lw_g (lw_at lw_m5 32 rfl) rfl
theorem q1100 : (Jvm.Cond.code ({ cls := "java/lang/Long", name := "compare", desc := "(JJ)I" } : Jvm.MethodName) prog_23_method_42_code (4 : Nat) (Option.some Jvm.ClassFile.FieldType.int)) ∈ lw_all := lw_g (lw_at lw_m5 33 rfl) rfl
theorem q1188 : (Jvm.Cond.static ({ cls := "java/lang/Long", name := "numberOfLeadingZeros", desc := "(J)I" } : Jvm.MethodName)) ∈ lw_all := lw_g (lw_at lw_m5 121 rfl) rfl
theorem q1189 : (Jvm.Cond.code ({ cls := "java/lang/Long", name := "numberOfLeadingZeros", desc := "(J)I" } : Jvm.MethodName) prog_23_method_48_code (3 : Nat) (Option.some Jvm.ClassFile.FieldType.int)) ∈ lw_all := lw_g (lw_at lw_m5 122 rfl) rfl
theorem q1190 : (Jvm.Cond.methodLink "java/lang/Long" (308 : Nat) ({ cls := "java/lang/Integer", name := "numberOfLeadingZeros", desc := "(I)I" } : Jvm.MethodName)) ∈ lw_all := lw_g (lw_at lw_m5 123 rfl) rfl
theorem q1196 : (Jvm.Cond.static ({ cls := "java/lang/Long", name := "numberOfTrailingZeros", desc := "(J)I" } : Jvm.MethodName)) ∈ lw_all := lw_g (lw_at lw_m5 129 rfl) rfl
theorem q1197 : (Jvm.Cond.code ({ cls := "java/lang/Long", name := "numberOfTrailingZeros", desc := "(J)I" } : Jvm.MethodName) prog_23_method_49_code (3 : Nat) (Option.some Jvm.ClassFile.FieldType.int)) ∈ lw_all := lw_g (lw_at lw_m5 130 rfl) rfl
theorem q1198 : (Jvm.Cond.methodLink "java/lang/Long" (311 : Nat) ({ cls := "java/lang/Integer", name := "numberOfTrailingZeros", desc := "(I)I" } : Jvm.MethodName)) ∈ lw_all := lw_g (lw_at lw_m5 131 rfl) rfl
theorem q1512 : (Jvm.Cond.static ({ cls := "java/lang/Long", name := "valueOf", desc := "(J)Ljava/lang/Long;" } : Jvm.MethodName)) ∈ lw_all := lw_g (lw_at lw_m6 205 rfl) rfl
theorem q1513 : (Jvm.Cond.code ({ cls := "java/lang/Long", name := "valueOf", desc := "(J)Ljava/lang/Long;" } : Jvm.MethodName) prog_23_method_24_code (3 : Nat) (Option.some (Jvm.ClassFile.FieldType.object "java/lang/Long"))) ∈ lw_all := lw_g (lw_at lw_m6 206 rfl) rfl
theorem q1514 : (Jvm.Cond.constantLong "java/lang/Long" (230 : Nat) (-128 : Int64)) ∈ lw_all := lw_g (lw_at lw_m6 207 rfl) rfl
theorem q1515 : (Jvm.Cond.constantLong "java/lang/Long" (232 : Nat) (127 : Int64)) ∈ lw_all := lw_g (lw_at lw_m6 208 rfl) rfl
theorem q1516 : (Jvm.Cond.fieldLink "java/lang/Long" (234 : Nat) "java/lang/Long$LongCache" "cache" "[Ljava/lang/Long;") ∈ lw_all := lw_g (lw_at lw_m6 209 rfl) rfl
theorem q1518 : (Jvm.Cond.instantiable "java/lang/Long" (1 : Nat)) ∈ lw_all := lw_g (lw_at lw_m6 211 rfl) rfl
theorem q1519 : (Jvm.Cond.methodLink "java/lang/Long" (240 : Nat) ({ cls := "java/lang/Long", name := "<init>", desc := "(J)V" } : Jvm.MethodName)) ∈ lw_all := lw_g (lw_at lw_m6 212 rfl) rfl
theorem q1520 : (Jvm.Cond.instanceMethod ({ cls := "java/lang/Long", name := "<init>", desc := "(J)V" } : Jvm.MethodName)) ∈ lw_all := lw_g (lw_at lw_m6 213 rfl) rfl
theorem q1521 : (Jvm.Cond.code ({ cls := "java/lang/Long", name := "<init>", desc := "(J)V" } : Jvm.MethodName) prog_23_method_26_code (3 : Nat) (Option.none : Option Jvm.ClassFile.FieldType)) ∈ lw_all := lw_g (lw_at lw_m6 214 rfl) rfl
theorem q1522 : (Jvm.Cond.methodLink "java/lang/Long" (270 : Nat) ({ cls := "java/lang/Number", name := "<init>", desc := "()V" } : Jvm.MethodName)) ∈ lw_all := lw_g (lw_at lw_m6 215 rfl) rfl
theorem q1523 : (Jvm.Cond.fieldLink "java/lang/Long" (273 : Nat) "java/lang/Long" "value" "J") ∈ lw_all := lw_g (lw_at lw_m6 216 rfl) rfl
theorem q1524 : (Jvm.Cond.laysFinal "java/lang/Long" "java/lang/Long" "value" "J") ∈ lw_all := lw_g (lw_at lw_m6 217 rfl) rfl
theorem q1525 : (Jvm.Cond.soleField "java/lang/Long" "value") ∈ lw_all := lw_g (lw_at lw_m6 218 rfl) rfl
theorem q1526 : (Jvm.Cond.superclass "java/lang/Long" "java/lang/Number") ∈ lw_all := lw_g (lw_at lw_m6 219 rfl) rfl
theorem q1536 : (Jvm.Cond.instanceMethod ({ cls := "java/lang/Long", name := "longValue", desc := "()J" } : Jvm.MethodName)) ∈ lw_all := lw_g (lw_at lw_m6 229 rfl) rfl
theorem q1537 : (Jvm.Cond.selects "java/lang/Long" ({ cls := "java/lang/Long", name := "longValue", desc := "()J" } : Jvm.MethodName) ({ cls := "java/lang/Long", name := "longValue", desc := "()J" } : Jvm.MethodName)) ∈ lw_all := lw_g (lw_at lw_m6 230 rfl) rfl
theorem q1538 : (Jvm.Cond.code ({ cls := "java/lang/Long", name := "longValue", desc := "()J" } : Jvm.MethodName) prog_23_method_31_code (1 : Nat) (Option.some Jvm.ClassFile.FieldType.long)) ∈ lw_all := lw_g (lw_at lw_m6 231 rfl) rfl
theorem q2405 : (Jvm.Cond.castable "java/lang/Long" "java/lang/Object") ∈ lw_tbl := lw_at lw_m10 138 rfl
theorem in_J15 : ∀ w ∈ wsJ150, w ∈ lw_all := lw_in wsJ150 [1524] (by decide +kernel) (by decide +kernel)
/-! java/util/Objects -/
set_option maxRecDepth 100000
def RJ19 : String := "java/util/Objects"
abbrev cJ19_requireNonNull : ByteArray := prog_47_method_10_code
def yJ19_requireNonNull : MethodName := ⟨RJ19, "requireNonNull", "(Ljava/lang/Object;)Ljava/lang/Object;"⟩
def dkwJ19_requireNonNull_0 : List UInt8 := [42, 199, 0, 11, 187, 0, 84, 89, 183, 0, 86, 191, 42, 176]
abbrev dktJ19_requireNonNull_0 : List UInt8 := dkwJ19_requireNonNull_0 ++ []
theorem dksJ19_requireNonNull_0 : cJ19_requireNonNull.data.toList.drop 0 = dktJ19_requireNonNull_0 := by decide +kernel
theorem dJ19_requireNonNull_0 : decode cJ19_requireNonNull 0 = .ok (.aload_n 0, 1) := dk_42 (dk_at dksJ19_requireNonNull_0 0 rfl rfl)
theorem dJ19_requireNonNull_1 : decode cJ19_requireNonNull 1 = .ok (.ifnonnull 11, 3) := dk_199 0 11 (dk_at dksJ19_requireNonNull_0 1 rfl rfl)
theorem dJ19_requireNonNull_4 : decode cJ19_requireNonNull 4 = .ok (.new 84, 3) := dk_187 0 84 (dk_at dksJ19_requireNonNull_0 4 rfl rfl)
theorem dJ19_requireNonNull_7 : decode cJ19_requireNonNull 7 = .ok (.dup, 1) := dk_89 (dk_at dksJ19_requireNonNull_0 7 rfl rfl)
theorem dJ19_requireNonNull_8 : decode cJ19_requireNonNull 8 = .ok (.invokespecial 86, 3) := dk_183 0 86 (dk_at dksJ19_requireNonNull_0 8 rfl rfl)
theorem dJ19_requireNonNull_11 : decode cJ19_requireNonNull 11 = .ok (.athrow, 1) := dk_191 (dk_at dksJ19_requireNonNull_0 11 rfl rfl)
theorem dJ19_requireNonNull_12 : decode cJ19_requireNonNull 12 = .ok (.aload_n 0, 1) := dk_42 (dk_at dksJ19_requireNonNull_0 12 rfl rfl)
theorem dJ19_requireNonNull_13 : decode cJ19_requireNonNull 13 = .ok (.areturn, 1) := dk_176 (dk_at dksJ19_requireNonNull_0 13 rfl rfl)
theorem q141 : (Jvm.Cond.initialized "java/util/Objects") ∈ lw_all := lw_g (lw_at lw_m1 34 rfl) rfl
theorem q1304 : (Jvm.Cond.static ({ cls := "java/util/Objects", name := "requireNonNull", desc := "(Ljava/lang/Object;)Ljava/lang/Object;" } : Jvm.MethodName)) ∈ lw_all := lw_g (lw_at lw_m5 237 rfl) rfl
theorem q1305 : (Jvm.Cond.code ({ cls := "java/util/Objects", name := "requireNonNull", desc := "(Ljava/lang/Object;)Ljava/lang/Object;" } : Jvm.MethodName) prog_47_method_10_code (1 : Nat) (Option.some (Jvm.ClassFile.FieldType.object "java/lang/Object"))) ∈ lw_all := lw_g (lw_at lw_m5 238 rfl) rfl
/-! java/util/AbstractQueue -/
set_option maxRecDepth 100000
def RJ20 : String := "java/util/AbstractQueue"
abbrev cJ20_init : ByteArray := prog_37_method_1_code
def yJ20_init : MethodName := ⟨RJ20, "<init>", "()V"⟩
theorem dJ20_init_0 : decode cJ20_init 0 = .ok (.aload_n 0, 1) := by decide +kernel
theorem dJ20_init_1 : decode cJ20_init 1 = .ok (.invokespecial 1, 3) := by decide +kernel
theorem dJ20_init_4 : decode cJ20_init 4 = .ok (.return_, 1) := by decide +kernel
theorem q145 : (Jvm.Cond.initialized "java/util/AbstractQueue") ∈ lw_all := lw_g (lw_at lw_m1 38 rfl) rfl
theorem q1670 : (Jvm.Cond.instanceMethod ({ cls := "java/util/AbstractQueue", name := "<init>", desc := "()V" } : Jvm.MethodName)) ∈ lw_all := lw_g (lw_at lw_m7 123 rfl) rfl
theorem q1671 : (Jvm.Cond.code ({ cls := "java/util/AbstractQueue", name := "<init>", desc := "()V" } : Jvm.MethodName) prog_37_method_1_code (1 : Nat) (Option.none : Option Jvm.ClassFile.FieldType)) ∈ lw_all := lw_g (lw_at lw_m7 124 rfl) rfl
theorem q1672 : (Jvm.Cond.methodLink "java/util/AbstractQueue" (1 : Nat) ({ cls := "java/util/AbstractCollection", name := "<init>", desc := "()V" } : Jvm.MethodName)) ∈ lw_all := lw_g (lw_at lw_m7 125 rfl) rfl
/-! java/util/PriorityQueue -/
set_option maxRecDepth 100000
def RJ21 : String := "java/util/PriorityQueue"
def TJ21 : u_T := fun k => match k with
  | 0 => ("java/util/PriorityQueue", "queue", "[Ljava/lang/Object;", false)
  | 1 => ("java/util/PriorityQueue", "size", "I", false)
  | 2 => ("java/util/PriorityQueue", "comparator", "Ljava/util/Comparator;", true)
  | _ => ("java/util/PriorityQueue", "modCount", "I", false)
def tyJ21 : Nat → FieldType := fun k => match k with
  | 0 => .array (.object "java/lang/Object")
  | 1 => .int
  | 2 => .object "java/util/Comparator"
  | _ => .int
abbrev wsJ210 : List Cond := u_ws RJ21 TJ21 4
theorem nmJ21 : ∀ a, a < 4 → ∀ b, b < 4 → a ≠ b → (TJ21 a).2.1 ≠ (TJ21 b).2.1 := by decide +kernel
theorem tyJ21_ok : ∀ k, k < 4 → parseFieldDescriptor (TJ21 k).2.2.1 = some (tyJ21 k) := by decide +kernel
abbrev cJ21_init : ByteArray := prog_48_method_1_code
def yJ21_init : MethodName := ⟨RJ21, "<init>", "()V"⟩
def dkwJ21_init_0 : List UInt8 := [42, 16, 11, 1, 183, 0, 3, 177]
abbrev dktJ21_init_0 : List UInt8 := dkwJ21_init_0 ++ []
theorem dksJ21_init_0 : cJ21_init.data.toList.drop 0 = dktJ21_init_0 := by decide +kernel
theorem dJ21_init_0 : decode cJ21_init 0 = .ok (.aload_n 0, 1) := dk_42 (dk_at dksJ21_init_0 0 rfl rfl)
theorem dJ21_init_1 : decode cJ21_init 1 = .ok (.bipush 11, 2) := dk_16 11 (dk_at dksJ21_init_0 1 rfl rfl)
theorem dJ21_init_3 : decode cJ21_init 3 = .ok (.aconst_null, 1) := dk_1 (dk_at dksJ21_init_0 3 rfl rfl)
theorem dJ21_init_4 : decode cJ21_init 4 = .ok (.invokespecial 3, 3) := dk_183 0 3 (dk_at dksJ21_init_0 4 rfl rfl)
theorem dJ21_init_7 : decode cJ21_init 7 = .ok (.return_, 1) := dk_177 (dk_at dksJ21_init_0 7 rfl rfl)
abbrev cJ21_init_2 : ByteArray := prog_48_method_4_code
def yJ21_init_2 : MethodName := ⟨RJ21, "<init>", "(ILjava/util/Comparator;)V"⟩
def dkwJ21_init_2_1 : List UInt8 := [181, 0, 17, 42, 44, 181, 0, 21, 177]
abbrev dktJ21_init_2_1 : List UInt8 := dkwJ21_init_2_1 ++ []
def dkwJ21_init_2_0 : List UInt8 := [42, 183, 0, 7, 27, 4, 162, 0, 11, 187, 0, 12, 89, 183, 0, 14, 191, 42, 27, 189, 0, 15]
abbrev dktJ21_init_2_0 : List UInt8 := dkwJ21_init_2_0 ++ dktJ21_init_2_1
theorem dksJ21_init_2_0 : cJ21_init_2.data.toList.drop 0 = dktJ21_init_2_0 := by decide +kernel
theorem dksJ21_init_2_1 : cJ21_init_2.data.toList.drop 22 = dktJ21_init_2_1 := dk_seg dksJ21_init_2_0 22 rfl rfl
theorem dJ21_init_2_0 : decode cJ21_init_2 0 = .ok (.aload_n 0, 1) := dk_42 (dk_at dksJ21_init_2_0 0 rfl rfl)
theorem dJ21_init_2_1 : decode cJ21_init_2 1 = .ok (.invokespecial 7, 3) := dk_183 0 7 (dk_at dksJ21_init_2_0 1 rfl rfl)
theorem dJ21_init_2_4 : decode cJ21_init_2 4 = .ok (.iload_n 1, 1) := dk_27 (dk_at dksJ21_init_2_0 4 rfl rfl)
theorem dJ21_init_2_5 : decode cJ21_init_2 5 = .ok (.iconst 1, 1) := dk_4 (dk_at dksJ21_init_2_0 5 rfl rfl)
theorem dJ21_init_2_6 : decode cJ21_init_2 6 = .ok (.if_icmp .ge 11, 3) := dk_162 0 11 (dk_at dksJ21_init_2_0 6 rfl rfl)
theorem dJ21_init_2_9 : decode cJ21_init_2 9 = .ok (.new 12, 3) := dk_187 0 12 (dk_at dksJ21_init_2_0 9 rfl rfl)
theorem dJ21_init_2_12 : decode cJ21_init_2 12 = .ok (.dup, 1) := dk_89 (dk_at dksJ21_init_2_0 12 rfl rfl)
theorem dJ21_init_2_13 : decode cJ21_init_2 13 = .ok (.invokespecial 14, 3) := dk_183 0 14 (dk_at dksJ21_init_2_0 13 rfl rfl)
theorem dJ21_init_2_16 : decode cJ21_init_2 16 = .ok (.athrow, 1) := dk_191 (dk_at dksJ21_init_2_0 16 rfl rfl)
theorem dJ21_init_2_17 : decode cJ21_init_2 17 = .ok (.aload_n 0, 1) := dk_42 (dk_at dksJ21_init_2_0 17 rfl rfl)
theorem dJ21_init_2_18 : decode cJ21_init_2 18 = .ok (.iload_n 1, 1) := dk_27 (dk_at dksJ21_init_2_0 18 rfl rfl)
theorem dJ21_init_2_19 : decode cJ21_init_2 19 = .ok (.anewarray 15, 3) := dk_189 0 15 (dk_at dksJ21_init_2_0 19 rfl rfl)
theorem dJ21_init_2_22 : decode cJ21_init_2 22 = .ok (.putfield 17, 3) := dk_181 0 17 (dk_at dksJ21_init_2_1 0 rfl rfl)
theorem dJ21_init_2_25 : decode cJ21_init_2 25 = .ok (.aload_n 0, 1) := dk_42 (dk_at dksJ21_init_2_1 3 rfl rfl)
theorem dJ21_init_2_26 : decode cJ21_init_2 26 = .ok (.aload_n 2, 1) := dk_44 (dk_at dksJ21_init_2_1 4 rfl rfl)
theorem dJ21_init_2_27 : decode cJ21_init_2 27 = .ok (.putfield 21, 3) := dk_181 0 21 (dk_at dksJ21_init_2_1 5 rfl rfl)
theorem dJ21_init_2_30 : decode cJ21_init_2 30 = .ok (.return_, 1) := dk_177 (dk_at dksJ21_init_2_1 8 rfl rfl)
abbrev cJ21_add : ByteArray := prog_48_method_13_code
def yJ21_add : MethodName := ⟨RJ21, "add", "(Ljava/lang/Object;)Z"⟩
def dkwJ21_add_0 : List UInt8 := [42, 43, 182, 0, 89, 172]
abbrev dktJ21_add_0 : List UInt8 := dkwJ21_add_0 ++ []
theorem dksJ21_add_0 : cJ21_add.data.toList.drop 0 = dktJ21_add_0 := by decide +kernel
theorem dJ21_add_0 : decode cJ21_add 0 = .ok (.aload_n 0, 1) := dk_42 (dk_at dksJ21_add_0 0 rfl rfl)
theorem dJ21_add_1 : decode cJ21_add 1 = .ok (.aload_n 1, 1) := dk_43 (dk_at dksJ21_add_0 1 rfl rfl)
theorem dJ21_add_2 : decode cJ21_add 2 = .ok (.invokevirtual 89, 3) := dk_182 0 89 (dk_at dksJ21_add_0 2 rfl rfl)
theorem dJ21_add_5 : decode cJ21_add 5 = .ok (.ireturn, 1) := dk_172 (dk_at dksJ21_add_0 5 rfl rfl)
abbrev cJ21_offer : ByteArray := prog_48_method_14_code
def yJ21_offer : MethodName := ⟨RJ21, "offer", "(Ljava/lang/Object;)Z"⟩
def dkwJ21_offer_2 : List UInt8 := [182, 0, 100, 42, 28, 4, 96, 181, 0, 58, 4, 172]
abbrev dktJ21_offer_2 : List UInt8 := dkwJ21_offer_2 ++ []
def dkwJ21_offer_1 : List UInt8 := [180, 0, 58, 61, 28, 42, 180, 0, 17, 190, 161, 0, 10, 42, 28, 4, 96, 182, 0, 96, 42, 28, 43]
abbrev dktJ21_offer_1 : List UInt8 := dkwJ21_offer_1 ++ dktJ21_offer_2
def dkwJ21_offer_0 : List UInt8 := [43, 199, 0, 11, 187, 0, 74, 89, 183, 0, 76, 191, 42, 89, 180, 0, 93, 4, 96, 181, 0, 93, 42]
abbrev dktJ21_offer_0 : List UInt8 := dkwJ21_offer_0 ++ dktJ21_offer_1
theorem dksJ21_offer_0 : cJ21_offer.data.toList.drop 0 = dktJ21_offer_0 := by decide +kernel
theorem dksJ21_offer_1 : cJ21_offer.data.toList.drop 23 = dktJ21_offer_1 := dk_seg dksJ21_offer_0 23 rfl rfl
theorem dksJ21_offer_2 : cJ21_offer.data.toList.drop 46 = dktJ21_offer_2 := dk_seg dksJ21_offer_1 23 rfl rfl
theorem dJ21_offer_0 : decode cJ21_offer 0 = .ok (.aload_n 1, 1) := dk_43 (dk_at dksJ21_offer_0 0 rfl rfl)
theorem dJ21_offer_1 : decode cJ21_offer 1 = .ok (.ifnonnull 11, 3) := dk_199 0 11 (dk_at dksJ21_offer_0 1 rfl rfl)
theorem dJ21_offer_4 : decode cJ21_offer 4 = .ok (.new 74, 3) := dk_187 0 74 (dk_at dksJ21_offer_0 4 rfl rfl)
theorem dJ21_offer_7 : decode cJ21_offer 7 = .ok (.dup, 1) := dk_89 (dk_at dksJ21_offer_0 7 rfl rfl)
theorem dJ21_offer_8 : decode cJ21_offer 8 = .ok (.invokespecial 76, 3) := dk_183 0 76 (dk_at dksJ21_offer_0 8 rfl rfl)
theorem dJ21_offer_11 : decode cJ21_offer 11 = .ok (.athrow, 1) := dk_191 (dk_at dksJ21_offer_0 11 rfl rfl)
theorem dJ21_offer_12 : decode cJ21_offer 12 = .ok (.aload_n 0, 1) := dk_42 (dk_at dksJ21_offer_0 12 rfl rfl)
theorem dJ21_offer_13 : decode cJ21_offer 13 = .ok (.dup, 1) := dk_89 (dk_at dksJ21_offer_0 13 rfl rfl)
theorem dJ21_offer_14 : decode cJ21_offer 14 = .ok (.getfield 93, 3) := dk_180 0 93 (dk_at dksJ21_offer_0 14 rfl rfl)
theorem dJ21_offer_17 : decode cJ21_offer 17 = .ok (.iconst 1, 1) := dk_4 (dk_at dksJ21_offer_0 17 rfl rfl)
theorem dJ21_offer_18 : decode cJ21_offer 18 = .ok (.iadd, 1) := dk_96 (dk_at dksJ21_offer_0 18 rfl rfl)
theorem dJ21_offer_19 : decode cJ21_offer 19 = .ok (.putfield 93, 3) := dk_181 0 93 (dk_at dksJ21_offer_0 19 rfl rfl)
theorem dJ21_offer_22 : decode cJ21_offer 22 = .ok (.aload_n 0, 1) := dk_42 (dk_at dksJ21_offer_0 22 rfl rfl)
theorem dJ21_offer_23 : decode cJ21_offer 23 = .ok (.getfield 58, 3) := dk_180 0 58 (dk_at dksJ21_offer_1 0 rfl rfl)
theorem dJ21_offer_26 : decode cJ21_offer 26 = .ok (.istore_n 2, 1) := dk_61 (dk_at dksJ21_offer_1 3 rfl rfl)
theorem dJ21_offer_27 : decode cJ21_offer 27 = .ok (.iload_n 2, 1) := dk_28 (dk_at dksJ21_offer_1 4 rfl rfl)
theorem dJ21_offer_28 : decode cJ21_offer 28 = .ok (.aload_n 0, 1) := dk_42 (dk_at dksJ21_offer_1 5 rfl rfl)
theorem dJ21_offer_29 : decode cJ21_offer 29 = .ok (.getfield 17, 3) := dk_180 0 17 (dk_at dksJ21_offer_1 6 rfl rfl)
theorem dJ21_offer_32 : decode cJ21_offer 32 = .ok (.arraylength, 1) := dk_190 (dk_at dksJ21_offer_1 9 rfl rfl)
theorem dJ21_offer_33 : decode cJ21_offer 33 = .ok (.if_icmp .lt 10, 3) := dk_161 0 10 (dk_at dksJ21_offer_1 10 rfl rfl)
theorem dJ21_offer_36 : decode cJ21_offer 36 = .ok (.aload_n 0, 1) := dk_42 (dk_at dksJ21_offer_1 13 rfl rfl)
theorem dJ21_offer_37 : decode cJ21_offer 37 = .ok (.iload_n 2, 1) := dk_28 (dk_at dksJ21_offer_1 14 rfl rfl)
theorem dJ21_offer_38 : decode cJ21_offer 38 = .ok (.iconst 1, 1) := dk_4 (dk_at dksJ21_offer_1 15 rfl rfl)
theorem dJ21_offer_39 : decode cJ21_offer 39 = .ok (.iadd, 1) := dk_96 (dk_at dksJ21_offer_1 16 rfl rfl)
theorem dJ21_offer_40 : decode cJ21_offer 40 = .ok (.invokevirtual 96, 3) := dk_182 0 96 (dk_at dksJ21_offer_1 17 rfl rfl)
theorem dJ21_offer_43 : decode cJ21_offer 43 = .ok (.aload_n 0, 1) := dk_42 (dk_at dksJ21_offer_1 20 rfl rfl)
theorem dJ21_offer_44 : decode cJ21_offer 44 = .ok (.iload_n 2, 1) := dk_28 (dk_at dksJ21_offer_1 21 rfl rfl)
theorem dJ21_offer_45 : decode cJ21_offer 45 = .ok (.aload_n 1, 1) := dk_43 (dk_at dksJ21_offer_1 22 rfl rfl)
theorem dJ21_offer_46 : decode cJ21_offer 46 = .ok (.invokevirtual 100, 3) := dk_182 0 100 (dk_at dksJ21_offer_2 0 rfl rfl)
theorem dJ21_offer_49 : decode cJ21_offer 49 = .ok (.aload_n 0, 1) := dk_42 (dk_at dksJ21_offer_2 3 rfl rfl)
theorem dJ21_offer_50 : decode cJ21_offer 50 = .ok (.iload_n 2, 1) := dk_28 (dk_at dksJ21_offer_2 4 rfl rfl)
theorem dJ21_offer_51 : decode cJ21_offer 51 = .ok (.iconst 1, 1) := dk_4 (dk_at dksJ21_offer_2 5 rfl rfl)
theorem dJ21_offer_52 : decode cJ21_offer 52 = .ok (.iadd, 1) := dk_96 (dk_at dksJ21_offer_2 6 rfl rfl)
theorem dJ21_offer_53 : decode cJ21_offer 53 = .ok (.putfield 58, 3) := dk_181 0 58 (dk_at dksJ21_offer_2 7 rfl rfl)
theorem dJ21_offer_56 : decode cJ21_offer 56 = .ok (.iconst 1, 1) := dk_4 (dk_at dksJ21_offer_2 10 rfl rfl)
theorem dJ21_offer_57 : decode cJ21_offer 57 = .ok (.ireturn, 1) := dk_172 (dk_at dksJ21_offer_2 11 rfl rfl)
abbrev cJ21_grow : ByteArray := prog_48_method_12_code
def yJ21_grow : MethodName := ⟨RJ21, "grow", "(I)V"⟩
def dkwJ21_grow_1 : List UInt8 := [122, 184, 0, 80, 62, 42, 42, 180, 0, 17, 29, 184, 0, 86, 181, 0, 17, 177]
abbrev dktJ21_grow_1 : List UInt8 := dkwJ21_grow_1 ++ []
def dkwJ21_grow_0 : List UInt8 := [42, 180, 0, 17, 190, 61, 28, 27, 28, 100, 28, 16, 64, 162, 0, 9, 28, 5, 96, 167, 0, 6, 28, 4]
abbrev dktJ21_grow_0 : List UInt8 := dkwJ21_grow_0 ++ dktJ21_grow_1
theorem dksJ21_grow_0 : cJ21_grow.data.toList.drop 0 = dktJ21_grow_0 := by decide +kernel
theorem dksJ21_grow_1 : cJ21_grow.data.toList.drop 24 = dktJ21_grow_1 := dk_seg dksJ21_grow_0 24 rfl rfl
theorem dJ21_grow_0 : decode cJ21_grow 0 = .ok (.aload_n 0, 1) := dk_42 (dk_at dksJ21_grow_0 0 rfl rfl)
theorem dJ21_grow_1 : decode cJ21_grow 1 = .ok (.getfield 17, 3) := dk_180 0 17 (dk_at dksJ21_grow_0 1 rfl rfl)
theorem dJ21_grow_4 : decode cJ21_grow 4 = .ok (.arraylength, 1) := dk_190 (dk_at dksJ21_grow_0 4 rfl rfl)
theorem dJ21_grow_5 : decode cJ21_grow 5 = .ok (.istore_n 2, 1) := dk_61 (dk_at dksJ21_grow_0 5 rfl rfl)
theorem dJ21_grow_6 : decode cJ21_grow 6 = .ok (.iload_n 2, 1) := dk_28 (dk_at dksJ21_grow_0 6 rfl rfl)
theorem dJ21_grow_7 : decode cJ21_grow 7 = .ok (.iload_n 1, 1) := dk_27 (dk_at dksJ21_grow_0 7 rfl rfl)
theorem dJ21_grow_8 : decode cJ21_grow 8 = .ok (.iload_n 2, 1) := dk_28 (dk_at dksJ21_grow_0 8 rfl rfl)
theorem dJ21_grow_9 : decode cJ21_grow 9 = .ok (.isub, 1) := dk_100 (dk_at dksJ21_grow_0 9 rfl rfl)
theorem dJ21_grow_10 : decode cJ21_grow 10 = .ok (.iload_n 2, 1) := dk_28 (dk_at dksJ21_grow_0 10 rfl rfl)
theorem dJ21_grow_11 : decode cJ21_grow 11 = .ok (.bipush 64, 2) := dk_16 64 (dk_at dksJ21_grow_0 11 rfl rfl)
theorem dJ21_grow_13 : decode cJ21_grow 13 = .ok (.if_icmp .ge 9, 3) := dk_162 0 9 (dk_at dksJ21_grow_0 13 rfl rfl)
theorem dJ21_grow_16 : decode cJ21_grow 16 = .ok (.iload_n 2, 1) := dk_28 (dk_at dksJ21_grow_0 16 rfl rfl)
theorem dJ21_grow_17 : decode cJ21_grow 17 = .ok (.iconst 2, 1) := dk_5 (dk_at dksJ21_grow_0 17 rfl rfl)
theorem dJ21_grow_18 : decode cJ21_grow 18 = .ok (.iadd, 1) := dk_96 (dk_at dksJ21_grow_0 18 rfl rfl)
theorem dJ21_grow_19 : decode cJ21_grow 19 = .ok (.goto 6, 3) := dk_167 0 6 (dk_at dksJ21_grow_0 19 rfl rfl)
theorem dJ21_grow_22 : decode cJ21_grow 22 = .ok (.iload_n 2, 1) := dk_28 (dk_at dksJ21_grow_0 22 rfl rfl)
theorem dJ21_grow_23 : decode cJ21_grow 23 = .ok (.iconst 1, 1) := dk_4 (dk_at dksJ21_grow_0 23 rfl rfl)
theorem dJ21_grow_24 : decode cJ21_grow 24 = .ok (.ishr, 1) := dk_122 (dk_at dksJ21_grow_1 0 rfl rfl)
theorem dJ21_grow_25 : decode cJ21_grow 25 = .ok (.invokestatic 80, 3) := dk_184 0 80 (dk_at dksJ21_grow_1 1 rfl rfl)
theorem dJ21_grow_28 : decode cJ21_grow 28 = .ok (.istore_n 3, 1) := dk_62 (dk_at dksJ21_grow_1 4 rfl rfl)
theorem dJ21_grow_29 : decode cJ21_grow 29 = .ok (.aload_n 0, 1) := dk_42 (dk_at dksJ21_grow_1 5 rfl rfl)
theorem dJ21_grow_30 : decode cJ21_grow 30 = .ok (.aload_n 0, 1) := dk_42 (dk_at dksJ21_grow_1 6 rfl rfl)
theorem dJ21_grow_31 : decode cJ21_grow 31 = .ok (.getfield 17, 3) := dk_180 0 17 (dk_at dksJ21_grow_1 7 rfl rfl)
theorem dJ21_grow_34 : decode cJ21_grow 34 = .ok (.iload_n 3, 1) := dk_29 (dk_at dksJ21_grow_1 10 rfl rfl)
theorem dJ21_grow_35 : decode cJ21_grow 35 = .ok (.invokestatic 86, 3) := dk_184 0 86 (dk_at dksJ21_grow_1 11 rfl rfl)
theorem dJ21_grow_38 : decode cJ21_grow 38 = .ok (.putfield 17, 3) := dk_181 0 17 (dk_at dksJ21_grow_1 14 rfl rfl)
theorem dJ21_grow_41 : decode cJ21_grow 41 = .ok (.return_, 1) := dk_177 (dk_at dksJ21_grow_1 17 rfl rfl)
abbrev cJ21_siftUp : ByteArray := prog_48_method_27_code
def yJ21_siftUp : MethodName := ⟨RJ21, "siftUp", "(ILjava/lang/Object;)V"⟩
def dkwJ21_siftUp_1 : List UInt8 := [44, 42, 180, 0, 17, 184, 0, 140, 177]
abbrev dktJ21_siftUp_1 : List UInt8 := dkwJ21_siftUp_1 ++ []
def dkwJ21_siftUp_0 : List UInt8 := [42, 180, 0, 21, 198, 0, 19, 27, 44, 42, 180, 0, 17, 42, 180, 0, 21, 184, 0, 136, 167, 0, 12, 27]
abbrev dktJ21_siftUp_0 : List UInt8 := dkwJ21_siftUp_0 ++ dktJ21_siftUp_1
theorem dksJ21_siftUp_0 : cJ21_siftUp.data.toList.drop 0 = dktJ21_siftUp_0 := by decide +kernel
theorem dksJ21_siftUp_1 : cJ21_siftUp.data.toList.drop 24 = dktJ21_siftUp_1 := dk_seg dksJ21_siftUp_0 24 rfl rfl
theorem dJ21_siftUp_0 : decode cJ21_siftUp 0 = .ok (.aload_n 0, 1) := dk_42 (dk_at dksJ21_siftUp_0 0 rfl rfl)
theorem dJ21_siftUp_1 : decode cJ21_siftUp 1 = .ok (.getfield 21, 3) := dk_180 0 21 (dk_at dksJ21_siftUp_0 1 rfl rfl)
theorem dJ21_siftUp_4 : decode cJ21_siftUp 4 = .ok (.ifnull 19, 3) := dk_198 0 19 (dk_at dksJ21_siftUp_0 4 rfl rfl)
theorem dJ21_siftUp_7 : decode cJ21_siftUp 7 = .ok (.iload_n 1, 1) := dk_27 (dk_at dksJ21_siftUp_0 7 rfl rfl)
theorem dJ21_siftUp_8 : decode cJ21_siftUp 8 = .ok (.aload_n 2, 1) := dk_44 (dk_at dksJ21_siftUp_0 8 rfl rfl)
theorem dJ21_siftUp_9 : decode cJ21_siftUp 9 = .ok (.aload_n 0, 1) := dk_42 (dk_at dksJ21_siftUp_0 9 rfl rfl)
theorem dJ21_siftUp_10 : decode cJ21_siftUp 10 = .ok (.getfield 17, 3) := dk_180 0 17 (dk_at dksJ21_siftUp_0 10 rfl rfl)
theorem dJ21_siftUp_13 : decode cJ21_siftUp 13 = .ok (.aload_n 0, 1) := dk_42 (dk_at dksJ21_siftUp_0 13 rfl rfl)
theorem dJ21_siftUp_14 : decode cJ21_siftUp 14 = .ok (.getfield 21, 3) := dk_180 0 21 (dk_at dksJ21_siftUp_0 14 rfl rfl)
theorem dJ21_siftUp_17 : decode cJ21_siftUp 17 = .ok (.invokestatic 136, 3) := dk_184 0 136 (dk_at dksJ21_siftUp_0 17 rfl rfl)
theorem dJ21_siftUp_20 : decode cJ21_siftUp 20 = .ok (.goto 12, 3) := dk_167 0 12 (dk_at dksJ21_siftUp_0 20 rfl rfl)
theorem dJ21_siftUp_23 : decode cJ21_siftUp 23 = .ok (.iload_n 1, 1) := dk_27 (dk_at dksJ21_siftUp_0 23 rfl rfl)
theorem dJ21_siftUp_24 : decode cJ21_siftUp 24 = .ok (.aload_n 2, 1) := dk_44 (dk_at dksJ21_siftUp_1 0 rfl rfl)
theorem dJ21_siftUp_25 : decode cJ21_siftUp 25 = .ok (.aload_n 0, 1) := dk_42 (dk_at dksJ21_siftUp_1 1 rfl rfl)
theorem dJ21_siftUp_26 : decode cJ21_siftUp 26 = .ok (.getfield 17, 3) := dk_180 0 17 (dk_at dksJ21_siftUp_1 2 rfl rfl)
theorem dJ21_siftUp_29 : decode cJ21_siftUp 29 = .ok (.invokestatic 140, 3) := dk_184 0 140 (dk_at dksJ21_siftUp_1 5 rfl rfl)
theorem dJ21_siftUp_32 : decode cJ21_siftUp 32 = .ok (.return_, 1) := dk_177 (dk_at dksJ21_siftUp_1 8 rfl rfl)
abbrev cJ21_siftUpUsingComparator : ByteArray := prog_48_method_29_code
def yJ21_siftUpUsingComparator : MethodName := ⟨RJ21, "siftUpUsingComparator", "(ILjava/lang/Object;[Ljava/lang/Object;Ljava/util/Comparator;)V"⟩
def dkwJ21_siftUpUsingComparator_2 : List UInt8 := [43, 83, 177]
abbrev dktJ21_siftUpUsingComparator_2 : List UInt8 := dkwJ21_siftUpUsingComparator_2 ++ []
def dkwJ21_siftUpUsingComparator_1 : List UInt8 := [185, 0, 149, 3, 0, 155, 0, 6, 167, 0, 14, 44, 26, 25, 5, 83, 21, 4, 59, 167, 255, 216, 44, 26]
abbrev dktJ21_siftUpUsingComparator_1 : List UInt8 := dkwJ21_siftUpUsingComparator_1 ++ dktJ21_siftUpUsingComparator_2
def dkwJ21_siftUpUsingComparator_0 : List UInt8 := [26, 158, 0, 42, 26, 4, 100, 4, 124, 54, 4, 44, 21, 4, 50, 58, 5, 45, 43, 25, 5]
abbrev dktJ21_siftUpUsingComparator_0 : List UInt8 := dkwJ21_siftUpUsingComparator_0 ++ dktJ21_siftUpUsingComparator_1
theorem dksJ21_siftUpUsingComparator_0 : cJ21_siftUpUsingComparator.data.toList.drop 0 = dktJ21_siftUpUsingComparator_0 := by decide +kernel
theorem dksJ21_siftUpUsingComparator_1 : cJ21_siftUpUsingComparator.data.toList.drop 21 = dktJ21_siftUpUsingComparator_1 := dk_seg dksJ21_siftUpUsingComparator_0 21 rfl rfl
theorem dksJ21_siftUpUsingComparator_2 : cJ21_siftUpUsingComparator.data.toList.drop 45 = dktJ21_siftUpUsingComparator_2 := dk_seg dksJ21_siftUpUsingComparator_1 24 rfl rfl
theorem dJ21_siftUpUsingComparator_0 : decode cJ21_siftUpUsingComparator 0 = .ok (.iload_n 0, 1) := dk_26 (dk_at dksJ21_siftUpUsingComparator_0 0 rfl rfl)
theorem dJ21_siftUpUsingComparator_1 : decode cJ21_siftUpUsingComparator 1 = .ok (.ifCond .le 42, 3) := dk_158 0 42 (dk_at dksJ21_siftUpUsingComparator_0 1 rfl rfl)
theorem dJ21_siftUpUsingComparator_4 : decode cJ21_siftUpUsingComparator 4 = .ok (.iload_n 0, 1) := dk_26 (dk_at dksJ21_siftUpUsingComparator_0 4 rfl rfl)
theorem dJ21_siftUpUsingComparator_5 : decode cJ21_siftUpUsingComparator 5 = .ok (.iconst 1, 1) := dk_4 (dk_at dksJ21_siftUpUsingComparator_0 5 rfl rfl)
theorem dJ21_siftUpUsingComparator_6 : decode cJ21_siftUpUsingComparator 6 = .ok (.isub, 1) := dk_100 (dk_at dksJ21_siftUpUsingComparator_0 6 rfl rfl)
theorem dJ21_siftUpUsingComparator_7 : decode cJ21_siftUpUsingComparator 7 = .ok (.iconst 1, 1) := dk_4 (dk_at dksJ21_siftUpUsingComparator_0 7 rfl rfl)
theorem dJ21_siftUpUsingComparator_8 : decode cJ21_siftUpUsingComparator 8 = .ok (.iushr, 1) := dk_124 (dk_at dksJ21_siftUpUsingComparator_0 8 rfl rfl)
theorem dJ21_siftUpUsingComparator_9 : decode cJ21_siftUpUsingComparator 9 = .ok (.istore 4, 2) := dk_54 4 (dk_at dksJ21_siftUpUsingComparator_0 9 rfl rfl)
theorem dJ21_siftUpUsingComparator_11 : decode cJ21_siftUpUsingComparator 11 = .ok (.aload_n 2, 1) := dk_44 (dk_at dksJ21_siftUpUsingComparator_0 11 rfl rfl)
theorem dJ21_siftUpUsingComparator_12 : decode cJ21_siftUpUsingComparator 12 = .ok (.iload 4, 2) := dk_21 4 (dk_at dksJ21_siftUpUsingComparator_0 12 rfl rfl)
theorem dJ21_siftUpUsingComparator_14 : decode cJ21_siftUpUsingComparator 14 = .ok (.aaload, 1) := dk_50 (dk_at dksJ21_siftUpUsingComparator_0 14 rfl rfl)
theorem dJ21_siftUpUsingComparator_15 : decode cJ21_siftUpUsingComparator 15 = .ok (.astore 5, 2) := dk_58 5 (dk_at dksJ21_siftUpUsingComparator_0 15 rfl rfl)
theorem dJ21_siftUpUsingComparator_17 : decode cJ21_siftUpUsingComparator 17 = .ok (.aload_n 3, 1) := dk_45 (dk_at dksJ21_siftUpUsingComparator_0 17 rfl rfl)
theorem dJ21_siftUpUsingComparator_18 : decode cJ21_siftUpUsingComparator 18 = .ok (.aload_n 1, 1) := dk_43 (dk_at dksJ21_siftUpUsingComparator_0 18 rfl rfl)
theorem dJ21_siftUpUsingComparator_19 : decode cJ21_siftUpUsingComparator 19 = .ok (.aload 5, 2) := dk_25 5 (dk_at dksJ21_siftUpUsingComparator_0 19 rfl rfl)
theorem dJ21_siftUpUsingComparator_21 : decode cJ21_siftUpUsingComparator 21 = .ok (.invokeinterface 149 3, 5) := by decide +kernel
theorem dJ21_siftUpUsingComparator_26 : decode cJ21_siftUpUsingComparator 26 = .ok (.ifCond .lt 6, 3) := dk_155 0 6 (dk_at dksJ21_siftUpUsingComparator_1 5 rfl rfl)
theorem dJ21_siftUpUsingComparator_29 : decode cJ21_siftUpUsingComparator 29 = .ok (.goto 14, 3) := dk_167 0 14 (dk_at dksJ21_siftUpUsingComparator_1 8 rfl rfl)
theorem dJ21_siftUpUsingComparator_32 : decode cJ21_siftUpUsingComparator 32 = .ok (.aload_n 2, 1) := dk_44 (dk_at dksJ21_siftUpUsingComparator_1 11 rfl rfl)
theorem dJ21_siftUpUsingComparator_33 : decode cJ21_siftUpUsingComparator 33 = .ok (.iload_n 0, 1) := dk_26 (dk_at dksJ21_siftUpUsingComparator_1 12 rfl rfl)
theorem dJ21_siftUpUsingComparator_34 : decode cJ21_siftUpUsingComparator 34 = .ok (.aload 5, 2) := dk_25 5 (dk_at dksJ21_siftUpUsingComparator_1 13 rfl rfl)
theorem dJ21_siftUpUsingComparator_36 : decode cJ21_siftUpUsingComparator 36 = .ok (.aastore, 1) := dk_83 (dk_at dksJ21_siftUpUsingComparator_1 15 rfl rfl)
theorem dJ21_siftUpUsingComparator_37 : decode cJ21_siftUpUsingComparator 37 = .ok (.iload 4, 2) := dk_21 4 (dk_at dksJ21_siftUpUsingComparator_1 16 rfl rfl)
theorem dJ21_siftUpUsingComparator_39 : decode cJ21_siftUpUsingComparator 39 = .ok (.istore_n 0, 1) := dk_59 (dk_at dksJ21_siftUpUsingComparator_1 18 rfl rfl)
theorem dJ21_siftUpUsingComparator_40 : decode cJ21_siftUpUsingComparator 40 = .ok (.goto (-40), 3) := dk_167 255 216 (dk_at dksJ21_siftUpUsingComparator_1 19 rfl rfl)
theorem dJ21_siftUpUsingComparator_43 : decode cJ21_siftUpUsingComparator 43 = .ok (.aload_n 2, 1) := dk_44 (dk_at dksJ21_siftUpUsingComparator_1 22 rfl rfl)
theorem dJ21_siftUpUsingComparator_44 : decode cJ21_siftUpUsingComparator 44 = .ok (.iload_n 0, 1) := dk_26 (dk_at dksJ21_siftUpUsingComparator_1 23 rfl rfl)
theorem dJ21_siftUpUsingComparator_45 : decode cJ21_siftUpUsingComparator 45 = .ok (.aload_n 1, 1) := dk_43 (dk_at dksJ21_siftUpUsingComparator_2 0 rfl rfl)
theorem dJ21_siftUpUsingComparator_46 : decode cJ21_siftUpUsingComparator 46 = .ok (.aastore, 1) := dk_83 (dk_at dksJ21_siftUpUsingComparator_2 1 rfl rfl)
theorem dJ21_siftUpUsingComparator_47 : decode cJ21_siftUpUsingComparator 47 = .ok (.return_, 1) := dk_177 (dk_at dksJ21_siftUpUsingComparator_2 2 rfl rfl)
abbrev cJ21_siftUpComparable : ByteArray := prog_48_method_28_code
def yJ21_siftUpComparable : MethodName := ⟨RJ21, "siftUpComparable", "(ILjava/lang/Object;[Ljava/lang/Object;)V"⟩
def dkwJ21_siftUpComparable_2 : List UInt8 := [44, 26, 45, 83, 177]
abbrev dktJ21_siftUpComparable_2 : List UInt8 := dkwJ21_siftUpComparable_2 ++ []
def dkwJ21_siftUpComparable_1 : List UInt8 := [25, 5, 185, 0, 146, 2, 0, 155, 0, 6, 167, 0, 14, 44, 26, 25, 5, 83, 21, 4, 59, 167, 255, 217]
abbrev dktJ21_siftUpComparable_1 : List UInt8 := dkwJ21_siftUpComparable_1 ++ dktJ21_siftUpComparable_2
def dkwJ21_siftUpComparable_0 : List UInt8 := [43, 192, 0, 144, 78, 26, 158, 0, 41, 26, 4, 100, 4, 124, 54, 4, 44, 21, 4, 50, 58, 5, 45]
abbrev dktJ21_siftUpComparable_0 : List UInt8 := dkwJ21_siftUpComparable_0 ++ dktJ21_siftUpComparable_1
theorem dksJ21_siftUpComparable_0 : cJ21_siftUpComparable.data.toList.drop 0 = dktJ21_siftUpComparable_0 := by decide +kernel
theorem dksJ21_siftUpComparable_1 : cJ21_siftUpComparable.data.toList.drop 23 = dktJ21_siftUpComparable_1 := dk_seg dksJ21_siftUpComparable_0 23 rfl rfl
theorem dksJ21_siftUpComparable_2 : cJ21_siftUpComparable.data.toList.drop 47 = dktJ21_siftUpComparable_2 := dk_seg dksJ21_siftUpComparable_1 24 rfl rfl
theorem dJ21_siftUpComparable_0 : decode cJ21_siftUpComparable 0 = .ok (.aload_n 1, 1) := dk_43 (dk_at dksJ21_siftUpComparable_0 0 rfl rfl)
theorem dJ21_siftUpComparable_1 : decode cJ21_siftUpComparable 1 = .ok (.checkcast 144, 3) := dk_192 0 144 (dk_at dksJ21_siftUpComparable_0 1 rfl rfl)
theorem dJ21_siftUpComparable_4 : decode cJ21_siftUpComparable 4 = .ok (.astore_n 3, 1) := dk_78 (dk_at dksJ21_siftUpComparable_0 4 rfl rfl)
theorem dJ21_siftUpComparable_5 : decode cJ21_siftUpComparable 5 = .ok (.iload_n 0, 1) := dk_26 (dk_at dksJ21_siftUpComparable_0 5 rfl rfl)
theorem dJ21_siftUpComparable_6 : decode cJ21_siftUpComparable 6 = .ok (.ifCond .le 41, 3) := dk_158 0 41 (dk_at dksJ21_siftUpComparable_0 6 rfl rfl)
theorem dJ21_siftUpComparable_9 : decode cJ21_siftUpComparable 9 = .ok (.iload_n 0, 1) := dk_26 (dk_at dksJ21_siftUpComparable_0 9 rfl rfl)
theorem dJ21_siftUpComparable_10 : decode cJ21_siftUpComparable 10 = .ok (.iconst 1, 1) := dk_4 (dk_at dksJ21_siftUpComparable_0 10 rfl rfl)
theorem dJ21_siftUpComparable_11 : decode cJ21_siftUpComparable 11 = .ok (.isub, 1) := dk_100 (dk_at dksJ21_siftUpComparable_0 11 rfl rfl)
theorem dJ21_siftUpComparable_12 : decode cJ21_siftUpComparable 12 = .ok (.iconst 1, 1) := dk_4 (dk_at dksJ21_siftUpComparable_0 12 rfl rfl)
theorem dJ21_siftUpComparable_13 : decode cJ21_siftUpComparable 13 = .ok (.iushr, 1) := dk_124 (dk_at dksJ21_siftUpComparable_0 13 rfl rfl)
theorem dJ21_siftUpComparable_14 : decode cJ21_siftUpComparable 14 = .ok (.istore 4, 2) := dk_54 4 (dk_at dksJ21_siftUpComparable_0 14 rfl rfl)
theorem dJ21_siftUpComparable_16 : decode cJ21_siftUpComparable 16 = .ok (.aload_n 2, 1) := dk_44 (dk_at dksJ21_siftUpComparable_0 16 rfl rfl)
theorem dJ21_siftUpComparable_17 : decode cJ21_siftUpComparable 17 = .ok (.iload 4, 2) := dk_21 4 (dk_at dksJ21_siftUpComparable_0 17 rfl rfl)
theorem dJ21_siftUpComparable_19 : decode cJ21_siftUpComparable 19 = .ok (.aaload, 1) := dk_50 (dk_at dksJ21_siftUpComparable_0 19 rfl rfl)
theorem dJ21_siftUpComparable_20 : decode cJ21_siftUpComparable 20 = .ok (.astore 5, 2) := dk_58 5 (dk_at dksJ21_siftUpComparable_0 20 rfl rfl)
theorem dJ21_siftUpComparable_22 : decode cJ21_siftUpComparable 22 = .ok (.aload_n 3, 1) := dk_45 (dk_at dksJ21_siftUpComparable_0 22 rfl rfl)
theorem dJ21_siftUpComparable_23 : decode cJ21_siftUpComparable 23 = .ok (.aload 5, 2) := dk_25 5 (dk_at dksJ21_siftUpComparable_1 0 rfl rfl)
theorem dJ21_siftUpComparable_25 : decode cJ21_siftUpComparable 25 = .ok (.invokeinterface 146 2, 5) := by decide +kernel
theorem dJ21_siftUpComparable_30 : decode cJ21_siftUpComparable 30 = .ok (.ifCond .lt 6, 3) := dk_155 0 6 (dk_at dksJ21_siftUpComparable_1 7 rfl rfl)
theorem dJ21_siftUpComparable_33 : decode cJ21_siftUpComparable 33 = .ok (.goto 14, 3) := dk_167 0 14 (dk_at dksJ21_siftUpComparable_1 10 rfl rfl)
theorem dJ21_siftUpComparable_36 : decode cJ21_siftUpComparable 36 = .ok (.aload_n 2, 1) := dk_44 (dk_at dksJ21_siftUpComparable_1 13 rfl rfl)
theorem dJ21_siftUpComparable_37 : decode cJ21_siftUpComparable 37 = .ok (.iload_n 0, 1) := dk_26 (dk_at dksJ21_siftUpComparable_1 14 rfl rfl)
theorem dJ21_siftUpComparable_38 : decode cJ21_siftUpComparable 38 = .ok (.aload 5, 2) := dk_25 5 (dk_at dksJ21_siftUpComparable_1 15 rfl rfl)
theorem dJ21_siftUpComparable_40 : decode cJ21_siftUpComparable 40 = .ok (.aastore, 1) := dk_83 (dk_at dksJ21_siftUpComparable_1 17 rfl rfl)
theorem dJ21_siftUpComparable_41 : decode cJ21_siftUpComparable 41 = .ok (.iload 4, 2) := dk_21 4 (dk_at dksJ21_siftUpComparable_1 18 rfl rfl)
theorem dJ21_siftUpComparable_43 : decode cJ21_siftUpComparable 43 = .ok (.istore_n 0, 1) := dk_59 (dk_at dksJ21_siftUpComparable_1 20 rfl rfl)
theorem dJ21_siftUpComparable_44 : decode cJ21_siftUpComparable 44 = .ok (.goto (-39), 3) := dk_167 255 217 (dk_at dksJ21_siftUpComparable_1 21 rfl rfl)
theorem dJ21_siftUpComparable_47 : decode cJ21_siftUpComparable 47 = .ok (.aload_n 2, 1) := dk_44 (dk_at dksJ21_siftUpComparable_2 0 rfl rfl)
theorem dJ21_siftUpComparable_48 : decode cJ21_siftUpComparable 48 = .ok (.iload_n 0, 1) := dk_26 (dk_at dksJ21_siftUpComparable_2 1 rfl rfl)
theorem dJ21_siftUpComparable_49 : decode cJ21_siftUpComparable 49 = .ok (.aload_n 3, 1) := dk_45 (dk_at dksJ21_siftUpComparable_2 2 rfl rfl)
theorem dJ21_siftUpComparable_50 : decode cJ21_siftUpComparable 50 = .ok (.aastore, 1) := dk_83 (dk_at dksJ21_siftUpComparable_2 3 rfl rfl)
theorem dJ21_siftUpComparable_51 : decode cJ21_siftUpComparable 51 = .ok (.return_, 1) := dk_177 (dk_at dksJ21_siftUpComparable_2 4 rfl rfl)
abbrev cJ21_poll : ByteArray := prog_48_method_25_code
def yJ21_poll : MethodName := ⟨RJ21, "poll", "()Ljava/lang/Object;"⟩
def dkwJ21_poll_3 : List UInt8 := [43, 29, 25, 5, 184, 0, 129, 44, 176]
abbrev dktJ21_poll_3 : List UInt8 := dkwJ21_poll_3 ++ []
def dkwJ21_poll_2 : List UInt8 := [42, 180, 0, 21, 89, 58, 5, 199, 0, 14, 3, 25, 4, 43, 29, 184, 0, 125, 167, 0, 13, 3, 25, 4]
abbrev dktJ21_poll_2 : List UInt8 := dkwJ21_poll_2 ++ dktJ21_poll_3
def dkwJ21_poll_1 : List UInt8 := [42, 89, 180, 0, 58, 4, 100, 90, 181, 0, 58, 89, 62, 50, 58, 4, 43, 29, 1, 83, 29, 158, 0, 34]
abbrev dktJ21_poll_1 : List UInt8 := dkwJ21_poll_1 ++ dktJ21_poll_2
def dkwJ21_poll_0 : List UInt8 := [42, 180, 0, 17, 89, 76, 3, 50, 89, 77, 198, 0, 69, 42, 89, 180, 0, 93, 4, 96, 181, 0, 93, 43]
abbrev dktJ21_poll_0 : List UInt8 := dkwJ21_poll_0 ++ dktJ21_poll_1
theorem dksJ21_poll_0 : cJ21_poll.data.toList.drop 0 = dktJ21_poll_0 := by decide +kernel
theorem dksJ21_poll_1 : cJ21_poll.data.toList.drop 24 = dktJ21_poll_1 := dk_seg dksJ21_poll_0 24 rfl rfl
theorem dksJ21_poll_2 : cJ21_poll.data.toList.drop 48 = dktJ21_poll_2 := dk_seg dksJ21_poll_1 24 rfl rfl
theorem dksJ21_poll_3 : cJ21_poll.data.toList.drop 72 = dktJ21_poll_3 := dk_seg dksJ21_poll_2 24 rfl rfl
theorem dJ21_poll_0 : decode cJ21_poll 0 = .ok (.aload_n 0, 1) := dk_42 (dk_at dksJ21_poll_0 0 rfl rfl)
theorem dJ21_poll_1 : decode cJ21_poll 1 = .ok (.getfield 17, 3) := dk_180 0 17 (dk_at dksJ21_poll_0 1 rfl rfl)
theorem dJ21_poll_4 : decode cJ21_poll 4 = .ok (.dup, 1) := dk_89 (dk_at dksJ21_poll_0 4 rfl rfl)
theorem dJ21_poll_5 : decode cJ21_poll 5 = .ok (.astore_n 1, 1) := dk_76 (dk_at dksJ21_poll_0 5 rfl rfl)
theorem dJ21_poll_6 : decode cJ21_poll 6 = .ok (.iconst 0, 1) := dk_3 (dk_at dksJ21_poll_0 6 rfl rfl)
theorem dJ21_poll_7 : decode cJ21_poll 7 = .ok (.aaload, 1) := dk_50 (dk_at dksJ21_poll_0 7 rfl rfl)
theorem dJ21_poll_8 : decode cJ21_poll 8 = .ok (.dup, 1) := dk_89 (dk_at dksJ21_poll_0 8 rfl rfl)
theorem dJ21_poll_9 : decode cJ21_poll 9 = .ok (.astore_n 2, 1) := dk_77 (dk_at dksJ21_poll_0 9 rfl rfl)
theorem dJ21_poll_10 : decode cJ21_poll 10 = .ok (.ifnull 69, 3) := dk_198 0 69 (dk_at dksJ21_poll_0 10 rfl rfl)
theorem dJ21_poll_13 : decode cJ21_poll 13 = .ok (.aload_n 0, 1) := dk_42 (dk_at dksJ21_poll_0 13 rfl rfl)
theorem dJ21_poll_14 : decode cJ21_poll 14 = .ok (.dup, 1) := dk_89 (dk_at dksJ21_poll_0 14 rfl rfl)
theorem dJ21_poll_15 : decode cJ21_poll 15 = .ok (.getfield 93, 3) := dk_180 0 93 (dk_at dksJ21_poll_0 15 rfl rfl)
theorem dJ21_poll_18 : decode cJ21_poll 18 = .ok (.iconst 1, 1) := dk_4 (dk_at dksJ21_poll_0 18 rfl rfl)
theorem dJ21_poll_19 : decode cJ21_poll 19 = .ok (.iadd, 1) := dk_96 (dk_at dksJ21_poll_0 19 rfl rfl)
theorem dJ21_poll_20 : decode cJ21_poll 20 = .ok (.putfield 93, 3) := dk_181 0 93 (dk_at dksJ21_poll_0 20 rfl rfl)
theorem dJ21_poll_23 : decode cJ21_poll 23 = .ok (.aload_n 1, 1) := dk_43 (dk_at dksJ21_poll_0 23 rfl rfl)
theorem dJ21_poll_24 : decode cJ21_poll 24 = .ok (.aload_n 0, 1) := dk_42 (dk_at dksJ21_poll_1 0 rfl rfl)
theorem dJ21_poll_25 : decode cJ21_poll 25 = .ok (.dup, 1) := dk_89 (dk_at dksJ21_poll_1 1 rfl rfl)
theorem dJ21_poll_26 : decode cJ21_poll 26 = .ok (.getfield 58, 3) := dk_180 0 58 (dk_at dksJ21_poll_1 2 rfl rfl)
theorem dJ21_poll_29 : decode cJ21_poll 29 = .ok (.iconst 1, 1) := dk_4 (dk_at dksJ21_poll_1 5 rfl rfl)
theorem dJ21_poll_30 : decode cJ21_poll 30 = .ok (.isub, 1) := dk_100 (dk_at dksJ21_poll_1 6 rfl rfl)
theorem dJ21_poll_31 : decode cJ21_poll 31 = .ok (.dup_x1, 1) := dk_90 (dk_at dksJ21_poll_1 7 rfl rfl)
theorem dJ21_poll_32 : decode cJ21_poll 32 = .ok (.putfield 58, 3) := dk_181 0 58 (dk_at dksJ21_poll_1 8 rfl rfl)
theorem dJ21_poll_35 : decode cJ21_poll 35 = .ok (.dup, 1) := dk_89 (dk_at dksJ21_poll_1 11 rfl rfl)
theorem dJ21_poll_36 : decode cJ21_poll 36 = .ok (.istore_n 3, 1) := dk_62 (dk_at dksJ21_poll_1 12 rfl rfl)
theorem dJ21_poll_37 : decode cJ21_poll 37 = .ok (.aaload, 1) := dk_50 (dk_at dksJ21_poll_1 13 rfl rfl)
theorem dJ21_poll_38 : decode cJ21_poll 38 = .ok (.astore 4, 2) := dk_58 4 (dk_at dksJ21_poll_1 14 rfl rfl)
theorem dJ21_poll_40 : decode cJ21_poll 40 = .ok (.aload_n 1, 1) := dk_43 (dk_at dksJ21_poll_1 16 rfl rfl)
theorem dJ21_poll_41 : decode cJ21_poll 41 = .ok (.iload_n 3, 1) := dk_29 (dk_at dksJ21_poll_1 17 rfl rfl)
theorem dJ21_poll_42 : decode cJ21_poll 42 = .ok (.aconst_null, 1) := dk_1 (dk_at dksJ21_poll_1 18 rfl rfl)
theorem dJ21_poll_43 : decode cJ21_poll 43 = .ok (.aastore, 1) := dk_83 (dk_at dksJ21_poll_1 19 rfl rfl)
theorem dJ21_poll_44 : decode cJ21_poll 44 = .ok (.iload_n 3, 1) := dk_29 (dk_at dksJ21_poll_1 20 rfl rfl)
theorem dJ21_poll_45 : decode cJ21_poll 45 = .ok (.ifCond .le 34, 3) := dk_158 0 34 (dk_at dksJ21_poll_1 21 rfl rfl)
theorem dJ21_poll_48 : decode cJ21_poll 48 = .ok (.aload_n 0, 1) := dk_42 (dk_at dksJ21_poll_2 0 rfl rfl)
theorem dJ21_poll_49 : decode cJ21_poll 49 = .ok (.getfield 21, 3) := dk_180 0 21 (dk_at dksJ21_poll_2 1 rfl rfl)
theorem dJ21_poll_52 : decode cJ21_poll 52 = .ok (.dup, 1) := dk_89 (dk_at dksJ21_poll_2 4 rfl rfl)
theorem dJ21_poll_53 : decode cJ21_poll 53 = .ok (.astore 5, 2) := dk_58 5 (dk_at dksJ21_poll_2 5 rfl rfl)
theorem dJ21_poll_55 : decode cJ21_poll 55 = .ok (.ifnonnull 14, 3) := dk_199 0 14 (dk_at dksJ21_poll_2 7 rfl rfl)
theorem dJ21_poll_58 : decode cJ21_poll 58 = .ok (.iconst 0, 1) := dk_3 (dk_at dksJ21_poll_2 10 rfl rfl)
theorem dJ21_poll_59 : decode cJ21_poll 59 = .ok (.aload 4, 2) := dk_25 4 (dk_at dksJ21_poll_2 11 rfl rfl)
theorem dJ21_poll_61 : decode cJ21_poll 61 = .ok (.aload_n 1, 1) := dk_43 (dk_at dksJ21_poll_2 13 rfl rfl)
theorem dJ21_poll_62 : decode cJ21_poll 62 = .ok (.iload_n 3, 1) := dk_29 (dk_at dksJ21_poll_2 14 rfl rfl)
theorem dJ21_poll_63 : decode cJ21_poll 63 = .ok (.invokestatic 125, 3) := dk_184 0 125 (dk_at dksJ21_poll_2 15 rfl rfl)
theorem dJ21_poll_66 : decode cJ21_poll 66 = .ok (.goto 13, 3) := dk_167 0 13 (dk_at dksJ21_poll_2 18 rfl rfl)
theorem dJ21_poll_69 : decode cJ21_poll 69 = .ok (.iconst 0, 1) := dk_3 (dk_at dksJ21_poll_2 21 rfl rfl)
theorem dJ21_poll_70 : decode cJ21_poll 70 = .ok (.aload 4, 2) := dk_25 4 (dk_at dksJ21_poll_2 22 rfl rfl)
theorem dJ21_poll_72 : decode cJ21_poll 72 = .ok (.aload_n 1, 1) := dk_43 (dk_at dksJ21_poll_3 0 rfl rfl)
theorem dJ21_poll_73 : decode cJ21_poll 73 = .ok (.iload_n 3, 1) := dk_29 (dk_at dksJ21_poll_3 1 rfl rfl)
theorem dJ21_poll_74 : decode cJ21_poll 74 = .ok (.aload 5, 2) := dk_25 5 (dk_at dksJ21_poll_3 2 rfl rfl)
theorem dJ21_poll_76 : decode cJ21_poll 76 = .ok (.invokestatic 129, 3) := dk_184 0 129 (dk_at dksJ21_poll_3 4 rfl rfl)
theorem dJ21_poll_79 : decode cJ21_poll 79 = .ok (.aload_n 2, 1) := dk_44 (dk_at dksJ21_poll_3 7 rfl rfl)
theorem dJ21_poll_80 : decode cJ21_poll 80 = .ok (.areturn, 1) := dk_176 (dk_at dksJ21_poll_3 8 rfl rfl)
abbrev cJ21_siftDownComparable : ByteArray := prog_48_method_31_code
def yJ21_siftDownComparable : MethodName := ⟨RJ21, "siftDownComparable", "(ILjava/lang/Object;[Ljava/lang/Object;I)V"⟩
def dkwJ21_siftDownComparable_4 : List UInt8 := [25, 4, 83, 177]
abbrev dktJ21_siftDownComparable_4 : List UInt8 := dkwJ21_siftDownComparable_4 ++ []
def dkwJ21_siftDownComparable_3 : List UInt8 := [185, 0, 146, 2, 0, 157, 0, 6, 167, 0, 14, 44, 26, 25, 7, 83, 21, 6, 59, 167, 255, 176, 44, 26]
abbrev dktJ21_siftDownComparable_3 : List UInt8 := dkwJ21_siftDownComparable_3 ++ dktJ21_siftDownComparable_4
def dkwJ21_siftDownComparable_2 : List UInt8 := [21, 8, 50, 185, 0, 146, 2, 0, 158, 0, 12, 44, 21, 8, 89, 54, 6, 50, 58, 7, 25, 4, 25, 7]
abbrev dktJ21_siftDownComparable_2 : List UInt8 := dkwJ21_siftDownComparable_2 ++ dktJ21_siftDownComparable_3
def dkwJ21_siftDownComparable_1 : List UInt8 := [44, 21, 6, 50, 58, 7, 21, 6, 4, 96, 54, 8, 21, 8, 29, 162, 0, 29, 25, 7, 192, 0, 144, 44]
abbrev dktJ21_siftDownComparable_1 : List UInt8 := dkwJ21_siftDownComparable_1 ++ dktJ21_siftDownComparable_2
def dkwJ21_siftDownComparable_0 : List UInt8 := [43, 192, 0, 144, 58, 4, 29, 4, 124, 54, 5, 26, 21, 5, 162, 0, 80, 26, 4, 120, 4, 96, 54, 6]
abbrev dktJ21_siftDownComparable_0 : List UInt8 := dkwJ21_siftDownComparable_0 ++ dktJ21_siftDownComparable_1
theorem dksJ21_siftDownComparable_0 : cJ21_siftDownComparable.data.toList.drop 0 = dktJ21_siftDownComparable_0 := by decide +kernel
theorem dksJ21_siftDownComparable_1 : cJ21_siftDownComparable.data.toList.drop 24 = dktJ21_siftDownComparable_1 := dk_seg dksJ21_siftDownComparable_0 24 rfl rfl
theorem dksJ21_siftDownComparable_2 : cJ21_siftDownComparable.data.toList.drop 48 = dktJ21_siftDownComparable_2 := dk_seg dksJ21_siftDownComparable_1 24 rfl rfl
theorem dksJ21_siftDownComparable_3 : cJ21_siftDownComparable.data.toList.drop 72 = dktJ21_siftDownComparable_3 := dk_seg dksJ21_siftDownComparable_2 24 rfl rfl
theorem dksJ21_siftDownComparable_4 : cJ21_siftDownComparable.data.toList.drop 96 = dktJ21_siftDownComparable_4 := dk_seg dksJ21_siftDownComparable_3 24 rfl rfl
theorem dJ21_siftDownComparable_0 : decode cJ21_siftDownComparable 0 = .ok (.aload_n 1, 1) := dk_43 (dk_at dksJ21_siftDownComparable_0 0 rfl rfl)
theorem dJ21_siftDownComparable_1 : decode cJ21_siftDownComparable 1 = .ok (.checkcast 144, 3) := dk_192 0 144 (dk_at dksJ21_siftDownComparable_0 1 rfl rfl)
theorem dJ21_siftDownComparable_4 : decode cJ21_siftDownComparable 4 = .ok (.astore 4, 2) := dk_58 4 (dk_at dksJ21_siftDownComparable_0 4 rfl rfl)
theorem dJ21_siftDownComparable_6 : decode cJ21_siftDownComparable 6 = .ok (.iload_n 3, 1) := dk_29 (dk_at dksJ21_siftDownComparable_0 6 rfl rfl)
theorem dJ21_siftDownComparable_7 : decode cJ21_siftDownComparable 7 = .ok (.iconst 1, 1) := dk_4 (dk_at dksJ21_siftDownComparable_0 7 rfl rfl)
theorem dJ21_siftDownComparable_8 : decode cJ21_siftDownComparable 8 = .ok (.iushr, 1) := dk_124 (dk_at dksJ21_siftDownComparable_0 8 rfl rfl)
theorem dJ21_siftDownComparable_9 : decode cJ21_siftDownComparable 9 = .ok (.istore 5, 2) := dk_54 5 (dk_at dksJ21_siftDownComparable_0 9 rfl rfl)
theorem dJ21_siftDownComparable_11 : decode cJ21_siftDownComparable 11 = .ok (.iload_n 0, 1) := dk_26 (dk_at dksJ21_siftDownComparable_0 11 rfl rfl)
theorem dJ21_siftDownComparable_12 : decode cJ21_siftDownComparable 12 = .ok (.iload 5, 2) := dk_21 5 (dk_at dksJ21_siftDownComparable_0 12 rfl rfl)
theorem dJ21_siftDownComparable_14 : decode cJ21_siftDownComparable 14 = .ok (.if_icmp .ge 80, 3) := dk_162 0 80 (dk_at dksJ21_siftDownComparable_0 14 rfl rfl)
theorem dJ21_siftDownComparable_17 : decode cJ21_siftDownComparable 17 = .ok (.iload_n 0, 1) := dk_26 (dk_at dksJ21_siftDownComparable_0 17 rfl rfl)
theorem dJ21_siftDownComparable_18 : decode cJ21_siftDownComparable 18 = .ok (.iconst 1, 1) := dk_4 (dk_at dksJ21_siftDownComparable_0 18 rfl rfl)
theorem dJ21_siftDownComparable_19 : decode cJ21_siftDownComparable 19 = .ok (.ishl, 1) := dk_120 (dk_at dksJ21_siftDownComparable_0 19 rfl rfl)
theorem dJ21_siftDownComparable_20 : decode cJ21_siftDownComparable 20 = .ok (.iconst 1, 1) := dk_4 (dk_at dksJ21_siftDownComparable_0 20 rfl rfl)
theorem dJ21_siftDownComparable_21 : decode cJ21_siftDownComparable 21 = .ok (.iadd, 1) := dk_96 (dk_at dksJ21_siftDownComparable_0 21 rfl rfl)
theorem dJ21_siftDownComparable_22 : decode cJ21_siftDownComparable 22 = .ok (.istore 6, 2) := dk_54 6 (dk_at dksJ21_siftDownComparable_0 22 rfl rfl)
theorem dJ21_siftDownComparable_24 : decode cJ21_siftDownComparable 24 = .ok (.aload_n 2, 1) := dk_44 (dk_at dksJ21_siftDownComparable_1 0 rfl rfl)
theorem dJ21_siftDownComparable_25 : decode cJ21_siftDownComparable 25 = .ok (.iload 6, 2) := dk_21 6 (dk_at dksJ21_siftDownComparable_1 1 rfl rfl)
theorem dJ21_siftDownComparable_27 : decode cJ21_siftDownComparable 27 = .ok (.aaload, 1) := dk_50 (dk_at dksJ21_siftDownComparable_1 3 rfl rfl)
theorem dJ21_siftDownComparable_28 : decode cJ21_siftDownComparable 28 = .ok (.astore 7, 2) := dk_58 7 (dk_at dksJ21_siftDownComparable_1 4 rfl rfl)
theorem dJ21_siftDownComparable_30 : decode cJ21_siftDownComparable 30 = .ok (.iload 6, 2) := dk_21 6 (dk_at dksJ21_siftDownComparable_1 6 rfl rfl)
theorem dJ21_siftDownComparable_32 : decode cJ21_siftDownComparable 32 = .ok (.iconst 1, 1) := dk_4 (dk_at dksJ21_siftDownComparable_1 8 rfl rfl)
theorem dJ21_siftDownComparable_33 : decode cJ21_siftDownComparable 33 = .ok (.iadd, 1) := dk_96 (dk_at dksJ21_siftDownComparable_1 9 rfl rfl)
theorem dJ21_siftDownComparable_34 : decode cJ21_siftDownComparable 34 = .ok (.istore 8, 2) := dk_54 8 (dk_at dksJ21_siftDownComparable_1 10 rfl rfl)
theorem dJ21_siftDownComparable_36 : decode cJ21_siftDownComparable 36 = .ok (.iload 8, 2) := dk_21 8 (dk_at dksJ21_siftDownComparable_1 12 rfl rfl)
theorem dJ21_siftDownComparable_38 : decode cJ21_siftDownComparable 38 = .ok (.iload_n 3, 1) := dk_29 (dk_at dksJ21_siftDownComparable_1 14 rfl rfl)
theorem dJ21_siftDownComparable_39 : decode cJ21_siftDownComparable 39 = .ok (.if_icmp .ge 29, 3) := dk_162 0 29 (dk_at dksJ21_siftDownComparable_1 15 rfl rfl)
theorem dJ21_siftDownComparable_42 : decode cJ21_siftDownComparable 42 = .ok (.aload 7, 2) := dk_25 7 (dk_at dksJ21_siftDownComparable_1 18 rfl rfl)
theorem dJ21_siftDownComparable_44 : decode cJ21_siftDownComparable 44 = .ok (.checkcast 144, 3) := dk_192 0 144 (dk_at dksJ21_siftDownComparable_1 20 rfl rfl)
theorem dJ21_siftDownComparable_47 : decode cJ21_siftDownComparable 47 = .ok (.aload_n 2, 1) := dk_44 (dk_at dksJ21_siftDownComparable_1 23 rfl rfl)
theorem dJ21_siftDownComparable_48 : decode cJ21_siftDownComparable 48 = .ok (.iload 8, 2) := dk_21 8 (dk_at dksJ21_siftDownComparable_2 0 rfl rfl)
theorem dJ21_siftDownComparable_50 : decode cJ21_siftDownComparable 50 = .ok (.aaload, 1) := dk_50 (dk_at dksJ21_siftDownComparable_2 2 rfl rfl)
theorem dJ21_siftDownComparable_51 : decode cJ21_siftDownComparable 51 = .ok (.invokeinterface 146 2, 5) := by decide +kernel
theorem dJ21_siftDownComparable_56 : decode cJ21_siftDownComparable 56 = .ok (.ifCond .le 12, 3) := dk_158 0 12 (dk_at dksJ21_siftDownComparable_2 8 rfl rfl)
theorem dJ21_siftDownComparable_59 : decode cJ21_siftDownComparable 59 = .ok (.aload_n 2, 1) := dk_44 (dk_at dksJ21_siftDownComparable_2 11 rfl rfl)
theorem dJ21_siftDownComparable_60 : decode cJ21_siftDownComparable 60 = .ok (.iload 8, 2) := dk_21 8 (dk_at dksJ21_siftDownComparable_2 12 rfl rfl)
theorem dJ21_siftDownComparable_62 : decode cJ21_siftDownComparable 62 = .ok (.dup, 1) := dk_89 (dk_at dksJ21_siftDownComparable_2 14 rfl rfl)
theorem dJ21_siftDownComparable_63 : decode cJ21_siftDownComparable 63 = .ok (.istore 6, 2) := dk_54 6 (dk_at dksJ21_siftDownComparable_2 15 rfl rfl)
theorem dJ21_siftDownComparable_65 : decode cJ21_siftDownComparable 65 = .ok (.aaload, 1) := dk_50 (dk_at dksJ21_siftDownComparable_2 17 rfl rfl)
theorem dJ21_siftDownComparable_66 : decode cJ21_siftDownComparable 66 = .ok (.astore 7, 2) := dk_58 7 (dk_at dksJ21_siftDownComparable_2 18 rfl rfl)
theorem dJ21_siftDownComparable_68 : decode cJ21_siftDownComparable 68 = .ok (.aload 4, 2) := dk_25 4 (dk_at dksJ21_siftDownComparable_2 20 rfl rfl)
theorem dJ21_siftDownComparable_70 : decode cJ21_siftDownComparable 70 = .ok (.aload 7, 2) := dk_25 7 (dk_at dksJ21_siftDownComparable_2 22 rfl rfl)
theorem dJ21_siftDownComparable_72 : decode cJ21_siftDownComparable 72 = .ok (.invokeinterface 146 2, 5) := by decide +kernel
theorem dJ21_siftDownComparable_77 : decode cJ21_siftDownComparable 77 = .ok (.ifCond .gt 6, 3) := dk_157 0 6 (dk_at dksJ21_siftDownComparable_3 5 rfl rfl)
theorem dJ21_siftDownComparable_80 : decode cJ21_siftDownComparable 80 = .ok (.goto 14, 3) := dk_167 0 14 (dk_at dksJ21_siftDownComparable_3 8 rfl rfl)
theorem dJ21_siftDownComparable_83 : decode cJ21_siftDownComparable 83 = .ok (.aload_n 2, 1) := dk_44 (dk_at dksJ21_siftDownComparable_3 11 rfl rfl)
theorem dJ21_siftDownComparable_84 : decode cJ21_siftDownComparable 84 = .ok (.iload_n 0, 1) := dk_26 (dk_at dksJ21_siftDownComparable_3 12 rfl rfl)
theorem dJ21_siftDownComparable_85 : decode cJ21_siftDownComparable 85 = .ok (.aload 7, 2) := dk_25 7 (dk_at dksJ21_siftDownComparable_3 13 rfl rfl)
theorem dJ21_siftDownComparable_87 : decode cJ21_siftDownComparable 87 = .ok (.aastore, 1) := dk_83 (dk_at dksJ21_siftDownComparable_3 15 rfl rfl)
theorem dJ21_siftDownComparable_88 : decode cJ21_siftDownComparable 88 = .ok (.iload 6, 2) := dk_21 6 (dk_at dksJ21_siftDownComparable_3 16 rfl rfl)
theorem dJ21_siftDownComparable_90 : decode cJ21_siftDownComparable 90 = .ok (.istore_n 0, 1) := dk_59 (dk_at dksJ21_siftDownComparable_3 18 rfl rfl)
theorem dJ21_siftDownComparable_91 : decode cJ21_siftDownComparable 91 = .ok (.goto (-80), 3) := dk_167 255 176 (dk_at dksJ21_siftDownComparable_3 19 rfl rfl)
theorem dJ21_siftDownComparable_94 : decode cJ21_siftDownComparable 94 = .ok (.aload_n 2, 1) := dk_44 (dk_at dksJ21_siftDownComparable_3 22 rfl rfl)
theorem dJ21_siftDownComparable_95 : decode cJ21_siftDownComparable 95 = .ok (.iload_n 0, 1) := dk_26 (dk_at dksJ21_siftDownComparable_3 23 rfl rfl)
theorem dJ21_siftDownComparable_96 : decode cJ21_siftDownComparable 96 = .ok (.aload 4, 2) := dk_25 4 (dk_at dksJ21_siftDownComparable_4 0 rfl rfl)
theorem dJ21_siftDownComparable_98 : decode cJ21_siftDownComparable 98 = .ok (.aastore, 1) := dk_83 (dk_at dksJ21_siftDownComparable_4 2 rfl rfl)
theorem dJ21_siftDownComparable_99 : decode cJ21_siftDownComparable 99 = .ok (.return_, 1) := dk_177 (dk_at dksJ21_siftDownComparable_4 3 rfl rfl)
abbrev cJ21_siftDownUsingComparator : ByteArray := prog_48_method_32_code
def yJ21_siftDownUsingComparator : MethodName := ⟨RJ21, "siftDownUsingComparator", "(ILjava/lang/Object;[Ljava/lang/Object;ILjava/util/Comparator;)V"⟩
def dkwJ21_siftDownUsingComparator_4 : List UInt8 := [43, 83, 177]
abbrev dktJ21_siftDownUsingComparator_4 : List UInt8 := dkwJ21_siftDownUsingComparator_4 ++ []
def dkwJ21_siftDownUsingComparator_3 : List UInt8 := [185, 0, 149, 3, 0, 157, 0, 6, 167, 0, 14, 44, 26, 25, 7, 83, 21, 6, 59, 167, 255, 176, 44, 26]
abbrev dktJ21_siftDownUsingComparator_3 : List UInt8 := dkwJ21_siftDownUsingComparator_3 ++ dktJ21_siftDownUsingComparator_4
def dkwJ21_siftDownUsingComparator_2 : List UInt8 := [185, 0, 149, 3, 0, 158, 0, 12, 44, 21, 8, 89, 54, 6, 50, 58, 7, 25, 4, 43, 25, 7]
abbrev dktJ21_siftDownUsingComparator_2 : List UInt8 := dkwJ21_siftDownUsingComparator_2 ++ dktJ21_siftDownUsingComparator_3
def dkwJ21_siftDownUsingComparator_1 : List UInt8 := [21, 6, 4, 96, 54, 8, 21, 8, 29, 162, 0, 28, 25, 4, 25, 7, 44, 21, 8, 50]
abbrev dktJ21_siftDownUsingComparator_1 : List UInt8 := dkwJ21_siftDownUsingComparator_1 ++ dktJ21_siftDownUsingComparator_2
def dkwJ21_siftDownUsingComparator_0 : List UInt8 := [29, 4, 124, 54, 5, 26, 21, 5, 162, 0, 80, 26, 4, 120, 4, 96, 54, 6, 44, 21, 6, 50, 58, 7]
abbrev dktJ21_siftDownUsingComparator_0 : List UInt8 := dkwJ21_siftDownUsingComparator_0 ++ dktJ21_siftDownUsingComparator_1
theorem dksJ21_siftDownUsingComparator_0 : cJ21_siftDownUsingComparator.data.toList.drop 0 = dktJ21_siftDownUsingComparator_0 := by decide +kernel
theorem dksJ21_siftDownUsingComparator_1 : cJ21_siftDownUsingComparator.data.toList.drop 24 = dktJ21_siftDownUsingComparator_1 := dk_seg dksJ21_siftDownUsingComparator_0 24 rfl rfl
theorem dksJ21_siftDownUsingComparator_2 : cJ21_siftDownUsingComparator.data.toList.drop 44 = dktJ21_siftDownUsingComparator_2 := dk_seg dksJ21_siftDownUsingComparator_1 20 rfl rfl
theorem dksJ21_siftDownUsingComparator_3 : cJ21_siftDownUsingComparator.data.toList.drop 66 = dktJ21_siftDownUsingComparator_3 := dk_seg dksJ21_siftDownUsingComparator_2 22 rfl rfl
theorem dksJ21_siftDownUsingComparator_4 : cJ21_siftDownUsingComparator.data.toList.drop 90 = dktJ21_siftDownUsingComparator_4 := dk_seg dksJ21_siftDownUsingComparator_3 24 rfl rfl
theorem dJ21_siftDownUsingComparator_0 : decode cJ21_siftDownUsingComparator 0 = .ok (.iload_n 3, 1) := dk_29 (dk_at dksJ21_siftDownUsingComparator_0 0 rfl rfl)
theorem dJ21_siftDownUsingComparator_1 : decode cJ21_siftDownUsingComparator 1 = .ok (.iconst 1, 1) := dk_4 (dk_at dksJ21_siftDownUsingComparator_0 1 rfl rfl)
theorem dJ21_siftDownUsingComparator_2 : decode cJ21_siftDownUsingComparator 2 = .ok (.iushr, 1) := dk_124 (dk_at dksJ21_siftDownUsingComparator_0 2 rfl rfl)
theorem dJ21_siftDownUsingComparator_3 : decode cJ21_siftDownUsingComparator 3 = .ok (.istore 5, 2) := dk_54 5 (dk_at dksJ21_siftDownUsingComparator_0 3 rfl rfl)
theorem dJ21_siftDownUsingComparator_5 : decode cJ21_siftDownUsingComparator 5 = .ok (.iload_n 0, 1) := dk_26 (dk_at dksJ21_siftDownUsingComparator_0 5 rfl rfl)
theorem dJ21_siftDownUsingComparator_6 : decode cJ21_siftDownUsingComparator 6 = .ok (.iload 5, 2) := dk_21 5 (dk_at dksJ21_siftDownUsingComparator_0 6 rfl rfl)
theorem dJ21_siftDownUsingComparator_8 : decode cJ21_siftDownUsingComparator 8 = .ok (.if_icmp .ge 80, 3) := dk_162 0 80 (dk_at dksJ21_siftDownUsingComparator_0 8 rfl rfl)
theorem dJ21_siftDownUsingComparator_11 : decode cJ21_siftDownUsingComparator 11 = .ok (.iload_n 0, 1) := dk_26 (dk_at dksJ21_siftDownUsingComparator_0 11 rfl rfl)
theorem dJ21_siftDownUsingComparator_12 : decode cJ21_siftDownUsingComparator 12 = .ok (.iconst 1, 1) := dk_4 (dk_at dksJ21_siftDownUsingComparator_0 12 rfl rfl)
theorem dJ21_siftDownUsingComparator_13 : decode cJ21_siftDownUsingComparator 13 = .ok (.ishl, 1) := dk_120 (dk_at dksJ21_siftDownUsingComparator_0 13 rfl rfl)
theorem dJ21_siftDownUsingComparator_14 : decode cJ21_siftDownUsingComparator 14 = .ok (.iconst 1, 1) := dk_4 (dk_at dksJ21_siftDownUsingComparator_0 14 rfl rfl)
theorem dJ21_siftDownUsingComparator_15 : decode cJ21_siftDownUsingComparator 15 = .ok (.iadd, 1) := dk_96 (dk_at dksJ21_siftDownUsingComparator_0 15 rfl rfl)
theorem dJ21_siftDownUsingComparator_16 : decode cJ21_siftDownUsingComparator 16 = .ok (.istore 6, 2) := dk_54 6 (dk_at dksJ21_siftDownUsingComparator_0 16 rfl rfl)
theorem dJ21_siftDownUsingComparator_18 : decode cJ21_siftDownUsingComparator 18 = .ok (.aload_n 2, 1) := dk_44 (dk_at dksJ21_siftDownUsingComparator_0 18 rfl rfl)
theorem dJ21_siftDownUsingComparator_19 : decode cJ21_siftDownUsingComparator 19 = .ok (.iload 6, 2) := dk_21 6 (dk_at dksJ21_siftDownUsingComparator_0 19 rfl rfl)
theorem dJ21_siftDownUsingComparator_21 : decode cJ21_siftDownUsingComparator 21 = .ok (.aaload, 1) := dk_50 (dk_at dksJ21_siftDownUsingComparator_0 21 rfl rfl)
theorem dJ21_siftDownUsingComparator_22 : decode cJ21_siftDownUsingComparator 22 = .ok (.astore 7, 2) := dk_58 7 (dk_at dksJ21_siftDownUsingComparator_0 22 rfl rfl)
theorem dJ21_siftDownUsingComparator_24 : decode cJ21_siftDownUsingComparator 24 = .ok (.iload 6, 2) := dk_21 6 (dk_at dksJ21_siftDownUsingComparator_1 0 rfl rfl)
theorem dJ21_siftDownUsingComparator_26 : decode cJ21_siftDownUsingComparator 26 = .ok (.iconst 1, 1) := dk_4 (dk_at dksJ21_siftDownUsingComparator_1 2 rfl rfl)
theorem dJ21_siftDownUsingComparator_27 : decode cJ21_siftDownUsingComparator 27 = .ok (.iadd, 1) := dk_96 (dk_at dksJ21_siftDownUsingComparator_1 3 rfl rfl)
theorem dJ21_siftDownUsingComparator_28 : decode cJ21_siftDownUsingComparator 28 = .ok (.istore 8, 2) := dk_54 8 (dk_at dksJ21_siftDownUsingComparator_1 4 rfl rfl)
theorem dJ21_siftDownUsingComparator_30 : decode cJ21_siftDownUsingComparator 30 = .ok (.iload 8, 2) := dk_21 8 (dk_at dksJ21_siftDownUsingComparator_1 6 rfl rfl)
theorem dJ21_siftDownUsingComparator_32 : decode cJ21_siftDownUsingComparator 32 = .ok (.iload_n 3, 1) := dk_29 (dk_at dksJ21_siftDownUsingComparator_1 8 rfl rfl)
theorem dJ21_siftDownUsingComparator_33 : decode cJ21_siftDownUsingComparator 33 = .ok (.if_icmp .ge 28, 3) := dk_162 0 28 (dk_at dksJ21_siftDownUsingComparator_1 9 rfl rfl)
theorem dJ21_siftDownUsingComparator_36 : decode cJ21_siftDownUsingComparator 36 = .ok (.aload 4, 2) := dk_25 4 (dk_at dksJ21_siftDownUsingComparator_1 12 rfl rfl)
theorem dJ21_siftDownUsingComparator_38 : decode cJ21_siftDownUsingComparator 38 = .ok (.aload 7, 2) := dk_25 7 (dk_at dksJ21_siftDownUsingComparator_1 14 rfl rfl)
theorem dJ21_siftDownUsingComparator_40 : decode cJ21_siftDownUsingComparator 40 = .ok (.aload_n 2, 1) := dk_44 (dk_at dksJ21_siftDownUsingComparator_1 16 rfl rfl)
theorem dJ21_siftDownUsingComparator_41 : decode cJ21_siftDownUsingComparator 41 = .ok (.iload 8, 2) := dk_21 8 (dk_at dksJ21_siftDownUsingComparator_1 17 rfl rfl)
theorem dJ21_siftDownUsingComparator_43 : decode cJ21_siftDownUsingComparator 43 = .ok (.aaload, 1) := dk_50 (dk_at dksJ21_siftDownUsingComparator_1 19 rfl rfl)
theorem dJ21_siftDownUsingComparator_44 : decode cJ21_siftDownUsingComparator 44 = .ok (.invokeinterface 149 3, 5) := by decide +kernel
theorem dJ21_siftDownUsingComparator_49 : decode cJ21_siftDownUsingComparator 49 = .ok (.ifCond .le 12, 3) := dk_158 0 12 (dk_at dksJ21_siftDownUsingComparator_2 5 rfl rfl)
theorem dJ21_siftDownUsingComparator_52 : decode cJ21_siftDownUsingComparator 52 = .ok (.aload_n 2, 1) := dk_44 (dk_at dksJ21_siftDownUsingComparator_2 8 rfl rfl)
theorem dJ21_siftDownUsingComparator_53 : decode cJ21_siftDownUsingComparator 53 = .ok (.iload 8, 2) := dk_21 8 (dk_at dksJ21_siftDownUsingComparator_2 9 rfl rfl)
theorem dJ21_siftDownUsingComparator_55 : decode cJ21_siftDownUsingComparator 55 = .ok (.dup, 1) := dk_89 (dk_at dksJ21_siftDownUsingComparator_2 11 rfl rfl)
theorem dJ21_siftDownUsingComparator_56 : decode cJ21_siftDownUsingComparator 56 = .ok (.istore 6, 2) := dk_54 6 (dk_at dksJ21_siftDownUsingComparator_2 12 rfl rfl)
theorem dJ21_siftDownUsingComparator_58 : decode cJ21_siftDownUsingComparator 58 = .ok (.aaload, 1) := dk_50 (dk_at dksJ21_siftDownUsingComparator_2 14 rfl rfl)
theorem dJ21_siftDownUsingComparator_59 : decode cJ21_siftDownUsingComparator 59 = .ok (.astore 7, 2) := dk_58 7 (dk_at dksJ21_siftDownUsingComparator_2 15 rfl rfl)
theorem dJ21_siftDownUsingComparator_61 : decode cJ21_siftDownUsingComparator 61 = .ok (.aload 4, 2) := dk_25 4 (dk_at dksJ21_siftDownUsingComparator_2 17 rfl rfl)
theorem dJ21_siftDownUsingComparator_63 : decode cJ21_siftDownUsingComparator 63 = .ok (.aload_n 1, 1) := dk_43 (dk_at dksJ21_siftDownUsingComparator_2 19 rfl rfl)
theorem dJ21_siftDownUsingComparator_64 : decode cJ21_siftDownUsingComparator 64 = .ok (.aload 7, 2) := dk_25 7 (dk_at dksJ21_siftDownUsingComparator_2 20 rfl rfl)
theorem dJ21_siftDownUsingComparator_66 : decode cJ21_siftDownUsingComparator 66 = .ok (.invokeinterface 149 3, 5) := by decide +kernel
theorem dJ21_siftDownUsingComparator_71 : decode cJ21_siftDownUsingComparator 71 = .ok (.ifCond .gt 6, 3) := dk_157 0 6 (dk_at dksJ21_siftDownUsingComparator_3 5 rfl rfl)
theorem dJ21_siftDownUsingComparator_74 : decode cJ21_siftDownUsingComparator 74 = .ok (.goto 14, 3) := dk_167 0 14 (dk_at dksJ21_siftDownUsingComparator_3 8 rfl rfl)
theorem dJ21_siftDownUsingComparator_77 : decode cJ21_siftDownUsingComparator 77 = .ok (.aload_n 2, 1) := dk_44 (dk_at dksJ21_siftDownUsingComparator_3 11 rfl rfl)
theorem dJ21_siftDownUsingComparator_78 : decode cJ21_siftDownUsingComparator 78 = .ok (.iload_n 0, 1) := dk_26 (dk_at dksJ21_siftDownUsingComparator_3 12 rfl rfl)
theorem dJ21_siftDownUsingComparator_79 : decode cJ21_siftDownUsingComparator 79 = .ok (.aload 7, 2) := dk_25 7 (dk_at dksJ21_siftDownUsingComparator_3 13 rfl rfl)
theorem dJ21_siftDownUsingComparator_81 : decode cJ21_siftDownUsingComparator 81 = .ok (.aastore, 1) := dk_83 (dk_at dksJ21_siftDownUsingComparator_3 15 rfl rfl)
theorem dJ21_siftDownUsingComparator_82 : decode cJ21_siftDownUsingComparator 82 = .ok (.iload 6, 2) := dk_21 6 (dk_at dksJ21_siftDownUsingComparator_3 16 rfl rfl)
theorem dJ21_siftDownUsingComparator_84 : decode cJ21_siftDownUsingComparator 84 = .ok (.istore_n 0, 1) := dk_59 (dk_at dksJ21_siftDownUsingComparator_3 18 rfl rfl)
theorem dJ21_siftDownUsingComparator_85 : decode cJ21_siftDownUsingComparator 85 = .ok (.goto (-80), 3) := dk_167 255 176 (dk_at dksJ21_siftDownUsingComparator_3 19 rfl rfl)
theorem dJ21_siftDownUsingComparator_88 : decode cJ21_siftDownUsingComparator 88 = .ok (.aload_n 2, 1) := dk_44 (dk_at dksJ21_siftDownUsingComparator_3 22 rfl rfl)
theorem dJ21_siftDownUsingComparator_89 : decode cJ21_siftDownUsingComparator 89 = .ok (.iload_n 0, 1) := dk_26 (dk_at dksJ21_siftDownUsingComparator_3 23 rfl rfl)
theorem dJ21_siftDownUsingComparator_90 : decode cJ21_siftDownUsingComparator 90 = .ok (.aload_n 1, 1) := dk_43 (dk_at dksJ21_siftDownUsingComparator_4 0 rfl rfl)
theorem dJ21_siftDownUsingComparator_91 : decode cJ21_siftDownUsingComparator 91 = .ok (.aastore, 1) := dk_83 (dk_at dksJ21_siftDownUsingComparator_4 1 rfl rfl)
theorem dJ21_siftDownUsingComparator_92 : decode cJ21_siftDownUsingComparator 92 = .ok (.return_, 1) := dk_177 (dk_at dksJ21_siftDownUsingComparator_4 2 rfl rfl)
abbrev cJ21_init_3 : ByteArray := prog_48_method_3_code
def yJ21_init_3 : MethodName := ⟨RJ21, "<init>", "(Ljava/util/Comparator;)V"⟩
def dkwJ21_init_3_0 : List UInt8 := [42, 16, 11, 43, 183, 0, 3, 177]
abbrev dktJ21_init_3_0 : List UInt8 := dkwJ21_init_3_0 ++ []
theorem dksJ21_init_3_0 : cJ21_init_3.data.toList.drop 0 = dktJ21_init_3_0 := by decide +kernel
theorem dJ21_init_3_0 : decode cJ21_init_3 0 = .ok (.aload_n 0, 1) := dk_42 (dk_at dksJ21_init_3_0 0 rfl rfl)
theorem dJ21_init_3_1 : decode cJ21_init_3 1 = .ok (.bipush 11, 2) := dk_16 11 (dk_at dksJ21_init_3_0 1 rfl rfl)
theorem dJ21_init_3_3 : decode cJ21_init_3 3 = .ok (.aload_n 1, 1) := dk_43 (dk_at dksJ21_init_3_0 3 rfl rfl)
theorem dJ21_init_3_4 : decode cJ21_init_3 4 = .ok (.invokespecial 3, 3) := dk_183 0 3 (dk_at dksJ21_init_3_0 4 rfl rfl)
theorem dJ21_init_3_7 : decode cJ21_init_3 7 = .ok (.return_, 1) := dk_177 (dk_at dksJ21_init_3_0 7 rfl rfl)
abbrev cJ21_size : ByteArray := prog_48_method_23_code
def yJ21_size : MethodName := ⟨RJ21, "size", "()I"⟩
theorem dJ21_size_0 : decode cJ21_size 0 = .ok (.aload_n 0, 1) := by decide +kernel
theorem dJ21_size_1 : decode cJ21_size 1 = .ok (.getfield 58, 3) := by decide +kernel
theorem dJ21_size_4 : decode cJ21_size 4 = .ok (.ireturn, 1) := by decide +kernel
abbrev cJ21_peek : ByteArray := prog_48_method_15_code
def yJ21_peek : MethodName := ⟨RJ21, "peek", "()Ljava/lang/Object;"⟩
def dkwJ21_peek_0 : List UInt8 := [42, 180, 0, 17, 3, 50, 176]
abbrev dktJ21_peek_0 : List UInt8 := dkwJ21_peek_0 ++ []
theorem dksJ21_peek_0 : cJ21_peek.data.toList.drop 0 = dktJ21_peek_0 := by decide +kernel
theorem dJ21_peek_0 : decode cJ21_peek 0 = .ok (.aload_n 0, 1) := dk_42 (dk_at dksJ21_peek_0 0 rfl rfl)
theorem dJ21_peek_1 : decode cJ21_peek 1 = .ok (.getfield 17, 3) := dk_180 0 17 (dk_at dksJ21_peek_0 1 rfl rfl)
theorem dJ21_peek_4 : decode cJ21_peek 4 = .ok (.iconst 0, 1) := dk_3 (dk_at dksJ21_peek_0 4 rfl rfl)
theorem dJ21_peek_5 : decode cJ21_peek 5 = .ok (.aaload, 1) := dk_50 (dk_at dksJ21_peek_0 5 rfl rfl)
theorem dJ21_peek_6 : decode cJ21_peek 6 = .ok (.areturn, 1) := dk_176 (dk_at dksJ21_peek_0 6 rfl rfl)
theorem q146 : (Jvm.Cond.initialized "java/util/PriorityQueue") ∈ lw_all := lw_g (lw_at lw_m1 39 rfl) rfl
theorem q888 : (Jvm.Cond.selects "java/util/PriorityQueue" ({ cls := "java/lang/Object", name := "getClass", desc := "()Ljava/lang/Class;" } : Jvm.MethodName) ({ cls := "java/lang/Object", name := "getClass", desc := "()Ljava/lang/Class;" } : Jvm.MethodName)) ∈ lw_all := lw_g (lw_at lw_m4 61 rfl) rfl
theorem q1662 : (Jvm.Cond.instantiable "java/util/PriorityQueue" (4 : Nat)) ∈ lw_all := lw_g (lw_at lw_m7 115 rfl) rfl
theorem q1664 : (Jvm.Cond.instanceMethod ({ cls := "java/util/PriorityQueue", name := "<init>", desc := "()V" } : Jvm.MethodName)) ∈ lw_all := lw_g (lw_at lw_m7 117 rfl) rfl
theorem q1665 : (Jvm.Cond.code ({ cls := "java/util/PriorityQueue", name := "<init>", desc := "()V" } : Jvm.MethodName) prog_48_method_1_code (1 : Nat) (Option.none : Option Jvm.ClassFile.FieldType)) ∈ lw_all := lw_g (lw_at lw_m7 118 rfl) rfl
theorem q1666 : (Jvm.Cond.methodLink "java/util/PriorityQueue" (3 : Nat) ({ cls := "java/util/PriorityQueue", name := "<init>", desc := "(ILjava/util/Comparator;)V" } : Jvm.MethodName)) ∈ lw_all := lw_g (lw_at lw_m7 119 rfl) rfl
theorem q1667 : (Jvm.Cond.instanceMethod ({ cls := "java/util/PriorityQueue", name := "<init>", desc := "(ILjava/util/Comparator;)V" } : Jvm.MethodName)) ∈ lw_all := lw_g (lw_at lw_m7 120 rfl) rfl
theorem q1668 : (Jvm.Cond.code ({ cls := "java/util/PriorityQueue", name := "<init>", desc := "(ILjava/util/Comparator;)V" } : Jvm.MethodName) prog_48_method_4_code (3 : Nat) (Option.none : Option Jvm.ClassFile.FieldType)) ∈ lw_all := lw_g (lw_at lw_m7 121 rfl) rfl
theorem q1669 : (Jvm.Cond.methodLink "java/util/PriorityQueue" (7 : Nat) ({ cls := "java/util/AbstractQueue", name := "<init>", desc := "()V" } : Jvm.MethodName)) ∈ lw_all := lw_g (lw_at lw_m7 122 rfl) rfl
theorem q1673 : (Jvm.Cond.classLink "java/util/PriorityQueue" (15 : Nat) "java/lang/Object") ∈ lw_all := lw_g (lw_at lw_m7 126 rfl) rfl
theorem q1674 : (Jvm.Cond.fieldLink "java/util/PriorityQueue" (17 : Nat) "java/util/PriorityQueue" "queue" "[Ljava/lang/Object;") ∈ lw_all := lw_g (lw_at lw_m7 127 rfl) rfl
theorem q1675 : (Jvm.Cond.fieldLink "java/util/PriorityQueue" (58 : Nat) "java/util/PriorityQueue" "size" "I") ∈ lw_all := lw_g (lw_at lw_m7 128 rfl) rfl
theorem q1676 : (Jvm.Cond.fieldLink "java/util/PriorityQueue" (21 : Nat) "java/util/PriorityQueue" "comparator" "Ljava/util/Comparator;") ∈ lw_all := lw_g (lw_at lw_m7 129 rfl) rfl
theorem q1677 : (Jvm.Cond.fieldLink "java/util/PriorityQueue" (93 : Nat) "java/util/PriorityQueue" "modCount" "I") ∈ lw_all := lw_g (lw_at lw_m7 130 rfl) rfl
theorem q1678 : (Jvm.Cond.lays "java/util/PriorityQueue" "java/util/PriorityQueue" "queue" "[Ljava/lang/Object;") ∈ lw_all := lw_g (lw_at lw_m7 131 rfl) rfl
theorem q1679 : (Jvm.Cond.soleField "java/util/PriorityQueue" "queue") ∈ lw_all := lw_g (lw_at lw_m7 132 rfl) rfl
theorem q1680 : (Jvm.Cond.lays "java/util/PriorityQueue" "java/util/PriorityQueue" "size" "I") ∈ lw_all := lw_g (lw_at lw_m7 133 rfl) rfl
theorem q1681 : (Jvm.Cond.soleField "java/util/PriorityQueue" "size") ∈ lw_all := lw_g (lw_at lw_m7 134 rfl) rfl
theorem q1682 : (Jvm.Cond.laysFinal "java/util/PriorityQueue" "java/util/PriorityQueue" "comparator" "Ljava/util/Comparator;") ∈ lw_all := lw_g (lw_at lw_m7 135 rfl) rfl
theorem q1683 : (Jvm.Cond.soleField "java/util/PriorityQueue" "comparator") ∈ lw_all := lw_g (lw_at lw_m7 136 rfl) rfl
theorem q1684 : (Jvm.Cond.lays "java/util/PriorityQueue" "java/util/PriorityQueue" "modCount" "I") ∈ lw_all := lw_g (lw_at lw_m7 137 rfl) rfl
theorem q1685 : (Jvm.Cond.soleField "java/util/PriorityQueue" "modCount") ∈ lw_all := lw_g (lw_at lw_m7 138 rfl) rfl
theorem q1686 : (Jvm.Cond.superclass "java/util/PriorityQueue" "java/util/AbstractQueue") ∈ lw_all := lw_g (lw_at lw_m7 139 rfl) rfl
theorem q1704 : (Jvm.Cond.instanceMethod ({ cls := "java/util/PriorityQueue", name := "add", desc := "(Ljava/lang/Object;)Z" } : Jvm.MethodName)) ∈ lw_all := lw_g (lw_at lw_m7 157 rfl) rfl
theorem q1705 : (Jvm.Cond.selects "java/util/PriorityQueue" ({ cls := "java/util/PriorityQueue", name := "add", desc := "(Ljava/lang/Object;)Z" } : Jvm.MethodName) ({ cls := "java/util/PriorityQueue", name := "add", desc := "(Ljava/lang/Object;)Z" } : Jvm.MethodName)) ∈ lw_all := lw_g (lw_at lw_m7 158 rfl) rfl
theorem q1706 : (Jvm.Cond.code ({ cls := "java/util/PriorityQueue", name := "add", desc := "(Ljava/lang/Object;)Z" } : Jvm.MethodName) prog_48_method_13_code (2 : Nat) (Option.some Jvm.ClassFile.FieldType.boolean)) ∈ lw_all := lw_g (lw_at lw_m7 159 rfl) rfl
theorem q1707 : (Jvm.Cond.methodLink "java/util/PriorityQueue" (89 : Nat) ({ cls := "java/util/PriorityQueue", name := "offer", desc := "(Ljava/lang/Object;)Z" } : Jvm.MethodName)) ∈ lw_all := lw_g (lw_at lw_m7 160 rfl) rfl
theorem q1708 : (Jvm.Cond.instanceMethod ({ cls := "java/util/PriorityQueue", name := "offer", desc := "(Ljava/lang/Object;)Z" } : Jvm.MethodName)) ∈ lw_all := lw_g (lw_at lw_m7 161 rfl) rfl
theorem q1709 : (Jvm.Cond.selects "java/util/PriorityQueue" ({ cls := "java/util/PriorityQueue", name := "offer", desc := "(Ljava/lang/Object;)Z" } : Jvm.MethodName) ({ cls := "java/util/PriorityQueue", name := "offer", desc := "(Ljava/lang/Object;)Z" } : Jvm.MethodName)) ∈ lw_all := lw_g (lw_at lw_m7 162 rfl) rfl
theorem q1710 : (Jvm.Cond.code ({ cls := "java/util/PriorityQueue", name := "offer", desc := "(Ljava/lang/Object;)Z" } : Jvm.MethodName) prog_48_method_14_code (3 : Nat) (Option.some Jvm.ClassFile.FieldType.boolean)) ∈ lw_all := lw_g (lw_at lw_m7 163 rfl) rfl
theorem q1711 : (Jvm.Cond.methodLink "java/util/PriorityQueue" (96 : Nat) ({ cls := "java/util/PriorityQueue", name := "grow", desc := "(I)V" } : Jvm.MethodName)) ∈ lw_all := lw_g (lw_at lw_m7 164 rfl) rfl
theorem q1712 : (Jvm.Cond.privateMethod ({ cls := "java/util/PriorityQueue", name := "grow", desc := "(I)V" } : Jvm.MethodName)) ∈ lw_tbl := lw_at lw_m7 165 rfl
theorem q1713 : (Jvm.Cond.instanceMethod ({ cls := "java/util/PriorityQueue", name := "grow", desc := "(I)V" } : Jvm.MethodName)) ∈ lw_all := lw_g (lw_at lw_m7 166 rfl) rfl
theorem q1714 : (Jvm.Cond.code ({ cls := "java/util/PriorityQueue", name := "grow", desc := "(I)V" } : Jvm.MethodName) prog_48_method_12_code (4 : Nat) (Option.none : Option Jvm.ClassFile.FieldType)) ∈ lw_all := lw_g (lw_at lw_m7 167 rfl) rfl
theorem q1715 : (Jvm.Cond.methodLink "java/util/PriorityQueue" (80 : Nat) ({ cls := "jdk/internal/util/ArraysSupport", name := "newLength", desc := "(III)I" } : Jvm.MethodName)) ∈ lw_all := lw_g (lw_at lw_m7 168 rfl) rfl
theorem q1723 : (Jvm.Cond.methodLink "java/util/PriorityQueue" (86 : Nat) ({ cls := "java/util/Arrays", name := "copyOf", desc := "([Ljava/lang/Object;I)[Ljava/lang/Object;" } : Jvm.MethodName)) ∈ lw_all := lw_g (lw_at lw_m7 176 rfl) rfl
theorem q1724 : (Jvm.Cond.methodLink "java/util/PriorityQueue" (100 : Nat) ({ cls := "java/util/PriorityQueue", name := "siftUp", desc := "(ILjava/lang/Object;)V" } : Jvm.MethodName)) ∈ lw_all := lw_g (lw_at lw_m7 177 rfl) rfl
theorem q1725 : (Jvm.Cond.privateMethod ({ cls := "java/util/PriorityQueue", name := "siftUp", desc := "(ILjava/lang/Object;)V" } : Jvm.MethodName)) ∈ lw_tbl := lw_at lw_m7 178 rfl
theorem q1726 : (Jvm.Cond.instanceMethod ({ cls := "java/util/PriorityQueue", name := "siftUp", desc := "(ILjava/lang/Object;)V" } : Jvm.MethodName)) ∈ lw_all := lw_g (lw_at lw_m7 179 rfl) rfl
theorem q1727 : (Jvm.Cond.code ({ cls := "java/util/PriorityQueue", name := "siftUp", desc := "(ILjava/lang/Object;)V" } : Jvm.MethodName) prog_48_method_27_code (3 : Nat) (Option.none : Option Jvm.ClassFile.FieldType)) ∈ lw_all := lw_g (lw_at lw_m7 180 rfl) rfl
theorem q1728 : (Jvm.Cond.methodLink "java/util/PriorityQueue" (136 : Nat) ({ cls := "java/util/PriorityQueue", name := "siftUpUsingComparator", desc := "(ILjava/lang/Object;[Ljava/lang/Object;Ljava/util/Comparator;)V" } : Jvm.MethodName)) ∈ lw_all := lw_g (lw_at lw_m7 181 rfl) rfl
theorem q1729 : (Jvm.Cond.static ({ cls := "java/util/PriorityQueue", name := "siftUpUsingComparator", desc := "(ILjava/lang/Object;[Ljava/lang/Object;Ljava/util/Comparator;)V" } : Jvm.MethodName)) ∈ lw_all := lw_g (lw_at lw_m7 182 rfl) rfl
theorem q1730 : (Jvm.Cond.code ({ cls := "java/util/PriorityQueue", name := "siftUpUsingComparator", desc := "(ILjava/lang/Object;[Ljava/lang/Object;Ljava/util/Comparator;)V" } : Jvm.MethodName) prog_48_method_29_code (6 : Nat) (Option.none : Option Jvm.ClassFile.FieldType)) ∈ lw_all := lw_g (lw_at lw_m7 183 rfl) rfl
theorem q1731 : (Jvm.Cond.interfaceEntry "java/util/PriorityQueue" (149 : Nat)) ∈ lw_tbl := lw_at lw_m7 184 rfl
theorem q1732 : (Jvm.Cond.methodLink "java/util/PriorityQueue" (149 : Nat) ({ cls := "java/util/Comparator", name := "compare", desc := "(Ljava/lang/Object;Ljava/lang/Object;)I" } : Jvm.MethodName)) ∈ lw_all := lw_g (lw_at lw_m7 185 rfl) rfl
theorem q1733 : (Jvm.Cond.methodLink "java/util/PriorityQueue" (140 : Nat) ({ cls := "java/util/PriorityQueue", name := "siftUpComparable", desc := "(ILjava/lang/Object;[Ljava/lang/Object;)V" } : Jvm.MethodName)) ∈ lw_all := lw_g (lw_at lw_m7 186 rfl) rfl
theorem q1734 : (Jvm.Cond.static ({ cls := "java/util/PriorityQueue", name := "siftUpComparable", desc := "(ILjava/lang/Object;[Ljava/lang/Object;)V" } : Jvm.MethodName)) ∈ lw_all := lw_g (lw_at lw_m7 187 rfl) rfl
theorem q1735 : (Jvm.Cond.code ({ cls := "java/util/PriorityQueue", name := "siftUpComparable", desc := "(ILjava/lang/Object;[Ljava/lang/Object;)V" } : Jvm.MethodName) prog_48_method_28_code (6 : Nat) (Option.none : Option Jvm.ClassFile.FieldType)) ∈ lw_all := lw_g (lw_at lw_m7 188 rfl) rfl
theorem q1736 : (Jvm.Cond.classLink "java/util/PriorityQueue" (144 : Nat) "java/lang/Comparable") ∈ lw_all := lw_g (lw_at lw_m7 189 rfl) rfl
theorem q1737 : (Jvm.Cond.interfaceEntry "java/util/PriorityQueue" (146 : Nat)) ∈ lw_tbl := lw_at lw_m7 190 rfl
theorem q1738 : (Jvm.Cond.methodLink "java/util/PriorityQueue" (146 : Nat) ({ cls := "java/lang/Comparable", name := "compareTo", desc := "(Ljava/lang/Object;)I" } : Jvm.MethodName)) ∈ lw_all := lw_g (lw_at lw_m7 191 rfl) rfl
theorem q1740 : (Jvm.Cond.instanceMethod ({ cls := "java/util/PriorityQueue", name := "poll", desc := "()Ljava/lang/Object;" } : Jvm.MethodName)) ∈ lw_all := lw_g (lw_at lw_m7 193 rfl) rfl
theorem q1741 : (Jvm.Cond.selects "java/util/PriorityQueue" ({ cls := "java/util/PriorityQueue", name := "poll", desc := "()Ljava/lang/Object;" } : Jvm.MethodName) ({ cls := "java/util/PriorityQueue", name := "poll", desc := "()Ljava/lang/Object;" } : Jvm.MethodName)) ∈ lw_all := lw_g (lw_at lw_m7 194 rfl) rfl
theorem q1742 : (Jvm.Cond.code ({ cls := "java/util/PriorityQueue", name := "poll", desc := "()Ljava/lang/Object;" } : Jvm.MethodName) prog_48_method_25_code (6 : Nat) (Option.some (Jvm.ClassFile.FieldType.object "java/lang/Object"))) ∈ lw_all := lw_g (lw_at lw_m7 195 rfl) rfl
theorem q1743 : (Jvm.Cond.methodLink "java/util/PriorityQueue" (125 : Nat) ({ cls := "java/util/PriorityQueue", name := "siftDownComparable", desc := "(ILjava/lang/Object;[Ljava/lang/Object;I)V" } : Jvm.MethodName)) ∈ lw_all := lw_g (lw_at lw_m7 196 rfl) rfl
theorem q1744 : (Jvm.Cond.static ({ cls := "java/util/PriorityQueue", name := "siftDownComparable", desc := "(ILjava/lang/Object;[Ljava/lang/Object;I)V" } : Jvm.MethodName)) ∈ lw_all := lw_g (lw_at lw_m7 197 rfl) rfl
theorem q1745 : (Jvm.Cond.code ({ cls := "java/util/PriorityQueue", name := "siftDownComparable", desc := "(ILjava/lang/Object;[Ljava/lang/Object;I)V" } : Jvm.MethodName) prog_48_method_31_code (9 : Nat) (Option.none : Option Jvm.ClassFile.FieldType)) ∈ lw_all := lw_g (lw_at lw_m7 198 rfl) rfl
theorem q1746 : (Jvm.Cond.methodLink "java/util/PriorityQueue" (129 : Nat) ({ cls := "java/util/PriorityQueue", name := "siftDownUsingComparator", desc := "(ILjava/lang/Object;[Ljava/lang/Object;ILjava/util/Comparator;)V" } : Jvm.MethodName)) ∈ lw_all := lw_g (lw_at lw_m7 199 rfl) rfl
theorem q1747 : (Jvm.Cond.static ({ cls := "java/util/PriorityQueue", name := "siftDownUsingComparator", desc := "(ILjava/lang/Object;[Ljava/lang/Object;ILjava/util/Comparator;)V" } : Jvm.MethodName)) ∈ lw_all := lw_g (lw_at lw_m7 200 rfl) rfl
theorem q1748 : (Jvm.Cond.code ({ cls := "java/util/PriorityQueue", name := "siftDownUsingComparator", desc := "(ILjava/lang/Object;[Ljava/lang/Object;ILjava/util/Comparator;)V" } : Jvm.MethodName) prog_48_method_32_code (9 : Nat) (Option.none : Option Jvm.ClassFile.FieldType)) ∈ lw_all := lw_g (lw_at lw_m7 201 rfl) rfl
theorem q1852 : (Jvm.Cond.instanceMethod ({ cls := "java/util/PriorityQueue", name := "<init>", desc := "(Ljava/util/Comparator;)V" } : Jvm.MethodName)) ∈ lw_all := lw_g (lw_at lw_m8 65 rfl) rfl
theorem q1853 : (Jvm.Cond.code ({ cls := "java/util/PriorityQueue", name := "<init>", desc := "(Ljava/util/Comparator;)V" } : Jvm.MethodName) prog_48_method_3_code (2 : Nat) (Option.none : Option Jvm.ClassFile.FieldType)) ∈ lw_all := lw_g (lw_at lw_m8 66 rfl) rfl
theorem q1856 : (Jvm.Cond.instanceMethod ({ cls := "java/util/PriorityQueue", name := "size", desc := "()I" } : Jvm.MethodName)) ∈ lw_all := lw_g (lw_at lw_m8 69 rfl) rfl
theorem q1857 : (Jvm.Cond.selects "java/util/PriorityQueue" ({ cls := "java/util/PriorityQueue", name := "size", desc := "()I" } : Jvm.MethodName) ({ cls := "java/util/PriorityQueue", name := "size", desc := "()I" } : Jvm.MethodName)) ∈ lw_all := lw_g (lw_at lw_m8 70 rfl) rfl
theorem q1858 : (Jvm.Cond.code ({ cls := "java/util/PriorityQueue", name := "size", desc := "()I" } : Jvm.MethodName) prog_48_method_23_code (1 : Nat) (Option.some Jvm.ClassFile.FieldType.int)) ∈ lw_all := lw_g (lw_at lw_m8 71 rfl) rfl
theorem q1860 : (Jvm.Cond.instanceMethod ({ cls := "java/util/PriorityQueue", name := "peek", desc := "()Ljava/lang/Object;" } : Jvm.MethodName)) ∈ lw_all := lw_g (lw_at lw_m8 73 rfl) rfl
theorem q1861 : (Jvm.Cond.selects "java/util/PriorityQueue" ({ cls := "java/util/PriorityQueue", name := "peek", desc := "()Ljava/lang/Object;" } : Jvm.MethodName) ({ cls := "java/util/PriorityQueue", name := "peek", desc := "()Ljava/lang/Object;" } : Jvm.MethodName)) ∈ lw_all := lw_g (lw_at lw_m8 74 rfl) rfl
theorem q1862 : (Jvm.Cond.code ({ cls := "java/util/PriorityQueue", name := "peek", desc := "()Ljava/lang/Object;" } : Jvm.MethodName) prog_48_method_15_code (1 : Nat) (Option.some (Jvm.ClassFile.FieldType.object "java/lang/Object"))) ∈ lw_all := lw_g (lw_at lw_m8 75 rfl) rfl
theorem q2406 : (Jvm.Cond.castable "java/util/PriorityQueue" "java/lang/Object") ∈ lw_tbl := lw_at lw_m10 139 rfl
theorem in_J21 : ∀ w ∈ wsJ210, w ∈ lw_all := lw_in wsJ210 [1678, 1680, 1682, 1684] (by decide +kernel) (by decide +kernel)
/-! java/lang/Object -/
set_option maxRecDepth 100000
def RJ22 : String := "java/lang/Object"
abbrev cJ22_init : ByteArray := object_method_1_code
def yJ22_init : MethodName := ⟨RJ22, "<init>", "()V"⟩
theorem dJ22_init_0 : decode cJ22_init 0 = .ok (.return_, 1) := by decide +kernel
theorem q155 : (Jvm.Cond.instanceMethod ({ cls := "java/lang/Object", name := "<init>", desc := "()V" } : Jvm.MethodName)) ∈ lw_all := lw_g (lw_at lw_m1 48 rfl) rfl
theorem q156 : (Jvm.Cond.code ({ cls := "java/lang/Object", name := "<init>", desc := "()V" } : Jvm.MethodName) object_method_1_code (1 : Nat) (Option.none : Option Jvm.ClassFile.FieldType)) ∈ lw_all := lw_g (lw_at lw_m1 49 rfl) rfl
theorem q870 : (Jvm.Cond.instanceMethod ({ cls := "java/lang/Object", name := "getClass", desc := "()Ljava/lang/Class;" } : Jvm.MethodName)) ∈ lw_all := lw_g (lw_at lw_m4 43 rfl) rfl
theorem q871 : (Jvm.Cond.sameMethod "java/lang/Object" "java/lang/Object" "getClass" "()Ljava/lang/Class;") ∈ lw_all := lw_g (lw_at lw_m4 44 rfl) rfl
theorem q893 : (Jvm.Cond.native ({ cls := "java/lang/Object", name := "getClass", desc := "()Ljava/lang/Class;" } : Jvm.MethodName)) ∈ lw_all := lw_g (lw_at lw_m4 66 rfl) rfl
theorem q2412 : (Jvm.Cond.declares ({ cls := "java/lang/Object", name := "getClass", desc := "()Ljava/lang/Class;" } : Jvm.MethodName)) ∈ lw_tbl := lw_at lw_m10 145 rfl

/-! SpinStrip$Energies -/
set_option maxRecDepth 100000
def RX5 : String := "SpinStrip$Energies"
def TX5 : u_T := fun k => match k with
  | 0 => ("SpinStrip$Energies", "s", "LSpinStrip$Strip;", true)
  | 1 => ("SpinStrip$Energies", "energy", "[S", true)
  | 2 => ("SpinStrip$Energies", "by", "[LSpinStrip$Level;", true)
  | 3 => ("SpinStrip$Energies", "levels", "Ljava/util/TreeMap;", true)
  | 4 => ("SpinStrip$Energies", "broken", "[I", true)
  | 5 => ("SpinStrip$Energies", "lawful", "I", false)
  | 6 => ("SpinStrip$Energies", "least", "I", false)
  | _ => ("SpinStrip$Energies", "grounds", "[I", true)
def tyX5 : Nat → FieldType := fun k => match k with
  | 0 => .object "SpinStrip$Strip"
  | 1 => .array .short
  | 2 => .array (.object "SpinStrip$Level")
  | 3 => .object "java/util/TreeMap"
  | 4 => .array .int
  | 5 => .int
  | 6 => .int
  | _ => .array .int
abbrev wsX50 : List Cond := u_ws RX5 TX5 8
theorem nmX5 : ∀ a, a < 8 → ∀ b, b < 8 → a ≠ b → (TX5 a).2.1 ≠ (TX5 b).2.1 := by decide +kernel
theorem tyX5_ok : ∀ k, k < 8 → parseFieldDescriptor (TX5 k).2.2.1 = some (tyX5 k) := by decide +kernel
abbrev cX5_init : ByteArray := prog_2_method_1_code
def yX5_init : MethodName := ⟨RX5, "<init>", "(LSpinStrip$Strip;)V"⟩
def dkwX5_init_2 : List UInt8 := [181, 0, 33, 42, 43, 181, 0, 36, 177]
abbrev dktX5_init_2 : List UInt8 := dkwX5_init_2 ++ []
def dkwX5_init_1 : List UInt8 := [187, 0, 22, 89, 183, 0, 24, 181, 0, 25, 42, 16, 33, 188, 10, 181, 0, 29, 42, 17, 1, 0, 188, 10]
abbrev dktX5_init_1 : List UInt8 := dkwX5_init_1 ++ dktX5_init_2
def dkwX5_init_0 : List UInt8 := [42, 183, 0, 3, 42, 18, 9, 188, 9, 181, 0, 10, 42, 17, 1, 33, 189, 0, 16, 181, 0, 18, 42]
abbrev dktX5_init_0 : List UInt8 := dkwX5_init_0 ++ dktX5_init_1
theorem dksX5_init_0 : cX5_init.data.toList.drop 0 = dktX5_init_0 := by decide +kernel
theorem dksX5_init_1 : cX5_init.data.toList.drop 23 = dktX5_init_1 := dk_seg dksX5_init_0 23 rfl rfl
theorem dksX5_init_2 : cX5_init.data.toList.drop 47 = dktX5_init_2 := dk_seg dksX5_init_1 24 rfl rfl
theorem dX5_init_0 : decode cX5_init 0 = .ok (.aload_n 0, 1) := dk_42 (dk_at dksX5_init_0 0 rfl rfl)
theorem dX5_init_1 : decode cX5_init 1 = .ok (.invokespecial 3, 3) := dk_183 0 3 (dk_at dksX5_init_0 1 rfl rfl)
theorem dX5_init_4 : decode cX5_init 4 = .ok (.aload_n 0, 1) := dk_42 (dk_at dksX5_init_0 4 rfl rfl)
theorem dX5_init_5 : decode cX5_init 5 = .ok (.ldc 9, 2) := dk_18 9 (dk_at dksX5_init_0 5 rfl rfl)
theorem dX5_init_7 : decode cX5_init 7 = .ok (.newarray .short, 2) := dk_188_9 (dk_at dksX5_init_0 7 rfl rfl)
theorem dX5_init_9 : decode cX5_init 9 = .ok (.putfield 10, 3) := dk_181 0 10 (dk_at dksX5_init_0 9 rfl rfl)
theorem dX5_init_12 : decode cX5_init 12 = .ok (.aload_n 0, 1) := dk_42 (dk_at dksX5_init_0 12 rfl rfl)
theorem dX5_init_13 : decode cX5_init 13 = .ok (.sipush 289, 3) := dk_17 1 33 (dk_at dksX5_init_0 13 rfl rfl)
theorem dX5_init_16 : decode cX5_init 16 = .ok (.anewarray 16, 3) := dk_189 0 16 (dk_at dksX5_init_0 16 rfl rfl)
theorem dX5_init_19 : decode cX5_init 19 = .ok (.putfield 18, 3) := dk_181 0 18 (dk_at dksX5_init_0 19 rfl rfl)
theorem dX5_init_22 : decode cX5_init 22 = .ok (.aload_n 0, 1) := dk_42 (dk_at dksX5_init_0 22 rfl rfl)
theorem dX5_init_23 : decode cX5_init 23 = .ok (.new 22, 3) := dk_187 0 22 (dk_at dksX5_init_1 0 rfl rfl)
theorem dX5_init_26 : decode cX5_init 26 = .ok (.dup, 1) := dk_89 (dk_at dksX5_init_1 3 rfl rfl)
theorem dX5_init_27 : decode cX5_init 27 = .ok (.invokespecial 24, 3) := dk_183 0 24 (dk_at dksX5_init_1 4 rfl rfl)
theorem dX5_init_30 : decode cX5_init 30 = .ok (.putfield 25, 3) := dk_181 0 25 (dk_at dksX5_init_1 7 rfl rfl)
theorem dX5_init_33 : decode cX5_init 33 = .ok (.aload_n 0, 1) := dk_42 (dk_at dksX5_init_1 10 rfl rfl)
theorem dX5_init_34 : decode cX5_init 34 = .ok (.bipush 33, 2) := dk_16 33 (dk_at dksX5_init_1 11 rfl rfl)
theorem dX5_init_36 : decode cX5_init 36 = .ok (.newarray .int, 2) := dk_188_10 (dk_at dksX5_init_1 13 rfl rfl)
theorem dX5_init_38 : decode cX5_init 38 = .ok (.putfield 29, 3) := dk_181 0 29 (dk_at dksX5_init_1 15 rfl rfl)
theorem dX5_init_41 : decode cX5_init 41 = .ok (.aload_n 0, 1) := dk_42 (dk_at dksX5_init_1 18 rfl rfl)
theorem dX5_init_42 : decode cX5_init 42 = .ok (.sipush 256, 3) := dk_17 1 0 (dk_at dksX5_init_1 19 rfl rfl)
theorem dX5_init_45 : decode cX5_init 45 = .ok (.newarray .int, 2) := dk_188_10 (dk_at dksX5_init_1 22 rfl rfl)
theorem dX5_init_47 : decode cX5_init 47 = .ok (.putfield 33, 3) := dk_181 0 33 (dk_at dksX5_init_2 0 rfl rfl)
theorem dX5_init_50 : decode cX5_init 50 = .ok (.aload_n 0, 1) := dk_42 (dk_at dksX5_init_2 3 rfl rfl)
theorem dX5_init_51 : decode cX5_init 51 = .ok (.aload_n 1, 1) := dk_43 (dk_at dksX5_init_2 4 rfl rfl)
theorem dX5_init_52 : decode cX5_init 52 = .ok (.putfield 36, 3) := dk_181 0 36 (dk_at dksX5_init_2 5 rfl rfl)
theorem dX5_init_55 : decode cX5_init 55 = .ok (.return_, 1) := dk_177 (dk_at dksX5_init_2 8 rfl rfl)
abbrev cX5_lays : ByteArray := prog_2_method_2_code
def yX5_lays : MethodName := ⟨RX5, "lays", "()V"⟩
def dkwX5_lays_7 : List UInt8 := [192, 0, 57, 182, 0, 82, 181, 0, 85, 177]
abbrev dktX5_lays_7 : List UInt8 := dkwX5_lays_7 ++ []
def dkwX5_lays_6 : List UInt8 := [180, 0, 25, 182, 0, 74, 153, 0, 9, 17, 0, 144, 167, 0, 16, 42, 180, 0, 25, 182, 0, 78]
abbrev dktX5_lays_6 : List UInt8 := dkwX5_lays_6 ++ dktX5_lays_7
def dkwX5_lays_5 : List UInt8 := [42, 180, 0, 36, 27, 182, 0, 66, 153, 0, 8, 42, 27, 182, 0, 70, 132, 1, 1, 167, 255, 180, 42, 42]
abbrev dktX5_lays_5 : List UInt8 := dkwX5_lays_5 ++ dktX5_lays_6
def dkwX5_lays_4 : List UInt8 := [167, 0, 22, 42, 180, 0, 10, 28, 53, 42, 180, 0, 36, 28, 27, 184, 0, 56, 182, 0, 62, 96, 147, 86]
abbrev dktX5_lays_4 : List UInt8 := dkwX5_lays_4 ++ dktX5_lays_5
def dkwX5_lays_3 : List UInt8 := [27, 27, 4, 100, 126, 61, 42, 180, 0, 10, 27, 27, 154, 0, 13, 42, 180, 0, 36, 182, 0, 53]
abbrev dktX5_lays_3 : List UInt8 := dkwX5_lays_3 ++ dktX5_lays_4
def dkwX5_lays_2 : List UInt8 := [132, 1, 1, 167, 255, 240, 42, 3, 181, 0, 43, 3, 60, 27, 42, 180, 0, 36, 182, 0, 47, 162, 0, 71]
abbrev dktX5_lays_2 : List UInt8 := dkwX5_lays_2 ++ dktX5_lays_3
def dkwX5_lays_1 : List UInt8 := [83, 132, 1, 1, 167, 255, 237, 3, 60, 27, 16, 32, 163, 0, 16, 42, 180, 0, 29, 27, 3, 79]
abbrev dktX5_lays_1 : List UInt8 := dkwX5_lays_1 ++ dktX5_lays_2
def dkwX5_lays_0 : List UInt8 := [42, 180, 0, 25, 182, 0, 40, 3, 60, 27, 42, 180, 0, 18, 190, 162, 0, 16, 42, 180, 0, 18, 27, 1]
abbrev dktX5_lays_0 : List UInt8 := dkwX5_lays_0 ++ dktX5_lays_1
theorem dksX5_lays_0 : cX5_lays.data.toList.drop 0 = dktX5_lays_0 := by decide +kernel
theorem dksX5_lays_1 : cX5_lays.data.toList.drop 24 = dktX5_lays_1 := dk_seg dksX5_lays_0 24 rfl rfl
theorem dksX5_lays_2 : cX5_lays.data.toList.drop 46 = dktX5_lays_2 := dk_seg dksX5_lays_1 22 rfl rfl
theorem dksX5_lays_3 : cX5_lays.data.toList.drop 70 = dktX5_lays_3 := dk_seg dksX5_lays_2 24 rfl rfl
theorem dksX5_lays_4 : cX5_lays.data.toList.drop 92 = dktX5_lays_4 := dk_seg dksX5_lays_3 22 rfl rfl
theorem dksX5_lays_5 : cX5_lays.data.toList.drop 116 = dktX5_lays_5 := dk_seg dksX5_lays_4 24 rfl rfl
theorem dksX5_lays_6 : cX5_lays.data.toList.drop 140 = dktX5_lays_6 := dk_seg dksX5_lays_5 24 rfl rfl
theorem dksX5_lays_7 : cX5_lays.data.toList.drop 162 = dktX5_lays_7 := dk_seg dksX5_lays_6 22 rfl rfl
theorem dX5_lays_0 : decode cX5_lays 0 = .ok (.aload_n 0, 1) := dk_42 (dk_at dksX5_lays_0 0 rfl rfl)
theorem dX5_lays_1 : decode cX5_lays 1 = .ok (.getfield 25, 3) := dk_180 0 25 (dk_at dksX5_lays_0 1 rfl rfl)
theorem dX5_lays_4 : decode cX5_lays 4 = .ok (.invokevirtual 40, 3) := dk_182 0 40 (dk_at dksX5_lays_0 4 rfl rfl)
theorem dX5_lays_7 : decode cX5_lays 7 = .ok (.iconst 0, 1) := dk_3 (dk_at dksX5_lays_0 7 rfl rfl)
theorem dX5_lays_8 : decode cX5_lays 8 = .ok (.istore_n 1, 1) := dk_60 (dk_at dksX5_lays_0 8 rfl rfl)
theorem dX5_lays_9 : decode cX5_lays 9 = .ok (.iload_n 1, 1) := dk_27 (dk_at dksX5_lays_0 9 rfl rfl)
theorem dX5_lays_10 : decode cX5_lays 10 = .ok (.aload_n 0, 1) := dk_42 (dk_at dksX5_lays_0 10 rfl rfl)
theorem dX5_lays_11 : decode cX5_lays 11 = .ok (.getfield 18, 3) := dk_180 0 18 (dk_at dksX5_lays_0 11 rfl rfl)
theorem dX5_lays_14 : decode cX5_lays 14 = .ok (.arraylength, 1) := dk_190 (dk_at dksX5_lays_0 14 rfl rfl)
theorem dX5_lays_15 : decode cX5_lays 15 = .ok (.if_icmp .ge 16, 3) := dk_162 0 16 (dk_at dksX5_lays_0 15 rfl rfl)
theorem dX5_lays_18 : decode cX5_lays 18 = .ok (.aload_n 0, 1) := dk_42 (dk_at dksX5_lays_0 18 rfl rfl)
theorem dX5_lays_19 : decode cX5_lays 19 = .ok (.getfield 18, 3) := dk_180 0 18 (dk_at dksX5_lays_0 19 rfl rfl)
theorem dX5_lays_22 : decode cX5_lays 22 = .ok (.iload_n 1, 1) := dk_27 (dk_at dksX5_lays_0 22 rfl rfl)
theorem dX5_lays_23 : decode cX5_lays 23 = .ok (.aconst_null, 1) := dk_1 (dk_at dksX5_lays_0 23 rfl rfl)
theorem dX5_lays_24 : decode cX5_lays 24 = .ok (.aastore, 1) := dk_83 (dk_at dksX5_lays_1 0 rfl rfl)
theorem dX5_lays_25 : decode cX5_lays 25 = .ok (.iinc 1 1, 3) := dk_132 1 1 (dk_at dksX5_lays_1 1 rfl rfl)
theorem dX5_lays_28 : decode cX5_lays 28 = .ok (.goto (-19), 3) := dk_167 255 237 (dk_at dksX5_lays_1 4 rfl rfl)
theorem dX5_lays_31 : decode cX5_lays 31 = .ok (.iconst 0, 1) := dk_3 (dk_at dksX5_lays_1 7 rfl rfl)
theorem dX5_lays_32 : decode cX5_lays 32 = .ok (.istore_n 1, 1) := dk_60 (dk_at dksX5_lays_1 8 rfl rfl)
theorem dX5_lays_33 : decode cX5_lays 33 = .ok (.iload_n 1, 1) := dk_27 (dk_at dksX5_lays_1 9 rfl rfl)
theorem dX5_lays_34 : decode cX5_lays 34 = .ok (.bipush 32, 2) := dk_16 32 (dk_at dksX5_lays_1 10 rfl rfl)
theorem dX5_lays_36 : decode cX5_lays 36 = .ok (.if_icmp .gt 16, 3) := dk_163 0 16 (dk_at dksX5_lays_1 12 rfl rfl)
theorem dX5_lays_39 : decode cX5_lays 39 = .ok (.aload_n 0, 1) := dk_42 (dk_at dksX5_lays_1 15 rfl rfl)
theorem dX5_lays_40 : decode cX5_lays 40 = .ok (.getfield 29, 3) := dk_180 0 29 (dk_at dksX5_lays_1 16 rfl rfl)
theorem dX5_lays_43 : decode cX5_lays 43 = .ok (.iload_n 1, 1) := dk_27 (dk_at dksX5_lays_1 19 rfl rfl)
theorem dX5_lays_44 : decode cX5_lays 44 = .ok (.iconst 0, 1) := dk_3 (dk_at dksX5_lays_1 20 rfl rfl)
theorem dX5_lays_45 : decode cX5_lays 45 = .ok (.iastore, 1) := dk_79 (dk_at dksX5_lays_1 21 rfl rfl)
theorem dX5_lays_46 : decode cX5_lays 46 = .ok (.iinc 1 1, 3) := dk_132 1 1 (dk_at dksX5_lays_2 0 rfl rfl)
theorem dX5_lays_49 : decode cX5_lays 49 = .ok (.goto (-16), 3) := dk_167 255 240 (dk_at dksX5_lays_2 3 rfl rfl)
theorem dX5_lays_52 : decode cX5_lays 52 = .ok (.aload_n 0, 1) := dk_42 (dk_at dksX5_lays_2 6 rfl rfl)
theorem dX5_lays_53 : decode cX5_lays 53 = .ok (.iconst 0, 1) := dk_3 (dk_at dksX5_lays_2 7 rfl rfl)
theorem dX5_lays_54 : decode cX5_lays 54 = .ok (.putfield 43, 3) := dk_181 0 43 (dk_at dksX5_lays_2 8 rfl rfl)
theorem dX5_lays_57 : decode cX5_lays 57 = .ok (.iconst 0, 1) := dk_3 (dk_at dksX5_lays_2 11 rfl rfl)
theorem dX5_lays_58 : decode cX5_lays 58 = .ok (.istore_n 1, 1) := dk_60 (dk_at dksX5_lays_2 12 rfl rfl)
theorem dX5_lays_59 : decode cX5_lays 59 = .ok (.iload_n 1, 1) := dk_27 (dk_at dksX5_lays_2 13 rfl rfl)
theorem dX5_lays_60 : decode cX5_lays 60 = .ok (.aload_n 0, 1) := dk_42 (dk_at dksX5_lays_2 14 rfl rfl)
theorem dX5_lays_61 : decode cX5_lays 61 = .ok (.getfield 36, 3) := dk_180 0 36 (dk_at dksX5_lays_2 15 rfl rfl)
theorem dX5_lays_64 : decode cX5_lays 64 = .ok (.invokevirtual 47, 3) := dk_182 0 47 (dk_at dksX5_lays_2 18 rfl rfl)
theorem dX5_lays_67 : decode cX5_lays 67 = .ok (.if_icmp .ge 71, 3) := dk_162 0 71 (dk_at dksX5_lays_2 21 rfl rfl)
theorem dX5_lays_70 : decode cX5_lays 70 = .ok (.iload_n 1, 1) := dk_27 (dk_at dksX5_lays_3 0 rfl rfl)
theorem dX5_lays_71 : decode cX5_lays 71 = .ok (.iload_n 1, 1) := dk_27 (dk_at dksX5_lays_3 1 rfl rfl)
theorem dX5_lays_72 : decode cX5_lays 72 = .ok (.iconst 1, 1) := dk_4 (dk_at dksX5_lays_3 2 rfl rfl)
theorem dX5_lays_73 : decode cX5_lays 73 = .ok (.isub, 1) := dk_100 (dk_at dksX5_lays_3 3 rfl rfl)
theorem dX5_lays_74 : decode cX5_lays 74 = .ok (.iand, 1) := dk_126 (dk_at dksX5_lays_3 4 rfl rfl)
theorem dX5_lays_75 : decode cX5_lays 75 = .ok (.istore_n 2, 1) := dk_61 (dk_at dksX5_lays_3 5 rfl rfl)
theorem dX5_lays_76 : decode cX5_lays 76 = .ok (.aload_n 0, 1) := dk_42 (dk_at dksX5_lays_3 6 rfl rfl)
theorem dX5_lays_77 : decode cX5_lays 77 = .ok (.getfield 10, 3) := dk_180 0 10 (dk_at dksX5_lays_3 7 rfl rfl)
theorem dX5_lays_80 : decode cX5_lays 80 = .ok (.iload_n 1, 1) := dk_27 (dk_at dksX5_lays_3 10 rfl rfl)
theorem dX5_lays_81 : decode cX5_lays 81 = .ok (.iload_n 1, 1) := dk_27 (dk_at dksX5_lays_3 11 rfl rfl)
theorem dX5_lays_82 : decode cX5_lays 82 = .ok (.ifCond .ne 13, 3) := dk_154 0 13 (dk_at dksX5_lays_3 12 rfl rfl)
theorem dX5_lays_85 : decode cX5_lays 85 = .ok (.aload_n 0, 1) := dk_42 (dk_at dksX5_lays_3 15 rfl rfl)
theorem dX5_lays_86 : decode cX5_lays 86 = .ok (.getfield 36, 3) := dk_180 0 36 (dk_at dksX5_lays_3 16 rfl rfl)
theorem dX5_lays_89 : decode cX5_lays 89 = .ok (.invokevirtual 53, 3) := dk_182 0 53 (dk_at dksX5_lays_3 19 rfl rfl)
theorem dX5_lays_92 : decode cX5_lays 92 = .ok (.goto 22, 3) := dk_167 0 22 (dk_at dksX5_lays_4 0 rfl rfl)
theorem dX5_lays_95 : decode cX5_lays 95 = .ok (.aload_n 0, 1) := dk_42 (dk_at dksX5_lays_4 3 rfl rfl)
theorem dX5_lays_96 : decode cX5_lays 96 = .ok (.getfield 10, 3) := dk_180 0 10 (dk_at dksX5_lays_4 4 rfl rfl)
theorem dX5_lays_99 : decode cX5_lays 99 = .ok (.iload_n 2, 1) := dk_28 (dk_at dksX5_lays_4 7 rfl rfl)
theorem dX5_lays_100 : decode cX5_lays 100 = .ok (.saload, 1) := dk_53 (dk_at dksX5_lays_4 8 rfl rfl)
theorem dX5_lays_101 : decode cX5_lays 101 = .ok (.aload_n 0, 1) := dk_42 (dk_at dksX5_lays_4 9 rfl rfl)
theorem dX5_lays_102 : decode cX5_lays 102 = .ok (.getfield 36, 3) := dk_180 0 36 (dk_at dksX5_lays_4 10 rfl rfl)
theorem dX5_lays_105 : decode cX5_lays 105 = .ok (.iload_n 2, 1) := dk_28 (dk_at dksX5_lays_4 13 rfl rfl)
theorem dX5_lays_106 : decode cX5_lays 106 = .ok (.iload_n 1, 1) := dk_27 (dk_at dksX5_lays_4 14 rfl rfl)
theorem dX5_lays_107 : decode cX5_lays 107 = .ok (.invokestatic 56, 3) := dk_184 0 56 (dk_at dksX5_lays_4 15 rfl rfl)
theorem dX5_lays_110 : decode cX5_lays 110 = .ok (.invokevirtual 62, 3) := dk_182 0 62 (dk_at dksX5_lays_4 18 rfl rfl)
theorem dX5_lays_113 : decode cX5_lays 113 = .ok (.iadd, 1) := dk_96 (dk_at dksX5_lays_4 21 rfl rfl)
theorem dX5_lays_114 : decode cX5_lays 114 = .ok (.i2s, 1) := dk_147 (dk_at dksX5_lays_4 22 rfl rfl)
theorem dX5_lays_115 : decode cX5_lays 115 = .ok (.sastore, 1) := dk_86 (dk_at dksX5_lays_4 23 rfl rfl)
theorem dX5_lays_116 : decode cX5_lays 116 = .ok (.aload_n 0, 1) := dk_42 (dk_at dksX5_lays_5 0 rfl rfl)
theorem dX5_lays_117 : decode cX5_lays 117 = .ok (.getfield 36, 3) := dk_180 0 36 (dk_at dksX5_lays_5 1 rfl rfl)
theorem dX5_lays_120 : decode cX5_lays 120 = .ok (.iload_n 1, 1) := dk_27 (dk_at dksX5_lays_5 4 rfl rfl)
theorem dX5_lays_121 : decode cX5_lays 121 = .ok (.invokevirtual 66, 3) := dk_182 0 66 (dk_at dksX5_lays_5 5 rfl rfl)
theorem dX5_lays_124 : decode cX5_lays 124 = .ok (.ifCond .eq 8, 3) := dk_153 0 8 (dk_at dksX5_lays_5 8 rfl rfl)
theorem dX5_lays_127 : decode cX5_lays 127 = .ok (.aload_n 0, 1) := dk_42 (dk_at dksX5_lays_5 11 rfl rfl)
theorem dX5_lays_128 : decode cX5_lays 128 = .ok (.iload_n 1, 1) := dk_27 (dk_at dksX5_lays_5 12 rfl rfl)
theorem dX5_lays_129 : decode cX5_lays 129 = .ok (.invokevirtual 70, 3) := dk_182 0 70 (dk_at dksX5_lays_5 13 rfl rfl)
theorem dX5_lays_132 : decode cX5_lays 132 = .ok (.iinc 1 1, 3) := dk_132 1 1 (dk_at dksX5_lays_5 16 rfl rfl)
theorem dX5_lays_135 : decode cX5_lays 135 = .ok (.goto (-76), 3) := dk_167 255 180 (dk_at dksX5_lays_5 19 rfl rfl)
theorem dX5_lays_138 : decode cX5_lays 138 = .ok (.aload_n 0, 1) := dk_42 (dk_at dksX5_lays_5 22 rfl rfl)
theorem dX5_lays_139 : decode cX5_lays 139 = .ok (.aload_n 0, 1) := dk_42 (dk_at dksX5_lays_5 23 rfl rfl)
theorem dX5_lays_140 : decode cX5_lays 140 = .ok (.getfield 25, 3) := dk_180 0 25 (dk_at dksX5_lays_6 0 rfl rfl)
theorem dX5_lays_143 : decode cX5_lays 143 = .ok (.invokevirtual 74, 3) := dk_182 0 74 (dk_at dksX5_lays_6 3 rfl rfl)
theorem dX5_lays_146 : decode cX5_lays 146 = .ok (.ifCond .eq 9, 3) := dk_153 0 9 (dk_at dksX5_lays_6 6 rfl rfl)
theorem dX5_lays_149 : decode cX5_lays 149 = .ok (.sipush 144, 3) := dk_17 0 144 (dk_at dksX5_lays_6 9 rfl rfl)
theorem dX5_lays_152 : decode cX5_lays 152 = .ok (.goto 16, 3) := dk_167 0 16 (dk_at dksX5_lays_6 12 rfl rfl)
theorem dX5_lays_155 : decode cX5_lays 155 = .ok (.aload_n 0, 1) := dk_42 (dk_at dksX5_lays_6 15 rfl rfl)
theorem dX5_lays_156 : decode cX5_lays 156 = .ok (.getfield 25, 3) := dk_180 0 25 (dk_at dksX5_lays_6 16 rfl rfl)
theorem dX5_lays_159 : decode cX5_lays 159 = .ok (.invokevirtual 78, 3) := dk_182 0 78 (dk_at dksX5_lays_6 19 rfl rfl)
theorem dX5_lays_162 : decode cX5_lays 162 = .ok (.checkcast 57, 3) := dk_192 0 57 (dk_at dksX5_lays_7 0 rfl rfl)
theorem dX5_lays_165 : decode cX5_lays 165 = .ok (.invokevirtual 82, 3) := dk_182 0 82 (dk_at dksX5_lays_7 3 rfl rfl)
theorem dX5_lays_168 : decode cX5_lays 168 = .ok (.putfield 85, 3) := dk_181 0 85 (dk_at dksX5_lays_7 6 rfl rfl)
theorem dX5_lays_171 : decode cX5_lays 171 = .ok (.return_, 1) := dk_177 (dk_at dksX5_lays_7 9 rfl rfl)
abbrev cX5_meets : ByteArray := prog_2_method_3_code
def yX5_meets : MethodName := ⟨RX5, "meets", "(I)V"⟩
def dkwX5_meets_4 : List UInt8 := [42, 89, 180, 0, 43, 4, 96, 181, 0, 43, 177]
abbrev dktX5_meets_4 : List UInt8 := dkwX5_meets_4 ++ []
def dkwX5_meets_3 : List UInt8 := [27, 184, 0, 101, 182, 0, 104, 42, 180, 0, 29, 42, 180, 0, 36, 27, 182, 0, 107, 92, 46, 4, 96, 79]
abbrev dktX5_meets_3 : List UInt8 := dkwX5_meets_3 ++ dktX5_meets_4
def dkwX5_meets_2 : List UInt8 := [28, 50, 180, 0, 91, 184, 0, 93, 42, 180, 0, 18, 28, 50, 182, 0, 97, 87, 42, 180, 0, 18, 28, 50]
abbrev dktX5_meets_2 : List UInt8 := dkwX5_meets_2 ++ dktX5_meets_3
def dkwX5_meets_1 : List UInt8 := [28, 187, 0, 16, 89, 42, 180, 0, 10, 27, 53, 27, 183, 0, 88, 83, 42, 180, 0, 25, 42, 180, 0, 18]
abbrev dktX5_meets_1 : List UInt8 := dkwX5_meets_1 ++ dktX5_meets_2
def dkwX5_meets_0 : List UInt8 := [42, 180, 0, 10, 27, 53, 17, 0, 144, 96, 61, 42, 180, 0, 18, 28, 50, 199, 0, 49, 42, 180, 0, 18]
abbrev dktX5_meets_0 : List UInt8 := dkwX5_meets_0 ++ dktX5_meets_1
theorem dksX5_meets_0 : cX5_meets.data.toList.drop 0 = dktX5_meets_0 := by decide +kernel
theorem dksX5_meets_1 : cX5_meets.data.toList.drop 24 = dktX5_meets_1 := dk_seg dksX5_meets_0 24 rfl rfl
theorem dksX5_meets_2 : cX5_meets.data.toList.drop 48 = dktX5_meets_2 := dk_seg dksX5_meets_1 24 rfl rfl
theorem dksX5_meets_3 : cX5_meets.data.toList.drop 72 = dktX5_meets_3 := dk_seg dksX5_meets_2 24 rfl rfl
theorem dksX5_meets_4 : cX5_meets.data.toList.drop 96 = dktX5_meets_4 := dk_seg dksX5_meets_3 24 rfl rfl
theorem dX5_meets_0 : decode cX5_meets 0 = .ok (.aload_n 0, 1) := dk_42 (dk_at dksX5_meets_0 0 rfl rfl)
theorem dX5_meets_1 : decode cX5_meets 1 = .ok (.getfield 10, 3) := dk_180 0 10 (dk_at dksX5_meets_0 1 rfl rfl)
theorem dX5_meets_4 : decode cX5_meets 4 = .ok (.iload_n 1, 1) := dk_27 (dk_at dksX5_meets_0 4 rfl rfl)
theorem dX5_meets_5 : decode cX5_meets 5 = .ok (.saload, 1) := dk_53 (dk_at dksX5_meets_0 5 rfl rfl)
theorem dX5_meets_6 : decode cX5_meets 6 = .ok (.sipush 144, 3) := dk_17 0 144 (dk_at dksX5_meets_0 6 rfl rfl)
theorem dX5_meets_9 : decode cX5_meets 9 = .ok (.iadd, 1) := dk_96 (dk_at dksX5_meets_0 9 rfl rfl)
theorem dX5_meets_10 : decode cX5_meets 10 = .ok (.istore_n 2, 1) := dk_61 (dk_at dksX5_meets_0 10 rfl rfl)
theorem dX5_meets_11 : decode cX5_meets 11 = .ok (.aload_n 0, 1) := dk_42 (dk_at dksX5_meets_0 11 rfl rfl)
theorem dX5_meets_12 : decode cX5_meets 12 = .ok (.getfield 18, 3) := dk_180 0 18 (dk_at dksX5_meets_0 12 rfl rfl)
theorem dX5_meets_15 : decode cX5_meets 15 = .ok (.iload_n 2, 1) := dk_28 (dk_at dksX5_meets_0 15 rfl rfl)
theorem dX5_meets_16 : decode cX5_meets 16 = .ok (.aaload, 1) := dk_50 (dk_at dksX5_meets_0 16 rfl rfl)
theorem dX5_meets_17 : decode cX5_meets 17 = .ok (.ifnonnull 49, 3) := dk_199 0 49 (dk_at dksX5_meets_0 17 rfl rfl)
theorem dX5_meets_20 : decode cX5_meets 20 = .ok (.aload_n 0, 1) := dk_42 (dk_at dksX5_meets_0 20 rfl rfl)
theorem dX5_meets_21 : decode cX5_meets 21 = .ok (.getfield 18, 3) := dk_180 0 18 (dk_at dksX5_meets_0 21 rfl rfl)
theorem dX5_meets_24 : decode cX5_meets 24 = .ok (.iload_n 2, 1) := dk_28 (dk_at dksX5_meets_1 0 rfl rfl)
theorem dX5_meets_25 : decode cX5_meets 25 = .ok (.new 16, 3) := dk_187 0 16 (dk_at dksX5_meets_1 1 rfl rfl)
theorem dX5_meets_28 : decode cX5_meets 28 = .ok (.dup, 1) := dk_89 (dk_at dksX5_meets_1 4 rfl rfl)
theorem dX5_meets_29 : decode cX5_meets 29 = .ok (.aload_n 0, 1) := dk_42 (dk_at dksX5_meets_1 5 rfl rfl)
theorem dX5_meets_30 : decode cX5_meets 30 = .ok (.getfield 10, 3) := dk_180 0 10 (dk_at dksX5_meets_1 6 rfl rfl)
theorem dX5_meets_33 : decode cX5_meets 33 = .ok (.iload_n 1, 1) := dk_27 (dk_at dksX5_meets_1 9 rfl rfl)
theorem dX5_meets_34 : decode cX5_meets 34 = .ok (.saload, 1) := dk_53 (dk_at dksX5_meets_1 10 rfl rfl)
theorem dX5_meets_35 : decode cX5_meets 35 = .ok (.iload_n 1, 1) := dk_27 (dk_at dksX5_meets_1 11 rfl rfl)
theorem dX5_meets_36 : decode cX5_meets 36 = .ok (.invokespecial 88, 3) := dk_183 0 88 (dk_at dksX5_meets_1 12 rfl rfl)
theorem dX5_meets_39 : decode cX5_meets 39 = .ok (.aastore, 1) := dk_83 (dk_at dksX5_meets_1 15 rfl rfl)
theorem dX5_meets_40 : decode cX5_meets 40 = .ok (.aload_n 0, 1) := dk_42 (dk_at dksX5_meets_1 16 rfl rfl)
theorem dX5_meets_41 : decode cX5_meets 41 = .ok (.getfield 25, 3) := dk_180 0 25 (dk_at dksX5_meets_1 17 rfl rfl)
theorem dX5_meets_44 : decode cX5_meets 44 = .ok (.aload_n 0, 1) := dk_42 (dk_at dksX5_meets_1 20 rfl rfl)
theorem dX5_meets_45 : decode cX5_meets 45 = .ok (.getfield 18, 3) := dk_180 0 18 (dk_at dksX5_meets_1 21 rfl rfl)
theorem dX5_meets_48 : decode cX5_meets 48 = .ok (.iload_n 2, 1) := dk_28 (dk_at dksX5_meets_2 0 rfl rfl)
theorem dX5_meets_49 : decode cX5_meets 49 = .ok (.aaload, 1) := dk_50 (dk_at dksX5_meets_2 1 rfl rfl)
theorem dX5_meets_50 : decode cX5_meets 50 = .ok (.getfield 91, 3) := dk_180 0 91 (dk_at dksX5_meets_2 2 rfl rfl)
theorem dX5_meets_53 : decode cX5_meets 53 = .ok (.invokestatic 93, 3) := dk_184 0 93 (dk_at dksX5_meets_2 5 rfl rfl)
theorem dX5_meets_56 : decode cX5_meets 56 = .ok (.aload_n 0, 1) := dk_42 (dk_at dksX5_meets_2 8 rfl rfl)
theorem dX5_meets_57 : decode cX5_meets 57 = .ok (.getfield 18, 3) := dk_180 0 18 (dk_at dksX5_meets_2 9 rfl rfl)
theorem dX5_meets_60 : decode cX5_meets 60 = .ok (.iload_n 2, 1) := dk_28 (dk_at dksX5_meets_2 12 rfl rfl)
theorem dX5_meets_61 : decode cX5_meets 61 = .ok (.aaload, 1) := dk_50 (dk_at dksX5_meets_2 13 rfl rfl)
theorem dX5_meets_62 : decode cX5_meets 62 = .ok (.invokevirtual 97, 3) := dk_182 0 97 (dk_at dksX5_meets_2 14 rfl rfl)
theorem dX5_meets_65 : decode cX5_meets 65 = .ok (.pop, 1) := dk_87 (dk_at dksX5_meets_2 17 rfl rfl)
theorem dX5_meets_66 : decode cX5_meets 66 = .ok (.aload_n 0, 1) := dk_42 (dk_at dksX5_meets_2 18 rfl rfl)
theorem dX5_meets_67 : decode cX5_meets 67 = .ok (.getfield 18, 3) := dk_180 0 18 (dk_at dksX5_meets_2 19 rfl rfl)
theorem dX5_meets_70 : decode cX5_meets 70 = .ok (.iload_n 2, 1) := dk_28 (dk_at dksX5_meets_2 22 rfl rfl)
theorem dX5_meets_71 : decode cX5_meets 71 = .ok (.aaload, 1) := dk_50 (dk_at dksX5_meets_2 23 rfl rfl)
theorem dX5_meets_72 : decode cX5_meets 72 = .ok (.iload_n 1, 1) := dk_27 (dk_at dksX5_meets_3 0 rfl rfl)
theorem dX5_meets_73 : decode cX5_meets 73 = .ok (.invokestatic 101, 3) := dk_184 0 101 (dk_at dksX5_meets_3 1 rfl rfl)
theorem dX5_meets_76 : decode cX5_meets 76 = .ok (.invokevirtual 104, 3) := dk_182 0 104 (dk_at dksX5_meets_3 4 rfl rfl)
theorem dX5_meets_79 : decode cX5_meets 79 = .ok (.aload_n 0, 1) := dk_42 (dk_at dksX5_meets_3 7 rfl rfl)
theorem dX5_meets_80 : decode cX5_meets 80 = .ok (.getfield 29, 3) := dk_180 0 29 (dk_at dksX5_meets_3 8 rfl rfl)
theorem dX5_meets_83 : decode cX5_meets 83 = .ok (.aload_n 0, 1) := dk_42 (dk_at dksX5_meets_3 11 rfl rfl)
theorem dX5_meets_84 : decode cX5_meets 84 = .ok (.getfield 36, 3) := dk_180 0 36 (dk_at dksX5_meets_3 12 rfl rfl)
theorem dX5_meets_87 : decode cX5_meets 87 = .ok (.iload_n 1, 1) := dk_27 (dk_at dksX5_meets_3 15 rfl rfl)
theorem dX5_meets_88 : decode cX5_meets 88 = .ok (.invokevirtual 107, 3) := dk_182 0 107 (dk_at dksX5_meets_3 16 rfl rfl)
theorem dX5_meets_91 : decode cX5_meets 91 = .ok (.dup2, 1) := dk_92 (dk_at dksX5_meets_3 19 rfl rfl)
theorem dX5_meets_92 : decode cX5_meets 92 = .ok (.iaload, 1) := dk_46 (dk_at dksX5_meets_3 20 rfl rfl)
theorem dX5_meets_93 : decode cX5_meets 93 = .ok (.iconst 1, 1) := dk_4 (dk_at dksX5_meets_3 21 rfl rfl)
theorem dX5_meets_94 : decode cX5_meets 94 = .ok (.iadd, 1) := dk_96 (dk_at dksX5_meets_3 22 rfl rfl)
theorem dX5_meets_95 : decode cX5_meets 95 = .ok (.iastore, 1) := dk_79 (dk_at dksX5_meets_3 23 rfl rfl)
theorem dX5_meets_96 : decode cX5_meets 96 = .ok (.aload_n 0, 1) := dk_42 (dk_at dksX5_meets_4 0 rfl rfl)
theorem dX5_meets_97 : decode cX5_meets 97 = .ok (.dup, 1) := dk_89 (dk_at dksX5_meets_4 1 rfl rfl)
theorem dX5_meets_98 : decode cX5_meets 98 = .ok (.getfield 43, 3) := dk_180 0 43 (dk_at dksX5_meets_4 2 rfl rfl)
theorem dX5_meets_101 : decode cX5_meets 101 = .ok (.iconst 1, 1) := dk_4 (dk_at dksX5_meets_4 5 rfl rfl)
theorem dX5_meets_102 : decode cX5_meets 102 = .ok (.iadd, 1) := dk_96 (dk_at dksX5_meets_4 6 rfl rfl)
theorem dX5_meets_103 : decode cX5_meets 103 = .ok (.putfield 43, 3) := dk_181 0 43 (dk_at dksX5_meets_4 7 rfl rfl)
theorem dX5_meets_106 : decode cX5_meets 106 = .ok (.return_, 1) := dk_177 (dk_at dksX5_meets_4 10 rfl rfl)
abbrev cX5_falls : ByteArray := prog_2_method_13_code
def yX5_falls : MethodName := ⟨RX5, "falls", "(I)I"⟩
def dkwX5_falls_3 : List UInt8 := [132, 3, 1, 167, 255, 187, 28, 172]
abbrev dktX5_falls_3 : List UInt8 := dkwX5_falls_3 ++ []
def dkwX5_falls_2 : List UInt8 := [162, 0, 24, 28, 155, 0, 18, 21, 4, 42, 180, 0, 10, 27, 4, 28, 120, 130, 53, 162, 0, 5, 29, 61]
abbrev dktX5_falls_2 : List UInt8 := dkwX5_falls_2 ++ dktX5_falls_3
def dkwX5_falls_1 : List UInt8 := [53, 54, 4, 42, 180, 0, 36, 29, 182, 0, 132, 154, 0, 35, 21, 4, 42, 180, 0, 10, 27, 53]
abbrev dktX5_falls_1 : List UInt8 := dkwX5_falls_1 ++ dktX5_falls_2
def dkwX5_falls_0 : List UInt8 := [2, 61, 3, 62, 29, 42, 180, 0, 36, 182, 0, 129, 162, 0, 64, 42, 180, 0, 10, 27, 4, 29, 120, 130]
abbrev dktX5_falls_0 : List UInt8 := dkwX5_falls_0 ++ dktX5_falls_1
theorem dksX5_falls_0 : cX5_falls.data.toList.drop 0 = dktX5_falls_0 := by decide +kernel
theorem dksX5_falls_1 : cX5_falls.data.toList.drop 24 = dktX5_falls_1 := dk_seg dksX5_falls_0 24 rfl rfl
theorem dksX5_falls_2 : cX5_falls.data.toList.drop 46 = dktX5_falls_2 := dk_seg dksX5_falls_1 22 rfl rfl
theorem dksX5_falls_3 : cX5_falls.data.toList.drop 70 = dktX5_falls_3 := dk_seg dksX5_falls_2 24 rfl rfl
theorem dX5_falls_0 : decode cX5_falls 0 = .ok (.iconst (-1), 1) := dk_2 (dk_at dksX5_falls_0 0 rfl rfl)
theorem dX5_falls_1 : decode cX5_falls 1 = .ok (.istore_n 2, 1) := dk_61 (dk_at dksX5_falls_0 1 rfl rfl)
theorem dX5_falls_2 : decode cX5_falls 2 = .ok (.iconst 0, 1) := dk_3 (dk_at dksX5_falls_0 2 rfl rfl)
theorem dX5_falls_3 : decode cX5_falls 3 = .ok (.istore_n 3, 1) := dk_62 (dk_at dksX5_falls_0 3 rfl rfl)
theorem dX5_falls_4 : decode cX5_falls 4 = .ok (.iload_n 3, 1) := dk_29 (dk_at dksX5_falls_0 4 rfl rfl)
theorem dX5_falls_5 : decode cX5_falls 5 = .ok (.aload_n 0, 1) := dk_42 (dk_at dksX5_falls_0 5 rfl rfl)
theorem dX5_falls_6 : decode cX5_falls 6 = .ok (.getfield 36, 3) := dk_180 0 36 (dk_at dksX5_falls_0 6 rfl rfl)
theorem dX5_falls_9 : decode cX5_falls 9 = .ok (.invokevirtual 129, 3) := dk_182 0 129 (dk_at dksX5_falls_0 9 rfl rfl)
theorem dX5_falls_12 : decode cX5_falls 12 = .ok (.if_icmp .ge 64, 3) := dk_162 0 64 (dk_at dksX5_falls_0 12 rfl rfl)
theorem dX5_falls_15 : decode cX5_falls 15 = .ok (.aload_n 0, 1) := dk_42 (dk_at dksX5_falls_0 15 rfl rfl)
theorem dX5_falls_16 : decode cX5_falls 16 = .ok (.getfield 10, 3) := dk_180 0 10 (dk_at dksX5_falls_0 16 rfl rfl)
theorem dX5_falls_19 : decode cX5_falls 19 = .ok (.iload_n 1, 1) := dk_27 (dk_at dksX5_falls_0 19 rfl rfl)
theorem dX5_falls_20 : decode cX5_falls 20 = .ok (.iconst 1, 1) := dk_4 (dk_at dksX5_falls_0 20 rfl rfl)
theorem dX5_falls_21 : decode cX5_falls 21 = .ok (.iload_n 3, 1) := dk_29 (dk_at dksX5_falls_0 21 rfl rfl)
theorem dX5_falls_22 : decode cX5_falls 22 = .ok (.ishl, 1) := dk_120 (dk_at dksX5_falls_0 22 rfl rfl)
theorem dX5_falls_23 : decode cX5_falls 23 = .ok (.ixor, 1) := dk_130 (dk_at dksX5_falls_0 23 rfl rfl)
theorem dX5_falls_24 : decode cX5_falls 24 = .ok (.saload, 1) := dk_53 (dk_at dksX5_falls_1 0 rfl rfl)
theorem dX5_falls_25 : decode cX5_falls 25 = .ok (.istore 4, 2) := dk_54 4 (dk_at dksX5_falls_1 1 rfl rfl)
theorem dX5_falls_27 : decode cX5_falls 27 = .ok (.aload_n 0, 1) := dk_42 (dk_at dksX5_falls_1 3 rfl rfl)
theorem dX5_falls_28 : decode cX5_falls 28 = .ok (.getfield 36, 3) := dk_180 0 36 (dk_at dksX5_falls_1 4 rfl rfl)
theorem dX5_falls_31 : decode cX5_falls 31 = .ok (.iload_n 3, 1) := dk_29 (dk_at dksX5_falls_1 7 rfl rfl)
theorem dX5_falls_32 : decode cX5_falls 32 = .ok (.invokevirtual 132, 3) := dk_182 0 132 (dk_at dksX5_falls_1 8 rfl rfl)
theorem dX5_falls_35 : decode cX5_falls 35 = .ok (.ifCond .ne 35, 3) := dk_154 0 35 (dk_at dksX5_falls_1 11 rfl rfl)
theorem dX5_falls_38 : decode cX5_falls 38 = .ok (.iload 4, 2) := dk_21 4 (dk_at dksX5_falls_1 14 rfl rfl)
theorem dX5_falls_40 : decode cX5_falls 40 = .ok (.aload_n 0, 1) := dk_42 (dk_at dksX5_falls_1 16 rfl rfl)
theorem dX5_falls_41 : decode cX5_falls 41 = .ok (.getfield 10, 3) := dk_180 0 10 (dk_at dksX5_falls_1 17 rfl rfl)
theorem dX5_falls_44 : decode cX5_falls 44 = .ok (.iload_n 1, 1) := dk_27 (dk_at dksX5_falls_1 20 rfl rfl)
theorem dX5_falls_45 : decode cX5_falls 45 = .ok (.saload, 1) := dk_53 (dk_at dksX5_falls_1 21 rfl rfl)
theorem dX5_falls_46 : decode cX5_falls 46 = .ok (.if_icmp .ge 24, 3) := dk_162 0 24 (dk_at dksX5_falls_2 0 rfl rfl)
theorem dX5_falls_49 : decode cX5_falls 49 = .ok (.iload_n 2, 1) := dk_28 (dk_at dksX5_falls_2 3 rfl rfl)
theorem dX5_falls_50 : decode cX5_falls 50 = .ok (.ifCond .lt 18, 3) := dk_155 0 18 (dk_at dksX5_falls_2 4 rfl rfl)
theorem dX5_falls_53 : decode cX5_falls 53 = .ok (.iload 4, 2) := dk_21 4 (dk_at dksX5_falls_2 7 rfl rfl)
theorem dX5_falls_55 : decode cX5_falls 55 = .ok (.aload_n 0, 1) := dk_42 (dk_at dksX5_falls_2 9 rfl rfl)
theorem dX5_falls_56 : decode cX5_falls 56 = .ok (.getfield 10, 3) := dk_180 0 10 (dk_at dksX5_falls_2 10 rfl rfl)
theorem dX5_falls_59 : decode cX5_falls 59 = .ok (.iload_n 1, 1) := dk_27 (dk_at dksX5_falls_2 13 rfl rfl)
theorem dX5_falls_60 : decode cX5_falls 60 = .ok (.iconst 1, 1) := dk_4 (dk_at dksX5_falls_2 14 rfl rfl)
theorem dX5_falls_61 : decode cX5_falls 61 = .ok (.iload_n 2, 1) := dk_28 (dk_at dksX5_falls_2 15 rfl rfl)
theorem dX5_falls_62 : decode cX5_falls 62 = .ok (.ishl, 1) := dk_120 (dk_at dksX5_falls_2 16 rfl rfl)
theorem dX5_falls_63 : decode cX5_falls 63 = .ok (.ixor, 1) := dk_130 (dk_at dksX5_falls_2 17 rfl rfl)
theorem dX5_falls_64 : decode cX5_falls 64 = .ok (.saload, 1) := dk_53 (dk_at dksX5_falls_2 18 rfl rfl)
theorem dX5_falls_65 : decode cX5_falls 65 = .ok (.if_icmp .ge 5, 3) := dk_162 0 5 (dk_at dksX5_falls_2 19 rfl rfl)
theorem dX5_falls_68 : decode cX5_falls 68 = .ok (.iload_n 3, 1) := dk_29 (dk_at dksX5_falls_2 22 rfl rfl)
theorem dX5_falls_69 : decode cX5_falls 69 = .ok (.istore_n 2, 1) := dk_61 (dk_at dksX5_falls_2 23 rfl rfl)
theorem dX5_falls_70 : decode cX5_falls 70 = .ok (.iinc 3 1, 3) := dk_132 3 1 (dk_at dksX5_falls_3 0 rfl rfl)
theorem dX5_falls_73 : decode cX5_falls 73 = .ok (.goto (-69), 3) := dk_167 255 187 (dk_at dksX5_falls_3 3 rfl rfl)
theorem dX5_falls_76 : decode cX5_falls 76 = .ok (.iload_n 2, 1) := dk_28 (dk_at dksX5_falls_3 6 rfl rfl)
theorem dX5_falls_77 : decode cX5_falls 77 = .ok (.ireturn, 1) := dk_172 (dk_at dksX5_falls_3 7 rfl rfl)
abbrev cX5_many : ByteArray := prog_2_method_5_code
def yX5_many : MethodName := ⟨RX5, "many", "()I"⟩
def dkwX5_many_0 : List UInt8 := [42, 180, 0, 25, 182, 0, 109, 172]
abbrev dktX5_many_0 : List UInt8 := dkwX5_many_0 ++ []
theorem dksX5_many_0 : cX5_many.data.toList.drop 0 = dktX5_many_0 := by decide +kernel
theorem dX5_many_0 : decode cX5_many 0 = .ok (.aload_n 0, 1) := dk_42 (dk_at dksX5_many_0 0 rfl rfl)
theorem dX5_many_1 : decode cX5_many 1 = .ok (.getfield 25, 3) := dk_180 0 25 (dk_at dksX5_many_0 1 rfl rfl)
theorem dX5_many_4 : decode cX5_many 4 = .ok (.invokevirtual 109, 3) := dk_182 0 109 (dk_at dksX5_many_0 4 rfl rfl)
theorem dX5_many_7 : decode cX5_many 7 = .ok (.ireturn, 1) := dk_172 (dk_at dksX5_many_0 7 rfl rfl)
abbrev cX5_at : ByteArray := prog_2_method_6_code
def yX5_at : MethodName := ⟨RX5, "at", "(I)LSpinStrip$Level;"⟩
def dkwX5_at_3 : List UInt8 := [184, 0, 93, 182, 0, 120, 192, 0, 16, 176]
abbrev dktX5_at_3 : List UInt8 := dkwX5_at_3 ++ []
def dkwX5_at_2 : List UInt8 := [184, 0, 93, 182, 0, 116, 192, 0, 57, 182, 0, 82, 61, 132, 3, 1, 167, 255, 230, 42, 180, 0, 25, 28]
abbrev dktX5_at_2 : List UInt8 := dkwX5_at_2 ++ dktX5_at_3
def dkwX5_at_1 : List UInt8 := [182, 0, 78, 192, 0, 57, 182, 0, 82, 61, 3, 62, 29, 27, 162, 0, 27, 42, 180, 0, 25, 28]
abbrev dktX5_at_1 : List UInt8 := dkwX5_at_1 ++ dktX5_at_2
def dkwX5_at_0 : List UInt8 := [27, 3, 42, 180, 0, 25, 182, 0, 109, 4, 100, 184, 0, 112, 154, 0, 5, 1, 176, 42, 180, 0, 25]
abbrev dktX5_at_0 : List UInt8 := dkwX5_at_0 ++ dktX5_at_1
theorem dksX5_at_0 : cX5_at.data.toList.drop 0 = dktX5_at_0 := by decide +kernel
theorem dksX5_at_1 : cX5_at.data.toList.drop 23 = dktX5_at_1 := dk_seg dksX5_at_0 23 rfl rfl
theorem dksX5_at_2 : cX5_at.data.toList.drop 45 = dktX5_at_2 := dk_seg dksX5_at_1 22 rfl rfl
theorem dksX5_at_3 : cX5_at.data.toList.drop 69 = dktX5_at_3 := dk_seg dksX5_at_2 24 rfl rfl
theorem dX5_at_0 : decode cX5_at 0 = .ok (.iload_n 1, 1) := dk_27 (dk_at dksX5_at_0 0 rfl rfl)
theorem dX5_at_1 : decode cX5_at 1 = .ok (.iconst 0, 1) := dk_3 (dk_at dksX5_at_0 1 rfl rfl)
theorem dX5_at_2 : decode cX5_at 2 = .ok (.aload_n 0, 1) := dk_42 (dk_at dksX5_at_0 2 rfl rfl)
theorem dX5_at_3 : decode cX5_at 3 = .ok (.getfield 25, 3) := dk_180 0 25 (dk_at dksX5_at_0 3 rfl rfl)
theorem dX5_at_6 : decode cX5_at 6 = .ok (.invokevirtual 109, 3) := dk_182 0 109 (dk_at dksX5_at_0 6 rfl rfl)
theorem dX5_at_9 : decode cX5_at 9 = .ok (.iconst 1, 1) := dk_4 (dk_at dksX5_at_0 9 rfl rfl)
theorem dX5_at_10 : decode cX5_at 10 = .ok (.isub, 1) := dk_100 (dk_at dksX5_at_0 10 rfl rfl)
theorem dX5_at_11 : decode cX5_at 11 = .ok (.invokestatic 112, 3) := dk_184 0 112 (dk_at dksX5_at_0 11 rfl rfl)
theorem dX5_at_14 : decode cX5_at 14 = .ok (.ifCond .ne 5, 3) := dk_154 0 5 (dk_at dksX5_at_0 14 rfl rfl)
theorem dX5_at_17 : decode cX5_at 17 = .ok (.aconst_null, 1) := dk_1 (dk_at dksX5_at_0 17 rfl rfl)
theorem dX5_at_18 : decode cX5_at 18 = .ok (.areturn, 1) := dk_176 (dk_at dksX5_at_0 18 rfl rfl)
theorem dX5_at_19 : decode cX5_at 19 = .ok (.aload_n 0, 1) := dk_42 (dk_at dksX5_at_0 19 rfl rfl)
theorem dX5_at_20 : decode cX5_at 20 = .ok (.getfield 25, 3) := dk_180 0 25 (dk_at dksX5_at_0 20 rfl rfl)
theorem dX5_at_23 : decode cX5_at 23 = .ok (.invokevirtual 78, 3) := dk_182 0 78 (dk_at dksX5_at_1 0 rfl rfl)
theorem dX5_at_26 : decode cX5_at 26 = .ok (.checkcast 57, 3) := dk_192 0 57 (dk_at dksX5_at_1 3 rfl rfl)
theorem dX5_at_29 : decode cX5_at 29 = .ok (.invokevirtual 82, 3) := dk_182 0 82 (dk_at dksX5_at_1 6 rfl rfl)
theorem dX5_at_32 : decode cX5_at 32 = .ok (.istore_n 2, 1) := dk_61 (dk_at dksX5_at_1 9 rfl rfl)
theorem dX5_at_33 : decode cX5_at 33 = .ok (.iconst 0, 1) := dk_3 (dk_at dksX5_at_1 10 rfl rfl)
theorem dX5_at_34 : decode cX5_at 34 = .ok (.istore_n 3, 1) := dk_62 (dk_at dksX5_at_1 11 rfl rfl)
theorem dX5_at_35 : decode cX5_at 35 = .ok (.iload_n 3, 1) := dk_29 (dk_at dksX5_at_1 12 rfl rfl)
theorem dX5_at_36 : decode cX5_at 36 = .ok (.iload_n 1, 1) := dk_27 (dk_at dksX5_at_1 13 rfl rfl)
theorem dX5_at_37 : decode cX5_at 37 = .ok (.if_icmp .ge 27, 3) := dk_162 0 27 (dk_at dksX5_at_1 14 rfl rfl)
theorem dX5_at_40 : decode cX5_at 40 = .ok (.aload_n 0, 1) := dk_42 (dk_at dksX5_at_1 17 rfl rfl)
theorem dX5_at_41 : decode cX5_at 41 = .ok (.getfield 25, 3) := dk_180 0 25 (dk_at dksX5_at_1 18 rfl rfl)
theorem dX5_at_44 : decode cX5_at 44 = .ok (.iload_n 2, 1) := dk_28 (dk_at dksX5_at_1 21 rfl rfl)
theorem dX5_at_45 : decode cX5_at 45 = .ok (.invokestatic 93, 3) := dk_184 0 93 (dk_at dksX5_at_2 0 rfl rfl)
theorem dX5_at_48 : decode cX5_at 48 = .ok (.invokevirtual 116, 3) := dk_182 0 116 (dk_at dksX5_at_2 3 rfl rfl)
theorem dX5_at_51 : decode cX5_at 51 = .ok (.checkcast 57, 3) := dk_192 0 57 (dk_at dksX5_at_2 6 rfl rfl)
theorem dX5_at_54 : decode cX5_at 54 = .ok (.invokevirtual 82, 3) := dk_182 0 82 (dk_at dksX5_at_2 9 rfl rfl)
theorem dX5_at_57 : decode cX5_at 57 = .ok (.istore_n 2, 1) := dk_61 (dk_at dksX5_at_2 12 rfl rfl)
theorem dX5_at_58 : decode cX5_at 58 = .ok (.iinc 3 1, 3) := dk_132 3 1 (dk_at dksX5_at_2 13 rfl rfl)
theorem dX5_at_61 : decode cX5_at 61 = .ok (.goto (-26), 3) := dk_167 255 230 (dk_at dksX5_at_2 16 rfl rfl)
theorem dX5_at_64 : decode cX5_at 64 = .ok (.aload_n 0, 1) := dk_42 (dk_at dksX5_at_2 19 rfl rfl)
theorem dX5_at_65 : decode cX5_at 65 = .ok (.getfield 25, 3) := dk_180 0 25 (dk_at dksX5_at_2 20 rfl rfl)
theorem dX5_at_68 : decode cX5_at 68 = .ok (.iload_n 2, 1) := dk_28 (dk_at dksX5_at_2 23 rfl rfl)
theorem dX5_at_69 : decode cX5_at 69 = .ok (.invokestatic 93, 3) := dk_184 0 93 (dk_at dksX5_at_3 0 rfl rfl)
theorem dX5_at_72 : decode cX5_at 72 = .ok (.invokevirtual 120, 3) := dk_182 0 120 (dk_at dksX5_at_3 3 rfl rfl)
theorem dX5_at_75 : decode cX5_at 75 = .ok (.checkcast 16, 3) := dk_192 0 16 (dk_at dksX5_at_3 6 rfl rfl)
theorem dX5_at_78 : decode cX5_at 78 = .ok (.areturn, 1) := dk_176 (dk_at dksX5_at_3 9 rfl rfl)
abbrev cX5_manyOf : ByteArray := prog_2_method_9_code
def yX5_manyOf : MethodName := ⟨RX5, "manyOf", "(I)I"⟩
def dkwX5_manyOf_1 : List UInt8 := [167, 0, 4, 1, 77, 44, 199, 0, 7, 3, 167, 0, 7, 44, 180, 0, 123, 172]
abbrev dktX5_manyOf_1 : List UInt8 := dkwX5_manyOf_1 ++ []
def dkwX5_manyOf_0 : List UInt8 := [27, 17, 255, 112, 17, 0, 144, 184, 0, 112, 153, 0, 16, 42, 180, 0, 18, 27, 17, 0, 144, 96, 50]
abbrev dktX5_manyOf_0 : List UInt8 := dkwX5_manyOf_0 ++ dktX5_manyOf_1
theorem dksX5_manyOf_0 : cX5_manyOf.data.toList.drop 0 = dktX5_manyOf_0 := by decide +kernel
theorem dksX5_manyOf_1 : cX5_manyOf.data.toList.drop 23 = dktX5_manyOf_1 := dk_seg dksX5_manyOf_0 23 rfl rfl
theorem dX5_manyOf_0 : decode cX5_manyOf 0 = .ok (.iload_n 1, 1) := dk_27 (dk_at dksX5_manyOf_0 0 rfl rfl)
theorem dX5_manyOf_1 : decode cX5_manyOf 1 = .ok (.sipush (-144), 3) := dk_17 255 112 (dk_at dksX5_manyOf_0 1 rfl rfl)
theorem dX5_manyOf_4 : decode cX5_manyOf 4 = .ok (.sipush 144, 3) := dk_17 0 144 (dk_at dksX5_manyOf_0 4 rfl rfl)
theorem dX5_manyOf_7 : decode cX5_manyOf 7 = .ok (.invokestatic 112, 3) := dk_184 0 112 (dk_at dksX5_manyOf_0 7 rfl rfl)
theorem dX5_manyOf_10 : decode cX5_manyOf 10 = .ok (.ifCond .eq 16, 3) := dk_153 0 16 (dk_at dksX5_manyOf_0 10 rfl rfl)
theorem dX5_manyOf_13 : decode cX5_manyOf 13 = .ok (.aload_n 0, 1) := dk_42 (dk_at dksX5_manyOf_0 13 rfl rfl)
theorem dX5_manyOf_14 : decode cX5_manyOf 14 = .ok (.getfield 18, 3) := dk_180 0 18 (dk_at dksX5_manyOf_0 14 rfl rfl)
theorem dX5_manyOf_17 : decode cX5_manyOf 17 = .ok (.iload_n 1, 1) := dk_27 (dk_at dksX5_manyOf_0 17 rfl rfl)
theorem dX5_manyOf_18 : decode cX5_manyOf 18 = .ok (.sipush 144, 3) := dk_17 0 144 (dk_at dksX5_manyOf_0 18 rfl rfl)
theorem dX5_manyOf_21 : decode cX5_manyOf 21 = .ok (.iadd, 1) := dk_96 (dk_at dksX5_manyOf_0 21 rfl rfl)
theorem dX5_manyOf_22 : decode cX5_manyOf 22 = .ok (.aaload, 1) := dk_50 (dk_at dksX5_manyOf_0 22 rfl rfl)
theorem dX5_manyOf_23 : decode cX5_manyOf 23 = .ok (.goto 4, 3) := dk_167 0 4 (dk_at dksX5_manyOf_1 0 rfl rfl)
theorem dX5_manyOf_26 : decode cX5_manyOf 26 = .ok (.aconst_null, 1) := dk_1 (dk_at dksX5_manyOf_1 3 rfl rfl)
theorem dX5_manyOf_27 : decode cX5_manyOf 27 = .ok (.astore_n 2, 1) := dk_77 (dk_at dksX5_manyOf_1 4 rfl rfl)
theorem dX5_manyOf_28 : decode cX5_manyOf 28 = .ok (.aload_n 2, 1) := dk_44 (dk_at dksX5_manyOf_1 5 rfl rfl)
theorem dX5_manyOf_29 : decode cX5_manyOf 29 = .ok (.ifnonnull 7, 3) := dk_199 0 7 (dk_at dksX5_manyOf_1 6 rfl rfl)
theorem dX5_manyOf_32 : decode cX5_manyOf 32 = .ok (.iconst 0, 1) := dk_3 (dk_at dksX5_manyOf_1 9 rfl rfl)
theorem dX5_manyOf_33 : decode cX5_manyOf 33 = .ok (.goto 7, 3) := dk_167 0 7 (dk_at dksX5_manyOf_1 10 rfl rfl)
theorem dX5_manyOf_36 : decode cX5_manyOf 36 = .ok (.aload_n 2, 1) := dk_44 (dk_at dksX5_manyOf_1 13 rfl rfl)
theorem dX5_manyOf_37 : decode cX5_manyOf 37 = .ok (.getfield 123, 3) := dk_180 0 123 (dk_at dksX5_manyOf_1 14 rfl rfl)
theorem dX5_manyOf_40 : decode cX5_manyOf 40 = .ok (.ireturn, 1) := dk_172 (dk_at dksX5_manyOf_1 17 rfl rfl)
abbrev cX5_both : ByteArray := prog_2_method_12_code
def yX5_both : MethodName := ⟨RX5, "both", "(II)I"⟩
def dkwX5_both_2 : List UInt8 := [153, 0, 7, 4, 167, 0, 4, 3, 96, 62, 132, 4, 1, 167, 255, 201, 29, 172]
abbrev dktX5_both_2 : List UInt8 := dkwX5_both_2 ++ []
def dkwX5_both_1 : List UInt8 := [53, 27, 160, 0, 28, 21, 4, 184, 0, 101, 28, 160, 0, 19, 42, 180, 0, 36, 21, 4, 182, 0, 66]
abbrev dktX5_both_1 : List UInt8 := dkwX5_both_1 ++ dktX5_both_2
def dkwX5_both_0 : List UInt8 := [3, 62, 3, 54, 4, 21, 4, 42, 180, 0, 36, 182, 0, 47, 162, 0, 49, 29, 42, 180, 0, 10, 21, 4]
abbrev dktX5_both_0 : List UInt8 := dkwX5_both_0 ++ dktX5_both_1
theorem dksX5_both_0 : cX5_both.data.toList.drop 0 = dktX5_both_0 := by decide +kernel
theorem dksX5_both_1 : cX5_both.data.toList.drop 24 = dktX5_both_1 := dk_seg dksX5_both_0 24 rfl rfl
theorem dksX5_both_2 : cX5_both.data.toList.drop 47 = dktX5_both_2 := dk_seg dksX5_both_1 23 rfl rfl
theorem dX5_both_0 : decode cX5_both 0 = .ok (.iconst 0, 1) := dk_3 (dk_at dksX5_both_0 0 rfl rfl)
theorem dX5_both_1 : decode cX5_both 1 = .ok (.istore_n 3, 1) := dk_62 (dk_at dksX5_both_0 1 rfl rfl)
theorem dX5_both_2 : decode cX5_both 2 = .ok (.iconst 0, 1) := dk_3 (dk_at dksX5_both_0 2 rfl rfl)
theorem dX5_both_3 : decode cX5_both 3 = .ok (.istore 4, 2) := dk_54 4 (dk_at dksX5_both_0 3 rfl rfl)
theorem dX5_both_5 : decode cX5_both 5 = .ok (.iload 4, 2) := dk_21 4 (dk_at dksX5_both_0 5 rfl rfl)
theorem dX5_both_7 : decode cX5_both 7 = .ok (.aload_n 0, 1) := dk_42 (dk_at dksX5_both_0 7 rfl rfl)
theorem dX5_both_8 : decode cX5_both 8 = .ok (.getfield 36, 3) := dk_180 0 36 (dk_at dksX5_both_0 8 rfl rfl)
theorem dX5_both_11 : decode cX5_both 11 = .ok (.invokevirtual 47, 3) := dk_182 0 47 (dk_at dksX5_both_0 11 rfl rfl)
theorem dX5_both_14 : decode cX5_both 14 = .ok (.if_icmp .ge 49, 3) := dk_162 0 49 (dk_at dksX5_both_0 14 rfl rfl)
theorem dX5_both_17 : decode cX5_both 17 = .ok (.iload_n 3, 1) := dk_29 (dk_at dksX5_both_0 17 rfl rfl)
theorem dX5_both_18 : decode cX5_both 18 = .ok (.aload_n 0, 1) := dk_42 (dk_at dksX5_both_0 18 rfl rfl)
theorem dX5_both_19 : decode cX5_both 19 = .ok (.getfield 10, 3) := dk_180 0 10 (dk_at dksX5_both_0 19 rfl rfl)
theorem dX5_both_22 : decode cX5_both 22 = .ok (.iload 4, 2) := dk_21 4 (dk_at dksX5_both_0 22 rfl rfl)
theorem dX5_both_24 : decode cX5_both 24 = .ok (.saload, 1) := dk_53 (dk_at dksX5_both_1 0 rfl rfl)
theorem dX5_both_25 : decode cX5_both 25 = .ok (.iload_n 1, 1) := dk_27 (dk_at dksX5_both_1 1 rfl rfl)
theorem dX5_both_26 : decode cX5_both 26 = .ok (.if_icmp .ne 28, 3) := dk_160 0 28 (dk_at dksX5_both_1 2 rfl rfl)
theorem dX5_both_29 : decode cX5_both 29 = .ok (.iload 4, 2) := dk_21 4 (dk_at dksX5_both_1 5 rfl rfl)
theorem dX5_both_31 : decode cX5_both 31 = .ok (.invokestatic 101, 3) := dk_184 0 101 (dk_at dksX5_both_1 7 rfl rfl)
theorem dX5_both_34 : decode cX5_both 34 = .ok (.iload_n 2, 1) := dk_28 (dk_at dksX5_both_1 10 rfl rfl)
theorem dX5_both_35 : decode cX5_both 35 = .ok (.if_icmp .ne 19, 3) := dk_160 0 19 (dk_at dksX5_both_1 11 rfl rfl)
theorem dX5_both_38 : decode cX5_both 38 = .ok (.aload_n 0, 1) := dk_42 (dk_at dksX5_both_1 14 rfl rfl)
theorem dX5_both_39 : decode cX5_both 39 = .ok (.getfield 36, 3) := dk_180 0 36 (dk_at dksX5_both_1 15 rfl rfl)
theorem dX5_both_42 : decode cX5_both 42 = .ok (.iload 4, 2) := dk_21 4 (dk_at dksX5_both_1 18 rfl rfl)
theorem dX5_both_44 : decode cX5_both 44 = .ok (.invokevirtual 66, 3) := dk_182 0 66 (dk_at dksX5_both_1 20 rfl rfl)
theorem dX5_both_47 : decode cX5_both 47 = .ok (.ifCond .eq 7, 3) := dk_153 0 7 (dk_at dksX5_both_2 0 rfl rfl)
theorem dX5_both_50 : decode cX5_both 50 = .ok (.iconst 1, 1) := dk_4 (dk_at dksX5_both_2 3 rfl rfl)
theorem dX5_both_51 : decode cX5_both 51 = .ok (.goto 4, 3) := dk_167 0 4 (dk_at dksX5_both_2 4 rfl rfl)
theorem dX5_both_54 : decode cX5_both 54 = .ok (.iconst 0, 1) := dk_3 (dk_at dksX5_both_2 7 rfl rfl)
theorem dX5_both_55 : decode cX5_both 55 = .ok (.iadd, 1) := dk_96 (dk_at dksX5_both_2 8 rfl rfl)
theorem dX5_both_56 : decode cX5_both 56 = .ok (.istore_n 3, 1) := dk_62 (dk_at dksX5_both_2 9 rfl rfl)
theorem dX5_both_57 : decode cX5_both 57 = .ok (.iinc 4 1, 3) := dk_132 4 1 (dk_at dksX5_both_2 10 rfl rfl)
theorem dX5_both_60 : decode cX5_both 60 = .ok (.goto (-55), 3) := dk_167 255 201 (dk_at dksX5_both_2 13 rfl rfl)
theorem dX5_both_63 : decode cX5_both 63 = .ok (.iload_n 3, 1) := dk_29 (dk_at dksX5_both_2 16 rfl rfl)
theorem dX5_both_64 : decode cX5_both 64 = .ok (.ireturn, 1) := dk_172 (dk_at dksX5_both_2 17 rfl rfl)
abbrev cX5_together : ByteArray := prog_2_method_10_code
def yX5_together : MethodName := ⟨RX5, "together", "(III)I"⟩
def dkwX5_together_3 : List UInt8 := [167, 255, 193, 21, 4, 172]
abbrev dktX5_together_3 : List UInt8 := dkwX5_together_3 ++ []
def dkwX5_together_2 : List UInt8 := [184, 0, 125, 21, 5, 28, 184, 0, 125, 160, 0, 7, 4, 167, 0, 4, 2, 96, 54, 4, 132, 5, 1]
abbrev dktX5_together_2 : List UInt8 := dkwX5_together_2 ++ dktX5_together_3
def dkwX5_together_1 : List UInt8 := [53, 29, 160, 0, 40, 42, 180, 0, 36, 21, 5, 182, 0, 66, 153, 0, 28, 21, 4, 21, 5, 27]
abbrev dktX5_together_1 : List UInt8 := dkwX5_together_1 ++ dktX5_together_2
def dkwX5_together_0 : List UInt8 := [3, 54, 4, 3, 54, 5, 21, 5, 42, 180, 0, 36, 182, 0, 47, 162, 0, 57, 42, 180, 0, 10, 21, 5]
abbrev dktX5_together_0 : List UInt8 := dkwX5_together_0 ++ dktX5_together_1
theorem dksX5_together_0 : cX5_together.data.toList.drop 0 = dktX5_together_0 := by decide +kernel
theorem dksX5_together_1 : cX5_together.data.toList.drop 24 = dktX5_together_1 := dk_seg dksX5_together_0 24 rfl rfl
theorem dksX5_together_2 : cX5_together.data.toList.drop 46 = dktX5_together_2 := dk_seg dksX5_together_1 22 rfl rfl
theorem dksX5_together_3 : cX5_together.data.toList.drop 69 = dktX5_together_3 := dk_seg dksX5_together_2 23 rfl rfl
theorem dX5_together_0 : decode cX5_together 0 = .ok (.iconst 0, 1) := dk_3 (dk_at dksX5_together_0 0 rfl rfl)
theorem dX5_together_1 : decode cX5_together 1 = .ok (.istore 4, 2) := dk_54 4 (dk_at dksX5_together_0 1 rfl rfl)
theorem dX5_together_3 : decode cX5_together 3 = .ok (.iconst 0, 1) := dk_3 (dk_at dksX5_together_0 3 rfl rfl)
theorem dX5_together_4 : decode cX5_together 4 = .ok (.istore 5, 2) := dk_54 5 (dk_at dksX5_together_0 4 rfl rfl)
theorem dX5_together_6 : decode cX5_together 6 = .ok (.iload 5, 2) := dk_21 5 (dk_at dksX5_together_0 6 rfl rfl)
theorem dX5_together_8 : decode cX5_together 8 = .ok (.aload_n 0, 1) := dk_42 (dk_at dksX5_together_0 8 rfl rfl)
theorem dX5_together_9 : decode cX5_together 9 = .ok (.getfield 36, 3) := dk_180 0 36 (dk_at dksX5_together_0 9 rfl rfl)
theorem dX5_together_12 : decode cX5_together 12 = .ok (.invokevirtual 47, 3) := dk_182 0 47 (dk_at dksX5_together_0 12 rfl rfl)
theorem dX5_together_15 : decode cX5_together 15 = .ok (.if_icmp .ge 57, 3) := dk_162 0 57 (dk_at dksX5_together_0 15 rfl rfl)
theorem dX5_together_18 : decode cX5_together 18 = .ok (.aload_n 0, 1) := dk_42 (dk_at dksX5_together_0 18 rfl rfl)
theorem dX5_together_19 : decode cX5_together 19 = .ok (.getfield 10, 3) := dk_180 0 10 (dk_at dksX5_together_0 19 rfl rfl)
theorem dX5_together_22 : decode cX5_together 22 = .ok (.iload 5, 2) := dk_21 5 (dk_at dksX5_together_0 22 rfl rfl)
theorem dX5_together_24 : decode cX5_together 24 = .ok (.saload, 1) := dk_53 (dk_at dksX5_together_1 0 rfl rfl)
theorem dX5_together_25 : decode cX5_together 25 = .ok (.iload_n 3, 1) := dk_29 (dk_at dksX5_together_1 1 rfl rfl)
theorem dX5_together_26 : decode cX5_together 26 = .ok (.if_icmp .ne 40, 3) := dk_160 0 40 (dk_at dksX5_together_1 2 rfl rfl)
theorem dX5_together_29 : decode cX5_together 29 = .ok (.aload_n 0, 1) := dk_42 (dk_at dksX5_together_1 5 rfl rfl)
theorem dX5_together_30 : decode cX5_together 30 = .ok (.getfield 36, 3) := dk_180 0 36 (dk_at dksX5_together_1 6 rfl rfl)
theorem dX5_together_33 : decode cX5_together 33 = .ok (.iload 5, 2) := dk_21 5 (dk_at dksX5_together_1 9 rfl rfl)
theorem dX5_together_35 : decode cX5_together 35 = .ok (.invokevirtual 66, 3) := dk_182 0 66 (dk_at dksX5_together_1 11 rfl rfl)
theorem dX5_together_38 : decode cX5_together 38 = .ok (.ifCond .eq 28, 3) := dk_153 0 28 (dk_at dksX5_together_1 14 rfl rfl)
theorem dX5_together_41 : decode cX5_together 41 = .ok (.iload 4, 2) := dk_21 4 (dk_at dksX5_together_1 17 rfl rfl)
theorem dX5_together_43 : decode cX5_together 43 = .ok (.iload 5, 2) := dk_21 5 (dk_at dksX5_together_1 19 rfl rfl)
theorem dX5_together_45 : decode cX5_together 45 = .ok (.iload_n 1, 1) := dk_27 (dk_at dksX5_together_1 21 rfl rfl)
theorem dX5_together_46 : decode cX5_together 46 = .ok (.invokestatic 125, 3) := dk_184 0 125 (dk_at dksX5_together_2 0 rfl rfl)
theorem dX5_together_49 : decode cX5_together 49 = .ok (.iload 5, 2) := dk_21 5 (dk_at dksX5_together_2 3 rfl rfl)
theorem dX5_together_51 : decode cX5_together 51 = .ok (.iload_n 2, 1) := dk_28 (dk_at dksX5_together_2 5 rfl rfl)
theorem dX5_together_52 : decode cX5_together 52 = .ok (.invokestatic 125, 3) := dk_184 0 125 (dk_at dksX5_together_2 6 rfl rfl)
theorem dX5_together_55 : decode cX5_together 55 = .ok (.if_icmp .ne 7, 3) := dk_160 0 7 (dk_at dksX5_together_2 9 rfl rfl)
theorem dX5_together_58 : decode cX5_together 58 = .ok (.iconst 1, 1) := dk_4 (dk_at dksX5_together_2 12 rfl rfl)
theorem dX5_together_59 : decode cX5_together 59 = .ok (.goto 4, 3) := dk_167 0 4 (dk_at dksX5_together_2 13 rfl rfl)
theorem dX5_together_62 : decode cX5_together 62 = .ok (.iconst (-1), 1) := dk_2 (dk_at dksX5_together_2 16 rfl rfl)
theorem dX5_together_63 : decode cX5_together 63 = .ok (.iadd, 1) := dk_96 (dk_at dksX5_together_2 17 rfl rfl)
theorem dX5_together_64 : decode cX5_together 64 = .ok (.istore 4, 2) := dk_54 4 (dk_at dksX5_together_2 18 rfl rfl)
theorem dX5_together_66 : decode cX5_together 66 = .ok (.iinc 5 1, 3) := dk_132 5 1 (dk_at dksX5_together_2 20 rfl rfl)
theorem dX5_together_69 : decode cX5_together 69 = .ok (.goto (-63), 3) := dk_167 255 193 (dk_at dksX5_together_3 0 rfl rfl)
theorem dX5_together_72 : decode cX5_together 72 = .ok (.iload 4, 2) := dk_21 4 (dk_at dksX5_together_3 3 rfl rfl)
theorem dX5_together_74 : decode cX5_together 74 = .ok (.ireturn, 1) := dk_172 (dk_at dksX5_together_3 5 rfl rfl)
abbrev cX5_ups : ByteArray := prog_2_method_11_code
def yX5_ups : MethodName := ⟨RX5, "ups", "(I)I"⟩
def dkwX5_ups_2 : List UInt8 := [167, 255, 214, 28, 172]
abbrev dktX5_ups_2 : List UInt8 := dkwX5_ups_2 ++ []
def dkwX5_ups_1 : List UInt8 := [160, 0, 21, 42, 180, 0, 36, 29, 182, 0, 66, 153, 0, 10, 28, 29, 184, 0, 101, 96, 61, 132, 3, 1]
abbrev dktX5_ups_1 : List UInt8 := dkwX5_ups_1 ++ dktX5_ups_2
def dkwX5_ups_0 : List UInt8 := [3, 61, 3, 62, 29, 42, 180, 0, 36, 182, 0, 47, 162, 0, 37, 42, 180, 0, 10, 29, 53, 27]
abbrev dktX5_ups_0 : List UInt8 := dkwX5_ups_0 ++ dktX5_ups_1
theorem dksX5_ups_0 : cX5_ups.data.toList.drop 0 = dktX5_ups_0 := by decide +kernel
theorem dksX5_ups_1 : cX5_ups.data.toList.drop 22 = dktX5_ups_1 := dk_seg dksX5_ups_0 22 rfl rfl
theorem dksX5_ups_2 : cX5_ups.data.toList.drop 46 = dktX5_ups_2 := dk_seg dksX5_ups_1 24 rfl rfl
theorem dX5_ups_0 : decode cX5_ups 0 = .ok (.iconst 0, 1) := dk_3 (dk_at dksX5_ups_0 0 rfl rfl)
theorem dX5_ups_1 : decode cX5_ups 1 = .ok (.istore_n 2, 1) := dk_61 (dk_at dksX5_ups_0 1 rfl rfl)
theorem dX5_ups_2 : decode cX5_ups 2 = .ok (.iconst 0, 1) := dk_3 (dk_at dksX5_ups_0 2 rfl rfl)
theorem dX5_ups_3 : decode cX5_ups 3 = .ok (.istore_n 3, 1) := dk_62 (dk_at dksX5_ups_0 3 rfl rfl)
theorem dX5_ups_4 : decode cX5_ups 4 = .ok (.iload_n 3, 1) := dk_29 (dk_at dksX5_ups_0 4 rfl rfl)
theorem dX5_ups_5 : decode cX5_ups 5 = .ok (.aload_n 0, 1) := dk_42 (dk_at dksX5_ups_0 5 rfl rfl)
theorem dX5_ups_6 : decode cX5_ups 6 = .ok (.getfield 36, 3) := dk_180 0 36 (dk_at dksX5_ups_0 6 rfl rfl)
theorem dX5_ups_9 : decode cX5_ups 9 = .ok (.invokevirtual 47, 3) := dk_182 0 47 (dk_at dksX5_ups_0 9 rfl rfl)
theorem dX5_ups_12 : decode cX5_ups 12 = .ok (.if_icmp .ge 37, 3) := dk_162 0 37 (dk_at dksX5_ups_0 12 rfl rfl)
theorem dX5_ups_15 : decode cX5_ups 15 = .ok (.aload_n 0, 1) := dk_42 (dk_at dksX5_ups_0 15 rfl rfl)
theorem dX5_ups_16 : decode cX5_ups 16 = .ok (.getfield 10, 3) := dk_180 0 10 (dk_at dksX5_ups_0 16 rfl rfl)
theorem dX5_ups_19 : decode cX5_ups 19 = .ok (.iload_n 3, 1) := dk_29 (dk_at dksX5_ups_0 19 rfl rfl)
theorem dX5_ups_20 : decode cX5_ups 20 = .ok (.saload, 1) := dk_53 (dk_at dksX5_ups_0 20 rfl rfl)
theorem dX5_ups_21 : decode cX5_ups 21 = .ok (.iload_n 1, 1) := dk_27 (dk_at dksX5_ups_0 21 rfl rfl)
theorem dX5_ups_22 : decode cX5_ups 22 = .ok (.if_icmp .ne 21, 3) := dk_160 0 21 (dk_at dksX5_ups_1 0 rfl rfl)
theorem dX5_ups_25 : decode cX5_ups 25 = .ok (.aload_n 0, 1) := dk_42 (dk_at dksX5_ups_1 3 rfl rfl)
theorem dX5_ups_26 : decode cX5_ups 26 = .ok (.getfield 36, 3) := dk_180 0 36 (dk_at dksX5_ups_1 4 rfl rfl)
theorem dX5_ups_29 : decode cX5_ups 29 = .ok (.iload_n 3, 1) := dk_29 (dk_at dksX5_ups_1 7 rfl rfl)
theorem dX5_ups_30 : decode cX5_ups 30 = .ok (.invokevirtual 66, 3) := dk_182 0 66 (dk_at dksX5_ups_1 8 rfl rfl)
theorem dX5_ups_33 : decode cX5_ups 33 = .ok (.ifCond .eq 10, 3) := dk_153 0 10 (dk_at dksX5_ups_1 11 rfl rfl)
theorem dX5_ups_36 : decode cX5_ups 36 = .ok (.iload_n 2, 1) := dk_28 (dk_at dksX5_ups_1 14 rfl rfl)
theorem dX5_ups_37 : decode cX5_ups 37 = .ok (.iload_n 3, 1) := dk_29 (dk_at dksX5_ups_1 15 rfl rfl)
theorem dX5_ups_38 : decode cX5_ups 38 = .ok (.invokestatic 101, 3) := dk_184 0 101 (dk_at dksX5_ups_1 16 rfl rfl)
theorem dX5_ups_41 : decode cX5_ups 41 = .ok (.iadd, 1) := dk_96 (dk_at dksX5_ups_1 19 rfl rfl)
theorem dX5_ups_42 : decode cX5_ups 42 = .ok (.istore_n 2, 1) := dk_61 (dk_at dksX5_ups_1 20 rfl rfl)
theorem dX5_ups_43 : decode cX5_ups 43 = .ok (.iinc 3 1, 3) := dk_132 3 1 (dk_at dksX5_ups_1 21 rfl rfl)
theorem dX5_ups_46 : decode cX5_ups 46 = .ok (.goto (-42), 3) := dk_167 255 214 (dk_at dksX5_ups_2 0 rfl rfl)
theorem dX5_ups_49 : decode cX5_ups 49 = .ok (.iload_n 2, 1) := dk_28 (dk_at dksX5_ups_2 3 rfl rfl)
theorem dX5_ups_50 : decode cX5_ups 50 = .ok (.ireturn, 1) := dk_172 (dk_at dksX5_ups_2 4 rfl rfl)
abbrev cX5_of : ByteArray := prog_2_method_4_code
def yX5_of : MethodName := ⟨RX5, "of", "(I)I"⟩
def dkwX5_of_0 : List UInt8 := [42, 180, 0, 10, 27, 53, 172]
abbrev dktX5_of_0 : List UInt8 := dkwX5_of_0 ++ []
theorem dksX5_of_0 : cX5_of.data.toList.drop 0 = dktX5_of_0 := by decide +kernel
theorem dX5_of_0 : decode cX5_of 0 = .ok (.aload_n 0, 1) := dk_42 (dk_at dksX5_of_0 0 rfl rfl)
theorem dX5_of_1 : decode cX5_of 1 = .ok (.getfield 10, 3) := dk_180 0 10 (dk_at dksX5_of_0 1 rfl rfl)
theorem dX5_of_4 : decode cX5_of 4 = .ok (.iload_n 1, 1) := dk_27 (dk_at dksX5_of_0 4 rfl rfl)
theorem dX5_of_5 : decode cX5_of 5 = .ok (.saload, 1) := dk_53 (dk_at dksX5_of_0 5 rfl rfl)
theorem dX5_of_6 : decode cX5_of 6 = .ok (.ireturn, 1) := dk_172 (dk_at dksX5_of_0 6 rfl rfl)
abbrev cX5_isStuck : ByteArray := prog_2_method_14_code
def yX5_isStuck : MethodName := ⟨RX5, "isStuck", "(I)Z"⟩
def dkwX5_isStuck_0 : List UInt8 := [42, 27, 182, 0, 135, 156, 0, 7, 4, 167, 0, 4, 3, 172]
abbrev dktX5_isStuck_0 : List UInt8 := dkwX5_isStuck_0 ++ []
theorem dksX5_isStuck_0 : cX5_isStuck.data.toList.drop 0 = dktX5_isStuck_0 := by decide +kernel
theorem dX5_isStuck_0 : decode cX5_isStuck 0 = .ok (.aload_n 0, 1) := dk_42 (dk_at dksX5_isStuck_0 0 rfl rfl)
theorem dX5_isStuck_1 : decode cX5_isStuck 1 = .ok (.iload_n 1, 1) := dk_27 (dk_at dksX5_isStuck_0 1 rfl rfl)
theorem dX5_isStuck_2 : decode cX5_isStuck 2 = .ok (.invokevirtual 135, 3) := dk_182 0 135 (dk_at dksX5_isStuck_0 2 rfl rfl)
theorem dX5_isStuck_5 : decode cX5_isStuck 5 = .ok (.ifCond .ge 7, 3) := dk_156 0 7 (dk_at dksX5_isStuck_0 5 rfl rfl)
theorem dX5_isStuck_8 : decode cX5_isStuck 8 = .ok (.iconst 1, 1) := dk_4 (dk_at dksX5_isStuck_0 8 rfl rfl)
theorem dX5_isStuck_9 : decode cX5_isStuck 9 = .ok (.goto 4, 3) := dk_167 0 4 (dk_at dksX5_isStuck_0 9 rfl rfl)
theorem dX5_isStuck_12 : decode cX5_isStuck 12 = .ok (.iconst 0, 1) := dk_3 (dk_at dksX5_isStuck_0 12 rfl rfl)
theorem dX5_isStuck_13 : decode cX5_isStuck 13 = .ok (.ireturn, 1) := dk_172 (dk_at dksX5_isStuck_0 13 rfl rfl)
abbrev cX5_placeOf : ByteArray := prog_2_method_7_code
def yX5_placeOf : MethodName := ⟨RX5, "placeOf", "(I)I"⟩
def dkwX5_placeOf_1 : List UInt8 := [42, 180, 0, 25, 29, 184, 0, 93, 182, 0, 116, 192, 0, 57, 182, 0, 82, 62, 167, 255, 230, 28, 172]
abbrev dktX5_placeOf_1 : List UInt8 := dkwX5_placeOf_1 ++ []
def dkwX5_placeOf_0 : List UInt8 := [3, 61, 42, 180, 0, 25, 182, 0, 78, 192, 0, 57, 182, 0, 82, 62, 29, 27, 159, 0, 27, 132, 2, 1]
abbrev dktX5_placeOf_0 : List UInt8 := dkwX5_placeOf_0 ++ dktX5_placeOf_1
theorem dksX5_placeOf_0 : cX5_placeOf.data.toList.drop 0 = dktX5_placeOf_0 := by decide +kernel
theorem dksX5_placeOf_1 : cX5_placeOf.data.toList.drop 24 = dktX5_placeOf_1 := dk_seg dksX5_placeOf_0 24 rfl rfl
theorem dX5_placeOf_0 : decode cX5_placeOf 0 = .ok (.iconst 0, 1) := dk_3 (dk_at dksX5_placeOf_0 0 rfl rfl)
theorem dX5_placeOf_1 : decode cX5_placeOf 1 = .ok (.istore_n 2, 1) := dk_61 (dk_at dksX5_placeOf_0 1 rfl rfl)
theorem dX5_placeOf_2 : decode cX5_placeOf 2 = .ok (.aload_n 0, 1) := dk_42 (dk_at dksX5_placeOf_0 2 rfl rfl)
theorem dX5_placeOf_3 : decode cX5_placeOf 3 = .ok (.getfield 25, 3) := dk_180 0 25 (dk_at dksX5_placeOf_0 3 rfl rfl)
theorem dX5_placeOf_6 : decode cX5_placeOf 6 = .ok (.invokevirtual 78, 3) := dk_182 0 78 (dk_at dksX5_placeOf_0 6 rfl rfl)
theorem dX5_placeOf_9 : decode cX5_placeOf 9 = .ok (.checkcast 57, 3) := dk_192 0 57 (dk_at dksX5_placeOf_0 9 rfl rfl)
theorem dX5_placeOf_12 : decode cX5_placeOf 12 = .ok (.invokevirtual 82, 3) := dk_182 0 82 (dk_at dksX5_placeOf_0 12 rfl rfl)
theorem dX5_placeOf_15 : decode cX5_placeOf 15 = .ok (.istore_n 3, 1) := dk_62 (dk_at dksX5_placeOf_0 15 rfl rfl)
theorem dX5_placeOf_16 : decode cX5_placeOf 16 = .ok (.iload_n 3, 1) := dk_29 (dk_at dksX5_placeOf_0 16 rfl rfl)
theorem dX5_placeOf_17 : decode cX5_placeOf 17 = .ok (.iload_n 1, 1) := dk_27 (dk_at dksX5_placeOf_0 17 rfl rfl)
theorem dX5_placeOf_18 : decode cX5_placeOf 18 = .ok (.if_icmp .eq 27, 3) := dk_159 0 27 (dk_at dksX5_placeOf_0 18 rfl rfl)
theorem dX5_placeOf_21 : decode cX5_placeOf 21 = .ok (.iinc 2 1, 3) := dk_132 2 1 (dk_at dksX5_placeOf_0 21 rfl rfl)
theorem dX5_placeOf_24 : decode cX5_placeOf 24 = .ok (.aload_n 0, 1) := dk_42 (dk_at dksX5_placeOf_1 0 rfl rfl)
theorem dX5_placeOf_25 : decode cX5_placeOf 25 = .ok (.getfield 25, 3) := dk_180 0 25 (dk_at dksX5_placeOf_1 1 rfl rfl)
theorem dX5_placeOf_28 : decode cX5_placeOf 28 = .ok (.iload_n 3, 1) := dk_29 (dk_at dksX5_placeOf_1 4 rfl rfl)
theorem dX5_placeOf_29 : decode cX5_placeOf 29 = .ok (.invokestatic 93, 3) := dk_184 0 93 (dk_at dksX5_placeOf_1 5 rfl rfl)
theorem dX5_placeOf_32 : decode cX5_placeOf 32 = .ok (.invokevirtual 116, 3) := dk_182 0 116 (dk_at dksX5_placeOf_1 8 rfl rfl)
theorem dX5_placeOf_35 : decode cX5_placeOf 35 = .ok (.checkcast 57, 3) := dk_192 0 57 (dk_at dksX5_placeOf_1 11 rfl rfl)
theorem dX5_placeOf_38 : decode cX5_placeOf 38 = .ok (.invokevirtual 82, 3) := dk_182 0 82 (dk_at dksX5_placeOf_1 14 rfl rfl)
theorem dX5_placeOf_41 : decode cX5_placeOf 41 = .ok (.istore_n 3, 1) := dk_62 (dk_at dksX5_placeOf_1 17 rfl rfl)
theorem dX5_placeOf_42 : decode cX5_placeOf 42 = .ok (.goto (-26), 3) := dk_167 255 230 (dk_at dksX5_placeOf_1 18 rfl rfl)
theorem dX5_placeOf_45 : decode cX5_placeOf 45 = .ok (.iload_n 2, 1) := dk_28 (dk_at dksX5_placeOf_1 21 rfl rfl)
theorem dX5_placeOf_46 : decode cX5_placeOf 46 = .ok (.ireturn, 1) := dk_172 (dk_at dksX5_placeOf_1 22 rfl rfl)
abbrev cX5_isGround : ByteArray := prog_2_method_8_code
def yX5_isGround : MethodName := ⟨RX5, "isGround", "(I)Z"⟩
def dkwX5_isGround_1 : List UInt8 := [4, 167, 0, 4, 3, 172]
abbrev dktX5_isGround_1 : List UInt8 := dkwX5_isGround_1 ++ []
def dkwX5_isGround_0 : List UInt8 := [42, 180, 0, 36, 27, 182, 0, 66, 153, 0, 20, 42, 180, 0, 10, 27, 53, 42, 180, 0, 85, 160, 0, 7]
abbrev dktX5_isGround_0 : List UInt8 := dkwX5_isGround_0 ++ dktX5_isGround_1
theorem dksX5_isGround_0 : cX5_isGround.data.toList.drop 0 = dktX5_isGround_0 := by decide +kernel
theorem dksX5_isGround_1 : cX5_isGround.data.toList.drop 24 = dktX5_isGround_1 := dk_seg dksX5_isGround_0 24 rfl rfl
theorem dX5_isGround_0 : decode cX5_isGround 0 = .ok (.aload_n 0, 1) := dk_42 (dk_at dksX5_isGround_0 0 rfl rfl)
theorem dX5_isGround_1 : decode cX5_isGround 1 = .ok (.getfield 36, 3) := dk_180 0 36 (dk_at dksX5_isGround_0 1 rfl rfl)
theorem dX5_isGround_4 : decode cX5_isGround 4 = .ok (.iload_n 1, 1) := dk_27 (dk_at dksX5_isGround_0 4 rfl rfl)
theorem dX5_isGround_5 : decode cX5_isGround 5 = .ok (.invokevirtual 66, 3) := dk_182 0 66 (dk_at dksX5_isGround_0 5 rfl rfl)
theorem dX5_isGround_8 : decode cX5_isGround 8 = .ok (.ifCond .eq 20, 3) := dk_153 0 20 (dk_at dksX5_isGround_0 8 rfl rfl)
theorem dX5_isGround_11 : decode cX5_isGround 11 = .ok (.aload_n 0, 1) := dk_42 (dk_at dksX5_isGround_0 11 rfl rfl)
theorem dX5_isGround_12 : decode cX5_isGround 12 = .ok (.getfield 10, 3) := dk_180 0 10 (dk_at dksX5_isGround_0 12 rfl rfl)
theorem dX5_isGround_15 : decode cX5_isGround 15 = .ok (.iload_n 1, 1) := dk_27 (dk_at dksX5_isGround_0 15 rfl rfl)
theorem dX5_isGround_16 : decode cX5_isGround 16 = .ok (.saload, 1) := dk_53 (dk_at dksX5_isGround_0 16 rfl rfl)
theorem dX5_isGround_17 : decode cX5_isGround 17 = .ok (.aload_n 0, 1) := dk_42 (dk_at dksX5_isGround_0 17 rfl rfl)
theorem dX5_isGround_18 : decode cX5_isGround 18 = .ok (.getfield 85, 3) := dk_180 0 85 (dk_at dksX5_isGround_0 18 rfl rfl)
theorem dX5_isGround_21 : decode cX5_isGround 21 = .ok (.if_icmp .ne 7, 3) := dk_160 0 7 (dk_at dksX5_isGround_0 21 rfl rfl)
theorem dX5_isGround_24 : decode cX5_isGround 24 = .ok (.iconst 1, 1) := dk_4 (dk_at dksX5_isGround_1 0 rfl rfl)
theorem dX5_isGround_25 : decode cX5_isGround 25 = .ok (.goto 4, 3) := dk_167 0 4 (dk_at dksX5_isGround_1 1 rfl rfl)
theorem dX5_isGround_28 : decode cX5_isGround 28 = .ok (.iconst 0, 1) := dk_3 (dk_at dksX5_isGround_1 4 rfl rfl)
theorem dX5_isGround_29 : decode cX5_isGround 29 = .ok (.ireturn, 1) := dk_172 (dk_at dksX5_isGround_1 5 rfl rfl)
abbrev cX5_overlap : ByteArray := prog_2_method_15_code
def yX5_overlap : MethodName := ⟨RX5, "overlap", "(I)I"⟩
def dkwX5_overlap_4 : List UInt8 := [132, 3, 1, 132, 4, 1, 167, 255, 178, 28, 172]
abbrev dktX5_overlap_4 : List UInt8 := dkwX5_overlap_4 ++ []
def dkwX5_overlap_3 : List UInt8 := [160, 0, 7, 4, 167, 0, 4, 3, 96, 61, 132, 5, 1, 167, 255, 222, 42, 180, 0, 33, 29, 21, 4, 79]
abbrev dktX5_overlap_3 : List UInt8 := dkwX5_overlap_3 ++ dktX5_overlap_4
def dkwX5_overlap_2 : List UInt8 := [3, 54, 5, 21, 5, 29, 162, 0, 34, 28, 21, 4, 42, 180, 0, 33, 21, 5, 46, 130, 184, 0, 101, 27]
abbrev dktX5_overlap_2 : List UInt8 := dkwX5_overlap_2 ++ dktX5_overlap_3
def dkwX5_overlap_1 : List UInt8 := [21, 4, 42, 180, 0, 36, 182, 0, 47, 162, 0, 72, 42, 21, 4, 182, 0, 141, 154, 0, 6, 167, 0, 54]
abbrev dktX5_overlap_1 : List UInt8 := dkwX5_overlap_1 ++ dktX5_overlap_2
def dkwX5_overlap_0 : List UInt8 := [42, 42, 180, 0, 85, 182, 0, 138, 17, 1, 0, 164, 0, 6, 16, 254, 172, 3, 61, 3, 62, 3, 54, 4]
abbrev dktX5_overlap_0 : List UInt8 := dkwX5_overlap_0 ++ dktX5_overlap_1
theorem dksX5_overlap_0 : cX5_overlap.data.toList.drop 0 = dktX5_overlap_0 := by decide +kernel
theorem dksX5_overlap_1 : cX5_overlap.data.toList.drop 24 = dktX5_overlap_1 := dk_seg dksX5_overlap_0 24 rfl rfl
theorem dksX5_overlap_2 : cX5_overlap.data.toList.drop 48 = dktX5_overlap_2 := dk_seg dksX5_overlap_1 24 rfl rfl
theorem dksX5_overlap_3 : cX5_overlap.data.toList.drop 72 = dktX5_overlap_3 := dk_seg dksX5_overlap_2 24 rfl rfl
theorem dksX5_overlap_4 : cX5_overlap.data.toList.drop 96 = dktX5_overlap_4 := dk_seg dksX5_overlap_3 24 rfl rfl
theorem dX5_overlap_0 : decode cX5_overlap 0 = .ok (.aload_n 0, 1) := dk_42 (dk_at dksX5_overlap_0 0 rfl rfl)
theorem dX5_overlap_1 : decode cX5_overlap 1 = .ok (.aload_n 0, 1) := dk_42 (dk_at dksX5_overlap_0 1 rfl rfl)
theorem dX5_overlap_2 : decode cX5_overlap 2 = .ok (.getfield 85, 3) := dk_180 0 85 (dk_at dksX5_overlap_0 2 rfl rfl)
theorem dX5_overlap_5 : decode cX5_overlap 5 = .ok (.invokevirtual 138, 3) := dk_182 0 138 (dk_at dksX5_overlap_0 5 rfl rfl)
theorem dX5_overlap_8 : decode cX5_overlap 8 = .ok (.sipush 256, 3) := dk_17 1 0 (dk_at dksX5_overlap_0 8 rfl rfl)
theorem dX5_overlap_11 : decode cX5_overlap 11 = .ok (.if_icmp .le 6, 3) := dk_164 0 6 (dk_at dksX5_overlap_0 11 rfl rfl)
theorem dX5_overlap_14 : decode cX5_overlap 14 = .ok (.bipush (-2), 2) := dk_16 254 (dk_at dksX5_overlap_0 14 rfl rfl)
theorem dX5_overlap_16 : decode cX5_overlap 16 = .ok (.ireturn, 1) := dk_172 (dk_at dksX5_overlap_0 16 rfl rfl)
theorem dX5_overlap_17 : decode cX5_overlap 17 = .ok (.iconst 0, 1) := dk_3 (dk_at dksX5_overlap_0 17 rfl rfl)
theorem dX5_overlap_18 : decode cX5_overlap 18 = .ok (.istore_n 2, 1) := dk_61 (dk_at dksX5_overlap_0 18 rfl rfl)
theorem dX5_overlap_19 : decode cX5_overlap 19 = .ok (.iconst 0, 1) := dk_3 (dk_at dksX5_overlap_0 19 rfl rfl)
theorem dX5_overlap_20 : decode cX5_overlap 20 = .ok (.istore_n 3, 1) := dk_62 (dk_at dksX5_overlap_0 20 rfl rfl)
theorem dX5_overlap_21 : decode cX5_overlap 21 = .ok (.iconst 0, 1) := dk_3 (dk_at dksX5_overlap_0 21 rfl rfl)
theorem dX5_overlap_22 : decode cX5_overlap 22 = .ok (.istore 4, 2) := dk_54 4 (dk_at dksX5_overlap_0 22 rfl rfl)
theorem dX5_overlap_24 : decode cX5_overlap 24 = .ok (.iload 4, 2) := dk_21 4 (dk_at dksX5_overlap_1 0 rfl rfl)
theorem dX5_overlap_26 : decode cX5_overlap 26 = .ok (.aload_n 0, 1) := dk_42 (dk_at dksX5_overlap_1 2 rfl rfl)
theorem dX5_overlap_27 : decode cX5_overlap 27 = .ok (.getfield 36, 3) := dk_180 0 36 (dk_at dksX5_overlap_1 3 rfl rfl)
theorem dX5_overlap_30 : decode cX5_overlap 30 = .ok (.invokevirtual 47, 3) := dk_182 0 47 (dk_at dksX5_overlap_1 6 rfl rfl)
theorem dX5_overlap_33 : decode cX5_overlap 33 = .ok (.if_icmp .ge 72, 3) := dk_162 0 72 (dk_at dksX5_overlap_1 9 rfl rfl)
theorem dX5_overlap_36 : decode cX5_overlap 36 = .ok (.aload_n 0, 1) := dk_42 (dk_at dksX5_overlap_1 12 rfl rfl)
theorem dX5_overlap_37 : decode cX5_overlap 37 = .ok (.iload 4, 2) := dk_21 4 (dk_at dksX5_overlap_1 13 rfl rfl)
theorem dX5_overlap_39 : decode cX5_overlap 39 = .ok (.invokevirtual 141, 3) := dk_182 0 141 (dk_at dksX5_overlap_1 15 rfl rfl)
theorem dX5_overlap_42 : decode cX5_overlap 42 = .ok (.ifCond .ne 6, 3) := dk_154 0 6 (dk_at dksX5_overlap_1 18 rfl rfl)
theorem dX5_overlap_45 : decode cX5_overlap 45 = .ok (.goto 54, 3) := dk_167 0 54 (dk_at dksX5_overlap_1 21 rfl rfl)
theorem dX5_overlap_48 : decode cX5_overlap 48 = .ok (.iconst 0, 1) := dk_3 (dk_at dksX5_overlap_2 0 rfl rfl)
theorem dX5_overlap_49 : decode cX5_overlap 49 = .ok (.istore 5, 2) := dk_54 5 (dk_at dksX5_overlap_2 1 rfl rfl)
theorem dX5_overlap_51 : decode cX5_overlap 51 = .ok (.iload 5, 2) := dk_21 5 (dk_at dksX5_overlap_2 3 rfl rfl)
theorem dX5_overlap_53 : decode cX5_overlap 53 = .ok (.iload_n 3, 1) := dk_29 (dk_at dksX5_overlap_2 5 rfl rfl)
theorem dX5_overlap_54 : decode cX5_overlap 54 = .ok (.if_icmp .ge 34, 3) := dk_162 0 34 (dk_at dksX5_overlap_2 6 rfl rfl)
theorem dX5_overlap_57 : decode cX5_overlap 57 = .ok (.iload_n 2, 1) := dk_28 (dk_at dksX5_overlap_2 9 rfl rfl)
theorem dX5_overlap_58 : decode cX5_overlap 58 = .ok (.iload 4, 2) := dk_21 4 (dk_at dksX5_overlap_2 10 rfl rfl)
theorem dX5_overlap_60 : decode cX5_overlap 60 = .ok (.aload_n 0, 1) := dk_42 (dk_at dksX5_overlap_2 12 rfl rfl)
theorem dX5_overlap_61 : decode cX5_overlap 61 = .ok (.getfield 33, 3) := dk_180 0 33 (dk_at dksX5_overlap_2 13 rfl rfl)
theorem dX5_overlap_64 : decode cX5_overlap 64 = .ok (.iload 5, 2) := dk_21 5 (dk_at dksX5_overlap_2 16 rfl rfl)
theorem dX5_overlap_66 : decode cX5_overlap 66 = .ok (.iaload, 1) := dk_46 (dk_at dksX5_overlap_2 18 rfl rfl)
theorem dX5_overlap_67 : decode cX5_overlap 67 = .ok (.ixor, 1) := dk_130 (dk_at dksX5_overlap_2 19 rfl rfl)
theorem dX5_overlap_68 : decode cX5_overlap 68 = .ok (.invokestatic 101, 3) := dk_184 0 101 (dk_at dksX5_overlap_2 20 rfl rfl)
theorem dX5_overlap_71 : decode cX5_overlap 71 = .ok (.iload_n 1, 1) := dk_27 (dk_at dksX5_overlap_2 23 rfl rfl)
theorem dX5_overlap_72 : decode cX5_overlap 72 = .ok (.if_icmp .ne 7, 3) := dk_160 0 7 (dk_at dksX5_overlap_3 0 rfl rfl)
theorem dX5_overlap_75 : decode cX5_overlap 75 = .ok (.iconst 1, 1) := dk_4 (dk_at dksX5_overlap_3 3 rfl rfl)
theorem dX5_overlap_76 : decode cX5_overlap 76 = .ok (.goto 4, 3) := dk_167 0 4 (dk_at dksX5_overlap_3 4 rfl rfl)
theorem dX5_overlap_79 : decode cX5_overlap 79 = .ok (.iconst 0, 1) := dk_3 (dk_at dksX5_overlap_3 7 rfl rfl)
theorem dX5_overlap_80 : decode cX5_overlap 80 = .ok (.iadd, 1) := dk_96 (dk_at dksX5_overlap_3 8 rfl rfl)
theorem dX5_overlap_81 : decode cX5_overlap 81 = .ok (.istore_n 2, 1) := dk_61 (dk_at dksX5_overlap_3 9 rfl rfl)
theorem dX5_overlap_82 : decode cX5_overlap 82 = .ok (.iinc 5 1, 3) := dk_132 5 1 (dk_at dksX5_overlap_3 10 rfl rfl)
theorem dX5_overlap_85 : decode cX5_overlap 85 = .ok (.goto (-34), 3) := dk_167 255 222 (dk_at dksX5_overlap_3 13 rfl rfl)
theorem dX5_overlap_88 : decode cX5_overlap 88 = .ok (.aload_n 0, 1) := dk_42 (dk_at dksX5_overlap_3 16 rfl rfl)
theorem dX5_overlap_89 : decode cX5_overlap 89 = .ok (.getfield 33, 3) := dk_180 0 33 (dk_at dksX5_overlap_3 17 rfl rfl)
theorem dX5_overlap_92 : decode cX5_overlap 92 = .ok (.iload_n 3, 1) := dk_29 (dk_at dksX5_overlap_3 20 rfl rfl)
theorem dX5_overlap_93 : decode cX5_overlap 93 = .ok (.iload 4, 2) := dk_21 4 (dk_at dksX5_overlap_3 21 rfl rfl)
theorem dX5_overlap_95 : decode cX5_overlap 95 = .ok (.iastore, 1) := dk_79 (dk_at dksX5_overlap_3 23 rfl rfl)
theorem dX5_overlap_96 : decode cX5_overlap 96 = .ok (.iinc 3 1, 3) := dk_132 3 1 (dk_at dksX5_overlap_4 0 rfl rfl)
theorem dX5_overlap_99 : decode cX5_overlap 99 = .ok (.iinc 4 1, 3) := dk_132 4 1 (dk_at dksX5_overlap_4 3 rfl rfl)
theorem dX5_overlap_102 : decode cX5_overlap 102 = .ok (.goto (-78), 3) := dk_167 255 178 (dk_at dksX5_overlap_4 6 rfl rfl)
theorem dX5_overlap_105 : decode cX5_overlap 105 = .ok (.iload_n 2, 1) := dk_28 (dk_at dksX5_overlap_4 9 rfl rfl)
theorem dX5_overlap_106 : decode cX5_overlap 106 = .ok (.ireturn, 1) := dk_172 (dk_at dksX5_overlap_4 10 rfl rfl)
abbrev cX5_basin : ByteArray := prog_2_method_17_code
def yX5_basin : MethodName := ⟨RX5, "basin", "(I)I"⟩
def dkwX5_basin_2 : List UInt8 := [167, 255, 214, 28, 172]
abbrev dktX5_basin_2 : List UInt8 := dkwX5_basin_2 ++ []
def dkwX5_basin_1 : List UInt8 := [153, 0, 16, 42, 29, 182, 0, 144, 27, 160, 0, 7, 4, 167, 0, 4, 3, 96, 61, 132, 3, 1]
abbrev dktX5_basin_1 : List UInt8 := dkwX5_basin_1 ++ dktX5_basin_2
def dkwX5_basin_0 : List UInt8 := [3, 61, 3, 62, 29, 42, 180, 0, 36, 182, 0, 47, 162, 0, 37, 28, 42, 180, 0, 36, 29, 182, 0, 66]
abbrev dktX5_basin_0 : List UInt8 := dkwX5_basin_0 ++ dktX5_basin_1
theorem dksX5_basin_0 : cX5_basin.data.toList.drop 0 = dktX5_basin_0 := by decide +kernel
theorem dksX5_basin_1 : cX5_basin.data.toList.drop 24 = dktX5_basin_1 := dk_seg dksX5_basin_0 24 rfl rfl
theorem dksX5_basin_2 : cX5_basin.data.toList.drop 46 = dktX5_basin_2 := dk_seg dksX5_basin_1 22 rfl rfl
theorem dX5_basin_0 : decode cX5_basin 0 = .ok (.iconst 0, 1) := dk_3 (dk_at dksX5_basin_0 0 rfl rfl)
theorem dX5_basin_1 : decode cX5_basin 1 = .ok (.istore_n 2, 1) := dk_61 (dk_at dksX5_basin_0 1 rfl rfl)
theorem dX5_basin_2 : decode cX5_basin 2 = .ok (.iconst 0, 1) := dk_3 (dk_at dksX5_basin_0 2 rfl rfl)
theorem dX5_basin_3 : decode cX5_basin 3 = .ok (.istore_n 3, 1) := dk_62 (dk_at dksX5_basin_0 3 rfl rfl)
theorem dX5_basin_4 : decode cX5_basin 4 = .ok (.iload_n 3, 1) := dk_29 (dk_at dksX5_basin_0 4 rfl rfl)
theorem dX5_basin_5 : decode cX5_basin 5 = .ok (.aload_n 0, 1) := dk_42 (dk_at dksX5_basin_0 5 rfl rfl)
theorem dX5_basin_6 : decode cX5_basin 6 = .ok (.getfield 36, 3) := dk_180 0 36 (dk_at dksX5_basin_0 6 rfl rfl)
theorem dX5_basin_9 : decode cX5_basin 9 = .ok (.invokevirtual 47, 3) := dk_182 0 47 (dk_at dksX5_basin_0 9 rfl rfl)
theorem dX5_basin_12 : decode cX5_basin 12 = .ok (.if_icmp .ge 37, 3) := dk_162 0 37 (dk_at dksX5_basin_0 12 rfl rfl)
theorem dX5_basin_15 : decode cX5_basin 15 = .ok (.iload_n 2, 1) := dk_28 (dk_at dksX5_basin_0 15 rfl rfl)
theorem dX5_basin_16 : decode cX5_basin 16 = .ok (.aload_n 0, 1) := dk_42 (dk_at dksX5_basin_0 16 rfl rfl)
theorem dX5_basin_17 : decode cX5_basin 17 = .ok (.getfield 36, 3) := dk_180 0 36 (dk_at dksX5_basin_0 17 rfl rfl)
theorem dX5_basin_20 : decode cX5_basin 20 = .ok (.iload_n 3, 1) := dk_29 (dk_at dksX5_basin_0 20 rfl rfl)
theorem dX5_basin_21 : decode cX5_basin 21 = .ok (.invokevirtual 66, 3) := dk_182 0 66 (dk_at dksX5_basin_0 21 rfl rfl)
theorem dX5_basin_24 : decode cX5_basin 24 = .ok (.ifCond .eq 16, 3) := dk_153 0 16 (dk_at dksX5_basin_1 0 rfl rfl)
theorem dX5_basin_27 : decode cX5_basin 27 = .ok (.aload_n 0, 1) := dk_42 (dk_at dksX5_basin_1 3 rfl rfl)
theorem dX5_basin_28 : decode cX5_basin 28 = .ok (.iload_n 3, 1) := dk_29 (dk_at dksX5_basin_1 4 rfl rfl)
theorem dX5_basin_29 : decode cX5_basin 29 = .ok (.invokevirtual 144, 3) := dk_182 0 144 (dk_at dksX5_basin_1 5 rfl rfl)
theorem dX5_basin_32 : decode cX5_basin 32 = .ok (.iload_n 1, 1) := dk_27 (dk_at dksX5_basin_1 8 rfl rfl)
theorem dX5_basin_33 : decode cX5_basin 33 = .ok (.if_icmp .ne 7, 3) := dk_160 0 7 (dk_at dksX5_basin_1 9 rfl rfl)
theorem dX5_basin_36 : decode cX5_basin 36 = .ok (.iconst 1, 1) := dk_4 (dk_at dksX5_basin_1 12 rfl rfl)
theorem dX5_basin_37 : decode cX5_basin 37 = .ok (.goto 4, 3) := dk_167 0 4 (dk_at dksX5_basin_1 13 rfl rfl)
theorem dX5_basin_40 : decode cX5_basin 40 = .ok (.iconst 0, 1) := dk_3 (dk_at dksX5_basin_1 16 rfl rfl)
theorem dX5_basin_41 : decode cX5_basin 41 = .ok (.iadd, 1) := dk_96 (dk_at dksX5_basin_1 17 rfl rfl)
theorem dX5_basin_42 : decode cX5_basin 42 = .ok (.istore_n 2, 1) := dk_61 (dk_at dksX5_basin_1 18 rfl rfl)
theorem dX5_basin_43 : decode cX5_basin 43 = .ok (.iinc 3 1, 3) := dk_132 3 1 (dk_at dksX5_basin_1 19 rfl rfl)
theorem dX5_basin_46 : decode cX5_basin 46 = .ok (.goto (-42), 3) := dk_167 255 214 (dk_at dksX5_basin_2 0 rfl rfl)
theorem dX5_basin_49 : decode cX5_basin 49 = .ok (.iload_n 2, 1) := dk_28 (dk_at dksX5_basin_2 3 rfl rfl)
theorem dX5_basin_50 : decode cX5_basin 50 = .ok (.ireturn, 1) := dk_172 (dk_at dksX5_basin_2 4 rfl rfl)
abbrev cX5_end : ByteArray := prog_2_method_16_code
def yX5_end : MethodName := ⟨RX5, "end", "(I)I"⟩
def dkwX5_end_1 : List UInt8 := [167, 255, 240, 28, 172]
abbrev dktX5_end_1 : List UInt8 := dkwX5_end_1 ++ []
def dkwX5_end_0 : List UInt8 := [27, 61, 42, 28, 182, 0, 135, 62, 29, 155, 0, 18, 28, 4, 29, 120, 130, 61, 42, 28, 182, 0, 135, 62]
abbrev dktX5_end_0 : List UInt8 := dkwX5_end_0 ++ dktX5_end_1
theorem dksX5_end_0 : cX5_end.data.toList.drop 0 = dktX5_end_0 := by decide +kernel
theorem dksX5_end_1 : cX5_end.data.toList.drop 24 = dktX5_end_1 := dk_seg dksX5_end_0 24 rfl rfl
theorem dX5_end_0 : decode cX5_end 0 = .ok (.iload_n 1, 1) := dk_27 (dk_at dksX5_end_0 0 rfl rfl)
theorem dX5_end_1 : decode cX5_end 1 = .ok (.istore_n 2, 1) := dk_61 (dk_at dksX5_end_0 1 rfl rfl)
theorem dX5_end_2 : decode cX5_end 2 = .ok (.aload_n 0, 1) := dk_42 (dk_at dksX5_end_0 2 rfl rfl)
theorem dX5_end_3 : decode cX5_end 3 = .ok (.iload_n 2, 1) := dk_28 (dk_at dksX5_end_0 3 rfl rfl)
theorem dX5_end_4 : decode cX5_end 4 = .ok (.invokevirtual 135, 3) := dk_182 0 135 (dk_at dksX5_end_0 4 rfl rfl)
theorem dX5_end_7 : decode cX5_end 7 = .ok (.istore_n 3, 1) := dk_62 (dk_at dksX5_end_0 7 rfl rfl)
theorem dX5_end_8 : decode cX5_end 8 = .ok (.iload_n 3, 1) := dk_29 (dk_at dksX5_end_0 8 rfl rfl)
theorem dX5_end_9 : decode cX5_end 9 = .ok (.ifCond .lt 18, 3) := dk_155 0 18 (dk_at dksX5_end_0 9 rfl rfl)
theorem dX5_end_12 : decode cX5_end 12 = .ok (.iload_n 2, 1) := dk_28 (dk_at dksX5_end_0 12 rfl rfl)
theorem dX5_end_13 : decode cX5_end 13 = .ok (.iconst 1, 1) := dk_4 (dk_at dksX5_end_0 13 rfl rfl)
theorem dX5_end_14 : decode cX5_end 14 = .ok (.iload_n 3, 1) := dk_29 (dk_at dksX5_end_0 14 rfl rfl)
theorem dX5_end_15 : decode cX5_end 15 = .ok (.ishl, 1) := dk_120 (dk_at dksX5_end_0 15 rfl rfl)
theorem dX5_end_16 : decode cX5_end 16 = .ok (.ixor, 1) := dk_130 (dk_at dksX5_end_0 16 rfl rfl)
theorem dX5_end_17 : decode cX5_end 17 = .ok (.istore_n 2, 1) := dk_61 (dk_at dksX5_end_0 17 rfl rfl)
theorem dX5_end_18 : decode cX5_end 18 = .ok (.aload_n 0, 1) := dk_42 (dk_at dksX5_end_0 18 rfl rfl)
theorem dX5_end_19 : decode cX5_end 19 = .ok (.iload_n 2, 1) := dk_28 (dk_at dksX5_end_0 19 rfl rfl)
theorem dX5_end_20 : decode cX5_end 20 = .ok (.invokevirtual 135, 3) := dk_182 0 135 (dk_at dksX5_end_0 20 rfl rfl)
theorem dX5_end_23 : decode cX5_end 23 = .ok (.istore_n 3, 1) := dk_62 (dk_at dksX5_end_0 23 rfl rfl)
theorem dX5_end_24 : decode cX5_end 24 = .ok (.goto (-16), 3) := dk_167 255 240 (dk_at dksX5_end_1 0 rfl rfl)
theorem dX5_end_27 : decode cX5_end 27 = .ok (.iload_n 2, 1) := dk_28 (dk_at dksX5_end_1 3 rfl rfl)
theorem dX5_end_28 : decode cX5_end 28 = .ok (.ireturn, 1) := dk_172 (dk_at dksX5_end_1 4 rfl rfl)
abbrev cX5_leastOf : ByteArray := prog_2_method_18_code
def yX5_leastOf : MethodName := ⟨RX5, "leastOf", "(IIZ)I"⟩
def dkwX5_leastOf_3 : List UInt8 := [132, 5, 1, 167, 255, 191, 21, 4, 172]
abbrev dktX5_leastOf_3 : List UInt8 := dkwX5_leastOf_3 ++ []
def dkwX5_leastOf_2 : List UInt8 := [167, 0, 4, 3, 29, 160, 0, 17, 21, 4, 42, 180, 0, 10, 21, 5, 53, 184, 0, 147, 54, 4]
abbrev dktX5_leastOf_2 : List UInt8 := dkwX5_leastOf_2 ++ dktX5_leastOf_3
def dkwX5_leastOf_1 : List UInt8 := [21, 5, 182, 0, 66, 153, 0, 41, 21, 5, 27, 184, 0, 125, 21, 5, 28, 184, 0, 125, 160, 0, 7, 4]
abbrev dktX5_leastOf_1 : List UInt8 := dkwX5_leastOf_1 ++ dktX5_leastOf_2
def dkwX5_leastOf_0 : List UInt8 := [17, 0, 145, 54, 4, 3, 54, 5, 21, 5, 42, 180, 0, 36, 182, 0, 47, 162, 0, 59, 42, 180, 0, 36]
abbrev dktX5_leastOf_0 : List UInt8 := dkwX5_leastOf_0 ++ dktX5_leastOf_1
theorem dksX5_leastOf_0 : cX5_leastOf.data.toList.drop 0 = dktX5_leastOf_0 := by decide +kernel
theorem dksX5_leastOf_1 : cX5_leastOf.data.toList.drop 24 = dktX5_leastOf_1 := dk_seg dksX5_leastOf_0 24 rfl rfl
theorem dksX5_leastOf_2 : cX5_leastOf.data.toList.drop 48 = dktX5_leastOf_2 := dk_seg dksX5_leastOf_1 24 rfl rfl
theorem dksX5_leastOf_3 : cX5_leastOf.data.toList.drop 70 = dktX5_leastOf_3 := dk_seg dksX5_leastOf_2 22 rfl rfl
theorem dX5_leastOf_0 : decode cX5_leastOf 0 = .ok (.sipush 145, 3) := dk_17 0 145 (dk_at dksX5_leastOf_0 0 rfl rfl)
theorem dX5_leastOf_3 : decode cX5_leastOf 3 = .ok (.istore 4, 2) := dk_54 4 (dk_at dksX5_leastOf_0 3 rfl rfl)
theorem dX5_leastOf_5 : decode cX5_leastOf 5 = .ok (.iconst 0, 1) := dk_3 (dk_at dksX5_leastOf_0 5 rfl rfl)
theorem dX5_leastOf_6 : decode cX5_leastOf 6 = .ok (.istore 5, 2) := dk_54 5 (dk_at dksX5_leastOf_0 6 rfl rfl)
theorem dX5_leastOf_8 : decode cX5_leastOf 8 = .ok (.iload 5, 2) := dk_21 5 (dk_at dksX5_leastOf_0 8 rfl rfl)
theorem dX5_leastOf_10 : decode cX5_leastOf 10 = .ok (.aload_n 0, 1) := dk_42 (dk_at dksX5_leastOf_0 10 rfl rfl)
theorem dX5_leastOf_11 : decode cX5_leastOf 11 = .ok (.getfield 36, 3) := dk_180 0 36 (dk_at dksX5_leastOf_0 11 rfl rfl)
theorem dX5_leastOf_14 : decode cX5_leastOf 14 = .ok (.invokevirtual 47, 3) := dk_182 0 47 (dk_at dksX5_leastOf_0 14 rfl rfl)
theorem dX5_leastOf_17 : decode cX5_leastOf 17 = .ok (.if_icmp .ge 59, 3) := dk_162 0 59 (dk_at dksX5_leastOf_0 17 rfl rfl)
theorem dX5_leastOf_20 : decode cX5_leastOf 20 = .ok (.aload_n 0, 1) := dk_42 (dk_at dksX5_leastOf_0 20 rfl rfl)
theorem dX5_leastOf_21 : decode cX5_leastOf 21 = .ok (.getfield 36, 3) := dk_180 0 36 (dk_at dksX5_leastOf_0 21 rfl rfl)
theorem dX5_leastOf_24 : decode cX5_leastOf 24 = .ok (.iload 5, 2) := dk_21 5 (dk_at dksX5_leastOf_1 0 rfl rfl)
theorem dX5_leastOf_26 : decode cX5_leastOf 26 = .ok (.invokevirtual 66, 3) := dk_182 0 66 (dk_at dksX5_leastOf_1 2 rfl rfl)
theorem dX5_leastOf_29 : decode cX5_leastOf 29 = .ok (.ifCond .eq 41, 3) := dk_153 0 41 (dk_at dksX5_leastOf_1 5 rfl rfl)
theorem dX5_leastOf_32 : decode cX5_leastOf 32 = .ok (.iload 5, 2) := dk_21 5 (dk_at dksX5_leastOf_1 8 rfl rfl)
theorem dX5_leastOf_34 : decode cX5_leastOf 34 = .ok (.iload_n 1, 1) := dk_27 (dk_at dksX5_leastOf_1 10 rfl rfl)
theorem dX5_leastOf_35 : decode cX5_leastOf 35 = .ok (.invokestatic 125, 3) := dk_184 0 125 (dk_at dksX5_leastOf_1 11 rfl rfl)
theorem dX5_leastOf_38 : decode cX5_leastOf 38 = .ok (.iload 5, 2) := dk_21 5 (dk_at dksX5_leastOf_1 14 rfl rfl)
theorem dX5_leastOf_40 : decode cX5_leastOf 40 = .ok (.iload_n 2, 1) := dk_28 (dk_at dksX5_leastOf_1 16 rfl rfl)
theorem dX5_leastOf_41 : decode cX5_leastOf 41 = .ok (.invokestatic 125, 3) := dk_184 0 125 (dk_at dksX5_leastOf_1 17 rfl rfl)
theorem dX5_leastOf_44 : decode cX5_leastOf 44 = .ok (.if_icmp .ne 7, 3) := dk_160 0 7 (dk_at dksX5_leastOf_1 20 rfl rfl)
theorem dX5_leastOf_47 : decode cX5_leastOf 47 = .ok (.iconst 1, 1) := dk_4 (dk_at dksX5_leastOf_1 23 rfl rfl)
theorem dX5_leastOf_48 : decode cX5_leastOf 48 = .ok (.goto 4, 3) := dk_167 0 4 (dk_at dksX5_leastOf_2 0 rfl rfl)
theorem dX5_leastOf_51 : decode cX5_leastOf 51 = .ok (.iconst 0, 1) := dk_3 (dk_at dksX5_leastOf_2 3 rfl rfl)
theorem dX5_leastOf_52 : decode cX5_leastOf 52 = .ok (.iload_n 3, 1) := dk_29 (dk_at dksX5_leastOf_2 4 rfl rfl)
theorem dX5_leastOf_53 : decode cX5_leastOf 53 = .ok (.if_icmp .ne 17, 3) := dk_160 0 17 (dk_at dksX5_leastOf_2 5 rfl rfl)
theorem dX5_leastOf_56 : decode cX5_leastOf 56 = .ok (.iload 4, 2) := dk_21 4 (dk_at dksX5_leastOf_2 8 rfl rfl)
theorem dX5_leastOf_58 : decode cX5_leastOf 58 = .ok (.aload_n 0, 1) := dk_42 (dk_at dksX5_leastOf_2 10 rfl rfl)
theorem dX5_leastOf_59 : decode cX5_leastOf 59 = .ok (.getfield 10, 3) := dk_180 0 10 (dk_at dksX5_leastOf_2 11 rfl rfl)
theorem dX5_leastOf_62 : decode cX5_leastOf 62 = .ok (.iload 5, 2) := dk_21 5 (dk_at dksX5_leastOf_2 14 rfl rfl)
theorem dX5_leastOf_64 : decode cX5_leastOf 64 = .ok (.saload, 1) := dk_53 (dk_at dksX5_leastOf_2 16 rfl rfl)
theorem dX5_leastOf_65 : decode cX5_leastOf 65 = .ok (.invokestatic 147, 3) := dk_184 0 147 (dk_at dksX5_leastOf_2 17 rfl rfl)
theorem dX5_leastOf_68 : decode cX5_leastOf 68 = .ok (.istore 4, 2) := dk_54 4 (dk_at dksX5_leastOf_2 20 rfl rfl)
theorem dX5_leastOf_70 : decode cX5_leastOf 70 = .ok (.iinc 5 1, 3) := dk_132 5 1 (dk_at dksX5_leastOf_3 0 rfl rfl)
theorem dX5_leastOf_73 : decode cX5_leastOf 73 = .ok (.goto (-65), 3) := dk_167 255 191 (dk_at dksX5_leastOf_3 3 rfl rfl)
theorem dX5_leastOf_76 : decode cX5_leastOf 76 = .ok (.iload 4, 2) := dk_21 4 (dk_at dksX5_leastOf_3 6 rfl rfl)
theorem dX5_leastOf_78 : decode cX5_leastOf 78 = .ok (.ireturn, 1) := dk_172 (dk_at dksX5_leastOf_3 8 rfl rfl)
abbrev cX5_nearest : ByteArray := prog_2_method_19_code
def yX5_nearest : MethodName := ⟨RX5, "nearest", "(I)I"⟩
def dkwX5_nearest_2 : List UInt8 := [167, 255, 213, 28, 172]
abbrev dktX5_nearest_2 : List UInt8 := dkwX5_nearest_2 ++ []
def dkwX5_nearest_1 : List UInt8 := [155, 0, 18, 29, 27, 130, 184, 0, 101, 28, 27, 130, 184, 0, 101, 162, 0, 5, 29, 61, 132, 3, 1]
abbrev dktX5_nearest_1 : List UInt8 := dkwX5_nearest_1 ++ dktX5_nearest_2
def dkwX5_nearest_0 : List UInt8 := [2, 61, 3, 62, 29, 42, 180, 0, 36, 182, 0, 47, 162, 0, 38, 42, 29, 182, 0, 141, 153, 0, 24, 28]
abbrev dktX5_nearest_0 : List UInt8 := dkwX5_nearest_0 ++ dktX5_nearest_1
theorem dksX5_nearest_0 : cX5_nearest.data.toList.drop 0 = dktX5_nearest_0 := by decide +kernel
theorem dksX5_nearest_1 : cX5_nearest.data.toList.drop 24 = dktX5_nearest_1 := dk_seg dksX5_nearest_0 24 rfl rfl
theorem dksX5_nearest_2 : cX5_nearest.data.toList.drop 47 = dktX5_nearest_2 := dk_seg dksX5_nearest_1 23 rfl rfl
theorem dX5_nearest_0 : decode cX5_nearest 0 = .ok (.iconst (-1), 1) := dk_2 (dk_at dksX5_nearest_0 0 rfl rfl)
theorem dX5_nearest_1 : decode cX5_nearest 1 = .ok (.istore_n 2, 1) := dk_61 (dk_at dksX5_nearest_0 1 rfl rfl)
theorem dX5_nearest_2 : decode cX5_nearest 2 = .ok (.iconst 0, 1) := dk_3 (dk_at dksX5_nearest_0 2 rfl rfl)
theorem dX5_nearest_3 : decode cX5_nearest 3 = .ok (.istore_n 3, 1) := dk_62 (dk_at dksX5_nearest_0 3 rfl rfl)
theorem dX5_nearest_4 : decode cX5_nearest 4 = .ok (.iload_n 3, 1) := dk_29 (dk_at dksX5_nearest_0 4 rfl rfl)
theorem dX5_nearest_5 : decode cX5_nearest 5 = .ok (.aload_n 0, 1) := dk_42 (dk_at dksX5_nearest_0 5 rfl rfl)
theorem dX5_nearest_6 : decode cX5_nearest 6 = .ok (.getfield 36, 3) := dk_180 0 36 (dk_at dksX5_nearest_0 6 rfl rfl)
theorem dX5_nearest_9 : decode cX5_nearest 9 = .ok (.invokevirtual 47, 3) := dk_182 0 47 (dk_at dksX5_nearest_0 9 rfl rfl)
theorem dX5_nearest_12 : decode cX5_nearest 12 = .ok (.if_icmp .ge 38, 3) := dk_162 0 38 (dk_at dksX5_nearest_0 12 rfl rfl)
theorem dX5_nearest_15 : decode cX5_nearest 15 = .ok (.aload_n 0, 1) := dk_42 (dk_at dksX5_nearest_0 15 rfl rfl)
theorem dX5_nearest_16 : decode cX5_nearest 16 = .ok (.iload_n 3, 1) := dk_29 (dk_at dksX5_nearest_0 16 rfl rfl)
theorem dX5_nearest_17 : decode cX5_nearest 17 = .ok (.invokevirtual 141, 3) := dk_182 0 141 (dk_at dksX5_nearest_0 17 rfl rfl)
theorem dX5_nearest_20 : decode cX5_nearest 20 = .ok (.ifCond .eq 24, 3) := dk_153 0 24 (dk_at dksX5_nearest_0 20 rfl rfl)
theorem dX5_nearest_23 : decode cX5_nearest 23 = .ok (.iload_n 2, 1) := dk_28 (dk_at dksX5_nearest_0 23 rfl rfl)
theorem dX5_nearest_24 : decode cX5_nearest 24 = .ok (.ifCond .lt 18, 3) := dk_155 0 18 (dk_at dksX5_nearest_1 0 rfl rfl)
theorem dX5_nearest_27 : decode cX5_nearest 27 = .ok (.iload_n 3, 1) := dk_29 (dk_at dksX5_nearest_1 3 rfl rfl)
theorem dX5_nearest_28 : decode cX5_nearest 28 = .ok (.iload_n 1, 1) := dk_27 (dk_at dksX5_nearest_1 4 rfl rfl)
theorem dX5_nearest_29 : decode cX5_nearest 29 = .ok (.ixor, 1) := dk_130 (dk_at dksX5_nearest_1 5 rfl rfl)
theorem dX5_nearest_30 : decode cX5_nearest 30 = .ok (.invokestatic 101, 3) := dk_184 0 101 (dk_at dksX5_nearest_1 6 rfl rfl)
theorem dX5_nearest_33 : decode cX5_nearest 33 = .ok (.iload_n 2, 1) := dk_28 (dk_at dksX5_nearest_1 9 rfl rfl)
theorem dX5_nearest_34 : decode cX5_nearest 34 = .ok (.iload_n 1, 1) := dk_27 (dk_at dksX5_nearest_1 10 rfl rfl)
theorem dX5_nearest_35 : decode cX5_nearest 35 = .ok (.ixor, 1) := dk_130 (dk_at dksX5_nearest_1 11 rfl rfl)
theorem dX5_nearest_36 : decode cX5_nearest 36 = .ok (.invokestatic 101, 3) := dk_184 0 101 (dk_at dksX5_nearest_1 12 rfl rfl)
theorem dX5_nearest_39 : decode cX5_nearest 39 = .ok (.if_icmp .ge 5, 3) := dk_162 0 5 (dk_at dksX5_nearest_1 15 rfl rfl)
theorem dX5_nearest_42 : decode cX5_nearest 42 = .ok (.iload_n 3, 1) := dk_29 (dk_at dksX5_nearest_1 18 rfl rfl)
theorem dX5_nearest_43 : decode cX5_nearest 43 = .ok (.istore_n 2, 1) := dk_61 (dk_at dksX5_nearest_1 19 rfl rfl)
theorem dX5_nearest_44 : decode cX5_nearest 44 = .ok (.iinc 3 1, 3) := dk_132 3 1 (dk_at dksX5_nearest_1 20 rfl rfl)
theorem dX5_nearest_47 : decode cX5_nearest 47 = .ok (.goto (-43), 3) := dk_167 255 213 (dk_at dksX5_nearest_2 0 rfl rfl)
theorem dX5_nearest_50 : decode cX5_nearest 50 = .ok (.iload_n 2, 1) := dk_28 (dk_at dksX5_nearest_2 3 rfl rfl)
theorem dX5_nearest_51 : decode cX5_nearest 51 = .ok (.ireturn, 1) := dk_172 (dk_at dksX5_nearest_2 4 rfl rfl)
theorem q116 : (Jvm.Cond.initialized "SpinStrip$Energies") ∈ lw_all := lw_g (lw_at lw_m1 9 rfl) rfl
theorem q374 : (Jvm.Cond.instantiable "SpinStrip$Energies" (8 : Nat)) ∈ lw_all := lw_g (lw_at lw_m2 27 rfl) rfl
theorem q376 : (Jvm.Cond.instanceMethod ({ cls := "SpinStrip$Energies", name := "<init>", desc := "(LSpinStrip$Strip;)V" } : Jvm.MethodName)) ∈ lw_all := lw_g (lw_at lw_m2 29 rfl) rfl
theorem q377 : (Jvm.Cond.code ({ cls := "SpinStrip$Energies", name := "<init>", desc := "(LSpinStrip$Strip;)V" } : Jvm.MethodName) prog_2_method_1_code (2 : Nat) (Option.none : Option Jvm.ClassFile.FieldType)) ∈ lw_all := lw_g (lw_at lw_m2 30 rfl) rfl
theorem q378 : (Jvm.Cond.methodLink "SpinStrip$Energies" (3 : Nat) ({ cls := "java/lang/Object", name := "<init>", desc := "()V" } : Jvm.MethodName)) ∈ lw_all := lw_g (lw_at lw_m2 31 rfl) rfl
theorem q379 : (Jvm.Cond.constant "SpinStrip$Energies" (9 : Nat) (65536 : Int32)) ∈ lw_all := lw_g (lw_at lw_m2 32 rfl) rfl
theorem q380 : (Jvm.Cond.classLink "SpinStrip$Energies" (16 : Nat) "SpinStrip$Level") ∈ lw_all := lw_g (lw_at lw_m2 33 rfl) rfl
theorem q382 : (Jvm.Cond.classLink "SpinStrip$Energies" (22 : Nat) "java/util/TreeMap") ∈ lw_all := lw_g (lw_at lw_m2 35 rfl) rfl
theorem q384 : (Jvm.Cond.methodLink "SpinStrip$Energies" (24 : Nat) ({ cls := "java/util/TreeMap", name := "<init>", desc := "()V" } : Jvm.MethodName)) ∈ lw_all := lw_g (lw_at lw_m2 37 rfl) rfl
theorem q415 : (Jvm.Cond.fieldLink "SpinStrip$Energies" (36 : Nat) "SpinStrip$Energies" "s" "LSpinStrip$Strip;") ∈ lw_all := lw_g (lw_at lw_m2 68 rfl) rfl
theorem q416 : (Jvm.Cond.fieldLink "SpinStrip$Energies" (10 : Nat) "SpinStrip$Energies" "energy" "[S") ∈ lw_all := lw_g (lw_at lw_m2 69 rfl) rfl
theorem q417 : (Jvm.Cond.fieldLink "SpinStrip$Energies" (18 : Nat) "SpinStrip$Energies" "by" "[LSpinStrip$Level;") ∈ lw_all := lw_g (lw_at lw_m2 70 rfl) rfl
theorem q418 : (Jvm.Cond.fieldLink "SpinStrip$Energies" (25 : Nat) "SpinStrip$Energies" "levels" "Ljava/util/TreeMap;") ∈ lw_all := lw_g (lw_at lw_m2 71 rfl) rfl
theorem q419 : (Jvm.Cond.fieldLink "SpinStrip$Energies" (29 : Nat) "SpinStrip$Energies" "broken" "[I") ∈ lw_all := lw_g (lw_at lw_m2 72 rfl) rfl
theorem q421 : (Jvm.Cond.fieldLink "SpinStrip$Energies" (43 : Nat) "SpinStrip$Energies" "lawful" "I") ∈ lw_all := lw_g (lw_at lw_m2 74 rfl) rfl
theorem q423 : (Jvm.Cond.fieldLink "SpinStrip$Energies" (85 : Nat) "SpinStrip$Energies" "least" "I") ∈ lw_all := lw_g (lw_at lw_m2 76 rfl) rfl
theorem q425 : (Jvm.Cond.fieldLink "SpinStrip$Energies" (33 : Nat) "SpinStrip$Energies" "grounds" "[I") ∈ lw_all := lw_g (lw_at lw_m2 78 rfl) rfl
theorem q426 : (Jvm.Cond.laysFinal "SpinStrip$Energies" "SpinStrip$Energies" "s" "LSpinStrip$Strip;") ∈ lw_all := lw_g (lw_at lw_m2 79 rfl) rfl
theorem q427 : (Jvm.Cond.soleField "SpinStrip$Energies" "s") ∈ lw_all := lw_g (lw_at lw_m2 80 rfl) rfl
theorem q428 : (Jvm.Cond.laysFinal "SpinStrip$Energies" "SpinStrip$Energies" "energy" "[S") ∈ lw_all := lw_g (lw_at lw_m2 81 rfl) rfl
theorem q429 : (Jvm.Cond.soleField "SpinStrip$Energies" "energy") ∈ lw_all := lw_g (lw_at lw_m2 82 rfl) rfl
theorem q430 : (Jvm.Cond.laysFinal "SpinStrip$Energies" "SpinStrip$Energies" "by" "[LSpinStrip$Level;") ∈ lw_all := lw_g (lw_at lw_m2 83 rfl) rfl
theorem q431 : (Jvm.Cond.soleField "SpinStrip$Energies" "by") ∈ lw_all := lw_g (lw_at lw_m2 84 rfl) rfl
theorem q432 : (Jvm.Cond.laysFinal "SpinStrip$Energies" "SpinStrip$Energies" "levels" "Ljava/util/TreeMap;") ∈ lw_all := lw_g (lw_at lw_m2 85 rfl) rfl
theorem q433 : (Jvm.Cond.soleField "SpinStrip$Energies" "levels") ∈ lw_all := lw_g (lw_at lw_m2 86 rfl) rfl
theorem q434 : (Jvm.Cond.laysFinal "SpinStrip$Energies" "SpinStrip$Energies" "broken" "[I") ∈ lw_all := lw_g (lw_at lw_m2 87 rfl) rfl
theorem q435 : (Jvm.Cond.soleField "SpinStrip$Energies" "broken") ∈ lw_all := lw_g (lw_at lw_m2 88 rfl) rfl
theorem q436 : (Jvm.Cond.lays "SpinStrip$Energies" "SpinStrip$Energies" "lawful" "I") ∈ lw_all := lw_g (lw_at lw_m2 89 rfl) rfl
theorem q437 : (Jvm.Cond.soleField "SpinStrip$Energies" "lawful") ∈ lw_all := lw_g (lw_at lw_m2 90 rfl) rfl
theorem q438 : (Jvm.Cond.lays "SpinStrip$Energies" "SpinStrip$Energies" "least" "I") ∈ lw_all := lw_g (lw_at lw_m2 91 rfl) rfl
theorem q439 : (Jvm.Cond.soleField "SpinStrip$Energies" "least") ∈ lw_all := lw_g (lw_at lw_m2 92 rfl) rfl
theorem q440 : (Jvm.Cond.laysFinal "SpinStrip$Energies" "SpinStrip$Energies" "grounds" "[I") ∈ lw_all := lw_g (lw_at lw_m2 93 rfl) rfl
theorem q441 : (Jvm.Cond.soleField "SpinStrip$Energies" "grounds") ∈ lw_all := lw_g (lw_at lw_m2 94 rfl) rfl
theorem q442 : (Jvm.Cond.superclass "SpinStrip$Energies" "java/lang/Object") ∈ lw_all := lw_g (lw_at lw_m2 95 rfl) rfl
theorem q873 : (Jvm.Cond.selects "SpinStrip$Energies" ({ cls := "java/lang/Object", name := "getClass", desc := "()Ljava/lang/Class;" } : Jvm.MethodName) ({ cls := "java/lang/Object", name := "getClass", desc := "()Ljava/lang/Class;" } : Jvm.MethodName)) ∈ lw_all := lw_g (lw_at lw_m4 46 rfl) rfl
theorem q952 : (Jvm.Cond.instanceMethod ({ cls := "SpinStrip$Energies", name := "lays", desc := "()V" } : Jvm.MethodName)) ∈ lw_all := lw_g (lw_at lw_m4 125 rfl) rfl
theorem q953 : (Jvm.Cond.selects "SpinStrip$Energies" ({ cls := "SpinStrip$Energies", name := "lays", desc := "()V" } : Jvm.MethodName) ({ cls := "SpinStrip$Energies", name := "lays", desc := "()V" } : Jvm.MethodName)) ∈ lw_all := lw_g (lw_at lw_m4 126 rfl) rfl
theorem q954 : (Jvm.Cond.code ({ cls := "SpinStrip$Energies", name := "lays", desc := "()V" } : Jvm.MethodName) prog_2_method_2_code (3 : Nat) (Option.none : Option Jvm.ClassFile.FieldType)) ∈ lw_all := lw_g (lw_at lw_m4 127 rfl) rfl
theorem q955 : (Jvm.Cond.methodLink "SpinStrip$Energies" (40 : Nat) ({ cls := "java/util/TreeMap", name := "clear", desc := "()V" } : Jvm.MethodName)) ∈ lw_all := lw_g (lw_at lw_m4 128 rfl) rfl
theorem q959 : (Jvm.Cond.methodLink "SpinStrip$Energies" (47 : Nat) ({ cls := "SpinStrip$Strip", name := "states", desc := "()I" } : Jvm.MethodName)) ∈ lw_all := lw_g (lw_at lw_m4 132 rfl) rfl
theorem q963 : (Jvm.Cond.methodLink "SpinStrip$Energies" (53 : Nat) ({ cls := "SpinStrip$Strip", name := "lowest", desc := "()I" } : Jvm.MethodName)) ∈ lw_all := lw_g (lw_at lw_m4 136 rfl) rfl
theorem q969 : (Jvm.Cond.methodLink "SpinStrip$Energies" (56 : Nat) ({ cls := "java/lang/Integer", name := "numberOfTrailingZeros", desc := "(I)I" } : Jvm.MethodName)) ∈ lw_all := lw_g (lw_at lw_m4 142 rfl) rfl
theorem q973 : (Jvm.Cond.methodLink "SpinStrip$Energies" (62 : Nat) ({ cls := "SpinStrip$Strip", name := "cost", desc := "(II)I" } : Jvm.MethodName)) ∈ lw_all := lw_g (lw_at lw_m4 146 rfl) rfl
theorem q988 : (Jvm.Cond.methodLink "SpinStrip$Energies" (66 : Nat) ({ cls := "SpinStrip$Strip", name := "isLawful", desc := "(I)Z" } : Jvm.MethodName)) ∈ lw_all := lw_g (lw_at lw_m4 161 rfl) rfl
theorem q993 : (Jvm.Cond.methodLink "SpinStrip$Energies" (70 : Nat) ({ cls := "SpinStrip$Energies", name := "meets", desc := "(I)V" } : Jvm.MethodName)) ∈ lw_all := lw_g (lw_at lw_m4 166 rfl) rfl
theorem q994 : (Jvm.Cond.privateMethod ({ cls := "SpinStrip$Energies", name := "meets", desc := "(I)V" } : Jvm.MethodName)) ∈ lw_tbl := lw_at lw_m4 167 rfl
theorem q995 : (Jvm.Cond.instanceMethod ({ cls := "SpinStrip$Energies", name := "meets", desc := "(I)V" } : Jvm.MethodName)) ∈ lw_all := lw_g (lw_at lw_m4 168 rfl) rfl
theorem q996 : (Jvm.Cond.code ({ cls := "SpinStrip$Energies", name := "meets", desc := "(I)V" } : Jvm.MethodName) prog_2_method_3_code (3 : Nat) (Option.none : Option Jvm.ClassFile.FieldType)) ∈ lw_all := lw_g (lw_at lw_m4 169 rfl) rfl
theorem q998 : (Jvm.Cond.methodLink "SpinStrip$Energies" (88 : Nat) ({ cls := "SpinStrip$Level", name := "<init>", desc := "(II)V" } : Jvm.MethodName)) ∈ lw_all := lw_g (lw_at lw_m4 171 rfl) rfl
theorem q1003 : (Jvm.Cond.fieldLink "SpinStrip$Energies" (91 : Nat) "SpinStrip$Level" "energy" "I") ∈ lw_all := lw_g (lw_at lw_m4 176 rfl) rfl
theorem q1007 : (Jvm.Cond.fieldLink "SpinStrip$Energies" (123 : Nat) "SpinStrip$Level" "many" "I") ∈ lw_all := lw_g (lw_at lw_m4 180 rfl) rfl
theorem q1022 : (Jvm.Cond.methodLink "SpinStrip$Energies" (93 : Nat) ({ cls := "java/lang/Integer", name := "valueOf", desc := "(I)Ljava/lang/Integer;" } : Jvm.MethodName)) ∈ lw_all := lw_g (lw_at lw_m4 195 rfl) rfl
theorem q1042 : (Jvm.Cond.methodLink "SpinStrip$Energies" (97 : Nat) ({ cls := "java/util/TreeMap", name := "put", desc := "(Ljava/lang/Object;Ljava/lang/Object;)Ljava/lang/Object;" } : Jvm.MethodName)) ∈ lw_all := lw_g (lw_at lw_m4 215 rfl) rfl
theorem q1337 : (Jvm.Cond.methodLinkNest "SpinStrip$Energies" (101 : Nat) ({ cls := "SpinStrip", name := "many", desc := "(I)I" } : Jvm.MethodName) "SpinStrip") ∈ lw_tbl := lw_at lw_m6 30 rfl
theorem q1338 : (Jvm.Cond.methodLink "SpinStrip$Energies" (104 : Nat) ({ cls := "SpinStrip$Level", name := "adds", desc := "(I)V" } : Jvm.MethodName)) ∈ lw_all := lw_g (lw_at lw_m6 31 rfl) rfl
theorem q1346 : (Jvm.Cond.methodLink "SpinStrip$Energies" (107 : Nat) ({ cls := "SpinStrip$Strip", name := "broken", desc := "(I)I" } : Jvm.MethodName)) ∈ lw_all := lw_g (lw_at lw_m6 39 rfl) rfl
theorem q1350 : (Jvm.Cond.methodLink "SpinStrip$Energies" (74 : Nat) ({ cls := "java/util/TreeMap", name := "isEmpty", desc := "()Z" } : Jvm.MethodName)) ∈ lw_all := lw_g (lw_at lw_m6 43 rfl) rfl
theorem q1363 : (Jvm.Cond.methodLink "SpinStrip$Energies" (78 : Nat) ({ cls := "java/util/TreeMap", name := "firstKey", desc := "()Ljava/lang/Object;" } : Jvm.MethodName)) ∈ lw_all := lw_g (lw_at lw_m6 56 rfl) rfl
theorem q1374 : (Jvm.Cond.classLink "SpinStrip$Energies" (57 : Nat) "java/lang/Integer") ∈ lw_all := lw_g (lw_at lw_m6 67 rfl) rfl
theorem q1375 : (Jvm.Cond.methodLink "SpinStrip$Energies" (82 : Nat) ({ cls := "java/lang/Integer", name := "intValue", desc := "()I" } : Jvm.MethodName)) ∈ lw_all := lw_g (lw_at lw_m6 68 rfl) rfl
theorem q1377 : (Jvm.Cond.instanceMethod ({ cls := "SpinStrip$Energies", name := "falls", desc := "(I)I" } : Jvm.MethodName)) ∈ lw_all := lw_g (lw_at lw_m6 70 rfl) rfl
theorem q1378 : (Jvm.Cond.selects "SpinStrip$Energies" ({ cls := "SpinStrip$Energies", name := "falls", desc := "(I)I" } : Jvm.MethodName) ({ cls := "SpinStrip$Energies", name := "falls", desc := "(I)I" } : Jvm.MethodName)) ∈ lw_all := lw_g (lw_at lw_m6 71 rfl) rfl
theorem q1379 : (Jvm.Cond.code ({ cls := "SpinStrip$Energies", name := "falls", desc := "(I)I" } : Jvm.MethodName) prog_2_method_13_code (5 : Nat) (Option.some Jvm.ClassFile.FieldType.int)) ∈ lw_all := lw_g (lw_at lw_m6 72 rfl) rfl
theorem q1380 : (Jvm.Cond.methodLink "SpinStrip$Energies" (129 : Nat) ({ cls := "SpinStrip$Strip", name := "sites", desc := "()I" } : Jvm.MethodName)) ∈ lw_all := lw_g (lw_at lw_m6 73 rfl) rfl
theorem q1381 : (Jvm.Cond.methodLink "SpinStrip$Energies" (132 : Nat) ({ cls := "SpinStrip$Strip", name := "isPinned", desc := "(I)Z" } : Jvm.MethodName)) ∈ lw_all := lw_g (lw_at lw_m6 74 rfl) rfl
theorem q1408 : (Jvm.Cond.instanceMethod ({ cls := "SpinStrip$Energies", name := "many", desc := "()I" } : Jvm.MethodName)) ∈ lw_all := lw_g (lw_at lw_m6 101 rfl) rfl
theorem q1409 : (Jvm.Cond.selects "SpinStrip$Energies" ({ cls := "SpinStrip$Energies", name := "many", desc := "()I" } : Jvm.MethodName) ({ cls := "SpinStrip$Energies", name := "many", desc := "()I" } : Jvm.MethodName)) ∈ lw_all := lw_g (lw_at lw_m6 102 rfl) rfl
theorem q1410 : (Jvm.Cond.code ({ cls := "SpinStrip$Energies", name := "many", desc := "()I" } : Jvm.MethodName) prog_2_method_5_code (1 : Nat) (Option.some Jvm.ClassFile.FieldType.int)) ∈ lw_all := lw_g (lw_at lw_m6 103 rfl) rfl
theorem q1411 : (Jvm.Cond.methodLink "SpinStrip$Energies" (109 : Nat) ({ cls := "java/util/TreeMap", name := "size", desc := "()I" } : Jvm.MethodName)) ∈ lw_all := lw_g (lw_at lw_m6 104 rfl) rfl
theorem q1413 : (Jvm.Cond.instanceMethod ({ cls := "SpinStrip$Energies", name := "at", desc := "(I)LSpinStrip$Level;" } : Jvm.MethodName)) ∈ lw_all := lw_g (lw_at lw_m6 106 rfl) rfl
theorem q1414 : (Jvm.Cond.selects "SpinStrip$Energies" ({ cls := "SpinStrip$Energies", name := "at", desc := "(I)LSpinStrip$Level;" } : Jvm.MethodName) ({ cls := "SpinStrip$Energies", name := "at", desc := "(I)LSpinStrip$Level;" } : Jvm.MethodName)) ∈ lw_all := lw_g (lw_at lw_m6 107 rfl) rfl
theorem q1415 : (Jvm.Cond.code ({ cls := "SpinStrip$Energies", name := "at", desc := "(I)LSpinStrip$Level;" } : Jvm.MethodName) prog_2_method_6_code (4 : Nat) (Option.some (Jvm.ClassFile.FieldType.object "SpinStrip$Level"))) ∈ lw_all := lw_g (lw_at lw_m6 108 rfl) rfl
theorem q1416 : (Jvm.Cond.methodLinkNest "SpinStrip$Energies" (112 : Nat) ({ cls := "SpinStrip", name := "isIn", desc := "(III)Z" } : Jvm.MethodName) "SpinStrip") ∈ lw_tbl := lw_at lw_m6 109 rfl
theorem q1417 : (Jvm.Cond.methodLink "SpinStrip$Energies" (116 : Nat) ({ cls := "java/util/TreeMap", name := "higherKey", desc := "(Ljava/lang/Object;)Ljava/lang/Object;" } : Jvm.MethodName)) ∈ lw_all := lw_g (lw_at lw_m6 110 rfl) rfl
theorem q1428 : (Jvm.Cond.methodLink "SpinStrip$Energies" (120 : Nat) ({ cls := "java/util/TreeMap", name := "get", desc := "(Ljava/lang/Object;)Ljava/lang/Object;" } : Jvm.MethodName)) ∈ lw_all := lw_g (lw_at lw_m6 121 rfl) rfl
theorem q1449 : (Jvm.Cond.instanceMethod ({ cls := "SpinStrip$Energies", name := "manyOf", desc := "(I)I" } : Jvm.MethodName)) ∈ lw_all := lw_g (lw_at lw_m6 142 rfl) rfl
theorem q1450 : (Jvm.Cond.selects "SpinStrip$Energies" ({ cls := "SpinStrip$Energies", name := "manyOf", desc := "(I)I" } : Jvm.MethodName) ({ cls := "SpinStrip$Energies", name := "manyOf", desc := "(I)I" } : Jvm.MethodName)) ∈ lw_all := lw_g (lw_at lw_m6 143 rfl) rfl
theorem q1451 : (Jvm.Cond.code ({ cls := "SpinStrip$Energies", name := "manyOf", desc := "(I)I" } : Jvm.MethodName) prog_2_method_9_code (3 : Nat) (Option.some Jvm.ClassFile.FieldType.int)) ∈ lw_all := lw_g (lw_at lw_m6 144 rfl) rfl
theorem q1453 : (Jvm.Cond.instanceMethod ({ cls := "SpinStrip$Energies", name := "both", desc := "(II)I" } : Jvm.MethodName)) ∈ lw_all := lw_g (lw_at lw_m6 146 rfl) rfl
theorem q1454 : (Jvm.Cond.selects "SpinStrip$Energies" ({ cls := "SpinStrip$Energies", name := "both", desc := "(II)I" } : Jvm.MethodName) ({ cls := "SpinStrip$Energies", name := "both", desc := "(II)I" } : Jvm.MethodName)) ∈ lw_all := lw_g (lw_at lw_m6 147 rfl) rfl
theorem q1455 : (Jvm.Cond.code ({ cls := "SpinStrip$Energies", name := "both", desc := "(II)I" } : Jvm.MethodName) prog_2_method_12_code (5 : Nat) (Option.some Jvm.ClassFile.FieldType.int)) ∈ lw_all := lw_g (lw_at lw_m6 148 rfl) rfl
theorem q1469 : (Jvm.Cond.instanceMethod ({ cls := "SpinStrip$Energies", name := "together", desc := "(III)I" } : Jvm.MethodName)) ∈ lw_all := lw_g (lw_at lw_m6 162 rfl) rfl
theorem q1470 : (Jvm.Cond.selects "SpinStrip$Energies" ({ cls := "SpinStrip$Energies", name := "together", desc := "(III)I" } : Jvm.MethodName) ({ cls := "SpinStrip$Energies", name := "together", desc := "(III)I" } : Jvm.MethodName)) ∈ lw_all := lw_g (lw_at lw_m6 163 rfl) rfl
theorem q1471 : (Jvm.Cond.code ({ cls := "SpinStrip$Energies", name := "together", desc := "(III)I" } : Jvm.MethodName) prog_2_method_10_code (6 : Nat) (Option.some Jvm.ClassFile.FieldType.int)) ∈ lw_all := lw_g (lw_at lw_m6 164 rfl) rfl
theorem q1472 : (Jvm.Cond.methodLinkNest "SpinStrip$Energies" (125 : Nat) ({ cls := "SpinStrip", name := "has", desc := "(II)Z" } : Jvm.MethodName) "SpinStrip") ∈ lw_tbl := lw_at lw_m6 165 rfl
theorem q1487 : (Jvm.Cond.instanceMethod ({ cls := "SpinStrip$Energies", name := "ups", desc := "(I)I" } : Jvm.MethodName)) ∈ lw_all := lw_g (lw_at lw_m6 180 rfl) rfl
theorem q1488 : (Jvm.Cond.selects "SpinStrip$Energies" ({ cls := "SpinStrip$Energies", name := "ups", desc := "(I)I" } : Jvm.MethodName) ({ cls := "SpinStrip$Energies", name := "ups", desc := "(I)I" } : Jvm.MethodName)) ∈ lw_all := lw_g (lw_at lw_m6 181 rfl) rfl
theorem q1489 : (Jvm.Cond.code ({ cls := "SpinStrip$Energies", name := "ups", desc := "(I)I" } : Jvm.MethodName) prog_2_method_11_code (4 : Nat) (Option.some Jvm.ClassFile.FieldType.int)) ∈ lw_all := lw_g (lw_at lw_m6 182 rfl) rfl
theorem q1545 : (Jvm.Cond.instanceMethod ({ cls := "SpinStrip$Energies", name := "of", desc := "(I)I" } : Jvm.MethodName)) ∈ lw_all := lw_g (lw_at lw_m6 238 rfl) rfl
theorem q1546 : (Jvm.Cond.selects "SpinStrip$Energies" ({ cls := "SpinStrip$Energies", name := "of", desc := "(I)I" } : Jvm.MethodName) ({ cls := "SpinStrip$Energies", name := "of", desc := "(I)I" } : Jvm.MethodName)) ∈ lw_all := lw_g (lw_at lw_m6 239 rfl) rfl
theorem q1547 : (Jvm.Cond.code ({ cls := "SpinStrip$Energies", name := "of", desc := "(I)I" } : Jvm.MethodName) prog_2_method_4_code (2 : Nat) (Option.some Jvm.ClassFile.FieldType.int)) ∈ lw_all := lw_g (lw_at lw_m7 0 rfl) rfl
theorem q1550 : (Jvm.Cond.instanceMethod ({ cls := "SpinStrip$Energies", name := "isStuck", desc := "(I)Z" } : Jvm.MethodName)) ∈ lw_all := lw_g (lw_at lw_m7 3 rfl) rfl
theorem q1551 : (Jvm.Cond.selects "SpinStrip$Energies" ({ cls := "SpinStrip$Energies", name := "isStuck", desc := "(I)Z" } : Jvm.MethodName) ({ cls := "SpinStrip$Energies", name := "isStuck", desc := "(I)Z" } : Jvm.MethodName)) ∈ lw_all := lw_g (lw_at lw_m7 4 rfl) rfl
theorem q1552 : (Jvm.Cond.code ({ cls := "SpinStrip$Energies", name := "isStuck", desc := "(I)Z" } : Jvm.MethodName) prog_2_method_14_code (2 : Nat) (Option.some Jvm.ClassFile.FieldType.boolean)) ∈ lw_all := lw_g (lw_at lw_m7 5 rfl) rfl
theorem q1553 : (Jvm.Cond.methodLink "SpinStrip$Energies" (135 : Nat) ({ cls := "SpinStrip$Energies", name := "falls", desc := "(I)I" } : Jvm.MethodName)) ∈ lw_all := lw_g (lw_at lw_m7 6 rfl) rfl
theorem q1555 : (Jvm.Cond.instanceMethod ({ cls := "SpinStrip$Energies", name := "placeOf", desc := "(I)I" } : Jvm.MethodName)) ∈ lw_all := lw_g (lw_at lw_m7 8 rfl) rfl
theorem q1556 : (Jvm.Cond.selects "SpinStrip$Energies" ({ cls := "SpinStrip$Energies", name := "placeOf", desc := "(I)I" } : Jvm.MethodName) ({ cls := "SpinStrip$Energies", name := "placeOf", desc := "(I)I" } : Jvm.MethodName)) ∈ lw_all := lw_g (lw_at lw_m7 9 rfl) rfl
theorem q1557 : (Jvm.Cond.code ({ cls := "SpinStrip$Energies", name := "placeOf", desc := "(I)I" } : Jvm.MethodName) prog_2_method_7_code (4 : Nat) (Option.some Jvm.ClassFile.FieldType.int)) ∈ lw_all := lw_g (lw_at lw_m7 10 rfl) rfl
theorem q1564 : (Jvm.Cond.instanceMethod ({ cls := "SpinStrip$Energies", name := "isGround", desc := "(I)Z" } : Jvm.MethodName)) ∈ lw_all := lw_g (lw_at lw_m7 17 rfl) rfl
theorem q1565 : (Jvm.Cond.selects "SpinStrip$Energies" ({ cls := "SpinStrip$Energies", name := "isGround", desc := "(I)Z" } : Jvm.MethodName) ({ cls := "SpinStrip$Energies", name := "isGround", desc := "(I)Z" } : Jvm.MethodName)) ∈ lw_all := lw_g (lw_at lw_m7 18 rfl) rfl
theorem q1566 : (Jvm.Cond.code ({ cls := "SpinStrip$Energies", name := "isGround", desc := "(I)Z" } : Jvm.MethodName) prog_2_method_8_code (2 : Nat) (Option.some Jvm.ClassFile.FieldType.boolean)) ∈ lw_all := lw_g (lw_at lw_m7 19 rfl) rfl
theorem q1623 : (Jvm.Cond.instanceMethod ({ cls := "SpinStrip$Energies", name := "overlap", desc := "(I)I" } : Jvm.MethodName)) ∈ lw_all := lw_g (lw_at lw_m7 76 rfl) rfl
theorem q1624 : (Jvm.Cond.selects "SpinStrip$Energies" ({ cls := "SpinStrip$Energies", name := "overlap", desc := "(I)I" } : Jvm.MethodName) ({ cls := "SpinStrip$Energies", name := "overlap", desc := "(I)I" } : Jvm.MethodName)) ∈ lw_all := lw_g (lw_at lw_m7 77 rfl) rfl
theorem q1625 : (Jvm.Cond.code ({ cls := "SpinStrip$Energies", name := "overlap", desc := "(I)I" } : Jvm.MethodName) prog_2_method_15_code (6 : Nat) (Option.some Jvm.ClassFile.FieldType.int)) ∈ lw_all := lw_g (lw_at lw_m7 78 rfl) rfl
theorem q1626 : (Jvm.Cond.methodLink "SpinStrip$Energies" (138 : Nat) ({ cls := "SpinStrip$Energies", name := "manyOf", desc := "(I)I" } : Jvm.MethodName)) ∈ lw_all := lw_g (lw_at lw_m7 79 rfl) rfl
theorem q1627 : (Jvm.Cond.methodLink "SpinStrip$Energies" (141 : Nat) ({ cls := "SpinStrip$Energies", name := "isGround", desc := "(I)Z" } : Jvm.MethodName)) ∈ lw_all := lw_g (lw_at lw_m7 80 rfl) rfl
theorem q1633 : (Jvm.Cond.instanceMethod ({ cls := "SpinStrip$Energies", name := "basin", desc := "(I)I" } : Jvm.MethodName)) ∈ lw_all := lw_g (lw_at lw_m7 86 rfl) rfl
theorem q1634 : (Jvm.Cond.selects "SpinStrip$Energies" ({ cls := "SpinStrip$Energies", name := "basin", desc := "(I)I" } : Jvm.MethodName) ({ cls := "SpinStrip$Energies", name := "basin", desc := "(I)I" } : Jvm.MethodName)) ∈ lw_all := lw_g (lw_at lw_m7 87 rfl) rfl
theorem q1635 : (Jvm.Cond.code ({ cls := "SpinStrip$Energies", name := "basin", desc := "(I)I" } : Jvm.MethodName) prog_2_method_17_code (4 : Nat) (Option.some Jvm.ClassFile.FieldType.int)) ∈ lw_all := lw_g (lw_at lw_m7 88 rfl) rfl
theorem q1636 : (Jvm.Cond.methodLink "SpinStrip$Energies" (144 : Nat) ({ cls := "SpinStrip$Energies", name := "end", desc := "(I)I" } : Jvm.MethodName)) ∈ lw_all := lw_g (lw_at lw_m7 89 rfl) rfl
theorem q1637 : (Jvm.Cond.privateMethod ({ cls := "SpinStrip$Energies", name := "end", desc := "(I)I" } : Jvm.MethodName)) ∈ lw_tbl := lw_at lw_m7 90 rfl
theorem q1638 : (Jvm.Cond.instanceMethod ({ cls := "SpinStrip$Energies", name := "end", desc := "(I)I" } : Jvm.MethodName)) ∈ lw_all := lw_g (lw_at lw_m7 91 rfl) rfl
theorem q1639 : (Jvm.Cond.code ({ cls := "SpinStrip$Energies", name := "end", desc := "(I)I" } : Jvm.MethodName) prog_2_method_16_code (4 : Nat) (Option.some Jvm.ClassFile.FieldType.int)) ∈ lw_all := lw_g (lw_at lw_m7 92 rfl) rfl
theorem q1645 : (Jvm.Cond.instanceMethod ({ cls := "SpinStrip$Energies", name := "leastOf", desc := "(IIZ)I" } : Jvm.MethodName)) ∈ lw_all := lw_g (lw_at lw_m7 98 rfl) rfl
theorem q1646 : (Jvm.Cond.selects "SpinStrip$Energies" ({ cls := "SpinStrip$Energies", name := "leastOf", desc := "(IIZ)I" } : Jvm.MethodName) ({ cls := "SpinStrip$Energies", name := "leastOf", desc := "(IIZ)I" } : Jvm.MethodName)) ∈ lw_all := lw_g (lw_at lw_m7 99 rfl) rfl
theorem q1647 : (Jvm.Cond.code ({ cls := "SpinStrip$Energies", name := "leastOf", desc := "(IIZ)I" } : Jvm.MethodName) prog_2_method_18_code (6 : Nat) (Option.some Jvm.ClassFile.FieldType.int)) ∈ lw_all := lw_g (lw_at lw_m7 100 rfl) rfl
theorem q1648 : (Jvm.Cond.methodLink "SpinStrip$Energies" (147 : Nat) ({ cls := "java/lang/Math", name := "min", desc := "(II)I" } : Jvm.MethodName)) ∈ lw_all := lw_g (lw_at lw_m7 101 rfl) rfl
theorem q1806 : (Jvm.Cond.instanceMethod ({ cls := "SpinStrip$Energies", name := "nearest", desc := "(I)I" } : Jvm.MethodName)) ∈ lw_all := lw_g (lw_at lw_m8 19 rfl) rfl
theorem q1807 : (Jvm.Cond.selects "SpinStrip$Energies" ({ cls := "SpinStrip$Energies", name := "nearest", desc := "(I)I" } : Jvm.MethodName) ({ cls := "SpinStrip$Energies", name := "nearest", desc := "(I)I" } : Jvm.MethodName)) ∈ lw_all := lw_g (lw_at lw_m8 20 rfl) rfl
theorem q1808 : (Jvm.Cond.code ({ cls := "SpinStrip$Energies", name := "nearest", desc := "(I)I" } : Jvm.MethodName) prog_2_method_19_code (4 : Nat) (Option.some Jvm.ClassFile.FieldType.int)) ∈ lw_all := lw_g (lw_at lw_m8 21 rfl) rfl
theorem q2394 : (Jvm.Cond.castable "SpinStrip$Energies" "java/lang/Object") ∈ lw_tbl := lw_at lw_m10 127 rfl
theorem in_X5 : ∀ w ∈ wsX50, w ∈ lw_all := lw_in wsX50 [426, 428, 430, 432, 434, 436, 438, 440] (by decide +kernel) (by decide +kernel)
/-! SpinStrip$Hills -/
set_option maxRecDepth 100000
def RX6 : String := "SpinStrip$Hills"
def TX6 : u_T := fun k => match k with
  | 0 => ("SpinStrip$Hills", "s", "LSpinStrip$Strip;", true)
  | 1 => ("SpinStrip$Hills", "e", "LSpinStrip$Energies;", true)
  | _ => ("SpinStrip$Hills", "met", "[Z", true)
def tyX6 : Nat → FieldType := fun k => match k with
  | 0 => .object "SpinStrip$Strip"
  | 1 => .object "SpinStrip$Energies"
  | _ => .array .boolean
abbrev wsX60 : List Cond := u_ws RX6 TX6 3
theorem nmX6 : ∀ a, a < 3 → ∀ b, b < 3 → a ≠ b → (TX6 a).2.1 ≠ (TX6 b).2.1 := by decide +kernel
theorem tyX6_ok : ∀ k, k < 3 → parseFieldDescriptor (TX6 k).2.2.1 = some (tyX6 k) := by decide +kernel
abbrev cX6_init : ByteArray := prog_5_method_1_code
def yX6_init : MethodName := ⟨RX6, "<init>", "(LSpinStrip$Strip;LSpinStrip$Energies;)V"⟩
def dkwX6_init_0 : List UInt8 := [42, 183, 0, 3, 42, 17, 4, 0, 188, 4, 181, 0, 9, 42, 43, 181, 0, 15, 42, 44, 181, 0, 19, 177]
abbrev dktX6_init_0 : List UInt8 := dkwX6_init_0 ++ []
theorem dksX6_init_0 : cX6_init.data.toList.drop 0 = dktX6_init_0 := by decide +kernel
theorem dX6_init_0 : decode cX6_init 0 = .ok (.aload_n 0, 1) := dk_42 (dk_at dksX6_init_0 0 rfl rfl)
theorem dX6_init_1 : decode cX6_init 1 = .ok (.invokespecial 3, 3) := dk_183 0 3 (dk_at dksX6_init_0 1 rfl rfl)
theorem dX6_init_4 : decode cX6_init 4 = .ok (.aload_n 0, 1) := dk_42 (dk_at dksX6_init_0 4 rfl rfl)
theorem dX6_init_5 : decode cX6_init 5 = .ok (.sipush 1024, 3) := dk_17 4 0 (dk_at dksX6_init_0 5 rfl rfl)
theorem dX6_init_8 : decode cX6_init 8 = .ok (.newarray .boolean, 2) := dk_188_4 (dk_at dksX6_init_0 8 rfl rfl)
theorem dX6_init_10 : decode cX6_init 10 = .ok (.putfield 9, 3) := dk_181 0 9 (dk_at dksX6_init_0 10 rfl rfl)
theorem dX6_init_13 : decode cX6_init 13 = .ok (.aload_n 0, 1) := dk_42 (dk_at dksX6_init_0 13 rfl rfl)
theorem dX6_init_14 : decode cX6_init 14 = .ok (.aload_n 1, 1) := dk_43 (dk_at dksX6_init_0 14 rfl rfl)
theorem dX6_init_15 : decode cX6_init 15 = .ok (.putfield 15, 3) := dk_181 0 15 (dk_at dksX6_init_0 15 rfl rfl)
theorem dX6_init_18 : decode cX6_init 18 = .ok (.aload_n 0, 1) := dk_42 (dk_at dksX6_init_0 18 rfl rfl)
theorem dX6_init_19 : decode cX6_init 19 = .ok (.aload_n 2, 1) := dk_44 (dk_at dksX6_init_0 19 rfl rfl)
theorem dX6_init_20 : decode cX6_init 20 = .ok (.putfield 19, 3) := dk_181 0 19 (dk_at dksX6_init_0 20 rfl rfl)
theorem dX6_init_23 : decode cX6_init 23 = .ok (.return_, 1) := dk_177 (dk_at dksX6_init_0 23 rfl rfl)
abbrev cX6_of : ByteArray := prog_5_method_2_code
def yX6_of : MethodName := ⟨RX6, "of", "(II)I"⟩
def dkwX6_of_9 : List UInt8 := [132, 5, 1, 167, 255, 176, 167, 255, 97]
abbrev dktX6_of_9 : List UInt8 := dkwX6_of_9 ++ []
def dkwX6_of_8 : List UInt8 := [25, 4, 180, 0, 53, 42, 180, 0, 19, 21, 6, 182, 0, 28, 184, 0, 65, 183, 0, 34, 182, 0, 37, 87]
abbrev dktX6_of_8 : List UInt8 := dkwX6_of_8 ++ dktX6_of_9
def dkwX6_of_7 : List UInt8 := [182, 0, 62, 154, 0, 44, 42, 180, 0, 9, 21, 6, 51, 154, 0, 34, 45, 187, 0, 26, 89, 21, 6]
abbrev dktX6_of_7 : List UInt8 := dkwX6_of_7 ++ dktX6_of_8
def dkwX6_of_6 : List UInt8 := [182, 0, 56, 162, 0, 74, 25, 4, 180, 0, 45, 4, 21, 5, 120, 130, 54, 6, 42, 180, 0, 15, 21, 5]
abbrev dktX6_of_6 : List UInt8 := dkwX6_of_6 ++ dktX6_of_7
def dkwX6_of_5 : List UInt8 := [167, 255, 197, 42, 180, 0, 9, 25, 4, 180, 0, 45, 4, 84, 3, 54, 5, 21, 5, 42, 180, 0, 15]
abbrev dktX6_of_5 : List UInt8 := dkwX6_of_5 ++ dktX6_of_6
def dkwX6_of_4 : List UInt8 := [160, 0, 9, 25, 4, 180, 0, 53, 172, 42, 180, 0, 9, 25, 4, 180, 0, 45, 51, 153, 0, 6]
abbrev dktX6_of_4 : List UInt8 := dkwX6_of_4 ++ dktX6_of_5
def dkwX6_of_3 : List UInt8 := [180, 0, 19, 25, 4, 180, 0, 45, 182, 0, 49, 153, 0, 21, 167, 0, 12, 25, 4, 180, 0, 45, 28]
abbrev dktX6_of_3 : List UInt8 := dkwX6_of_3 ++ dktX6_of_4
def dkwX6_of_2 : List UInt8 := [182, 0, 28, 183, 0, 34, 182, 0, 37, 87, 45, 182, 0, 41, 192, 0, 26, 58, 4, 28, 156, 0, 21, 42]
abbrev dktX6_of_2 : List UInt8 := dkwX6_of_2 ++ dktX6_of_3
def dkwX6_of_1 : List UInt8 := [180, 0, 9, 21, 4, 3, 84, 132, 4, 1, 167, 255, 235, 45, 187, 0, 26, 89, 27, 42, 180, 0, 19, 27]
abbrev dktX6_of_1 : List UInt8 := dkwX6_of_1 ++ dktX6_of_2
def dkwX6_of_0 : List UInt8 := [187, 0, 23, 89, 183, 0, 25, 78, 3, 54, 4, 21, 4, 42, 180, 0, 9, 190, 162, 0, 17, 42]
abbrev dktX6_of_0 : List UInt8 := dkwX6_of_0 ++ dktX6_of_1
theorem dksX6_of_0 : cX6_of.data.toList.drop 0 = dktX6_of_0 := by decide +kernel
theorem dksX6_of_1 : cX6_of.data.toList.drop 22 = dktX6_of_1 := dk_seg dksX6_of_0 22 rfl rfl
theorem dksX6_of_2 : cX6_of.data.toList.drop 46 = dktX6_of_2 := dk_seg dksX6_of_1 24 rfl rfl
theorem dksX6_of_3 : cX6_of.data.toList.drop 70 = dktX6_of_3 := dk_seg dksX6_of_2 24 rfl rfl
theorem dksX6_of_4 : cX6_of.data.toList.drop 93 = dktX6_of_4 := dk_seg dksX6_of_3 23 rfl rfl
theorem dksX6_of_5 : cX6_of.data.toList.drop 115 = dktX6_of_5 := dk_seg dksX6_of_4 22 rfl rfl
theorem dksX6_of_6 : cX6_of.data.toList.drop 138 = dktX6_of_6 := dk_seg dksX6_of_5 23 rfl rfl
theorem dksX6_of_7 : cX6_of.data.toList.drop 162 = dktX6_of_7 := dk_seg dksX6_of_6 24 rfl rfl
theorem dksX6_of_8 : cX6_of.data.toList.drop 185 = dktX6_of_8 := dk_seg dksX6_of_7 23 rfl rfl
theorem dksX6_of_9 : cX6_of.data.toList.drop 209 = dktX6_of_9 := dk_seg dksX6_of_8 24 rfl rfl
theorem dX6_of_0 : decode cX6_of 0 = .ok (.new 23, 3) := dk_187 0 23 (dk_at dksX6_of_0 0 rfl rfl)
theorem dX6_of_3 : decode cX6_of 3 = .ok (.dup, 1) := dk_89 (dk_at dksX6_of_0 3 rfl rfl)
theorem dX6_of_4 : decode cX6_of 4 = .ok (.invokespecial 25, 3) := dk_183 0 25 (dk_at dksX6_of_0 4 rfl rfl)
theorem dX6_of_7 : decode cX6_of 7 = .ok (.astore_n 3, 1) := dk_78 (dk_at dksX6_of_0 7 rfl rfl)
theorem dX6_of_8 : decode cX6_of 8 = .ok (.iconst 0, 1) := dk_3 (dk_at dksX6_of_0 8 rfl rfl)
theorem dX6_of_9 : decode cX6_of 9 = .ok (.istore 4, 2) := dk_54 4 (dk_at dksX6_of_0 9 rfl rfl)
theorem dX6_of_11 : decode cX6_of 11 = .ok (.iload 4, 2) := dk_21 4 (dk_at dksX6_of_0 11 rfl rfl)
theorem dX6_of_13 : decode cX6_of 13 = .ok (.aload_n 0, 1) := dk_42 (dk_at dksX6_of_0 13 rfl rfl)
theorem dX6_of_14 : decode cX6_of 14 = .ok (.getfield 9, 3) := dk_180 0 9 (dk_at dksX6_of_0 14 rfl rfl)
theorem dX6_of_17 : decode cX6_of 17 = .ok (.arraylength, 1) := dk_190 (dk_at dksX6_of_0 17 rfl rfl)
theorem dX6_of_18 : decode cX6_of 18 = .ok (.if_icmp .ge 17, 3) := dk_162 0 17 (dk_at dksX6_of_0 18 rfl rfl)
theorem dX6_of_21 : decode cX6_of 21 = .ok (.aload_n 0, 1) := dk_42 (dk_at dksX6_of_0 21 rfl rfl)
theorem dX6_of_22 : decode cX6_of 22 = .ok (.getfield 9, 3) := dk_180 0 9 (dk_at dksX6_of_1 0 rfl rfl)
theorem dX6_of_25 : decode cX6_of 25 = .ok (.iload 4, 2) := dk_21 4 (dk_at dksX6_of_1 3 rfl rfl)
theorem dX6_of_27 : decode cX6_of 27 = .ok (.iconst 0, 1) := dk_3 (dk_at dksX6_of_1 5 rfl rfl)
theorem dX6_of_28 : decode cX6_of 28 = .ok (.bastore, 1) := dk_84 (dk_at dksX6_of_1 6 rfl rfl)
theorem dX6_of_29 : decode cX6_of 29 = .ok (.iinc 4 1, 3) := dk_132 4 1 (dk_at dksX6_of_1 7 rfl rfl)
theorem dX6_of_32 : decode cX6_of 32 = .ok (.goto (-21), 3) := dk_167 255 235 (dk_at dksX6_of_1 10 rfl rfl)
theorem dX6_of_35 : decode cX6_of 35 = .ok (.aload_n 3, 1) := dk_45 (dk_at dksX6_of_1 13 rfl rfl)
theorem dX6_of_36 : decode cX6_of 36 = .ok (.new 26, 3) := dk_187 0 26 (dk_at dksX6_of_1 14 rfl rfl)
theorem dX6_of_39 : decode cX6_of 39 = .ok (.dup, 1) := dk_89 (dk_at dksX6_of_1 17 rfl rfl)
theorem dX6_of_40 : decode cX6_of 40 = .ok (.iload_n 1, 1) := dk_27 (dk_at dksX6_of_1 18 rfl rfl)
theorem dX6_of_41 : decode cX6_of 41 = .ok (.aload_n 0, 1) := dk_42 (dk_at dksX6_of_1 19 rfl rfl)
theorem dX6_of_42 : decode cX6_of 42 = .ok (.getfield 19, 3) := dk_180 0 19 (dk_at dksX6_of_1 20 rfl rfl)
theorem dX6_of_45 : decode cX6_of 45 = .ok (.iload_n 1, 1) := dk_27 (dk_at dksX6_of_1 23 rfl rfl)
theorem dX6_of_46 : decode cX6_of 46 = .ok (.invokevirtual 28, 3) := dk_182 0 28 (dk_at dksX6_of_2 0 rfl rfl)
theorem dX6_of_49 : decode cX6_of 49 = .ok (.invokespecial 34, 3) := dk_183 0 34 (dk_at dksX6_of_2 3 rfl rfl)
theorem dX6_of_52 : decode cX6_of 52 = .ok (.invokevirtual 37, 3) := dk_182 0 37 (dk_at dksX6_of_2 6 rfl rfl)
theorem dX6_of_55 : decode cX6_of 55 = .ok (.pop, 1) := dk_87 (dk_at dksX6_of_2 9 rfl rfl)
theorem dX6_of_56 : decode cX6_of 56 = .ok (.aload_n 3, 1) := dk_45 (dk_at dksX6_of_2 10 rfl rfl)
theorem dX6_of_57 : decode cX6_of 57 = .ok (.invokevirtual 41, 3) := dk_182 0 41 (dk_at dksX6_of_2 11 rfl rfl)
theorem dX6_of_60 : decode cX6_of 60 = .ok (.checkcast 26, 3) := dk_192 0 26 (dk_at dksX6_of_2 14 rfl rfl)
theorem dX6_of_63 : decode cX6_of 63 = .ok (.astore 4, 2) := dk_58 4 (dk_at dksX6_of_2 17 rfl rfl)
theorem dX6_of_65 : decode cX6_of 65 = .ok (.iload_n 2, 1) := dk_28 (dk_at dksX6_of_2 19 rfl rfl)
theorem dX6_of_66 : decode cX6_of 66 = .ok (.ifCond .ge 21, 3) := dk_156 0 21 (dk_at dksX6_of_2 20 rfl rfl)
theorem dX6_of_69 : decode cX6_of 69 = .ok (.aload_n 0, 1) := dk_42 (dk_at dksX6_of_2 23 rfl rfl)
theorem dX6_of_70 : decode cX6_of 70 = .ok (.getfield 19, 3) := dk_180 0 19 (dk_at dksX6_of_3 0 rfl rfl)
theorem dX6_of_73 : decode cX6_of 73 = .ok (.aload 4, 2) := dk_25 4 (dk_at dksX6_of_3 3 rfl rfl)
theorem dX6_of_75 : decode cX6_of 75 = .ok (.getfield 45, 3) := dk_180 0 45 (dk_at dksX6_of_3 5 rfl rfl)
theorem dX6_of_78 : decode cX6_of 78 = .ok (.invokevirtual 49, 3) := dk_182 0 49 (dk_at dksX6_of_3 8 rfl rfl)
theorem dX6_of_81 : decode cX6_of 81 = .ok (.ifCond .eq 21, 3) := dk_153 0 21 (dk_at dksX6_of_3 11 rfl rfl)
theorem dX6_of_84 : decode cX6_of 84 = .ok (.goto 12, 3) := dk_167 0 12 (dk_at dksX6_of_3 14 rfl rfl)
theorem dX6_of_87 : decode cX6_of 87 = .ok (.aload 4, 2) := dk_25 4 (dk_at dksX6_of_3 17 rfl rfl)
theorem dX6_of_89 : decode cX6_of 89 = .ok (.getfield 45, 3) := dk_180 0 45 (dk_at dksX6_of_3 19 rfl rfl)
theorem dX6_of_92 : decode cX6_of 92 = .ok (.iload_n 2, 1) := dk_28 (dk_at dksX6_of_3 22 rfl rfl)
theorem dX6_of_93 : decode cX6_of 93 = .ok (.if_icmp .ne 9, 3) := dk_160 0 9 (dk_at dksX6_of_4 0 rfl rfl)
theorem dX6_of_96 : decode cX6_of 96 = .ok (.aload 4, 2) := dk_25 4 (dk_at dksX6_of_4 3 rfl rfl)
theorem dX6_of_98 : decode cX6_of 98 = .ok (.getfield 53, 3) := dk_180 0 53 (dk_at dksX6_of_4 5 rfl rfl)
theorem dX6_of_101 : decode cX6_of 101 = .ok (.ireturn, 1) := dk_172 (dk_at dksX6_of_4 8 rfl rfl)
theorem dX6_of_102 : decode cX6_of 102 = .ok (.aload_n 0, 1) := dk_42 (dk_at dksX6_of_4 9 rfl rfl)
theorem dX6_of_103 : decode cX6_of 103 = .ok (.getfield 9, 3) := dk_180 0 9 (dk_at dksX6_of_4 10 rfl rfl)
theorem dX6_of_106 : decode cX6_of 106 = .ok (.aload 4, 2) := dk_25 4 (dk_at dksX6_of_4 13 rfl rfl)
theorem dX6_of_108 : decode cX6_of 108 = .ok (.getfield 45, 3) := dk_180 0 45 (dk_at dksX6_of_4 15 rfl rfl)
theorem dX6_of_111 : decode cX6_of 111 = .ok (.baload, 1) := dk_51 (dk_at dksX6_of_4 18 rfl rfl)
theorem dX6_of_112 : decode cX6_of 112 = .ok (.ifCond .eq 6, 3) := dk_153 0 6 (dk_at dksX6_of_4 19 rfl rfl)
theorem dX6_of_115 : decode cX6_of 115 = .ok (.goto (-59), 3) := dk_167 255 197 (dk_at dksX6_of_5 0 rfl rfl)
theorem dX6_of_118 : decode cX6_of 118 = .ok (.aload_n 0, 1) := dk_42 (dk_at dksX6_of_5 3 rfl rfl)
theorem dX6_of_119 : decode cX6_of 119 = .ok (.getfield 9, 3) := dk_180 0 9 (dk_at dksX6_of_5 4 rfl rfl)
theorem dX6_of_122 : decode cX6_of 122 = .ok (.aload 4, 2) := dk_25 4 (dk_at dksX6_of_5 7 rfl rfl)
theorem dX6_of_124 : decode cX6_of 124 = .ok (.getfield 45, 3) := dk_180 0 45 (dk_at dksX6_of_5 9 rfl rfl)
theorem dX6_of_127 : decode cX6_of 127 = .ok (.iconst 1, 1) := dk_4 (dk_at dksX6_of_5 12 rfl rfl)
theorem dX6_of_128 : decode cX6_of 128 = .ok (.bastore, 1) := dk_84 (dk_at dksX6_of_5 13 rfl rfl)
theorem dX6_of_129 : decode cX6_of 129 = .ok (.iconst 0, 1) := dk_3 (dk_at dksX6_of_5 14 rfl rfl)
theorem dX6_of_130 : decode cX6_of 130 = .ok (.istore 5, 2) := dk_54 5 (dk_at dksX6_of_5 15 rfl rfl)
theorem dX6_of_132 : decode cX6_of 132 = .ok (.iload 5, 2) := dk_21 5 (dk_at dksX6_of_5 17 rfl rfl)
theorem dX6_of_134 : decode cX6_of 134 = .ok (.aload_n 0, 1) := dk_42 (dk_at dksX6_of_5 19 rfl rfl)
theorem dX6_of_135 : decode cX6_of 135 = .ok (.getfield 15, 3) := dk_180 0 15 (dk_at dksX6_of_5 20 rfl rfl)
theorem dX6_of_138 : decode cX6_of 138 = .ok (.invokevirtual 56, 3) := dk_182 0 56 (dk_at dksX6_of_6 0 rfl rfl)
theorem dX6_of_141 : decode cX6_of 141 = .ok (.if_icmp .ge 74, 3) := dk_162 0 74 (dk_at dksX6_of_6 3 rfl rfl)
theorem dX6_of_144 : decode cX6_of 144 = .ok (.aload 4, 2) := dk_25 4 (dk_at dksX6_of_6 6 rfl rfl)
theorem dX6_of_146 : decode cX6_of 146 = .ok (.getfield 45, 3) := dk_180 0 45 (dk_at dksX6_of_6 8 rfl rfl)
theorem dX6_of_149 : decode cX6_of 149 = .ok (.iconst 1, 1) := dk_4 (dk_at dksX6_of_6 11 rfl rfl)
theorem dX6_of_150 : decode cX6_of 150 = .ok (.iload 5, 2) := dk_21 5 (dk_at dksX6_of_6 12 rfl rfl)
theorem dX6_of_152 : decode cX6_of 152 = .ok (.ishl, 1) := dk_120 (dk_at dksX6_of_6 14 rfl rfl)
theorem dX6_of_153 : decode cX6_of 153 = .ok (.ixor, 1) := dk_130 (dk_at dksX6_of_6 15 rfl rfl)
theorem dX6_of_154 : decode cX6_of 154 = .ok (.istore 6, 2) := dk_54 6 (dk_at dksX6_of_6 16 rfl rfl)
theorem dX6_of_156 : decode cX6_of 156 = .ok (.aload_n 0, 1) := dk_42 (dk_at dksX6_of_6 18 rfl rfl)
theorem dX6_of_157 : decode cX6_of 157 = .ok (.getfield 15, 3) := dk_180 0 15 (dk_at dksX6_of_6 19 rfl rfl)
theorem dX6_of_160 : decode cX6_of 160 = .ok (.iload 5, 2) := dk_21 5 (dk_at dksX6_of_6 22 rfl rfl)
theorem dX6_of_162 : decode cX6_of 162 = .ok (.invokevirtual 62, 3) := dk_182 0 62 (dk_at dksX6_of_7 0 rfl rfl)
theorem dX6_of_165 : decode cX6_of 165 = .ok (.ifCond .ne 44, 3) := dk_154 0 44 (dk_at dksX6_of_7 3 rfl rfl)
theorem dX6_of_168 : decode cX6_of 168 = .ok (.aload_n 0, 1) := dk_42 (dk_at dksX6_of_7 6 rfl rfl)
theorem dX6_of_169 : decode cX6_of 169 = .ok (.getfield 9, 3) := dk_180 0 9 (dk_at dksX6_of_7 7 rfl rfl)
theorem dX6_of_172 : decode cX6_of 172 = .ok (.iload 6, 2) := dk_21 6 (dk_at dksX6_of_7 10 rfl rfl)
theorem dX6_of_174 : decode cX6_of 174 = .ok (.baload, 1) := dk_51 (dk_at dksX6_of_7 12 rfl rfl)
theorem dX6_of_175 : decode cX6_of 175 = .ok (.ifCond .ne 34, 3) := dk_154 0 34 (dk_at dksX6_of_7 13 rfl rfl)
theorem dX6_of_178 : decode cX6_of 178 = .ok (.aload_n 3, 1) := dk_45 (dk_at dksX6_of_7 16 rfl rfl)
theorem dX6_of_179 : decode cX6_of 179 = .ok (.new 26, 3) := dk_187 0 26 (dk_at dksX6_of_7 17 rfl rfl)
theorem dX6_of_182 : decode cX6_of 182 = .ok (.dup, 1) := dk_89 (dk_at dksX6_of_7 20 rfl rfl)
theorem dX6_of_183 : decode cX6_of 183 = .ok (.iload 6, 2) := dk_21 6 (dk_at dksX6_of_7 21 rfl rfl)
theorem dX6_of_185 : decode cX6_of 185 = .ok (.aload 4, 2) := dk_25 4 (dk_at dksX6_of_8 0 rfl rfl)
theorem dX6_of_187 : decode cX6_of 187 = .ok (.getfield 53, 3) := dk_180 0 53 (dk_at dksX6_of_8 2 rfl rfl)
theorem dX6_of_190 : decode cX6_of 190 = .ok (.aload_n 0, 1) := dk_42 (dk_at dksX6_of_8 5 rfl rfl)
theorem dX6_of_191 : decode cX6_of 191 = .ok (.getfield 19, 3) := dk_180 0 19 (dk_at dksX6_of_8 6 rfl rfl)
theorem dX6_of_194 : decode cX6_of 194 = .ok (.iload 6, 2) := dk_21 6 (dk_at dksX6_of_8 9 rfl rfl)
theorem dX6_of_196 : decode cX6_of 196 = .ok (.invokevirtual 28, 3) := dk_182 0 28 (dk_at dksX6_of_8 11 rfl rfl)
theorem dX6_of_199 : decode cX6_of 199 = .ok (.invokestatic 65, 3) := dk_184 0 65 (dk_at dksX6_of_8 14 rfl rfl)
theorem dX6_of_202 : decode cX6_of 202 = .ok (.invokespecial 34, 3) := dk_183 0 34 (dk_at dksX6_of_8 17 rfl rfl)
theorem dX6_of_205 : decode cX6_of 205 = .ok (.invokevirtual 37, 3) := dk_182 0 37 (dk_at dksX6_of_8 20 rfl rfl)
theorem dX6_of_208 : decode cX6_of 208 = .ok (.pop, 1) := dk_87 (dk_at dksX6_of_8 23 rfl rfl)
theorem dX6_of_209 : decode cX6_of 209 = .ok (.iinc 5 1, 3) := dk_132 5 1 (dk_at dksX6_of_9 0 rfl rfl)
theorem dX6_of_212 : decode cX6_of 212 = .ok (.goto (-80), 3) := dk_167 255 176 (dk_at dksX6_of_9 3 rfl rfl)
theorem dX6_of_215 : decode cX6_of 215 = .ok (.goto (-159), 3) := dk_167 255 97 (dk_at dksX6_of_9 6 rfl rfl)
theorem q119 : (Jvm.Cond.initialized "SpinStrip$Hills") ∈ lw_all := lw_g (lw_at lw_m1 12 rfl) rfl
theorem q444 : (Jvm.Cond.instantiable "SpinStrip$Hills" (3 : Nat)) ∈ lw_all := lw_g (lw_at lw_m2 97 rfl) rfl
theorem q446 : (Jvm.Cond.instanceMethod ({ cls := "SpinStrip$Hills", name := "<init>", desc := "(LSpinStrip$Strip;LSpinStrip$Energies;)V" } : Jvm.MethodName)) ∈ lw_all := lw_g (lw_at lw_m2 99 rfl) rfl
theorem q447 : (Jvm.Cond.code ({ cls := "SpinStrip$Hills", name := "<init>", desc := "(LSpinStrip$Strip;LSpinStrip$Energies;)V" } : Jvm.MethodName) prog_5_method_1_code (3 : Nat) (Option.none : Option Jvm.ClassFile.FieldType)) ∈ lw_all := lw_g (lw_at lw_m2 100 rfl) rfl
theorem q448 : (Jvm.Cond.methodLink "SpinStrip$Hills" (3 : Nat) ({ cls := "java/lang/Object", name := "<init>", desc := "()V" } : Jvm.MethodName)) ∈ lw_all := lw_g (lw_at lw_m2 101 rfl) rfl
theorem q449 : (Jvm.Cond.fieldLink "SpinStrip$Hills" (15 : Nat) "SpinStrip$Hills" "s" "LSpinStrip$Strip;") ∈ lw_all := lw_g (lw_at lw_m2 102 rfl) rfl
theorem q450 : (Jvm.Cond.fieldLink "SpinStrip$Hills" (19 : Nat) "SpinStrip$Hills" "e" "LSpinStrip$Energies;") ∈ lw_all := lw_g (lw_at lw_m2 103 rfl) rfl
theorem q451 : (Jvm.Cond.fieldLink "SpinStrip$Hills" (9 : Nat) "SpinStrip$Hills" "met" "[Z") ∈ lw_all := lw_g (lw_at lw_m2 104 rfl) rfl
theorem q452 : (Jvm.Cond.laysFinal "SpinStrip$Hills" "SpinStrip$Hills" "s" "LSpinStrip$Strip;") ∈ lw_all := lw_g (lw_at lw_m2 105 rfl) rfl
theorem q453 : (Jvm.Cond.soleField "SpinStrip$Hills" "s") ∈ lw_all := lw_g (lw_at lw_m2 106 rfl) rfl
theorem q454 : (Jvm.Cond.laysFinal "SpinStrip$Hills" "SpinStrip$Hills" "e" "LSpinStrip$Energies;") ∈ lw_all := lw_g (lw_at lw_m2 107 rfl) rfl
theorem q455 : (Jvm.Cond.soleField "SpinStrip$Hills" "e") ∈ lw_all := lw_g (lw_at lw_m2 108 rfl) rfl
theorem q456 : (Jvm.Cond.laysFinal "SpinStrip$Hills" "SpinStrip$Hills" "met" "[Z") ∈ lw_all := lw_g (lw_at lw_m2 109 rfl) rfl
theorem q457 : (Jvm.Cond.soleField "SpinStrip$Hills" "met") ∈ lw_all := lw_g (lw_at lw_m2 110 rfl) rfl
theorem q458 : (Jvm.Cond.superclass "SpinStrip$Hills" "java/lang/Object") ∈ lw_all := lw_g (lw_at lw_m2 111 rfl) rfl
theorem q876 : (Jvm.Cond.selects "SpinStrip$Hills" ({ cls := "java/lang/Object", name := "getClass", desc := "()Ljava/lang/Class;" } : Jvm.MethodName) ({ cls := "java/lang/Object", name := "getClass", desc := "()Ljava/lang/Class;" } : Jvm.MethodName)) ∈ lw_all := lw_g (lw_at lw_m4 49 rfl) rfl
theorem q1658 : (Jvm.Cond.instanceMethod ({ cls := "SpinStrip$Hills", name := "of", desc := "(II)I" } : Jvm.MethodName)) ∈ lw_all := lw_g (lw_at lw_m7 111 rfl) rfl
theorem q1659 : (Jvm.Cond.selects "SpinStrip$Hills" ({ cls := "SpinStrip$Hills", name := "of", desc := "(II)I" } : Jvm.MethodName) ({ cls := "SpinStrip$Hills", name := "of", desc := "(II)I" } : Jvm.MethodName)) ∈ lw_all := lw_g (lw_at lw_m7 112 rfl) rfl
theorem q1660 : (Jvm.Cond.code ({ cls := "SpinStrip$Hills", name := "of", desc := "(II)I" } : Jvm.MethodName) prog_5_method_2_code (7 : Nat) (Option.some Jvm.ClassFile.FieldType.int)) ∈ lw_all := lw_g (lw_at lw_m7 113 rfl) rfl
theorem q1661 : (Jvm.Cond.classLink "SpinStrip$Hills" (23 : Nat) "java/util/PriorityQueue") ∈ lw_all := lw_g (lw_at lw_m7 114 rfl) rfl
theorem q1663 : (Jvm.Cond.methodLink "SpinStrip$Hills" (25 : Nat) ({ cls := "java/util/PriorityQueue", name := "<init>", desc := "()V" } : Jvm.MethodName)) ∈ lw_all := lw_g (lw_at lw_m7 116 rfl) rfl
theorem q1687 : (Jvm.Cond.classLink "SpinStrip$Hills" (26 : Nat) "SpinStrip$Spot") ∈ lw_all := lw_g (lw_at lw_m7 140 rfl) rfl
theorem q1689 : (Jvm.Cond.methodLink "SpinStrip$Hills" (28 : Nat) ({ cls := "SpinStrip$Energies", name := "of", desc := "(I)I" } : Jvm.MethodName)) ∈ lw_all := lw_g (lw_at lw_m7 142 rfl) rfl
theorem q1690 : (Jvm.Cond.methodLink "SpinStrip$Hills" (34 : Nat) ({ cls := "SpinStrip$Spot", name := "<init>", desc := "(II)V" } : Jvm.MethodName)) ∈ lw_all := lw_g (lw_at lw_m7 143 rfl) rfl
theorem q1695 : (Jvm.Cond.fieldLink "SpinStrip$Hills" (45 : Nat) "SpinStrip$Spot" "state" "I") ∈ lw_all := lw_g (lw_at lw_m7 148 rfl) rfl
theorem q1697 : (Jvm.Cond.fieldLink "SpinStrip$Hills" (53 : Nat) "SpinStrip$Spot" "high" "I") ∈ lw_all := lw_g (lw_at lw_m7 150 rfl) rfl
theorem q1703 : (Jvm.Cond.methodLink "SpinStrip$Hills" (37 : Nat) ({ cls := "java/util/PriorityQueue", name := "add", desc := "(Ljava/lang/Object;)Z" } : Jvm.MethodName)) ∈ lw_all := lw_g (lw_at lw_m7 156 rfl) rfl
theorem q1739 : (Jvm.Cond.methodLink "SpinStrip$Hills" (41 : Nat) ({ cls := "java/util/PriorityQueue", name := "poll", desc := "()Ljava/lang/Object;" } : Jvm.MethodName)) ∈ lw_all := lw_g (lw_at lw_m7 192 rfl) rfl
theorem q1749 : (Jvm.Cond.methodLink "SpinStrip$Hills" (49 : Nat) ({ cls := "SpinStrip$Energies", name := "isGround", desc := "(I)Z" } : Jvm.MethodName)) ∈ lw_all := lw_g (lw_at lw_m7 202 rfl) rfl
theorem q1750 : (Jvm.Cond.methodLink "SpinStrip$Hills" (56 : Nat) ({ cls := "SpinStrip$Strip", name := "sites", desc := "()I" } : Jvm.MethodName)) ∈ lw_all := lw_g (lw_at lw_m7 203 rfl) rfl
theorem q1751 : (Jvm.Cond.methodLink "SpinStrip$Hills" (62 : Nat) ({ cls := "SpinStrip$Strip", name := "isPinned", desc := "(I)Z" } : Jvm.MethodName)) ∈ lw_all := lw_g (lw_at lw_m7 204 rfl) rfl
theorem q1752 : (Jvm.Cond.methodLink "SpinStrip$Hills" (65 : Nat) ({ cls := "java/lang/Math", name := "max", desc := "(II)I" } : Jvm.MethodName)) ∈ lw_all := lw_g (lw_at lw_m7 205 rfl) rfl
theorem q2396 : (Jvm.Cond.castable "SpinStrip$Hills" "java/lang/Object") ∈ lw_tbl := lw_at lw_m10 129 rfl
theorem in_X6 : ∀ w ∈ wsX60, w ∈ lw_all := lw_in wsX60 [452, 454, 456] (by decide +kernel) (by decide +kernel)
/-! SpinStrip$Rows -/
set_option maxRecDepth 100000
def RX7 : String := "SpinStrip$Rows"
def TX7 : u_T := fun k => match k with
  | 0 => ("SpinStrip$Rows", "s", "LSpinStrip$Strip;", true)
  | 1 => ("SpinStrip$Rows", "ways", "[[I", true)
  | 2 => ("SpinStrip$Rows", "next", "[[I", true)
  | _ => ("SpinStrip$Rows", "first", "I", false)
def tyX7 : Nat → FieldType := fun k => match k with
  | 0 => .object "SpinStrip$Strip"
  | 1 => .array (.array .int)
  | 2 => .array (.array .int)
  | _ => .int
abbrev wsX70 : List Cond := u_ws RX7 TX7 4
theorem nmX7 : ∀ a, a < 4 → ∀ b, b < 4 → a ≠ b → (TX7 a).2.1 ≠ (TX7 b).2.1 := by decide +kernel
theorem tyX7_ok : ∀ k, k < 4 → parseFieldDescriptor (TX7 k).2.2.1 = some (tyX7 k) := by decide +kernel
abbrev cX7_init : ByteArray := prog_9_method_1_code
def yX7_init : MethodName := ⟨RX7, "<init>", "(LSpinStrip$Strip;)V"⟩
def dkwX7_init_1 : List UInt8 := [197, 0, 9, 2, 181, 0, 16, 42, 43, 181, 0, 19, 177]
abbrev dktX7_init_1 : List UInt8 := dkwX7_init_1 ++ []
def dkwX7_init_0 : List UInt8 := [42, 183, 0, 3, 42, 16, 16, 17, 1, 33, 197, 0, 9, 2, 181, 0, 11, 42, 16, 16, 17, 1, 33]
abbrev dktX7_init_0 : List UInt8 := dkwX7_init_0 ++ dktX7_init_1
theorem dksX7_init_0 : cX7_init.data.toList.drop 0 = dktX7_init_0 := by decide +kernel
theorem dksX7_init_1 : cX7_init.data.toList.drop 23 = dktX7_init_1 := dk_seg dksX7_init_0 23 rfl rfl
theorem dX7_init_0 : decode cX7_init 0 = .ok (.aload_n 0, 1) := dk_42 (dk_at dksX7_init_0 0 rfl rfl)
theorem dX7_init_1 : decode cX7_init 1 = .ok (.invokespecial 3, 3) := dk_183 0 3 (dk_at dksX7_init_0 1 rfl rfl)
theorem dX7_init_4 : decode cX7_init 4 = .ok (.aload_n 0, 1) := dk_42 (dk_at dksX7_init_0 4 rfl rfl)
theorem dX7_init_5 : decode cX7_init 5 = .ok (.bipush 16, 2) := dk_16 16 (dk_at dksX7_init_0 5 rfl rfl)
theorem dX7_init_7 : decode cX7_init 7 = .ok (.sipush 289, 3) := dk_17 1 33 (dk_at dksX7_init_0 7 rfl rfl)
theorem dX7_init_10 : decode cX7_init 10 = .ok (.multianewarray 9 2, 4) := by decide +kernel
theorem dX7_init_14 : decode cX7_init 14 = .ok (.putfield 11, 3) := dk_181 0 11 (dk_at dksX7_init_0 14 rfl rfl)
theorem dX7_init_17 : decode cX7_init 17 = .ok (.aload_n 0, 1) := dk_42 (dk_at dksX7_init_0 17 rfl rfl)
theorem dX7_init_18 : decode cX7_init 18 = .ok (.bipush 16, 2) := dk_16 16 (dk_at dksX7_init_0 18 rfl rfl)
theorem dX7_init_20 : decode cX7_init 20 = .ok (.sipush 289, 3) := dk_17 1 33 (dk_at dksX7_init_0 20 rfl rfl)
theorem dX7_init_23 : decode cX7_init 23 = .ok (.multianewarray 9 2, 4) := by decide +kernel
theorem dX7_init_27 : decode cX7_init 27 = .ok (.putfield 16, 3) := dk_181 0 16 (dk_at dksX7_init_1 4 rfl rfl)
theorem dX7_init_30 : decode cX7_init 30 = .ok (.aload_n 0, 1) := dk_42 (dk_at dksX7_init_1 7 rfl rfl)
theorem dX7_init_31 : decode cX7_init 31 = .ok (.aload_n 1, 1) := dk_43 (dk_at dksX7_init_1 8 rfl rfl)
theorem dX7_init_32 : decode cX7_init 32 = .ok (.putfield 19, 3) := dk_181 0 19 (dk_at dksX7_init_1 9 rfl rfl)
theorem dX7_init_35 : decode cX7_init 35 = .ok (.return_, 1) := dk_177 (dk_at dksX7_init_1 12 rfl rfl)
abbrev cX7_many : ByteArray := prog_9_method_10_code
def yX7_many : MethodName := ⟨RX7, "many", "(III)I"⟩
def dkwX7_many_6 : List UInt8 := [3, 96, 54, 5, 132, 6, 1, 167, 255, 155, 21, 5, 172]
abbrev dktX7_many_6 : List UInt8 := dkwX7_many_6 ++ []
def dkwX7_many_5 : List UInt8 := [21, 7, 3, 17, 1, 32, 184, 0, 97, 153, 0, 15, 42, 180, 0, 11, 28, 50, 21, 7, 46, 167, 0, 4]
abbrev dktX7_many_5 : List UInt8 := dkwX7_many_5 ++ dktX7_many_6
def dkwX7_many_4 : List UInt8 := [21, 4, 153, 0, 16, 42, 27, 28, 42, 180, 0, 57, 182, 0, 70, 167, 0, 4, 3, 100, 54, 7, 21, 5]
abbrev dktX7_many_4 : List UInt8 := dkwX7_many_4 ++ dktX7_many_5
def dkwX7_many_3 : List UInt8 := [21, 7, 27, 163, 0, 15, 42, 21, 7, 182, 0, 94, 132, 7, 1, 167, 255, 241, 29, 17, 0, 144, 96]
abbrev dktX7_many_3 : List UInt8 := dkwX7_many_3 ++ dktX7_many_4
def dkwX7_many_2 : List UInt8 := [21, 6, 4, 42, 180, 0, 19, 180, 0, 23, 120, 162, 0, 93, 42, 21, 6, 182, 0, 90, 4, 54, 7]
abbrev dktX7_many_2 : List UInt8 := dkwX7_many_2 ++ dktX7_many_3
def dkwX7_many_1 : List UInt8 := [180, 0, 87, 4, 184, 0, 35, 153, 0, 7, 4, 167, 0, 4, 3, 54, 4, 3, 54, 5, 3, 54, 6]
abbrev dktX7_many_1 : List UInt8 := dkwX7_many_1 ++ dktX7_many_2
def dkwX7_many_0 : List UInt8 := [27, 42, 180, 0, 19, 180, 0, 84, 4, 100, 160, 0, 26, 27, 4, 164, 0, 21, 42, 180, 0, 19]
abbrev dktX7_many_0 : List UInt8 := dkwX7_many_0 ++ dktX7_many_1
theorem dksX7_many_0 : cX7_many.data.toList.drop 0 = dktX7_many_0 := by decide +kernel
theorem dksX7_many_1 : cX7_many.data.toList.drop 22 = dktX7_many_1 := dk_seg dksX7_many_0 22 rfl rfl
theorem dksX7_many_2 : cX7_many.data.toList.drop 45 = dktX7_many_2 := dk_seg dksX7_many_1 23 rfl rfl
theorem dksX7_many_3 : cX7_many.data.toList.drop 68 = dktX7_many_3 := dk_seg dksX7_many_2 23 rfl rfl
theorem dksX7_many_4 : cX7_many.data.toList.drop 91 = dktX7_many_4 := dk_seg dksX7_many_3 23 rfl rfl
theorem dksX7_many_5 : cX7_many.data.toList.drop 115 = dktX7_many_5 := dk_seg dksX7_many_4 24 rfl rfl
theorem dksX7_many_6 : cX7_many.data.toList.drop 139 = dktX7_many_6 := dk_seg dksX7_many_5 24 rfl rfl
theorem dX7_many_0 : decode cX7_many 0 = .ok (.iload_n 1, 1) := dk_27 (dk_at dksX7_many_0 0 rfl rfl)
theorem dX7_many_1 : decode cX7_many 1 = .ok (.aload_n 0, 1) := dk_42 (dk_at dksX7_many_0 1 rfl rfl)
theorem dX7_many_2 : decode cX7_many 2 = .ok (.getfield 19, 3) := dk_180 0 19 (dk_at dksX7_many_0 2 rfl rfl)
theorem dX7_many_5 : decode cX7_many 5 = .ok (.getfield 84, 3) := dk_180 0 84 (dk_at dksX7_many_0 5 rfl rfl)
theorem dX7_many_8 : decode cX7_many 8 = .ok (.iconst 1, 1) := dk_4 (dk_at dksX7_many_0 8 rfl rfl)
theorem dX7_many_9 : decode cX7_many 9 = .ok (.isub, 1) := dk_100 (dk_at dksX7_many_0 9 rfl rfl)
theorem dX7_many_10 : decode cX7_many 10 = .ok (.if_icmp .ne 26, 3) := dk_160 0 26 (dk_at dksX7_many_0 10 rfl rfl)
theorem dX7_many_13 : decode cX7_many 13 = .ok (.iload_n 1, 1) := dk_27 (dk_at dksX7_many_0 13 rfl rfl)
theorem dX7_many_14 : decode cX7_many 14 = .ok (.iconst 1, 1) := dk_4 (dk_at dksX7_many_0 14 rfl rfl)
theorem dX7_many_15 : decode cX7_many 15 = .ok (.if_icmp .le 21, 3) := dk_164 0 21 (dk_at dksX7_many_0 15 rfl rfl)
theorem dX7_many_18 : decode cX7_many 18 = .ok (.aload_n 0, 1) := dk_42 (dk_at dksX7_many_0 18 rfl rfl)
theorem dX7_many_19 : decode cX7_many 19 = .ok (.getfield 19, 3) := dk_180 0 19 (dk_at dksX7_many_0 19 rfl rfl)
theorem dX7_many_22 : decode cX7_many 22 = .ok (.getfield 87, 3) := dk_180 0 87 (dk_at dksX7_many_1 0 rfl rfl)
theorem dX7_many_25 : decode cX7_many 25 = .ok (.iconst 1, 1) := dk_4 (dk_at dksX7_many_1 3 rfl rfl)
theorem dX7_many_26 : decode cX7_many 26 = .ok (.invokestatic 35, 3) := dk_184 0 35 (dk_at dksX7_many_1 4 rfl rfl)
theorem dX7_many_29 : decode cX7_many 29 = .ok (.ifCond .eq 7, 3) := dk_153 0 7 (dk_at dksX7_many_1 7 rfl rfl)
theorem dX7_many_32 : decode cX7_many 32 = .ok (.iconst 1, 1) := dk_4 (dk_at dksX7_many_1 10 rfl rfl)
theorem dX7_many_33 : decode cX7_many 33 = .ok (.goto 4, 3) := dk_167 0 4 (dk_at dksX7_many_1 11 rfl rfl)
theorem dX7_many_36 : decode cX7_many 36 = .ok (.iconst 0, 1) := dk_3 (dk_at dksX7_many_1 14 rfl rfl)
theorem dX7_many_37 : decode cX7_many 37 = .ok (.istore 4, 2) := dk_54 4 (dk_at dksX7_many_1 15 rfl rfl)
theorem dX7_many_39 : decode cX7_many 39 = .ok (.iconst 0, 1) := dk_3 (dk_at dksX7_many_1 17 rfl rfl)
theorem dX7_many_40 : decode cX7_many 40 = .ok (.istore 5, 2) := dk_54 5 (dk_at dksX7_many_1 18 rfl rfl)
theorem dX7_many_42 : decode cX7_many 42 = .ok (.iconst 0, 1) := dk_3 (dk_at dksX7_many_1 20 rfl rfl)
theorem dX7_many_43 : decode cX7_many 43 = .ok (.istore 6, 2) := dk_54 6 (dk_at dksX7_many_1 21 rfl rfl)
theorem dX7_many_45 : decode cX7_many 45 = .ok (.iload 6, 2) := dk_21 6 (dk_at dksX7_many_2 0 rfl rfl)
theorem dX7_many_47 : decode cX7_many 47 = .ok (.iconst 1, 1) := dk_4 (dk_at dksX7_many_2 2 rfl rfl)
theorem dX7_many_48 : decode cX7_many 48 = .ok (.aload_n 0, 1) := dk_42 (dk_at dksX7_many_2 3 rfl rfl)
theorem dX7_many_49 : decode cX7_many 49 = .ok (.getfield 19, 3) := dk_180 0 19 (dk_at dksX7_many_2 4 rfl rfl)
theorem dX7_many_52 : decode cX7_many 52 = .ok (.getfield 23, 3) := dk_180 0 23 (dk_at dksX7_many_2 7 rfl rfl)
theorem dX7_many_55 : decode cX7_many 55 = .ok (.ishl, 1) := dk_120 (dk_at dksX7_many_2 10 rfl rfl)
theorem dX7_many_56 : decode cX7_many 56 = .ok (.if_icmp .ge 93, 3) := dk_162 0 93 (dk_at dksX7_many_2 11 rfl rfl)
theorem dX7_many_59 : decode cX7_many 59 = .ok (.aload_n 0, 1) := dk_42 (dk_at dksX7_many_2 14 rfl rfl)
theorem dX7_many_60 : decode cX7_many 60 = .ok (.iload 6, 2) := dk_21 6 (dk_at dksX7_many_2 15 rfl rfl)
theorem dX7_many_62 : decode cX7_many 62 = .ok (.invokevirtual 90, 3) := dk_182 0 90 (dk_at dksX7_many_2 17 rfl rfl)
theorem dX7_many_65 : decode cX7_many 65 = .ok (.iconst 1, 1) := dk_4 (dk_at dksX7_many_2 20 rfl rfl)
theorem dX7_many_66 : decode cX7_many 66 = .ok (.istore 7, 2) := dk_54 7 (dk_at dksX7_many_2 21 rfl rfl)
theorem dX7_many_68 : decode cX7_many 68 = .ok (.iload 7, 2) := dk_21 7 (dk_at dksX7_many_3 0 rfl rfl)
theorem dX7_many_70 : decode cX7_many 70 = .ok (.iload_n 1, 1) := dk_27 (dk_at dksX7_many_3 2 rfl rfl)
theorem dX7_many_71 : decode cX7_many 71 = .ok (.if_icmp .gt 15, 3) := dk_163 0 15 (dk_at dksX7_many_3 3 rfl rfl)
theorem dX7_many_74 : decode cX7_many 74 = .ok (.aload_n 0, 1) := dk_42 (dk_at dksX7_many_3 6 rfl rfl)
theorem dX7_many_75 : decode cX7_many 75 = .ok (.iload 7, 2) := dk_21 7 (dk_at dksX7_many_3 7 rfl rfl)
theorem dX7_many_77 : decode cX7_many 77 = .ok (.invokevirtual 94, 3) := dk_182 0 94 (dk_at dksX7_many_3 9 rfl rfl)
theorem dX7_many_80 : decode cX7_many 80 = .ok (.iinc 7 1, 3) := dk_132 7 1 (dk_at dksX7_many_3 12 rfl rfl)
theorem dX7_many_83 : decode cX7_many 83 = .ok (.goto (-15), 3) := dk_167 255 241 (dk_at dksX7_many_3 15 rfl rfl)
theorem dX7_many_86 : decode cX7_many 86 = .ok (.iload_n 3, 1) := dk_29 (dk_at dksX7_many_3 18 rfl rfl)
theorem dX7_many_87 : decode cX7_many 87 = .ok (.sipush 144, 3) := dk_17 0 144 (dk_at dksX7_many_3 19 rfl rfl)
theorem dX7_many_90 : decode cX7_many 90 = .ok (.iadd, 1) := dk_96 (dk_at dksX7_many_3 22 rfl rfl)
theorem dX7_many_91 : decode cX7_many 91 = .ok (.iload 4, 2) := dk_21 4 (dk_at dksX7_many_4 0 rfl rfl)
theorem dX7_many_93 : decode cX7_many 93 = .ok (.ifCond .eq 16, 3) := dk_153 0 16 (dk_at dksX7_many_4 2 rfl rfl)
theorem dX7_many_96 : decode cX7_many 96 = .ok (.aload_n 0, 1) := dk_42 (dk_at dksX7_many_4 5 rfl rfl)
theorem dX7_many_97 : decode cX7_many 97 = .ok (.iload_n 1, 1) := dk_27 (dk_at dksX7_many_4 6 rfl rfl)
theorem dX7_many_98 : decode cX7_many 98 = .ok (.iload_n 2, 1) := dk_28 (dk_at dksX7_many_4 7 rfl rfl)
theorem dX7_many_99 : decode cX7_many 99 = .ok (.aload_n 0, 1) := dk_42 (dk_at dksX7_many_4 8 rfl rfl)
theorem dX7_many_100 : decode cX7_many 100 = .ok (.getfield 57, 3) := dk_180 0 57 (dk_at dksX7_many_4 9 rfl rfl)
theorem dX7_many_103 : decode cX7_many 103 = .ok (.invokevirtual 70, 3) := dk_182 0 70 (dk_at dksX7_many_4 12 rfl rfl)
theorem dX7_many_106 : decode cX7_many 106 = .ok (.goto 4, 3) := dk_167 0 4 (dk_at dksX7_many_4 15 rfl rfl)
theorem dX7_many_109 : decode cX7_many 109 = .ok (.iconst 0, 1) := dk_3 (dk_at dksX7_many_4 18 rfl rfl)
theorem dX7_many_110 : decode cX7_many 110 = .ok (.isub, 1) := dk_100 (dk_at dksX7_many_4 19 rfl rfl)
theorem dX7_many_111 : decode cX7_many 111 = .ok (.istore 7, 2) := dk_54 7 (dk_at dksX7_many_4 20 rfl rfl)
theorem dX7_many_113 : decode cX7_many 113 = .ok (.iload 5, 2) := dk_21 5 (dk_at dksX7_many_4 22 rfl rfl)
theorem dX7_many_115 : decode cX7_many 115 = .ok (.iload 7, 2) := dk_21 7 (dk_at dksX7_many_5 0 rfl rfl)
theorem dX7_many_117 : decode cX7_many 117 = .ok (.iconst 0, 1) := dk_3 (dk_at dksX7_many_5 2 rfl rfl)
theorem dX7_many_118 : decode cX7_many 118 = .ok (.sipush 288, 3) := dk_17 1 32 (dk_at dksX7_many_5 3 rfl rfl)
theorem dX7_many_121 : decode cX7_many 121 = .ok (.invokestatic 97, 3) := dk_184 0 97 (dk_at dksX7_many_5 6 rfl rfl)
theorem dX7_many_124 : decode cX7_many 124 = .ok (.ifCond .eq 15, 3) := dk_153 0 15 (dk_at dksX7_many_5 9 rfl rfl)
theorem dX7_many_127 : decode cX7_many 127 = .ok (.aload_n 0, 1) := dk_42 (dk_at dksX7_many_5 12 rfl rfl)
theorem dX7_many_128 : decode cX7_many 128 = .ok (.getfield 11, 3) := dk_180 0 11 (dk_at dksX7_many_5 13 rfl rfl)
theorem dX7_many_131 : decode cX7_many 131 = .ok (.iload_n 2, 1) := dk_28 (dk_at dksX7_many_5 16 rfl rfl)
theorem dX7_many_132 : decode cX7_many 132 = .ok (.aaload, 1) := dk_50 (dk_at dksX7_many_5 17 rfl rfl)
theorem dX7_many_133 : decode cX7_many 133 = .ok (.iload 7, 2) := dk_21 7 (dk_at dksX7_many_5 18 rfl rfl)
theorem dX7_many_135 : decode cX7_many 135 = .ok (.iaload, 1) := dk_46 (dk_at dksX7_many_5 20 rfl rfl)
theorem dX7_many_136 : decode cX7_many 136 = .ok (.goto 4, 3) := dk_167 0 4 (dk_at dksX7_many_5 21 rfl rfl)
theorem dX7_many_139 : decode cX7_many 139 = .ok (.iconst 0, 1) := dk_3 (dk_at dksX7_many_6 0 rfl rfl)
theorem dX7_many_140 : decode cX7_many 140 = .ok (.iadd, 1) := dk_96 (dk_at dksX7_many_6 1 rfl rfl)
theorem dX7_many_141 : decode cX7_many 141 = .ok (.istore 5, 2) := dk_54 5 (dk_at dksX7_many_6 2 rfl rfl)
theorem dX7_many_143 : decode cX7_many 143 = .ok (.iinc 6 1, 3) := dk_132 6 1 (dk_at dksX7_many_6 4 rfl rfl)
theorem dX7_many_146 : decode cX7_many 146 = .ok (.goto (-101), 3) := dk_167 255 155 (dk_at dksX7_many_6 7 rfl rfl)
theorem dX7_many_149 : decode cX7_many 149 = .ok (.iload 5, 2) := dk_21 5 (dk_at dksX7_many_6 10 rfl rfl)
theorem dX7_many_151 : decode cX7_many 151 = .ok (.ireturn, 1) := dk_172 (dk_at dksX7_many_6 12 rfl rfl)
abbrev cX7_begins : ByteArray := prog_9_method_8_code
def yX7_begins : MethodName := ⟨RX7, "begins", "(I)V"⟩
def dkwX7_begins_1 : List UInt8 := [180, 0, 11, 27, 50, 17, 0, 144, 42, 3, 27, 182, 0, 67, 96, 4, 79, 177]
abbrev dktX7_begins_1 : List UInt8 := dkwX7_begins_1 ++ []
def dkwX7_begins_0 : List UInt8 := [42, 27, 181, 0, 57, 42, 42, 180, 0, 11, 182, 0, 60, 42, 3, 27, 182, 0, 64, 153, 0, 21, 42]
abbrev dktX7_begins_0 : List UInt8 := dkwX7_begins_0 ++ dktX7_begins_1
theorem dksX7_begins_0 : cX7_begins.data.toList.drop 0 = dktX7_begins_0 := by decide +kernel
theorem dksX7_begins_1 : cX7_begins.data.toList.drop 23 = dktX7_begins_1 := dk_seg dksX7_begins_0 23 rfl rfl
theorem dX7_begins_0 : decode cX7_begins 0 = .ok (.aload_n 0, 1) := dk_42 (dk_at dksX7_begins_0 0 rfl rfl)
theorem dX7_begins_1 : decode cX7_begins 1 = .ok (.iload_n 1, 1) := dk_27 (dk_at dksX7_begins_0 1 rfl rfl)
theorem dX7_begins_2 : decode cX7_begins 2 = .ok (.putfield 57, 3) := dk_181 0 57 (dk_at dksX7_begins_0 2 rfl rfl)
theorem dX7_begins_5 : decode cX7_begins 5 = .ok (.aload_n 0, 1) := dk_42 (dk_at dksX7_begins_0 5 rfl rfl)
theorem dX7_begins_6 : decode cX7_begins 6 = .ok (.aload_n 0, 1) := dk_42 (dk_at dksX7_begins_0 6 rfl rfl)
theorem dX7_begins_7 : decode cX7_begins 7 = .ok (.getfield 11, 3) := dk_180 0 11 (dk_at dksX7_begins_0 7 rfl rfl)
theorem dX7_begins_10 : decode cX7_begins 10 = .ok (.invokevirtual 60, 3) := dk_182 0 60 (dk_at dksX7_begins_0 10 rfl rfl)
theorem dX7_begins_13 : decode cX7_begins 13 = .ok (.aload_n 0, 1) := dk_42 (dk_at dksX7_begins_0 13 rfl rfl)
theorem dX7_begins_14 : decode cX7_begins 14 = .ok (.iconst 0, 1) := dk_3 (dk_at dksX7_begins_0 14 rfl rfl)
theorem dX7_begins_15 : decode cX7_begins 15 = .ok (.iload_n 1, 1) := dk_27 (dk_at dksX7_begins_0 15 rfl rfl)
theorem dX7_begins_16 : decode cX7_begins 16 = .ok (.invokevirtual 64, 3) := dk_182 0 64 (dk_at dksX7_begins_0 16 rfl rfl)
theorem dX7_begins_19 : decode cX7_begins 19 = .ok (.ifCond .eq 21, 3) := dk_153 0 21 (dk_at dksX7_begins_0 19 rfl rfl)
theorem dX7_begins_22 : decode cX7_begins 22 = .ok (.aload_n 0, 1) := dk_42 (dk_at dksX7_begins_0 22 rfl rfl)
theorem dX7_begins_23 : decode cX7_begins 23 = .ok (.getfield 11, 3) := dk_180 0 11 (dk_at dksX7_begins_1 0 rfl rfl)
theorem dX7_begins_26 : decode cX7_begins 26 = .ok (.iload_n 1, 1) := dk_27 (dk_at dksX7_begins_1 3 rfl rfl)
theorem dX7_begins_27 : decode cX7_begins 27 = .ok (.aaload, 1) := dk_50 (dk_at dksX7_begins_1 4 rfl rfl)
theorem dX7_begins_28 : decode cX7_begins 28 = .ok (.sipush 144, 3) := dk_17 0 144 (dk_at dksX7_begins_1 5 rfl rfl)
theorem dX7_begins_31 : decode cX7_begins 31 = .ok (.aload_n 0, 1) := dk_42 (dk_at dksX7_begins_1 8 rfl rfl)
theorem dX7_begins_32 : decode cX7_begins 32 = .ok (.iconst 0, 1) := dk_3 (dk_at dksX7_begins_1 9 rfl rfl)
theorem dX7_begins_33 : decode cX7_begins 33 = .ok (.iload_n 1, 1) := dk_27 (dk_at dksX7_begins_1 10 rfl rfl)
theorem dX7_begins_34 : decode cX7_begins 34 = .ok (.invokevirtual 67, 3) := dk_182 0 67 (dk_at dksX7_begins_1 11 rfl rfl)
theorem dX7_begins_37 : decode cX7_begins 37 = .ok (.iadd, 1) := dk_96 (dk_at dksX7_begins_1 14 rfl rfl)
theorem dX7_begins_38 : decode cX7_begins 38 = .ok (.iconst 1, 1) := dk_4 (dk_at dksX7_begins_1 15 rfl rfl)
theorem dX7_begins_39 : decode cX7_begins 39 = .ok (.iastore, 1) := dk_79 (dk_at dksX7_begins_1 16 rfl rfl)
theorem dX7_begins_40 : decode cX7_begins 40 = .ok (.return_, 1) := dk_177 (dk_at dksX7_begins_1 17 rfl rfl)
abbrev cX7_clears : ByteArray := prog_9_method_6_code
def yX7_clears : MethodName := ⟨RX7, "clears", "([[I)V"⟩
def dkwX7_clears_1 : List UInt8 := [132, 3, 1, 167, 255, 239, 132, 2, 1, 167, 255, 225, 177]
abbrev dktX7_clears_1 : List UInt8 := dkwX7_clears_1 ++ []
def dkwX7_clears_0 : List UInt8 := [3, 61, 28, 43, 190, 162, 0, 31, 3, 62, 29, 43, 28, 50, 190, 162, 0, 15, 43, 28, 50, 29, 3, 79]
abbrev dktX7_clears_0 : List UInt8 := dkwX7_clears_0 ++ dktX7_clears_1
theorem dksX7_clears_0 : cX7_clears.data.toList.drop 0 = dktX7_clears_0 := by decide +kernel
theorem dksX7_clears_1 : cX7_clears.data.toList.drop 24 = dktX7_clears_1 := dk_seg dksX7_clears_0 24 rfl rfl
theorem dX7_clears_0 : decode cX7_clears 0 = .ok (.iconst 0, 1) := dk_3 (dk_at dksX7_clears_0 0 rfl rfl)
theorem dX7_clears_1 : decode cX7_clears 1 = .ok (.istore_n 2, 1) := dk_61 (dk_at dksX7_clears_0 1 rfl rfl)
theorem dX7_clears_2 : decode cX7_clears 2 = .ok (.iload_n 2, 1) := dk_28 (dk_at dksX7_clears_0 2 rfl rfl)
theorem dX7_clears_3 : decode cX7_clears 3 = .ok (.aload_n 1, 1) := dk_43 (dk_at dksX7_clears_0 3 rfl rfl)
theorem dX7_clears_4 : decode cX7_clears 4 = .ok (.arraylength, 1) := dk_190 (dk_at dksX7_clears_0 4 rfl rfl)
theorem dX7_clears_5 : decode cX7_clears 5 = .ok (.if_icmp .ge 31, 3) := dk_162 0 31 (dk_at dksX7_clears_0 5 rfl rfl)
theorem dX7_clears_8 : decode cX7_clears 8 = .ok (.iconst 0, 1) := dk_3 (dk_at dksX7_clears_0 8 rfl rfl)
theorem dX7_clears_9 : decode cX7_clears 9 = .ok (.istore_n 3, 1) := dk_62 (dk_at dksX7_clears_0 9 rfl rfl)
theorem dX7_clears_10 : decode cX7_clears 10 = .ok (.iload_n 3, 1) := dk_29 (dk_at dksX7_clears_0 10 rfl rfl)
theorem dX7_clears_11 : decode cX7_clears 11 = .ok (.aload_n 1, 1) := dk_43 (dk_at dksX7_clears_0 11 rfl rfl)
theorem dX7_clears_12 : decode cX7_clears 12 = .ok (.iload_n 2, 1) := dk_28 (dk_at dksX7_clears_0 12 rfl rfl)
theorem dX7_clears_13 : decode cX7_clears 13 = .ok (.aaload, 1) := dk_50 (dk_at dksX7_clears_0 13 rfl rfl)
theorem dX7_clears_14 : decode cX7_clears 14 = .ok (.arraylength, 1) := dk_190 (dk_at dksX7_clears_0 14 rfl rfl)
theorem dX7_clears_15 : decode cX7_clears 15 = .ok (.if_icmp .ge 15, 3) := dk_162 0 15 (dk_at dksX7_clears_0 15 rfl rfl)
theorem dX7_clears_18 : decode cX7_clears 18 = .ok (.aload_n 1, 1) := dk_43 (dk_at dksX7_clears_0 18 rfl rfl)
theorem dX7_clears_19 : decode cX7_clears 19 = .ok (.iload_n 2, 1) := dk_28 (dk_at dksX7_clears_0 19 rfl rfl)
theorem dX7_clears_20 : decode cX7_clears 20 = .ok (.aaload, 1) := dk_50 (dk_at dksX7_clears_0 20 rfl rfl)
theorem dX7_clears_21 : decode cX7_clears 21 = .ok (.iload_n 3, 1) := dk_29 (dk_at dksX7_clears_0 21 rfl rfl)
theorem dX7_clears_22 : decode cX7_clears 22 = .ok (.iconst 0, 1) := dk_3 (dk_at dksX7_clears_0 22 rfl rfl)
theorem dX7_clears_23 : decode cX7_clears 23 = .ok (.iastore, 1) := dk_79 (dk_at dksX7_clears_0 23 rfl rfl)
theorem dX7_clears_24 : decode cX7_clears 24 = .ok (.iinc 3 1, 3) := dk_132 3 1 (dk_at dksX7_clears_1 0 rfl rfl)
theorem dX7_clears_27 : decode cX7_clears 27 = .ok (.goto (-17), 3) := dk_167 255 239 (dk_at dksX7_clears_1 3 rfl rfl)
theorem dX7_clears_30 : decode cX7_clears 30 = .ok (.iinc 2 1, 3) := dk_132 2 1 (dk_at dksX7_clears_1 6 rfl rfl)
theorem dX7_clears_33 : decode cX7_clears 33 = .ok (.goto (-31), 3) := dk_167 255 225 (dk_at dksX7_clears_1 9 rfl rfl)
theorem dX7_clears_36 : decode cX7_clears 36 = .ok (.return_, 1) := dk_177 (dk_at dksX7_clears_1 12 rfl rfl)
abbrev cX7_isLawful : ByteArray := prog_9_method_2_code
def yX7_isLawful : MethodName := ⟨RX7, "isLawful", "(II)Z"⟩
def dkwX7_isLawful_2 : List UInt8 := [180, 0, 32, 29, 122, 28, 126, 154, 0, 7, 4, 167, 0, 4, 3, 172]
abbrev dktX7_isLawful_2 : List UInt8 := dkwX7_isLawful_2 ++ []
def dkwX7_isLawful_1 : List UInt8 := [180, 0, 19, 180, 0, 29, 29, 122, 21, 4, 126, 28, 2, 130, 126, 154, 0, 21, 42, 180, 0, 19]
abbrev dktX7_isLawful_1 : List UInt8 := dkwX7_isLawful_1 ++ dktX7_isLawful_2
def dkwX7_isLawful_0 : List UInt8 := [42, 180, 0, 19, 180, 0, 23, 27, 104, 62, 4, 42, 180, 0, 19, 180, 0, 23, 120, 4, 100, 54, 4, 42]
abbrev dktX7_isLawful_0 : List UInt8 := dkwX7_isLawful_0 ++ dktX7_isLawful_1
theorem dksX7_isLawful_0 : cX7_isLawful.data.toList.drop 0 = dktX7_isLawful_0 := by decide +kernel
theorem dksX7_isLawful_1 : cX7_isLawful.data.toList.drop 24 = dktX7_isLawful_1 := dk_seg dksX7_isLawful_0 24 rfl rfl
theorem dksX7_isLawful_2 : cX7_isLawful.data.toList.drop 46 = dktX7_isLawful_2 := dk_seg dksX7_isLawful_1 22 rfl rfl
theorem dX7_isLawful_0 : decode cX7_isLawful 0 = .ok (.aload_n 0, 1) := dk_42 (dk_at dksX7_isLawful_0 0 rfl rfl)
theorem dX7_isLawful_1 : decode cX7_isLawful 1 = .ok (.getfield 19, 3) := dk_180 0 19 (dk_at dksX7_isLawful_0 1 rfl rfl)
theorem dX7_isLawful_4 : decode cX7_isLawful 4 = .ok (.getfield 23, 3) := dk_180 0 23 (dk_at dksX7_isLawful_0 4 rfl rfl)
theorem dX7_isLawful_7 : decode cX7_isLawful 7 = .ok (.iload_n 1, 1) := dk_27 (dk_at dksX7_isLawful_0 7 rfl rfl)
theorem dX7_isLawful_8 : decode cX7_isLawful 8 = .ok (.imul, 1) := dk_104 (dk_at dksX7_isLawful_0 8 rfl rfl)
theorem dX7_isLawful_9 : decode cX7_isLawful 9 = .ok (.istore_n 3, 1) := dk_62 (dk_at dksX7_isLawful_0 9 rfl rfl)
theorem dX7_isLawful_10 : decode cX7_isLawful 10 = .ok (.iconst 1, 1) := dk_4 (dk_at dksX7_isLawful_0 10 rfl rfl)
theorem dX7_isLawful_11 : decode cX7_isLawful 11 = .ok (.aload_n 0, 1) := dk_42 (dk_at dksX7_isLawful_0 11 rfl rfl)
theorem dX7_isLawful_12 : decode cX7_isLawful 12 = .ok (.getfield 19, 3) := dk_180 0 19 (dk_at dksX7_isLawful_0 12 rfl rfl)
theorem dX7_isLawful_15 : decode cX7_isLawful 15 = .ok (.getfield 23, 3) := dk_180 0 23 (dk_at dksX7_isLawful_0 15 rfl rfl)
theorem dX7_isLawful_18 : decode cX7_isLawful 18 = .ok (.ishl, 1) := dk_120 (dk_at dksX7_isLawful_0 18 rfl rfl)
theorem dX7_isLawful_19 : decode cX7_isLawful 19 = .ok (.iconst 1, 1) := dk_4 (dk_at dksX7_isLawful_0 19 rfl rfl)
theorem dX7_isLawful_20 : decode cX7_isLawful 20 = .ok (.isub, 1) := dk_100 (dk_at dksX7_isLawful_0 20 rfl rfl)
theorem dX7_isLawful_21 : decode cX7_isLawful 21 = .ok (.istore 4, 2) := dk_54 4 (dk_at dksX7_isLawful_0 21 rfl rfl)
theorem dX7_isLawful_23 : decode cX7_isLawful 23 = .ok (.aload_n 0, 1) := dk_42 (dk_at dksX7_isLawful_0 23 rfl rfl)
theorem dX7_isLawful_24 : decode cX7_isLawful 24 = .ok (.getfield 19, 3) := dk_180 0 19 (dk_at dksX7_isLawful_1 0 rfl rfl)
theorem dX7_isLawful_27 : decode cX7_isLawful 27 = .ok (.getfield 29, 3) := dk_180 0 29 (dk_at dksX7_isLawful_1 3 rfl rfl)
theorem dX7_isLawful_30 : decode cX7_isLawful 30 = .ok (.iload_n 3, 1) := dk_29 (dk_at dksX7_isLawful_1 6 rfl rfl)
theorem dX7_isLawful_31 : decode cX7_isLawful 31 = .ok (.ishr, 1) := dk_122 (dk_at dksX7_isLawful_1 7 rfl rfl)
theorem dX7_isLawful_32 : decode cX7_isLawful 32 = .ok (.iload 4, 2) := dk_21 4 (dk_at dksX7_isLawful_1 8 rfl rfl)
theorem dX7_isLawful_34 : decode cX7_isLawful 34 = .ok (.iand, 1) := dk_126 (dk_at dksX7_isLawful_1 10 rfl rfl)
theorem dX7_isLawful_35 : decode cX7_isLawful 35 = .ok (.iload_n 2, 1) := dk_28 (dk_at dksX7_isLawful_1 11 rfl rfl)
theorem dX7_isLawful_36 : decode cX7_isLawful 36 = .ok (.iconst (-1), 1) := dk_2 (dk_at dksX7_isLawful_1 12 rfl rfl)
theorem dX7_isLawful_37 : decode cX7_isLawful 37 = .ok (.ixor, 1) := dk_130 (dk_at dksX7_isLawful_1 13 rfl rfl)
theorem dX7_isLawful_38 : decode cX7_isLawful 38 = .ok (.iand, 1) := dk_126 (dk_at dksX7_isLawful_1 14 rfl rfl)
theorem dX7_isLawful_39 : decode cX7_isLawful 39 = .ok (.ifCond .ne 21, 3) := dk_154 0 21 (dk_at dksX7_isLawful_1 15 rfl rfl)
theorem dX7_isLawful_42 : decode cX7_isLawful 42 = .ok (.aload_n 0, 1) := dk_42 (dk_at dksX7_isLawful_1 18 rfl rfl)
theorem dX7_isLawful_43 : decode cX7_isLawful 43 = .ok (.getfield 19, 3) := dk_180 0 19 (dk_at dksX7_isLawful_1 19 rfl rfl)
theorem dX7_isLawful_46 : decode cX7_isLawful 46 = .ok (.getfield 32, 3) := dk_180 0 32 (dk_at dksX7_isLawful_2 0 rfl rfl)
theorem dX7_isLawful_49 : decode cX7_isLawful 49 = .ok (.iload_n 3, 1) := dk_29 (dk_at dksX7_isLawful_2 3 rfl rfl)
theorem dX7_isLawful_50 : decode cX7_isLawful 50 = .ok (.ishr, 1) := dk_122 (dk_at dksX7_isLawful_2 4 rfl rfl)
theorem dX7_isLawful_51 : decode cX7_isLawful 51 = .ok (.iload_n 2, 1) := dk_28 (dk_at dksX7_isLawful_2 5 rfl rfl)
theorem dX7_isLawful_52 : decode cX7_isLawful 52 = .ok (.iand, 1) := dk_126 (dk_at dksX7_isLawful_2 6 rfl rfl)
theorem dX7_isLawful_53 : decode cX7_isLawful 53 = .ok (.ifCond .ne 7, 3) := dk_154 0 7 (dk_at dksX7_isLawful_2 7 rfl rfl)
theorem dX7_isLawful_56 : decode cX7_isLawful 56 = .ok (.iconst 1, 1) := dk_4 (dk_at dksX7_isLawful_2 10 rfl rfl)
theorem dX7_isLawful_57 : decode cX7_isLawful 57 = .ok (.goto 4, 3) := dk_167 0 4 (dk_at dksX7_isLawful_2 11 rfl rfl)
theorem dX7_isLawful_60 : decode cX7_isLawful 60 = .ok (.iconst 0, 1) := dk_3 (dk_at dksX7_isLawful_2 14 rfl rfl)
theorem dX7_isLawful_61 : decode cX7_isLawful 61 = .ok (.ireturn, 1) := dk_172 (dk_at dksX7_isLawful_2 15 rfl rfl)
abbrev cX7_within : ByteArray := prog_9_method_4_code
def yX7_within : MethodName := ⟨RX7, "within", "(II)I"⟩
def dkwX7_within_4 : List UInt8 := [180, 0, 23, 112, 184, 0, 47, 104, 100, 62, 132, 4, 1, 167, 255, 155, 29, 172]
abbrev dktX7_within_4 : List UInt8 := dkwX7_within_4 ++ []
def dkwX7_within_3 : List UInt8 := [180, 0, 19, 180, 0, 51, 21, 5, 46, 28, 21, 4, 184, 0, 47, 104, 28, 21, 6, 42, 180, 0, 19]
abbrev dktX7_within_3 : List UInt8 := dkwX7_within_3 ++ dktX7_within_4
def dkwX7_within_2 : List UInt8 := [180, 0, 43, 21, 5, 46, 28, 21, 4, 184, 0, 47, 104, 100, 62, 21, 6, 155, 0, 38, 29, 42]
abbrev dktX7_within_2 : List UInt8 := dkwX7_within_2 ++ dktX7_within_3
def dkwX7_within_1 : List UInt8 := [27, 104, 21, 4, 96, 54, 5, 42, 180, 0, 19, 21, 5, 3, 182, 0, 39, 54, 6, 29, 42, 180, 0, 19]
abbrev dktX7_within_1 : List UInt8 := dkwX7_within_1 ++ dktX7_within_2
def dkwX7_within_0 : List UInt8 := [3, 62, 3, 54, 4, 21, 4, 42, 180, 0, 19, 180, 0, 23, 162, 0, 95, 42, 180, 0, 19, 180, 0, 23]
abbrev dktX7_within_0 : List UInt8 := dkwX7_within_0 ++ dktX7_within_1
theorem dksX7_within_0 : cX7_within.data.toList.drop 0 = dktX7_within_0 := by decide +kernel
theorem dksX7_within_1 : cX7_within.data.toList.drop 24 = dktX7_within_1 := dk_seg dksX7_within_0 24 rfl rfl
theorem dksX7_within_2 : cX7_within.data.toList.drop 48 = dktX7_within_2 := dk_seg dksX7_within_1 24 rfl rfl
theorem dksX7_within_3 : cX7_within.data.toList.drop 70 = dktX7_within_3 := dk_seg dksX7_within_2 22 rfl rfl
theorem dksX7_within_4 : cX7_within.data.toList.drop 93 = dktX7_within_4 := dk_seg dksX7_within_3 23 rfl rfl
theorem dX7_within_0 : decode cX7_within 0 = .ok (.iconst 0, 1) := dk_3 (dk_at dksX7_within_0 0 rfl rfl)
theorem dX7_within_1 : decode cX7_within 1 = .ok (.istore_n 3, 1) := dk_62 (dk_at dksX7_within_0 1 rfl rfl)
theorem dX7_within_2 : decode cX7_within 2 = .ok (.iconst 0, 1) := dk_3 (dk_at dksX7_within_0 2 rfl rfl)
theorem dX7_within_3 : decode cX7_within 3 = .ok (.istore 4, 2) := dk_54 4 (dk_at dksX7_within_0 3 rfl rfl)
theorem dX7_within_5 : decode cX7_within 5 = .ok (.iload 4, 2) := dk_21 4 (dk_at dksX7_within_0 5 rfl rfl)
theorem dX7_within_7 : decode cX7_within 7 = .ok (.aload_n 0, 1) := dk_42 (dk_at dksX7_within_0 7 rfl rfl)
theorem dX7_within_8 : decode cX7_within 8 = .ok (.getfield 19, 3) := dk_180 0 19 (dk_at dksX7_within_0 8 rfl rfl)
theorem dX7_within_11 : decode cX7_within 11 = .ok (.getfield 23, 3) := dk_180 0 23 (dk_at dksX7_within_0 11 rfl rfl)
theorem dX7_within_14 : decode cX7_within 14 = .ok (.if_icmp .ge 95, 3) := dk_162 0 95 (dk_at dksX7_within_0 14 rfl rfl)
theorem dX7_within_17 : decode cX7_within 17 = .ok (.aload_n 0, 1) := dk_42 (dk_at dksX7_within_0 17 rfl rfl)
theorem dX7_within_18 : decode cX7_within 18 = .ok (.getfield 19, 3) := dk_180 0 19 (dk_at dksX7_within_0 18 rfl rfl)
theorem dX7_within_21 : decode cX7_within 21 = .ok (.getfield 23, 3) := dk_180 0 23 (dk_at dksX7_within_0 21 rfl rfl)
theorem dX7_within_24 : decode cX7_within 24 = .ok (.iload_n 1, 1) := dk_27 (dk_at dksX7_within_1 0 rfl rfl)
theorem dX7_within_25 : decode cX7_within 25 = .ok (.imul, 1) := dk_104 (dk_at dksX7_within_1 1 rfl rfl)
theorem dX7_within_26 : decode cX7_within 26 = .ok (.iload 4, 2) := dk_21 4 (dk_at dksX7_within_1 2 rfl rfl)
theorem dX7_within_28 : decode cX7_within 28 = .ok (.iadd, 1) := dk_96 (dk_at dksX7_within_1 4 rfl rfl)
theorem dX7_within_29 : decode cX7_within 29 = .ok (.istore 5, 2) := dk_54 5 (dk_at dksX7_within_1 5 rfl rfl)
theorem dX7_within_31 : decode cX7_within 31 = .ok (.aload_n 0, 1) := dk_42 (dk_at dksX7_within_1 7 rfl rfl)
theorem dX7_within_32 : decode cX7_within 32 = .ok (.getfield 19, 3) := dk_180 0 19 (dk_at dksX7_within_1 8 rfl rfl)
theorem dX7_within_35 : decode cX7_within 35 = .ok (.iload 5, 2) := dk_21 5 (dk_at dksX7_within_1 11 rfl rfl)
theorem dX7_within_37 : decode cX7_within 37 = .ok (.iconst 0, 1) := dk_3 (dk_at dksX7_within_1 13 rfl rfl)
theorem dX7_within_38 : decode cX7_within 38 = .ok (.invokevirtual 39, 3) := dk_182 0 39 (dk_at dksX7_within_1 14 rfl rfl)
theorem dX7_within_41 : decode cX7_within 41 = .ok (.istore 6, 2) := dk_54 6 (dk_at dksX7_within_1 17 rfl rfl)
theorem dX7_within_43 : decode cX7_within 43 = .ok (.iload_n 3, 1) := dk_29 (dk_at dksX7_within_1 19 rfl rfl)
theorem dX7_within_44 : decode cX7_within 44 = .ok (.aload_n 0, 1) := dk_42 (dk_at dksX7_within_1 20 rfl rfl)
theorem dX7_within_45 : decode cX7_within 45 = .ok (.getfield 19, 3) := dk_180 0 19 (dk_at dksX7_within_1 21 rfl rfl)
theorem dX7_within_48 : decode cX7_within 48 = .ok (.getfield 43, 3) := dk_180 0 43 (dk_at dksX7_within_2 0 rfl rfl)
theorem dX7_within_51 : decode cX7_within 51 = .ok (.iload 5, 2) := dk_21 5 (dk_at dksX7_within_2 3 rfl rfl)
theorem dX7_within_53 : decode cX7_within 53 = .ok (.iaload, 1) := dk_46 (dk_at dksX7_within_2 5 rfl rfl)
theorem dX7_within_54 : decode cX7_within 54 = .ok (.iload_n 2, 1) := dk_28 (dk_at dksX7_within_2 6 rfl rfl)
theorem dX7_within_55 : decode cX7_within 55 = .ok (.iload 4, 2) := dk_21 4 (dk_at dksX7_within_2 7 rfl rfl)
theorem dX7_within_57 : decode cX7_within 57 = .ok (.invokestatic 47, 3) := dk_184 0 47 (dk_at dksX7_within_2 9 rfl rfl)
theorem dX7_within_60 : decode cX7_within 60 = .ok (.imul, 1) := dk_104 (dk_at dksX7_within_2 12 rfl rfl)
theorem dX7_within_61 : decode cX7_within 61 = .ok (.isub, 1) := dk_100 (dk_at dksX7_within_2 13 rfl rfl)
theorem dX7_within_62 : decode cX7_within 62 = .ok (.istore_n 3, 1) := dk_62 (dk_at dksX7_within_2 14 rfl rfl)
theorem dX7_within_63 : decode cX7_within 63 = .ok (.iload 6, 2) := dk_21 6 (dk_at dksX7_within_2 15 rfl rfl)
theorem dX7_within_65 : decode cX7_within 65 = .ok (.ifCond .lt 38, 3) := dk_155 0 38 (dk_at dksX7_within_2 17 rfl rfl)
theorem dX7_within_68 : decode cX7_within 68 = .ok (.iload_n 3, 1) := dk_29 (dk_at dksX7_within_2 20 rfl rfl)
theorem dX7_within_69 : decode cX7_within 69 = .ok (.aload_n 0, 1) := dk_42 (dk_at dksX7_within_2 21 rfl rfl)
theorem dX7_within_70 : decode cX7_within 70 = .ok (.getfield 19, 3) := dk_180 0 19 (dk_at dksX7_within_3 0 rfl rfl)
theorem dX7_within_73 : decode cX7_within 73 = .ok (.getfield 51, 3) := dk_180 0 51 (dk_at dksX7_within_3 3 rfl rfl)
theorem dX7_within_76 : decode cX7_within 76 = .ok (.iload 5, 2) := dk_21 5 (dk_at dksX7_within_3 6 rfl rfl)
theorem dX7_within_78 : decode cX7_within 78 = .ok (.iaload, 1) := dk_46 (dk_at dksX7_within_3 8 rfl rfl)
theorem dX7_within_79 : decode cX7_within 79 = .ok (.iload_n 2, 1) := dk_28 (dk_at dksX7_within_3 9 rfl rfl)
theorem dX7_within_80 : decode cX7_within 80 = .ok (.iload 4, 2) := dk_21 4 (dk_at dksX7_within_3 10 rfl rfl)
theorem dX7_within_82 : decode cX7_within 82 = .ok (.invokestatic 47, 3) := dk_184 0 47 (dk_at dksX7_within_3 12 rfl rfl)
theorem dX7_within_85 : decode cX7_within 85 = .ok (.imul, 1) := dk_104 (dk_at dksX7_within_3 15 rfl rfl)
theorem dX7_within_86 : decode cX7_within 86 = .ok (.iload_n 2, 1) := dk_28 (dk_at dksX7_within_3 16 rfl rfl)
theorem dX7_within_87 : decode cX7_within 87 = .ok (.iload 6, 2) := dk_21 6 (dk_at dksX7_within_3 17 rfl rfl)
theorem dX7_within_89 : decode cX7_within 89 = .ok (.aload_n 0, 1) := dk_42 (dk_at dksX7_within_3 19 rfl rfl)
theorem dX7_within_90 : decode cX7_within 90 = .ok (.getfield 19, 3) := dk_180 0 19 (dk_at dksX7_within_3 20 rfl rfl)
theorem dX7_within_93 : decode cX7_within 93 = .ok (.getfield 23, 3) := dk_180 0 23 (dk_at dksX7_within_4 0 rfl rfl)
theorem dX7_within_96 : decode cX7_within 96 = .ok (.irem, 1) := dk_112 (dk_at dksX7_within_4 3 rfl rfl)
theorem dX7_within_97 : decode cX7_within 97 = .ok (.invokestatic 47, 3) := dk_184 0 47 (dk_at dksX7_within_4 4 rfl rfl)
theorem dX7_within_100 : decode cX7_within 100 = .ok (.imul, 1) := dk_104 (dk_at dksX7_within_4 7 rfl rfl)
theorem dX7_within_101 : decode cX7_within 101 = .ok (.isub, 1) := dk_100 (dk_at dksX7_within_4 8 rfl rfl)
theorem dX7_within_102 : decode cX7_within 102 = .ok (.istore_n 3, 1) := dk_62 (dk_at dksX7_within_4 9 rfl rfl)
theorem dX7_within_103 : decode cX7_within 103 = .ok (.iinc 4 1, 3) := dk_132 4 1 (dk_at dksX7_within_4 10 rfl rfl)
theorem dX7_within_106 : decode cX7_within 106 = .ok (.goto (-101), 3) := dk_167 255 155 (dk_at dksX7_within_4 13 rfl rfl)
theorem dX7_within_109 : decode cX7_within 109 = .ok (.iload_n 3, 1) := dk_29 (dk_at dksX7_within_4 16 rfl rfl)
theorem dX7_within_110 : decode cX7_within 110 = .ok (.ireturn, 1) := dk_172 (dk_at dksX7_within_4 17 rfl rfl)
abbrev cX7_spin : ByteArray := prog_9_method_3_code
def yX7_spin : MethodName := ⟨RX7, "spin", "(II)I"⟩
def dkwX7_spin_0 : List UInt8 := [26, 27, 184, 0, 35, 153, 0, 7, 4, 167, 0, 4, 2, 172]
abbrev dktX7_spin_0 : List UInt8 := dkwX7_spin_0 ++ []
theorem dksX7_spin_0 : cX7_spin.data.toList.drop 0 = dktX7_spin_0 := by decide +kernel
theorem dX7_spin_0 : decode cX7_spin 0 = .ok (.iload_n 0, 1) := dk_26 (dk_at dksX7_spin_0 0 rfl rfl)
theorem dX7_spin_1 : decode cX7_spin 1 = .ok (.iload_n 1, 1) := dk_27 (dk_at dksX7_spin_0 1 rfl rfl)
theorem dX7_spin_2 : decode cX7_spin 2 = .ok (.invokestatic 35, 3) := dk_184 0 35 (dk_at dksX7_spin_0 2 rfl rfl)
theorem dX7_spin_5 : decode cX7_spin 5 = .ok (.ifCond .eq 7, 3) := dk_153 0 7 (dk_at dksX7_spin_0 5 rfl rfl)
theorem dX7_spin_8 : decode cX7_spin 8 = .ok (.iconst 1, 1) := dk_4 (dk_at dksX7_spin_0 8 rfl rfl)
theorem dX7_spin_9 : decode cX7_spin 9 = .ok (.goto 4, 3) := dk_167 0 4 (dk_at dksX7_spin_0 9 rfl rfl)
theorem dX7_spin_12 : decode cX7_spin 12 = .ok (.iconst (-1), 1) := dk_2 (dk_at dksX7_spin_0 12 rfl rfl)
theorem dX7_spin_13 : decode cX7_spin 13 = .ok (.ireturn, 1) := dk_172 (dk_at dksX7_spin_0 13 rfl rfl)
abbrev cX7_goesOn : ByteArray := prog_9_method_9_code
def yX7_goesOn : MethodName := ⟨RX7, "goesOn", "(I)V"⟩
def dkwX7_goesOn_6 : List UInt8 := [177]
abbrev dktX7_goesOn_6 : List UInt8 := dkwX7_goesOn_6 ++ []
def dkwX7_goesOn_5 : List UInt8 := [3, 42, 180, 0, 11, 28, 50, 3, 42, 180, 0, 16, 28, 50, 190, 184, 0, 78, 132, 2, 1, 167, 255, 216]
abbrev dktX7_goesOn_5 : List UInt8 := dkwX7_goesOn_5 ++ dktX7_goesOn_6
def dkwX7_goesOn_4 : List UInt8 := [167, 255, 175, 3, 61, 28, 4, 42, 180, 0, 19, 180, 0, 23, 120, 162, 0, 33, 42, 180, 0, 16, 28, 50]
abbrev dktX7_goesOn_4 : List UInt8 := dkwX7_goesOn_4 ++ dktX7_goesOn_5
def dkwX7_goesOn_3 : List UInt8 := [182, 0, 70, 96, 42, 180, 0, 16, 28, 50, 182, 0, 74, 132, 3, 1, 167, 255, 208, 132, 2, 1]
abbrev dktX7_goesOn_3 : List UInt8 := dkwX7_goesOn_3 ++ dktX7_goesOn_4
def dkwX7_goesOn_2 : List UInt8 := [162, 0, 41, 42, 42, 180, 0, 11, 29, 50, 42, 27, 28, 182, 0, 67, 42, 27, 4, 100, 29, 28]
abbrev dktX7_goesOn_2 : List UInt8 := dkwX7_goesOn_2 ++ dktX7_goesOn_3
def dkwX7_goesOn_1 : List UInt8 := [27, 28, 182, 0, 64, 154, 0, 6, 167, 0, 56, 3, 62, 29, 4, 42, 180, 0, 19, 180, 0, 23, 120]
abbrev dktX7_goesOn_1 : List UInt8 := dkwX7_goesOn_1 ++ dktX7_goesOn_2
def dkwX7_goesOn_0 : List UInt8 := [42, 42, 180, 0, 16, 182, 0, 60, 3, 61, 28, 4, 42, 180, 0, 19, 180, 0, 23, 120, 162, 0, 74, 42]
abbrev dktX7_goesOn_0 : List UInt8 := dkwX7_goesOn_0 ++ dktX7_goesOn_1
theorem dksX7_goesOn_0 : cX7_goesOn.data.toList.drop 0 = dktX7_goesOn_0 := by decide +kernel
theorem dksX7_goesOn_1 : cX7_goesOn.data.toList.drop 24 = dktX7_goesOn_1 := dk_seg dksX7_goesOn_0 24 rfl rfl
theorem dksX7_goesOn_2 : cX7_goesOn.data.toList.drop 47 = dktX7_goesOn_2 := dk_seg dksX7_goesOn_1 23 rfl rfl
theorem dksX7_goesOn_3 : cX7_goesOn.data.toList.drop 69 = dktX7_goesOn_3 := dk_seg dksX7_goesOn_2 22 rfl rfl
theorem dksX7_goesOn_4 : cX7_goesOn.data.toList.drop 91 = dktX7_goesOn_4 := dk_seg dksX7_goesOn_3 22 rfl rfl
theorem dksX7_goesOn_5 : cX7_goesOn.data.toList.drop 115 = dktX7_goesOn_5 := dk_seg dksX7_goesOn_4 24 rfl rfl
theorem dksX7_goesOn_6 : cX7_goesOn.data.toList.drop 139 = dktX7_goesOn_6 := dk_seg dksX7_goesOn_5 24 rfl rfl
theorem dX7_goesOn_0 : decode cX7_goesOn 0 = .ok (.aload_n 0, 1) := dk_42 (dk_at dksX7_goesOn_0 0 rfl rfl)
theorem dX7_goesOn_1 : decode cX7_goesOn 1 = .ok (.aload_n 0, 1) := dk_42 (dk_at dksX7_goesOn_0 1 rfl rfl)
theorem dX7_goesOn_2 : decode cX7_goesOn 2 = .ok (.getfield 16, 3) := dk_180 0 16 (dk_at dksX7_goesOn_0 2 rfl rfl)
theorem dX7_goesOn_5 : decode cX7_goesOn 5 = .ok (.invokevirtual 60, 3) := dk_182 0 60 (dk_at dksX7_goesOn_0 5 rfl rfl)
theorem dX7_goesOn_8 : decode cX7_goesOn 8 = .ok (.iconst 0, 1) := dk_3 (dk_at dksX7_goesOn_0 8 rfl rfl)
theorem dX7_goesOn_9 : decode cX7_goesOn 9 = .ok (.istore_n 2, 1) := dk_61 (dk_at dksX7_goesOn_0 9 rfl rfl)
theorem dX7_goesOn_10 : decode cX7_goesOn 10 = .ok (.iload_n 2, 1) := dk_28 (dk_at dksX7_goesOn_0 10 rfl rfl)
theorem dX7_goesOn_11 : decode cX7_goesOn 11 = .ok (.iconst 1, 1) := dk_4 (dk_at dksX7_goesOn_0 11 rfl rfl)
theorem dX7_goesOn_12 : decode cX7_goesOn 12 = .ok (.aload_n 0, 1) := dk_42 (dk_at dksX7_goesOn_0 12 rfl rfl)
theorem dX7_goesOn_13 : decode cX7_goesOn 13 = .ok (.getfield 19, 3) := dk_180 0 19 (dk_at dksX7_goesOn_0 13 rfl rfl)
theorem dX7_goesOn_16 : decode cX7_goesOn 16 = .ok (.getfield 23, 3) := dk_180 0 23 (dk_at dksX7_goesOn_0 16 rfl rfl)
theorem dX7_goesOn_19 : decode cX7_goesOn 19 = .ok (.ishl, 1) := dk_120 (dk_at dksX7_goesOn_0 19 rfl rfl)
theorem dX7_goesOn_20 : decode cX7_goesOn 20 = .ok (.if_icmp .ge 74, 3) := dk_162 0 74 (dk_at dksX7_goesOn_0 20 rfl rfl)
theorem dX7_goesOn_23 : decode cX7_goesOn 23 = .ok (.aload_n 0, 1) := dk_42 (dk_at dksX7_goesOn_0 23 rfl rfl)
theorem dX7_goesOn_24 : decode cX7_goesOn 24 = .ok (.iload_n 1, 1) := dk_27 (dk_at dksX7_goesOn_1 0 rfl rfl)
theorem dX7_goesOn_25 : decode cX7_goesOn 25 = .ok (.iload_n 2, 1) := dk_28 (dk_at dksX7_goesOn_1 1 rfl rfl)
theorem dX7_goesOn_26 : decode cX7_goesOn 26 = .ok (.invokevirtual 64, 3) := dk_182 0 64 (dk_at dksX7_goesOn_1 2 rfl rfl)
theorem dX7_goesOn_29 : decode cX7_goesOn 29 = .ok (.ifCond .ne 6, 3) := dk_154 0 6 (dk_at dksX7_goesOn_1 5 rfl rfl)
theorem dX7_goesOn_32 : decode cX7_goesOn 32 = .ok (.goto 56, 3) := dk_167 0 56 (dk_at dksX7_goesOn_1 8 rfl rfl)
theorem dX7_goesOn_35 : decode cX7_goesOn 35 = .ok (.iconst 0, 1) := dk_3 (dk_at dksX7_goesOn_1 11 rfl rfl)
theorem dX7_goesOn_36 : decode cX7_goesOn 36 = .ok (.istore_n 3, 1) := dk_62 (dk_at dksX7_goesOn_1 12 rfl rfl)
theorem dX7_goesOn_37 : decode cX7_goesOn 37 = .ok (.iload_n 3, 1) := dk_29 (dk_at dksX7_goesOn_1 13 rfl rfl)
theorem dX7_goesOn_38 : decode cX7_goesOn 38 = .ok (.iconst 1, 1) := dk_4 (dk_at dksX7_goesOn_1 14 rfl rfl)
theorem dX7_goesOn_39 : decode cX7_goesOn 39 = .ok (.aload_n 0, 1) := dk_42 (dk_at dksX7_goesOn_1 15 rfl rfl)
theorem dX7_goesOn_40 : decode cX7_goesOn 40 = .ok (.getfield 19, 3) := dk_180 0 19 (dk_at dksX7_goesOn_1 16 rfl rfl)
theorem dX7_goesOn_43 : decode cX7_goesOn 43 = .ok (.getfield 23, 3) := dk_180 0 23 (dk_at dksX7_goesOn_1 19 rfl rfl)
theorem dX7_goesOn_46 : decode cX7_goesOn 46 = .ok (.ishl, 1) := dk_120 (dk_at dksX7_goesOn_1 22 rfl rfl)
theorem dX7_goesOn_47 : decode cX7_goesOn 47 = .ok (.if_icmp .ge 41, 3) := dk_162 0 41 (dk_at dksX7_goesOn_2 0 rfl rfl)
theorem dX7_goesOn_50 : decode cX7_goesOn 50 = .ok (.aload_n 0, 1) := dk_42 (dk_at dksX7_goesOn_2 3 rfl rfl)
theorem dX7_goesOn_51 : decode cX7_goesOn 51 = .ok (.aload_n 0, 1) := dk_42 (dk_at dksX7_goesOn_2 4 rfl rfl)
theorem dX7_goesOn_52 : decode cX7_goesOn 52 = .ok (.getfield 11, 3) := dk_180 0 11 (dk_at dksX7_goesOn_2 5 rfl rfl)
theorem dX7_goesOn_55 : decode cX7_goesOn 55 = .ok (.iload_n 3, 1) := dk_29 (dk_at dksX7_goesOn_2 8 rfl rfl)
theorem dX7_goesOn_56 : decode cX7_goesOn 56 = .ok (.aaload, 1) := dk_50 (dk_at dksX7_goesOn_2 9 rfl rfl)
theorem dX7_goesOn_57 : decode cX7_goesOn 57 = .ok (.aload_n 0, 1) := dk_42 (dk_at dksX7_goesOn_2 10 rfl rfl)
theorem dX7_goesOn_58 : decode cX7_goesOn 58 = .ok (.iload_n 1, 1) := dk_27 (dk_at dksX7_goesOn_2 11 rfl rfl)
theorem dX7_goesOn_59 : decode cX7_goesOn 59 = .ok (.iload_n 2, 1) := dk_28 (dk_at dksX7_goesOn_2 12 rfl rfl)
theorem dX7_goesOn_60 : decode cX7_goesOn 60 = .ok (.invokevirtual 67, 3) := dk_182 0 67 (dk_at dksX7_goesOn_2 13 rfl rfl)
theorem dX7_goesOn_63 : decode cX7_goesOn 63 = .ok (.aload_n 0, 1) := dk_42 (dk_at dksX7_goesOn_2 16 rfl rfl)
theorem dX7_goesOn_64 : decode cX7_goesOn 64 = .ok (.iload_n 1, 1) := dk_27 (dk_at dksX7_goesOn_2 17 rfl rfl)
theorem dX7_goesOn_65 : decode cX7_goesOn 65 = .ok (.iconst 1, 1) := dk_4 (dk_at dksX7_goesOn_2 18 rfl rfl)
theorem dX7_goesOn_66 : decode cX7_goesOn 66 = .ok (.isub, 1) := dk_100 (dk_at dksX7_goesOn_2 19 rfl rfl)
theorem dX7_goesOn_67 : decode cX7_goesOn 67 = .ok (.iload_n 3, 1) := dk_29 (dk_at dksX7_goesOn_2 20 rfl rfl)
theorem dX7_goesOn_68 : decode cX7_goesOn 68 = .ok (.iload_n 2, 1) := dk_28 (dk_at dksX7_goesOn_2 21 rfl rfl)
theorem dX7_goesOn_69 : decode cX7_goesOn 69 = .ok (.invokevirtual 70, 3) := dk_182 0 70 (dk_at dksX7_goesOn_3 0 rfl rfl)
theorem dX7_goesOn_72 : decode cX7_goesOn 72 = .ok (.iadd, 1) := dk_96 (dk_at dksX7_goesOn_3 3 rfl rfl)
theorem dX7_goesOn_73 : decode cX7_goesOn 73 = .ok (.aload_n 0, 1) := dk_42 (dk_at dksX7_goesOn_3 4 rfl rfl)
theorem dX7_goesOn_74 : decode cX7_goesOn 74 = .ok (.getfield 16, 3) := dk_180 0 16 (dk_at dksX7_goesOn_3 5 rfl rfl)
theorem dX7_goesOn_77 : decode cX7_goesOn 77 = .ok (.iload_n 2, 1) := dk_28 (dk_at dksX7_goesOn_3 8 rfl rfl)
theorem dX7_goesOn_78 : decode cX7_goesOn 78 = .ok (.aaload, 1) := dk_50 (dk_at dksX7_goesOn_3 9 rfl rfl)
theorem dX7_goesOn_79 : decode cX7_goesOn 79 = .ok (.invokevirtual 74, 3) := dk_182 0 74 (dk_at dksX7_goesOn_3 10 rfl rfl)
theorem dX7_goesOn_82 : decode cX7_goesOn 82 = .ok (.iinc 3 1, 3) := dk_132 3 1 (dk_at dksX7_goesOn_3 13 rfl rfl)
theorem dX7_goesOn_85 : decode cX7_goesOn 85 = .ok (.goto (-48), 3) := dk_167 255 208 (dk_at dksX7_goesOn_3 16 rfl rfl)
theorem dX7_goesOn_88 : decode cX7_goesOn 88 = .ok (.iinc 2 1, 3) := dk_132 2 1 (dk_at dksX7_goesOn_3 19 rfl rfl)
theorem dX7_goesOn_91 : decode cX7_goesOn 91 = .ok (.goto (-81), 3) := dk_167 255 175 (dk_at dksX7_goesOn_4 0 rfl rfl)
theorem dX7_goesOn_94 : decode cX7_goesOn 94 = .ok (.iconst 0, 1) := dk_3 (dk_at dksX7_goesOn_4 3 rfl rfl)
theorem dX7_goesOn_95 : decode cX7_goesOn 95 = .ok (.istore_n 2, 1) := dk_61 (dk_at dksX7_goesOn_4 4 rfl rfl)
theorem dX7_goesOn_96 : decode cX7_goesOn 96 = .ok (.iload_n 2, 1) := dk_28 (dk_at dksX7_goesOn_4 5 rfl rfl)
theorem dX7_goesOn_97 : decode cX7_goesOn 97 = .ok (.iconst 1, 1) := dk_4 (dk_at dksX7_goesOn_4 6 rfl rfl)
theorem dX7_goesOn_98 : decode cX7_goesOn 98 = .ok (.aload_n 0, 1) := dk_42 (dk_at dksX7_goesOn_4 7 rfl rfl)
theorem dX7_goesOn_99 : decode cX7_goesOn 99 = .ok (.getfield 19, 3) := dk_180 0 19 (dk_at dksX7_goesOn_4 8 rfl rfl)
theorem dX7_goesOn_102 : decode cX7_goesOn 102 = .ok (.getfield 23, 3) := dk_180 0 23 (dk_at dksX7_goesOn_4 11 rfl rfl)
theorem dX7_goesOn_105 : decode cX7_goesOn 105 = .ok (.ishl, 1) := dk_120 (dk_at dksX7_goesOn_4 14 rfl rfl)
theorem dX7_goesOn_106 : decode cX7_goesOn 106 = .ok (.if_icmp .ge 33, 3) := dk_162 0 33 (dk_at dksX7_goesOn_4 15 rfl rfl)
theorem dX7_goesOn_109 : decode cX7_goesOn 109 = .ok (.aload_n 0, 1) := dk_42 (dk_at dksX7_goesOn_4 18 rfl rfl)
theorem dX7_goesOn_110 : decode cX7_goesOn 110 = .ok (.getfield 16, 3) := dk_180 0 16 (dk_at dksX7_goesOn_4 19 rfl rfl)
theorem dX7_goesOn_113 : decode cX7_goesOn 113 = .ok (.iload_n 2, 1) := dk_28 (dk_at dksX7_goesOn_4 22 rfl rfl)
theorem dX7_goesOn_114 : decode cX7_goesOn 114 = .ok (.aaload, 1) := dk_50 (dk_at dksX7_goesOn_4 23 rfl rfl)
theorem dX7_goesOn_115 : decode cX7_goesOn 115 = .ok (.iconst 0, 1) := dk_3 (dk_at dksX7_goesOn_5 0 rfl rfl)
theorem dX7_goesOn_116 : decode cX7_goesOn 116 = .ok (.aload_n 0, 1) := dk_42 (dk_at dksX7_goesOn_5 1 rfl rfl)
theorem dX7_goesOn_117 : decode cX7_goesOn 117 = .ok (.getfield 11, 3) := dk_180 0 11 (dk_at dksX7_goesOn_5 2 rfl rfl)
theorem dX7_goesOn_120 : decode cX7_goesOn 120 = .ok (.iload_n 2, 1) := dk_28 (dk_at dksX7_goesOn_5 5 rfl rfl)
theorem dX7_goesOn_121 : decode cX7_goesOn 121 = .ok (.aaload, 1) := dk_50 (dk_at dksX7_goesOn_5 6 rfl rfl)
theorem dX7_goesOn_122 : decode cX7_goesOn 122 = .ok (.iconst 0, 1) := dk_3 (dk_at dksX7_goesOn_5 7 rfl rfl)
theorem dX7_goesOn_123 : decode cX7_goesOn 123 = .ok (.aload_n 0, 1) := dk_42 (dk_at dksX7_goesOn_5 8 rfl rfl)
theorem dX7_goesOn_124 : decode cX7_goesOn 124 = .ok (.getfield 16, 3) := dk_180 0 16 (dk_at dksX7_goesOn_5 9 rfl rfl)
theorem dX7_goesOn_127 : decode cX7_goesOn 127 = .ok (.iload_n 2, 1) := dk_28 (dk_at dksX7_goesOn_5 12 rfl rfl)
theorem dX7_goesOn_128 : decode cX7_goesOn 128 = .ok (.aaload, 1) := dk_50 (dk_at dksX7_goesOn_5 13 rfl rfl)
theorem dX7_goesOn_129 : decode cX7_goesOn 129 = .ok (.arraylength, 1) := dk_190 (dk_at dksX7_goesOn_5 14 rfl rfl)
theorem dX7_goesOn_130 : decode cX7_goesOn 130 = .ok (.invokestatic 78, 3) := dk_184 0 78 (dk_at dksX7_goesOn_5 15 rfl rfl)
theorem dX7_goesOn_133 : decode cX7_goesOn 133 = .ok (.iinc 2 1, 3) := dk_132 2 1 (dk_at dksX7_goesOn_5 18 rfl rfl)
theorem dX7_goesOn_136 : decode cX7_goesOn 136 = .ok (.goto (-40), 3) := dk_167 255 216 (dk_at dksX7_goesOn_5 21 rfl rfl)
theorem dX7_goesOn_139 : decode cX7_goesOn 139 = .ok (.return_, 1) := dk_177 (dk_at dksX7_goesOn_6 0 rfl rfl)
abbrev cX7_between : ByteArray := prog_9_method_5_code
def yX7_between : MethodName := ⟨RX7, "between", "(III)I"⟩
def dkwX7_between_2 : List UInt8 := [21, 5, 184, 0, 47, 104, 100, 54, 4, 132, 5, 1, 167, 255, 202, 21, 4, 172]
abbrev dktX7_between_2 : List UInt8 := dkwX7_between_2 ++ []
def dkwX7_between_1 : List UInt8 := [180, 0, 54, 42, 180, 0, 19, 180, 0, 23, 27, 104, 21, 5, 96, 46, 28, 21, 5, 184, 0, 47, 104, 29]
abbrev dktX7_between_1 : List UInt8 := dkwX7_between_1 ++ dktX7_between_2
def dkwX7_between_0 : List UInt8 := [3, 54, 4, 3, 54, 5, 21, 5, 42, 180, 0, 19, 180, 0, 23, 162, 0, 48, 21, 4, 42, 180, 0, 19]
abbrev dktX7_between_0 : List UInt8 := dkwX7_between_0 ++ dktX7_between_1
theorem dksX7_between_0 : cX7_between.data.toList.drop 0 = dktX7_between_0 := by decide +kernel
theorem dksX7_between_1 : cX7_between.data.toList.drop 24 = dktX7_between_1 := dk_seg dksX7_between_0 24 rfl rfl
theorem dksX7_between_2 : cX7_between.data.toList.drop 48 = dktX7_between_2 := dk_seg dksX7_between_1 24 rfl rfl
theorem dX7_between_0 : decode cX7_between 0 = .ok (.iconst 0, 1) := dk_3 (dk_at dksX7_between_0 0 rfl rfl)
theorem dX7_between_1 : decode cX7_between 1 = .ok (.istore 4, 2) := dk_54 4 (dk_at dksX7_between_0 1 rfl rfl)
theorem dX7_between_3 : decode cX7_between 3 = .ok (.iconst 0, 1) := dk_3 (dk_at dksX7_between_0 3 rfl rfl)
theorem dX7_between_4 : decode cX7_between 4 = .ok (.istore 5, 2) := dk_54 5 (dk_at dksX7_between_0 4 rfl rfl)
theorem dX7_between_6 : decode cX7_between 6 = .ok (.iload 5, 2) := dk_21 5 (dk_at dksX7_between_0 6 rfl rfl)
theorem dX7_between_8 : decode cX7_between 8 = .ok (.aload_n 0, 1) := dk_42 (dk_at dksX7_between_0 8 rfl rfl)
theorem dX7_between_9 : decode cX7_between 9 = .ok (.getfield 19, 3) := dk_180 0 19 (dk_at dksX7_between_0 9 rfl rfl)
theorem dX7_between_12 : decode cX7_between 12 = .ok (.getfield 23, 3) := dk_180 0 23 (dk_at dksX7_between_0 12 rfl rfl)
theorem dX7_between_15 : decode cX7_between 15 = .ok (.if_icmp .ge 48, 3) := dk_162 0 48 (dk_at dksX7_between_0 15 rfl rfl)
theorem dX7_between_18 : decode cX7_between 18 = .ok (.iload 4, 2) := dk_21 4 (dk_at dksX7_between_0 18 rfl rfl)
theorem dX7_between_20 : decode cX7_between 20 = .ok (.aload_n 0, 1) := dk_42 (dk_at dksX7_between_0 20 rfl rfl)
theorem dX7_between_21 : decode cX7_between 21 = .ok (.getfield 19, 3) := dk_180 0 19 (dk_at dksX7_between_0 21 rfl rfl)
theorem dX7_between_24 : decode cX7_between 24 = .ok (.getfield 54, 3) := dk_180 0 54 (dk_at dksX7_between_1 0 rfl rfl)
theorem dX7_between_27 : decode cX7_between 27 = .ok (.aload_n 0, 1) := dk_42 (dk_at dksX7_between_1 3 rfl rfl)
theorem dX7_between_28 : decode cX7_between 28 = .ok (.getfield 19, 3) := dk_180 0 19 (dk_at dksX7_between_1 4 rfl rfl)
theorem dX7_between_31 : decode cX7_between 31 = .ok (.getfield 23, 3) := dk_180 0 23 (dk_at dksX7_between_1 7 rfl rfl)
theorem dX7_between_34 : decode cX7_between 34 = .ok (.iload_n 1, 1) := dk_27 (dk_at dksX7_between_1 10 rfl rfl)
theorem dX7_between_35 : decode cX7_between 35 = .ok (.imul, 1) := dk_104 (dk_at dksX7_between_1 11 rfl rfl)
theorem dX7_between_36 : decode cX7_between 36 = .ok (.iload 5, 2) := dk_21 5 (dk_at dksX7_between_1 12 rfl rfl)
theorem dX7_between_38 : decode cX7_between 38 = .ok (.iadd, 1) := dk_96 (dk_at dksX7_between_1 14 rfl rfl)
theorem dX7_between_39 : decode cX7_between 39 = .ok (.iaload, 1) := dk_46 (dk_at dksX7_between_1 15 rfl rfl)
theorem dX7_between_40 : decode cX7_between 40 = .ok (.iload_n 2, 1) := dk_28 (dk_at dksX7_between_1 16 rfl rfl)
theorem dX7_between_41 : decode cX7_between 41 = .ok (.iload 5, 2) := dk_21 5 (dk_at dksX7_between_1 17 rfl rfl)
theorem dX7_between_43 : decode cX7_between 43 = .ok (.invokestatic 47, 3) := dk_184 0 47 (dk_at dksX7_between_1 19 rfl rfl)
theorem dX7_between_46 : decode cX7_between 46 = .ok (.imul, 1) := dk_104 (dk_at dksX7_between_1 22 rfl rfl)
theorem dX7_between_47 : decode cX7_between 47 = .ok (.iload_n 3, 1) := dk_29 (dk_at dksX7_between_1 23 rfl rfl)
theorem dX7_between_48 : decode cX7_between 48 = .ok (.iload 5, 2) := dk_21 5 (dk_at dksX7_between_2 0 rfl rfl)
theorem dX7_between_50 : decode cX7_between 50 = .ok (.invokestatic 47, 3) := dk_184 0 47 (dk_at dksX7_between_2 2 rfl rfl)
theorem dX7_between_53 : decode cX7_between 53 = .ok (.imul, 1) := dk_104 (dk_at dksX7_between_2 5 rfl rfl)
theorem dX7_between_54 : decode cX7_between 54 = .ok (.isub, 1) := dk_100 (dk_at dksX7_between_2 6 rfl rfl)
theorem dX7_between_55 : decode cX7_between 55 = .ok (.istore 4, 2) := dk_54 4 (dk_at dksX7_between_2 7 rfl rfl)
theorem dX7_between_57 : decode cX7_between 57 = .ok (.iinc 5 1, 3) := dk_132 5 1 (dk_at dksX7_between_2 9 rfl rfl)
theorem dX7_between_60 : decode cX7_between 60 = .ok (.goto (-54), 3) := dk_167 255 202 (dk_at dksX7_between_2 12 rfl rfl)
theorem dX7_between_63 : decode cX7_between 63 = .ok (.iload 4, 2) := dk_21 4 (dk_at dksX7_between_2 15 rfl rfl)
theorem dX7_between_65 : decode cX7_between 65 = .ok (.ireturn, 1) := dk_172 (dk_at dksX7_between_2 17 rfl rfl)
abbrev cX7_shifts : ByteArray := prog_9_method_7_code
def yX7_shifts : MethodName := ⟨RX7, "shifts", "([II[I)V"⟩
def dkwX7_shifts_1 : List UInt8 := [43, 21, 4, 46, 96, 79, 132, 4, 1, 167, 255, 226, 177]
abbrev dktX7_shifts_1 : List UInt8 := dkwX7_shifts_1 ++ []
def dkwX7_shifts_0 : List UInt8 := [3, 54, 4, 21, 4, 43, 190, 162, 0, 29, 43, 21, 4, 46, 153, 0, 16, 45, 21, 4, 28, 96, 92, 46]
abbrev dktX7_shifts_0 : List UInt8 := dkwX7_shifts_0 ++ dktX7_shifts_1
theorem dksX7_shifts_0 : cX7_shifts.data.toList.drop 0 = dktX7_shifts_0 := by decide +kernel
theorem dksX7_shifts_1 : cX7_shifts.data.toList.drop 24 = dktX7_shifts_1 := dk_seg dksX7_shifts_0 24 rfl rfl
theorem dX7_shifts_0 : decode cX7_shifts 0 = .ok (.iconst 0, 1) := dk_3 (dk_at dksX7_shifts_0 0 rfl rfl)
theorem dX7_shifts_1 : decode cX7_shifts 1 = .ok (.istore 4, 2) := dk_54 4 (dk_at dksX7_shifts_0 1 rfl rfl)
theorem dX7_shifts_3 : decode cX7_shifts 3 = .ok (.iload 4, 2) := dk_21 4 (dk_at dksX7_shifts_0 3 rfl rfl)
theorem dX7_shifts_5 : decode cX7_shifts 5 = .ok (.aload_n 1, 1) := dk_43 (dk_at dksX7_shifts_0 5 rfl rfl)
theorem dX7_shifts_6 : decode cX7_shifts 6 = .ok (.arraylength, 1) := dk_190 (dk_at dksX7_shifts_0 6 rfl rfl)
theorem dX7_shifts_7 : decode cX7_shifts 7 = .ok (.if_icmp .ge 29, 3) := dk_162 0 29 (dk_at dksX7_shifts_0 7 rfl rfl)
theorem dX7_shifts_10 : decode cX7_shifts 10 = .ok (.aload_n 1, 1) := dk_43 (dk_at dksX7_shifts_0 10 rfl rfl)
theorem dX7_shifts_11 : decode cX7_shifts 11 = .ok (.iload 4, 2) := dk_21 4 (dk_at dksX7_shifts_0 11 rfl rfl)
theorem dX7_shifts_13 : decode cX7_shifts 13 = .ok (.iaload, 1) := dk_46 (dk_at dksX7_shifts_0 13 rfl rfl)
theorem dX7_shifts_14 : decode cX7_shifts 14 = .ok (.ifCond .eq 16, 3) := dk_153 0 16 (dk_at dksX7_shifts_0 14 rfl rfl)
theorem dX7_shifts_17 : decode cX7_shifts 17 = .ok (.aload_n 3, 1) := dk_45 (dk_at dksX7_shifts_0 17 rfl rfl)
theorem dX7_shifts_18 : decode cX7_shifts 18 = .ok (.iload 4, 2) := dk_21 4 (dk_at dksX7_shifts_0 18 rfl rfl)
theorem dX7_shifts_20 : decode cX7_shifts 20 = .ok (.iload_n 2, 1) := dk_28 (dk_at dksX7_shifts_0 20 rfl rfl)
theorem dX7_shifts_21 : decode cX7_shifts 21 = .ok (.iadd, 1) := dk_96 (dk_at dksX7_shifts_0 21 rfl rfl)
theorem dX7_shifts_22 : decode cX7_shifts 22 = .ok (.dup2, 1) := dk_92 (dk_at dksX7_shifts_0 22 rfl rfl)
theorem dX7_shifts_23 : decode cX7_shifts 23 = .ok (.iaload, 1) := dk_46 (dk_at dksX7_shifts_0 23 rfl rfl)
theorem dX7_shifts_24 : decode cX7_shifts 24 = .ok (.aload_n 1, 1) := dk_43 (dk_at dksX7_shifts_1 0 rfl rfl)
theorem dX7_shifts_25 : decode cX7_shifts 25 = .ok (.iload 4, 2) := dk_21 4 (dk_at dksX7_shifts_1 1 rfl rfl)
theorem dX7_shifts_27 : decode cX7_shifts 27 = .ok (.iaload, 1) := dk_46 (dk_at dksX7_shifts_1 3 rfl rfl)
theorem dX7_shifts_28 : decode cX7_shifts 28 = .ok (.iadd, 1) := dk_96 (dk_at dksX7_shifts_1 4 rfl rfl)
theorem dX7_shifts_29 : decode cX7_shifts 29 = .ok (.iastore, 1) := dk_79 (dk_at dksX7_shifts_1 5 rfl rfl)
theorem dX7_shifts_30 : decode cX7_shifts 30 = .ok (.iinc 4 1, 3) := dk_132 4 1 (dk_at dksX7_shifts_1 6 rfl rfl)
theorem dX7_shifts_33 : decode cX7_shifts 33 = .ok (.goto (-30), 3) := dk_167 255 226 (dk_at dksX7_shifts_1 9 rfl rfl)
theorem dX7_shifts_36 : decode cX7_shifts 36 = .ok (.return_, 1) := dk_177 (dk_at dksX7_shifts_1 12 rfl rfl)
theorem q120 : (Jvm.Cond.initialized "SpinStrip$Rows") ∈ lw_all := lw_g (lw_at lw_m1 13 rfl) rfl
theorem q294 : (Jvm.Cond.fieldLink "SpinStrip$Rows" (23 : Nat) "SpinStrip$Strip" "wide" "I") ∈ lw_all := lw_g (lw_at lw_m1 187 rfl) rfl
theorem q298 : (Jvm.Cond.fieldLink "SpinStrip$Rows" (84 : Nat) "SpinStrip$Strip" "length" "I") ∈ lw_all := lw_g (lw_at lw_m1 191 rfl) rfl
theorem q302 : (Jvm.Cond.fieldLink "SpinStrip$Rows" (87 : Nat) "SpinStrip$Strip" "rings" "I") ∈ lw_all := lw_g (lw_at lw_m1 195 rfl) rfl
theorem q312 : (Jvm.Cond.fieldLink "SpinStrip$Rows" (51 : Nat) "SpinStrip$Strip" "across" "[I") ∈ lw_all := lw_g (lw_at lw_m1 205 rfl) rfl
theorem q315 : (Jvm.Cond.fieldLink "SpinStrip$Rows" (54 : Nat) "SpinStrip$Strip" "along" "[I") ∈ lw_all := lw_g (lw_at lw_m1 208 rfl) rfl
theorem q318 : (Jvm.Cond.fieldLink "SpinStrip$Rows" (43 : Nat) "SpinStrip$Strip" "field" "[I") ∈ lw_all := lw_g (lw_at lw_m1 211 rfl) rfl
theorem q321 : (Jvm.Cond.fieldLink "SpinStrip$Rows" (29 : Nat) "SpinStrip$Strip" "up" "I") ∈ lw_all := lw_g (lw_at lw_m1 214 rfl) rfl
theorem q325 : (Jvm.Cond.fieldLink "SpinStrip$Rows" (32 : Nat) "SpinStrip$Strip" "down" "I") ∈ lw_all := lw_g (lw_at lw_m1 218 rfl) rfl
theorem q461 : (Jvm.Cond.instantiable "SpinStrip$Rows" (4 : Nat)) ∈ lw_all := lw_g (lw_at lw_m2 114 rfl) rfl
theorem q463 : (Jvm.Cond.instanceMethod ({ cls := "SpinStrip$Rows", name := "<init>", desc := "(LSpinStrip$Strip;)V" } : Jvm.MethodName)) ∈ lw_all := lw_g (lw_at lw_m2 116 rfl) rfl
theorem q464 : (Jvm.Cond.code ({ cls := "SpinStrip$Rows", name := "<init>", desc := "(LSpinStrip$Strip;)V" } : Jvm.MethodName) prog_9_method_1_code (2 : Nat) (Option.none : Option Jvm.ClassFile.FieldType)) ∈ lw_all := lw_g (lw_at lw_m2 117 rfl) rfl
theorem q465 : (Jvm.Cond.methodLink "SpinStrip$Rows" (3 : Nat) ({ cls := "java/lang/Object", name := "<init>", desc := "()V" } : Jvm.MethodName)) ∈ lw_all := lw_g (lw_at lw_m2 118 rfl) rfl
theorem q466 : (Jvm.Cond.classLink "SpinStrip$Rows" (9 : Nat) "[[I") ∈ lw_all := lw_g (lw_at lw_m2 119 rfl) rfl
theorem q468 : (Jvm.Cond.fieldLink "SpinStrip$Rows" (19 : Nat) "SpinStrip$Rows" "s" "LSpinStrip$Strip;") ∈ lw_all := lw_g (lw_at lw_m2 121 rfl) rfl
theorem q469 : (Jvm.Cond.fieldLink "SpinStrip$Rows" (11 : Nat) "SpinStrip$Rows" "ways" "[[I") ∈ lw_all := lw_g (lw_at lw_m2 122 rfl) rfl
theorem q470 : (Jvm.Cond.fieldLink "SpinStrip$Rows" (16 : Nat) "SpinStrip$Rows" "next" "[[I") ∈ lw_all := lw_g (lw_at lw_m2 123 rfl) rfl
theorem q471 : (Jvm.Cond.fieldLink "SpinStrip$Rows" (57 : Nat) "SpinStrip$Rows" "first" "I") ∈ lw_all := lw_g (lw_at lw_m2 124 rfl) rfl
theorem q472 : (Jvm.Cond.laysFinal "SpinStrip$Rows" "SpinStrip$Rows" "s" "LSpinStrip$Strip;") ∈ lw_all := lw_g (lw_at lw_m2 125 rfl) rfl
theorem q473 : (Jvm.Cond.soleField "SpinStrip$Rows" "s") ∈ lw_all := lw_g (lw_at lw_m2 126 rfl) rfl
theorem q474 : (Jvm.Cond.laysFinal "SpinStrip$Rows" "SpinStrip$Rows" "ways" "[[I") ∈ lw_all := lw_g (lw_at lw_m2 127 rfl) rfl
theorem q475 : (Jvm.Cond.soleField "SpinStrip$Rows" "ways") ∈ lw_all := lw_g (lw_at lw_m2 128 rfl) rfl
theorem q476 : (Jvm.Cond.laysFinal "SpinStrip$Rows" "SpinStrip$Rows" "next" "[[I") ∈ lw_all := lw_g (lw_at lw_m2 129 rfl) rfl
theorem q477 : (Jvm.Cond.soleField "SpinStrip$Rows" "next") ∈ lw_all := lw_g (lw_at lw_m2 130 rfl) rfl
theorem q478 : (Jvm.Cond.lays "SpinStrip$Rows" "SpinStrip$Rows" "first" "I") ∈ lw_all := lw_g (lw_at lw_m2 131 rfl) rfl
theorem q479 : (Jvm.Cond.soleField "SpinStrip$Rows" "first") ∈ lw_all := lw_g (lw_at lw_m2 132 rfl) rfl
theorem q480 : (Jvm.Cond.superclass "SpinStrip$Rows" "java/lang/Object") ∈ lw_all := lw_g (lw_at lw_m2 133 rfl) rfl
theorem q880 : (Jvm.Cond.selects "SpinStrip$Rows" ({ cls := "java/lang/Object", name := "getClass", desc := "()Ljava/lang/Class;" } : Jvm.MethodName) ({ cls := "java/lang/Object", name := "getClass", desc := "()Ljava/lang/Class;" } : Jvm.MethodName)) ∈ lw_all := lw_g (lw_at lw_m4 53 rfl) rfl
theorem q1572 : (Jvm.Cond.instanceMethod ({ cls := "SpinStrip$Rows", name := "many", desc := "(III)I" } : Jvm.MethodName)) ∈ lw_all := lw_g (lw_at lw_m7 25 rfl) rfl
theorem q1573 : (Jvm.Cond.selects "SpinStrip$Rows" ({ cls := "SpinStrip$Rows", name := "many", desc := "(III)I" } : Jvm.MethodName) ({ cls := "SpinStrip$Rows", name := "many", desc := "(III)I" } : Jvm.MethodName)) ∈ lw_all := lw_g (lw_at lw_m7 26 rfl) rfl
theorem q1574 : (Jvm.Cond.code ({ cls := "SpinStrip$Rows", name := "many", desc := "(III)I" } : Jvm.MethodName) prog_9_method_10_code (8 : Nat) (Option.some Jvm.ClassFile.FieldType.int)) ∈ lw_all := lw_g (lw_at lw_m7 27 rfl) rfl
theorem q1575 : (Jvm.Cond.methodLinkNest "SpinStrip$Rows" (35 : Nat) ({ cls := "SpinStrip", name := "has", desc := "(II)Z" } : Jvm.MethodName) "SpinStrip") ∈ lw_tbl := lw_at lw_m7 28 rfl
theorem q1576 : (Jvm.Cond.methodLink "SpinStrip$Rows" (90 : Nat) ({ cls := "SpinStrip$Rows", name := "begins", desc := "(I)V" } : Jvm.MethodName)) ∈ lw_all := lw_g (lw_at lw_m7 29 rfl) rfl
theorem q1577 : (Jvm.Cond.privateMethod ({ cls := "SpinStrip$Rows", name := "begins", desc := "(I)V" } : Jvm.MethodName)) ∈ lw_tbl := lw_at lw_m7 30 rfl
theorem q1578 : (Jvm.Cond.instanceMethod ({ cls := "SpinStrip$Rows", name := "begins", desc := "(I)V" } : Jvm.MethodName)) ∈ lw_all := lw_g (lw_at lw_m7 31 rfl) rfl
theorem q1579 : (Jvm.Cond.code ({ cls := "SpinStrip$Rows", name := "begins", desc := "(I)V" } : Jvm.MethodName) prog_9_method_8_code (2 : Nat) (Option.none : Option Jvm.ClassFile.FieldType)) ∈ lw_all := lw_g (lw_at lw_m7 32 rfl) rfl
theorem q1580 : (Jvm.Cond.methodLink "SpinStrip$Rows" (60 : Nat) ({ cls := "SpinStrip$Rows", name := "clears", desc := "([[I)V" } : Jvm.MethodName)) ∈ lw_all := lw_g (lw_at lw_m7 33 rfl) rfl
theorem q1581 : (Jvm.Cond.privateMethod ({ cls := "SpinStrip$Rows", name := "clears", desc := "([[I)V" } : Jvm.MethodName)) ∈ lw_tbl := lw_at lw_m7 34 rfl
theorem q1582 : (Jvm.Cond.instanceMethod ({ cls := "SpinStrip$Rows", name := "clears", desc := "([[I)V" } : Jvm.MethodName)) ∈ lw_all := lw_g (lw_at lw_m7 35 rfl) rfl
theorem q1583 : (Jvm.Cond.code ({ cls := "SpinStrip$Rows", name := "clears", desc := "([[I)V" } : Jvm.MethodName) prog_9_method_6_code (4 : Nat) (Option.none : Option Jvm.ClassFile.FieldType)) ∈ lw_all := lw_g (lw_at lw_m7 36 rfl) rfl
theorem q1584 : (Jvm.Cond.methodLink "SpinStrip$Rows" (64 : Nat) ({ cls := "SpinStrip$Rows", name := "isLawful", desc := "(II)Z" } : Jvm.MethodName)) ∈ lw_all := lw_g (lw_at lw_m7 37 rfl) rfl
theorem q1585 : (Jvm.Cond.privateMethod ({ cls := "SpinStrip$Rows", name := "isLawful", desc := "(II)Z" } : Jvm.MethodName)) ∈ lw_tbl := lw_at lw_m7 38 rfl
theorem q1586 : (Jvm.Cond.instanceMethod ({ cls := "SpinStrip$Rows", name := "isLawful", desc := "(II)Z" } : Jvm.MethodName)) ∈ lw_all := lw_g (lw_at lw_m7 39 rfl) rfl
theorem q1587 : (Jvm.Cond.code ({ cls := "SpinStrip$Rows", name := "isLawful", desc := "(II)Z" } : Jvm.MethodName) prog_9_method_2_code (5 : Nat) (Option.some Jvm.ClassFile.FieldType.boolean)) ∈ lw_all := lw_g (lw_at lw_m7 40 rfl) rfl
theorem q1588 : (Jvm.Cond.methodLink "SpinStrip$Rows" (67 : Nat) ({ cls := "SpinStrip$Rows", name := "within", desc := "(II)I" } : Jvm.MethodName)) ∈ lw_all := lw_g (lw_at lw_m7 41 rfl) rfl
theorem q1589 : (Jvm.Cond.privateMethod ({ cls := "SpinStrip$Rows", name := "within", desc := "(II)I" } : Jvm.MethodName)) ∈ lw_tbl := lw_at lw_m7 42 rfl
theorem q1590 : (Jvm.Cond.instanceMethod ({ cls := "SpinStrip$Rows", name := "within", desc := "(II)I" } : Jvm.MethodName)) ∈ lw_all := lw_g (lw_at lw_m7 43 rfl) rfl
theorem q1591 : (Jvm.Cond.code ({ cls := "SpinStrip$Rows", name := "within", desc := "(II)I" } : Jvm.MethodName) prog_9_method_4_code (7 : Nat) (Option.some Jvm.ClassFile.FieldType.int)) ∈ lw_all := lw_g (lw_at lw_m7 44 rfl) rfl
theorem q1592 : (Jvm.Cond.methodLink "SpinStrip$Rows" (39 : Nat) ({ cls := "SpinStrip$Strip", name := "other", desc := "(IZ)I" } : Jvm.MethodName)) ∈ lw_all := lw_g (lw_at lw_m7 45 rfl) rfl
theorem q1593 : (Jvm.Cond.methodLink "SpinStrip$Rows" (47 : Nat) ({ cls := "SpinStrip$Rows", name := "spin", desc := "(II)I" } : Jvm.MethodName)) ∈ lw_all := lw_g (lw_at lw_m7 46 rfl) rfl
theorem q1594 : (Jvm.Cond.static ({ cls := "SpinStrip$Rows", name := "spin", desc := "(II)I" } : Jvm.MethodName)) ∈ lw_all := lw_g (lw_at lw_m7 47 rfl) rfl
theorem q1595 : (Jvm.Cond.code ({ cls := "SpinStrip$Rows", name := "spin", desc := "(II)I" } : Jvm.MethodName) prog_9_method_3_code (2 : Nat) (Option.some Jvm.ClassFile.FieldType.int)) ∈ lw_all := lw_g (lw_at lw_m7 48 rfl) rfl
theorem q1596 : (Jvm.Cond.methodLink "SpinStrip$Rows" (94 : Nat) ({ cls := "SpinStrip$Rows", name := "goesOn", desc := "(I)V" } : Jvm.MethodName)) ∈ lw_all := lw_g (lw_at lw_m7 49 rfl) rfl
theorem q1597 : (Jvm.Cond.privateMethod ({ cls := "SpinStrip$Rows", name := "goesOn", desc := "(I)V" } : Jvm.MethodName)) ∈ lw_tbl := lw_at lw_m7 50 rfl
theorem q1598 : (Jvm.Cond.instanceMethod ({ cls := "SpinStrip$Rows", name := "goesOn", desc := "(I)V" } : Jvm.MethodName)) ∈ lw_all := lw_g (lw_at lw_m7 51 rfl) rfl
theorem q1599 : (Jvm.Cond.code ({ cls := "SpinStrip$Rows", name := "goesOn", desc := "(I)V" } : Jvm.MethodName) prog_9_method_9_code (4 : Nat) (Option.none : Option Jvm.ClassFile.FieldType)) ∈ lw_all := lw_g (lw_at lw_m7 52 rfl) rfl
theorem q1600 : (Jvm.Cond.methodLink "SpinStrip$Rows" (70 : Nat) ({ cls := "SpinStrip$Rows", name := "between", desc := "(III)I" } : Jvm.MethodName)) ∈ lw_all := lw_g (lw_at lw_m7 53 rfl) rfl
theorem q1601 : (Jvm.Cond.privateMethod ({ cls := "SpinStrip$Rows", name := "between", desc := "(III)I" } : Jvm.MethodName)) ∈ lw_tbl := lw_at lw_m7 54 rfl
theorem q1602 : (Jvm.Cond.instanceMethod ({ cls := "SpinStrip$Rows", name := "between", desc := "(III)I" } : Jvm.MethodName)) ∈ lw_all := lw_g (lw_at lw_m7 55 rfl) rfl
theorem q1603 : (Jvm.Cond.code ({ cls := "SpinStrip$Rows", name := "between", desc := "(III)I" } : Jvm.MethodName) prog_9_method_5_code (6 : Nat) (Option.some Jvm.ClassFile.FieldType.int)) ∈ lw_all := lw_g (lw_at lw_m7 56 rfl) rfl
theorem q1604 : (Jvm.Cond.methodLink "SpinStrip$Rows" (74 : Nat) ({ cls := "SpinStrip$Rows", name := "shifts", desc := "([II[I)V" } : Jvm.MethodName)) ∈ lw_all := lw_g (lw_at lw_m7 57 rfl) rfl
theorem q1605 : (Jvm.Cond.privateMethod ({ cls := "SpinStrip$Rows", name := "shifts", desc := "([II[I)V" } : Jvm.MethodName)) ∈ lw_tbl := lw_at lw_m7 58 rfl
theorem q1606 : (Jvm.Cond.instanceMethod ({ cls := "SpinStrip$Rows", name := "shifts", desc := "([II[I)V" } : Jvm.MethodName)) ∈ lw_all := lw_g (lw_at lw_m7 59 rfl) rfl
theorem q1607 : (Jvm.Cond.code ({ cls := "SpinStrip$Rows", name := "shifts", desc := "([II[I)V" } : Jvm.MethodName) prog_9_method_7_code (5 : Nat) (Option.none : Option Jvm.ClassFile.FieldType)) ∈ lw_all := lw_g (lw_at lw_m7 60 rfl) rfl
theorem q1608 : (Jvm.Cond.methodLink "SpinStrip$Rows" (78 : Nat) ({ cls := "java/lang/System", name := "arraycopy", desc := "(Ljava/lang/Object;ILjava/lang/Object;II)V" } : Jvm.MethodName)) ∈ lw_all := lw_g (lw_at lw_m7 61 rfl) rfl
theorem q1609 : (Jvm.Cond.methodLinkNest "SpinStrip$Rows" (97 : Nat) ({ cls := "SpinStrip", name := "isIn", desc := "(III)Z" } : Jvm.MethodName) "SpinStrip") ∈ lw_tbl := lw_at lw_m7 62 rfl
theorem q2397 : (Jvm.Cond.castable "SpinStrip$Rows" "java/lang/Object") ∈ lw_tbl := lw_at lw_m10 130 rfl
theorem in_X7 : ∀ w ∈ wsX70, w ∈ lw_all := lw_in wsX70 [472, 474, 476, 478] (by decide +kernel) (by decide +kernel)
/-! SpinStrip$Lakes -/
set_option maxRecDepth 100000
def RX8 : String := "SpinStrip$Lakes"
def TX8 : u_T := fun k => match k with
  | 0 => ("SpinStrip$Lakes", "s", "LSpinStrip$Strip;", true)
  | 1 => ("SpinStrip$Lakes", "e", "LSpinStrip$Energies;", true)
  | 2 => ("SpinStrip$Lakes", "met", "[Z", true)
  | _ => ("SpinStrip$Lakes", "ways", "[J", true)
def tyX8 : Nat → FieldType := fun k => match k with
  | 0 => .object "SpinStrip$Strip"
  | 1 => .object "SpinStrip$Energies"
  | 2 => .array .boolean
  | _ => .array .long
abbrev wsX80 : List Cond := u_ws RX8 TX8 4
theorem nmX8 : ∀ a, a < 4 → ∀ b, b < 4 → a ≠ b → (TX8 a).2.1 ≠ (TX8 b).2.1 := by decide +kernel
theorem tyX8_ok : ∀ k, k < 4 → parseFieldDescriptor (TX8 k).2.2.1 = some (tyX8 k) := by decide +kernel
abbrev cX8_init : ByteArray := prog_6_method_1_code
def yX8_init : MethodName := ⟨RX8, "<init>", "(LSpinStrip$Strip;LSpinStrip$Energies;)V"⟩
def dkwX8_init_1 : List UInt8 := [181, 0, 19, 42, 44, 181, 0, 23, 177]
abbrev dktX8_init_1 : List UInt8 := dkwX8_init_1 ++ []
def dkwX8_init_0 : List UInt8 := [42, 183, 0, 3, 42, 17, 4, 0, 188, 4, 181, 0, 9, 42, 17, 4, 0, 188, 11, 181, 0, 15, 42, 43]
abbrev dktX8_init_0 : List UInt8 := dkwX8_init_0 ++ dktX8_init_1
theorem dksX8_init_0 : cX8_init.data.toList.drop 0 = dktX8_init_0 := by decide +kernel
theorem dksX8_init_1 : cX8_init.data.toList.drop 24 = dktX8_init_1 := dk_seg dksX8_init_0 24 rfl rfl
theorem dX8_init_0 : decode cX8_init 0 = .ok (.aload_n 0, 1) := dk_42 (dk_at dksX8_init_0 0 rfl rfl)
theorem dX8_init_1 : decode cX8_init 1 = .ok (.invokespecial 3, 3) := dk_183 0 3 (dk_at dksX8_init_0 1 rfl rfl)
theorem dX8_init_4 : decode cX8_init 4 = .ok (.aload_n 0, 1) := dk_42 (dk_at dksX8_init_0 4 rfl rfl)
theorem dX8_init_5 : decode cX8_init 5 = .ok (.sipush 1024, 3) := dk_17 4 0 (dk_at dksX8_init_0 5 rfl rfl)
theorem dX8_init_8 : decode cX8_init 8 = .ok (.newarray .boolean, 2) := dk_188_4 (dk_at dksX8_init_0 8 rfl rfl)
theorem dX8_init_10 : decode cX8_init 10 = .ok (.putfield 9, 3) := dk_181 0 9 (dk_at dksX8_init_0 10 rfl rfl)
theorem dX8_init_13 : decode cX8_init 13 = .ok (.aload_n 0, 1) := dk_42 (dk_at dksX8_init_0 13 rfl rfl)
theorem dX8_init_14 : decode cX8_init 14 = .ok (.sipush 1024, 3) := dk_17 4 0 (dk_at dksX8_init_0 14 rfl rfl)
theorem dX8_init_17 : decode cX8_init 17 = .ok (.newarray .long, 2) := dk_188_11 (dk_at dksX8_init_0 17 rfl rfl)
theorem dX8_init_19 : decode cX8_init 19 = .ok (.putfield 15, 3) := dk_181 0 15 (dk_at dksX8_init_0 19 rfl rfl)
theorem dX8_init_22 : decode cX8_init 22 = .ok (.aload_n 0, 1) := dk_42 (dk_at dksX8_init_0 22 rfl rfl)
theorem dX8_init_23 : decode cX8_init 23 = .ok (.aload_n 1, 1) := dk_43 (dk_at dksX8_init_0 23 rfl rfl)
theorem dX8_init_24 : decode cX8_init 24 = .ok (.putfield 19, 3) := dk_181 0 19 (dk_at dksX8_init_1 0 rfl rfl)
theorem dX8_init_27 : decode cX8_init 27 = .ok (.aload_n 0, 1) := dk_42 (dk_at dksX8_init_1 3 rfl rfl)
theorem dX8_init_28 : decode cX8_init 28 = .ok (.aload_n 2, 1) := dk_44 (dk_at dksX8_init_1 4 rfl rfl)
theorem dX8_init_29 : decode cX8_init 29 = .ok (.putfield 23, 3) := dk_181 0 23 (dk_at dksX8_init_1 5 rfl rfl)
theorem dX8_init_32 : decode cX8_init 32 = .ok (.return_, 1) := dk_177 (dk_at dksX8_init_1 8 rfl rfl)
abbrev cX8_many : ByteArray := prog_6_method_3_code
def yX8_many : MethodName := ⟨RX8, "many", "(I)I"⟩
def dkwX8_many_3 : List UInt8 := [42, 29, 182, 0, 47, 132, 3, 1, 167, 255, 222, 28, 172]
abbrev dktX8_many_3 : List UInt8 := dkwX8_many_3 ++ []
def dkwX8_many_2 : List UInt8 := [180, 0, 19, 182, 0, 39, 162, 0, 29, 42, 180, 0, 9, 29, 51, 153, 0, 6, 167, 0, 11, 132, 2, 1]
abbrev dktX8_many_2 : List UInt8 := dkwX8_many_2 ++ dktX8_many_3
def dkwX8_many_1 : List UInt8 := [182, 0, 43, 154, 0, 7, 4, 167, 0, 4, 3, 84, 132, 3, 1, 167, 255, 222, 3, 62, 29, 42]
abbrev dktX8_many_1 : List UInt8 := dkwX8_many_1 ++ dktX8_many_2
def dkwX8_many_0 : List UInt8 := [3, 61, 3, 62, 29, 42, 180, 0, 19, 182, 0, 39, 162, 0, 29, 42, 180, 0, 9, 29, 42, 29, 27]
abbrev dktX8_many_0 : List UInt8 := dkwX8_many_0 ++ dktX8_many_1
theorem dksX8_many_0 : cX8_many.data.toList.drop 0 = dktX8_many_0 := by decide +kernel
theorem dksX8_many_1 : cX8_many.data.toList.drop 23 = dktX8_many_1 := dk_seg dksX8_many_0 23 rfl rfl
theorem dksX8_many_2 : cX8_many.data.toList.drop 45 = dktX8_many_2 := dk_seg dksX8_many_1 22 rfl rfl
theorem dksX8_many_3 : cX8_many.data.toList.drop 69 = dktX8_many_3 := dk_seg dksX8_many_2 24 rfl rfl
theorem dX8_many_0 : decode cX8_many 0 = .ok (.iconst 0, 1) := dk_3 (dk_at dksX8_many_0 0 rfl rfl)
theorem dX8_many_1 : decode cX8_many 1 = .ok (.istore_n 2, 1) := dk_61 (dk_at dksX8_many_0 1 rfl rfl)
theorem dX8_many_2 : decode cX8_many 2 = .ok (.iconst 0, 1) := dk_3 (dk_at dksX8_many_0 2 rfl rfl)
theorem dX8_many_3 : decode cX8_many 3 = .ok (.istore_n 3, 1) := dk_62 (dk_at dksX8_many_0 3 rfl rfl)
theorem dX8_many_4 : decode cX8_many 4 = .ok (.iload_n 3, 1) := dk_29 (dk_at dksX8_many_0 4 rfl rfl)
theorem dX8_many_5 : decode cX8_many 5 = .ok (.aload_n 0, 1) := dk_42 (dk_at dksX8_many_0 5 rfl rfl)
theorem dX8_many_6 : decode cX8_many 6 = .ok (.getfield 19, 3) := dk_180 0 19 (dk_at dksX8_many_0 6 rfl rfl)
theorem dX8_many_9 : decode cX8_many 9 = .ok (.invokevirtual 39, 3) := dk_182 0 39 (dk_at dksX8_many_0 9 rfl rfl)
theorem dX8_many_12 : decode cX8_many 12 = .ok (.if_icmp .ge 29, 3) := dk_162 0 29 (dk_at dksX8_many_0 12 rfl rfl)
theorem dX8_many_15 : decode cX8_many 15 = .ok (.aload_n 0, 1) := dk_42 (dk_at dksX8_many_0 15 rfl rfl)
theorem dX8_many_16 : decode cX8_many 16 = .ok (.getfield 9, 3) := dk_180 0 9 (dk_at dksX8_many_0 16 rfl rfl)
theorem dX8_many_19 : decode cX8_many 19 = .ok (.iload_n 3, 1) := dk_29 (dk_at dksX8_many_0 19 rfl rfl)
theorem dX8_many_20 : decode cX8_many 20 = .ok (.aload_n 0, 1) := dk_42 (dk_at dksX8_many_0 20 rfl rfl)
theorem dX8_many_21 : decode cX8_many 21 = .ok (.iload_n 3, 1) := dk_29 (dk_at dksX8_many_0 21 rfl rfl)
theorem dX8_many_22 : decode cX8_many 22 = .ok (.iload_n 1, 1) := dk_27 (dk_at dksX8_many_0 22 rfl rfl)
theorem dX8_many_23 : decode cX8_many 23 = .ok (.invokevirtual 43, 3) := dk_182 0 43 (dk_at dksX8_many_1 0 rfl rfl)
theorem dX8_many_26 : decode cX8_many 26 = .ok (.ifCond .ne 7, 3) := dk_154 0 7 (dk_at dksX8_many_1 3 rfl rfl)
theorem dX8_many_29 : decode cX8_many 29 = .ok (.iconst 1, 1) := dk_4 (dk_at dksX8_many_1 6 rfl rfl)
theorem dX8_many_30 : decode cX8_many 30 = .ok (.goto 4, 3) := dk_167 0 4 (dk_at dksX8_many_1 7 rfl rfl)
theorem dX8_many_33 : decode cX8_many 33 = .ok (.iconst 0, 1) := dk_3 (dk_at dksX8_many_1 10 rfl rfl)
theorem dX8_many_34 : decode cX8_many 34 = .ok (.bastore, 1) := dk_84 (dk_at dksX8_many_1 11 rfl rfl)
theorem dX8_many_35 : decode cX8_many 35 = .ok (.iinc 3 1, 3) := dk_132 3 1 (dk_at dksX8_many_1 12 rfl rfl)
theorem dX8_many_38 : decode cX8_many 38 = .ok (.goto (-34), 3) := dk_167 255 222 (dk_at dksX8_many_1 15 rfl rfl)
theorem dX8_many_41 : decode cX8_many 41 = .ok (.iconst 0, 1) := dk_3 (dk_at dksX8_many_1 18 rfl rfl)
theorem dX8_many_42 : decode cX8_many 42 = .ok (.istore_n 3, 1) := dk_62 (dk_at dksX8_many_1 19 rfl rfl)
theorem dX8_many_43 : decode cX8_many 43 = .ok (.iload_n 3, 1) := dk_29 (dk_at dksX8_many_1 20 rfl rfl)
theorem dX8_many_44 : decode cX8_many 44 = .ok (.aload_n 0, 1) := dk_42 (dk_at dksX8_many_1 21 rfl rfl)
theorem dX8_many_45 : decode cX8_many 45 = .ok (.getfield 19, 3) := dk_180 0 19 (dk_at dksX8_many_2 0 rfl rfl)
theorem dX8_many_48 : decode cX8_many 48 = .ok (.invokevirtual 39, 3) := dk_182 0 39 (dk_at dksX8_many_2 3 rfl rfl)
theorem dX8_many_51 : decode cX8_many 51 = .ok (.if_icmp .ge 29, 3) := dk_162 0 29 (dk_at dksX8_many_2 6 rfl rfl)
theorem dX8_many_54 : decode cX8_many 54 = .ok (.aload_n 0, 1) := dk_42 (dk_at dksX8_many_2 9 rfl rfl)
theorem dX8_many_55 : decode cX8_many 55 = .ok (.getfield 9, 3) := dk_180 0 9 (dk_at dksX8_many_2 10 rfl rfl)
theorem dX8_many_58 : decode cX8_many 58 = .ok (.iload_n 3, 1) := dk_29 (dk_at dksX8_many_2 13 rfl rfl)
theorem dX8_many_59 : decode cX8_many 59 = .ok (.baload, 1) := dk_51 (dk_at dksX8_many_2 14 rfl rfl)
theorem dX8_many_60 : decode cX8_many 60 = .ok (.ifCond .eq 6, 3) := dk_153 0 6 (dk_at dksX8_many_2 15 rfl rfl)
theorem dX8_many_63 : decode cX8_many 63 = .ok (.goto 11, 3) := dk_167 0 11 (dk_at dksX8_many_2 18 rfl rfl)
theorem dX8_many_66 : decode cX8_many 66 = .ok (.iinc 2 1, 3) := dk_132 2 1 (dk_at dksX8_many_2 21 rfl rfl)
theorem dX8_many_69 : decode cX8_many 69 = .ok (.aload_n 0, 1) := dk_42 (dk_at dksX8_many_3 0 rfl rfl)
theorem dX8_many_70 : decode cX8_many 70 = .ok (.iload_n 3, 1) := dk_29 (dk_at dksX8_many_3 1 rfl rfl)
theorem dX8_many_71 : decode cX8_many 71 = .ok (.invokevirtual 47, 3) := dk_182 0 47 (dk_at dksX8_many_3 2 rfl rfl)
theorem dX8_many_74 : decode cX8_many 74 = .ok (.iinc 3 1, 3) := dk_132 3 1 (dk_at dksX8_many_3 5 rfl rfl)
theorem dX8_many_77 : decode cX8_many 77 = .ok (.goto (-34), 3) := dk_167 255 222 (dk_at dksX8_many_3 8 rfl rfl)
theorem dX8_many_80 : decode cX8_many 80 = .ok (.iload_n 2, 1) := dk_28 (dk_at dksX8_many_3 11 rfl rfl)
theorem dX8_many_81 : decode cX8_many 81 = .ok (.ireturn, 1) := dk_172 (dk_at dksX8_many_3 12 rfl rfl)
abbrev cX8_isIn : ByteArray := prog_6_method_2_code
def yX8_isIn : MethodName := ⟨RX8, "isIn", "(II)Z"⟩
def dkwX8_isIn_1 : List UInt8 := [167, 0, 4, 3, 172]
abbrev dktX8_isIn_1 : List UInt8 := dkwX8_isIn_1 ++ []
def dkwX8_isIn_0 : List UInt8 := [42, 180, 0, 19, 27, 182, 0, 27, 153, 0, 19, 42, 180, 0, 23, 27, 182, 0, 33, 28, 163, 0, 7, 4]
abbrev dktX8_isIn_0 : List UInt8 := dkwX8_isIn_0 ++ dktX8_isIn_1
theorem dksX8_isIn_0 : cX8_isIn.data.toList.drop 0 = dktX8_isIn_0 := by decide +kernel
theorem dksX8_isIn_1 : cX8_isIn.data.toList.drop 24 = dktX8_isIn_1 := dk_seg dksX8_isIn_0 24 rfl rfl
theorem dX8_isIn_0 : decode cX8_isIn 0 = .ok (.aload_n 0, 1) := dk_42 (dk_at dksX8_isIn_0 0 rfl rfl)
theorem dX8_isIn_1 : decode cX8_isIn 1 = .ok (.getfield 19, 3) := dk_180 0 19 (dk_at dksX8_isIn_0 1 rfl rfl)
theorem dX8_isIn_4 : decode cX8_isIn 4 = .ok (.iload_n 1, 1) := dk_27 (dk_at dksX8_isIn_0 4 rfl rfl)
theorem dX8_isIn_5 : decode cX8_isIn 5 = .ok (.invokevirtual 27, 3) := dk_182 0 27 (dk_at dksX8_isIn_0 5 rfl rfl)
theorem dX8_isIn_8 : decode cX8_isIn 8 = .ok (.ifCond .eq 19, 3) := dk_153 0 19 (dk_at dksX8_isIn_0 8 rfl rfl)
theorem dX8_isIn_11 : decode cX8_isIn 11 = .ok (.aload_n 0, 1) := dk_42 (dk_at dksX8_isIn_0 11 rfl rfl)
theorem dX8_isIn_12 : decode cX8_isIn 12 = .ok (.getfield 23, 3) := dk_180 0 23 (dk_at dksX8_isIn_0 12 rfl rfl)
theorem dX8_isIn_15 : decode cX8_isIn 15 = .ok (.iload_n 1, 1) := dk_27 (dk_at dksX8_isIn_0 15 rfl rfl)
theorem dX8_isIn_16 : decode cX8_isIn 16 = .ok (.invokevirtual 33, 3) := dk_182 0 33 (dk_at dksX8_isIn_0 16 rfl rfl)
theorem dX8_isIn_19 : decode cX8_isIn 19 = .ok (.iload_n 2, 1) := dk_28 (dk_at dksX8_isIn_0 19 rfl rfl)
theorem dX8_isIn_20 : decode cX8_isIn 20 = .ok (.if_icmp .gt 7, 3) := dk_163 0 7 (dk_at dksX8_isIn_0 20 rfl rfl)
theorem dX8_isIn_23 : decode cX8_isIn 23 = .ok (.iconst 1, 1) := dk_4 (dk_at dksX8_isIn_0 23 rfl rfl)
theorem dX8_isIn_24 : decode cX8_isIn 24 = .ok (.goto 4, 3) := dk_167 0 4 (dk_at dksX8_isIn_1 0 rfl rfl)
theorem dX8_isIn_27 : decode cX8_isIn 27 = .ok (.iconst 0, 1) := dk_3 (dk_at dksX8_isIn_1 3 rfl rfl)
theorem dX8_isIn_28 : decode cX8_isIn 28 = .ok (.ireturn, 1) := dk_172 (dk_at dksX8_isIn_1 4 rfl rfl)
abbrev cX8_fills : ByteArray := prog_6_method_4_code
def yX8_fills : MethodName := ⟨RX8, "fills", "(I)V"⟩
def dkwX8_fills_4 : List UInt8 := [132, 4, 1, 167, 255, 203, 167, 255, 179, 177]
abbrev dktX8_fills_4 : List UInt8 := dkwX8_fills_4 ++ []
def dkwX8_fills_3 : List UInt8 := [153, 0, 6, 167, 0, 20, 42, 180, 0, 9, 21, 5, 4, 84, 44, 21, 5, 184, 0, 54, 182, 0, 60]
abbrev dktX8_fills_3 : List UInt8 := dkwX8_fills_3 ++ dktX8_fills_4
def dkwX8_fills_2 : List UInt8 := [180, 0, 19, 182, 0, 75, 162, 0, 47, 29, 4, 21, 4, 120, 130, 54, 5, 42, 180, 0, 9, 21, 5, 51]
abbrev dktX8_fills_2 : List UInt8 := dkwX8_fills_2 ++ dktX8_fills_3
def dkwX8_fills_1 : List UInt8 := [182, 0, 64, 154, 0, 76, 44, 182, 0, 68, 192, 0, 55, 182, 0, 72, 62, 3, 54, 4, 21, 4, 42]
abbrev dktX8_fills_1 : List UInt8 := dkwX8_fills_1 ++ dktX8_fills_2
def dkwX8_fills_0 : List UInt8 := [187, 0, 51, 89, 183, 0, 53, 77, 42, 180, 0, 9, 27, 4, 84, 44, 27, 184, 0, 54, 182, 0, 60, 44]
abbrev dktX8_fills_0 : List UInt8 := dkwX8_fills_0 ++ dktX8_fills_1
theorem dksX8_fills_0 : cX8_fills.data.toList.drop 0 = dktX8_fills_0 := by decide +kernel
theorem dksX8_fills_1 : cX8_fills.data.toList.drop 24 = dktX8_fills_1 := dk_seg dksX8_fills_0 24 rfl rfl
theorem dksX8_fills_2 : cX8_fills.data.toList.drop 47 = dktX8_fills_2 := dk_seg dksX8_fills_1 23 rfl rfl
theorem dksX8_fills_3 : cX8_fills.data.toList.drop 71 = dktX8_fills_3 := dk_seg dksX8_fills_2 24 rfl rfl
theorem dksX8_fills_4 : cX8_fills.data.toList.drop 94 = dktX8_fills_4 := dk_seg dksX8_fills_3 23 rfl rfl
theorem dX8_fills_0 : decode cX8_fills 0 = .ok (.new 51, 3) := dk_187 0 51 (dk_at dksX8_fills_0 0 rfl rfl)
theorem dX8_fills_3 : decode cX8_fills 3 = .ok (.dup, 1) := dk_89 (dk_at dksX8_fills_0 3 rfl rfl)
theorem dX8_fills_4 : decode cX8_fills 4 = .ok (.invokespecial 53, 3) := dk_183 0 53 (dk_at dksX8_fills_0 4 rfl rfl)
theorem dX8_fills_7 : decode cX8_fills 7 = .ok (.astore_n 2, 1) := dk_77 (dk_at dksX8_fills_0 7 rfl rfl)
theorem dX8_fills_8 : decode cX8_fills 8 = .ok (.aload_n 0, 1) := dk_42 (dk_at dksX8_fills_0 8 rfl rfl)
theorem dX8_fills_9 : decode cX8_fills 9 = .ok (.getfield 9, 3) := dk_180 0 9 (dk_at dksX8_fills_0 9 rfl rfl)
theorem dX8_fills_12 : decode cX8_fills 12 = .ok (.iload_n 1, 1) := dk_27 (dk_at dksX8_fills_0 12 rfl rfl)
theorem dX8_fills_13 : decode cX8_fills 13 = .ok (.iconst 1, 1) := dk_4 (dk_at dksX8_fills_0 13 rfl rfl)
theorem dX8_fills_14 : decode cX8_fills 14 = .ok (.bastore, 1) := dk_84 (dk_at dksX8_fills_0 14 rfl rfl)
theorem dX8_fills_15 : decode cX8_fills 15 = .ok (.aload_n 2, 1) := dk_44 (dk_at dksX8_fills_0 15 rfl rfl)
theorem dX8_fills_16 : decode cX8_fills 16 = .ok (.iload_n 1, 1) := dk_27 (dk_at dksX8_fills_0 16 rfl rfl)
theorem dX8_fills_17 : decode cX8_fills 17 = .ok (.invokestatic 54, 3) := dk_184 0 54 (dk_at dksX8_fills_0 17 rfl rfl)
theorem dX8_fills_20 : decode cX8_fills 20 = .ok (.invokevirtual 60, 3) := dk_182 0 60 (dk_at dksX8_fills_0 20 rfl rfl)
theorem dX8_fills_23 : decode cX8_fills 23 = .ok (.aload_n 2, 1) := dk_44 (dk_at dksX8_fills_0 23 rfl rfl)
theorem dX8_fills_24 : decode cX8_fills 24 = .ok (.invokevirtual 64, 3) := dk_182 0 64 (dk_at dksX8_fills_1 0 rfl rfl)
theorem dX8_fills_27 : decode cX8_fills 27 = .ok (.ifCond .ne 76, 3) := dk_154 0 76 (dk_at dksX8_fills_1 3 rfl rfl)
theorem dX8_fills_30 : decode cX8_fills 30 = .ok (.aload_n 2, 1) := dk_44 (dk_at dksX8_fills_1 6 rfl rfl)
theorem dX8_fills_31 : decode cX8_fills 31 = .ok (.invokevirtual 68, 3) := dk_182 0 68 (dk_at dksX8_fills_1 7 rfl rfl)
theorem dX8_fills_34 : decode cX8_fills 34 = .ok (.checkcast 55, 3) := dk_192 0 55 (dk_at dksX8_fills_1 10 rfl rfl)
theorem dX8_fills_37 : decode cX8_fills 37 = .ok (.invokevirtual 72, 3) := dk_182 0 72 (dk_at dksX8_fills_1 13 rfl rfl)
theorem dX8_fills_40 : decode cX8_fills 40 = .ok (.istore_n 3, 1) := dk_62 (dk_at dksX8_fills_1 16 rfl rfl)
theorem dX8_fills_41 : decode cX8_fills 41 = .ok (.iconst 0, 1) := dk_3 (dk_at dksX8_fills_1 17 rfl rfl)
theorem dX8_fills_42 : decode cX8_fills 42 = .ok (.istore 4, 2) := dk_54 4 (dk_at dksX8_fills_1 18 rfl rfl)
theorem dX8_fills_44 : decode cX8_fills 44 = .ok (.iload 4, 2) := dk_21 4 (dk_at dksX8_fills_1 20 rfl rfl)
theorem dX8_fills_46 : decode cX8_fills 46 = .ok (.aload_n 0, 1) := dk_42 (dk_at dksX8_fills_1 22 rfl rfl)
theorem dX8_fills_47 : decode cX8_fills 47 = .ok (.getfield 19, 3) := dk_180 0 19 (dk_at dksX8_fills_2 0 rfl rfl)
theorem dX8_fills_50 : decode cX8_fills 50 = .ok (.invokevirtual 75, 3) := dk_182 0 75 (dk_at dksX8_fills_2 3 rfl rfl)
theorem dX8_fills_53 : decode cX8_fills 53 = .ok (.if_icmp .ge 47, 3) := dk_162 0 47 (dk_at dksX8_fills_2 6 rfl rfl)
theorem dX8_fills_56 : decode cX8_fills 56 = .ok (.iload_n 3, 1) := dk_29 (dk_at dksX8_fills_2 9 rfl rfl)
theorem dX8_fills_57 : decode cX8_fills 57 = .ok (.iconst 1, 1) := dk_4 (dk_at dksX8_fills_2 10 rfl rfl)
theorem dX8_fills_58 : decode cX8_fills 58 = .ok (.iload 4, 2) := dk_21 4 (dk_at dksX8_fills_2 11 rfl rfl)
theorem dX8_fills_60 : decode cX8_fills 60 = .ok (.ishl, 1) := dk_120 (dk_at dksX8_fills_2 13 rfl rfl)
theorem dX8_fills_61 : decode cX8_fills 61 = .ok (.ixor, 1) := dk_130 (dk_at dksX8_fills_2 14 rfl rfl)
theorem dX8_fills_62 : decode cX8_fills 62 = .ok (.istore 5, 2) := dk_54 5 (dk_at dksX8_fills_2 15 rfl rfl)
theorem dX8_fills_64 : decode cX8_fills 64 = .ok (.aload_n 0, 1) := dk_42 (dk_at dksX8_fills_2 17 rfl rfl)
theorem dX8_fills_65 : decode cX8_fills 65 = .ok (.getfield 9, 3) := dk_180 0 9 (dk_at dksX8_fills_2 18 rfl rfl)
theorem dX8_fills_68 : decode cX8_fills 68 = .ok (.iload 5, 2) := dk_21 5 (dk_at dksX8_fills_2 21 rfl rfl)
theorem dX8_fills_70 : decode cX8_fills 70 = .ok (.baload, 1) := dk_51 (dk_at dksX8_fills_2 23 rfl rfl)
theorem dX8_fills_71 : decode cX8_fills 71 = .ok (.ifCond .eq 6, 3) := dk_153 0 6 (dk_at dksX8_fills_3 0 rfl rfl)
theorem dX8_fills_74 : decode cX8_fills 74 = .ok (.goto 20, 3) := dk_167 0 20 (dk_at dksX8_fills_3 3 rfl rfl)
theorem dX8_fills_77 : decode cX8_fills 77 = .ok (.aload_n 0, 1) := dk_42 (dk_at dksX8_fills_3 6 rfl rfl)
theorem dX8_fills_78 : decode cX8_fills 78 = .ok (.getfield 9, 3) := dk_180 0 9 (dk_at dksX8_fills_3 7 rfl rfl)
theorem dX8_fills_81 : decode cX8_fills 81 = .ok (.iload 5, 2) := dk_21 5 (dk_at dksX8_fills_3 10 rfl rfl)
theorem dX8_fills_83 : decode cX8_fills 83 = .ok (.iconst 1, 1) := dk_4 (dk_at dksX8_fills_3 12 rfl rfl)
theorem dX8_fills_84 : decode cX8_fills 84 = .ok (.bastore, 1) := dk_84 (dk_at dksX8_fills_3 13 rfl rfl)
theorem dX8_fills_85 : decode cX8_fills 85 = .ok (.aload_n 2, 1) := dk_44 (dk_at dksX8_fills_3 14 rfl rfl)
theorem dX8_fills_86 : decode cX8_fills 86 = .ok (.iload 5, 2) := dk_21 5 (dk_at dksX8_fills_3 15 rfl rfl)
theorem dX8_fills_88 : decode cX8_fills 88 = .ok (.invokestatic 54, 3) := dk_184 0 54 (dk_at dksX8_fills_3 17 rfl rfl)
theorem dX8_fills_91 : decode cX8_fills 91 = .ok (.invokevirtual 60, 3) := dk_182 0 60 (dk_at dksX8_fills_3 20 rfl rfl)
theorem dX8_fills_94 : decode cX8_fills 94 = .ok (.iinc 4 1, 3) := dk_132 4 1 (dk_at dksX8_fills_4 0 rfl rfl)
theorem dX8_fills_97 : decode cX8_fills 97 = .ok (.goto (-53), 3) := dk_167 255 203 (dk_at dksX8_fills_4 3 rfl rfl)
theorem dX8_fills_100 : decode cX8_fills 100 = .ok (.goto (-77), 3) := dk_167 255 179 (dk_at dksX8_fills_4 6 rfl rfl)
theorem dX8_fills_103 : decode cX8_fills 103 = .ok (.return_, 1) := dk_177 (dk_at dksX8_fills_4 9 rfl rfl)
abbrev cX8_down : ByteArray := prog_6_method_5_code
def yX8_down : MethodName := ⟨RX8, "down", "(I)J"⟩
def dkwX8_down_1 : List UInt8 := [167, 255, 235, 42, 27, 182, 0, 78, 173]
abbrev dktX8_down_1 : List UInt8 := dkwX8_down_1 ++ []
def dkwX8_down_0 : List UInt8 := [3, 61, 28, 42, 180, 0, 19, 182, 0, 39, 162, 0, 16, 42, 180, 0, 15, 28, 9, 80, 132, 2, 1]
abbrev dktX8_down_0 : List UInt8 := dkwX8_down_0 ++ dktX8_down_1
theorem dksX8_down_0 : cX8_down.data.toList.drop 0 = dktX8_down_0 := by decide +kernel
theorem dksX8_down_1 : cX8_down.data.toList.drop 23 = dktX8_down_1 := dk_seg dksX8_down_0 23 rfl rfl
theorem dX8_down_0 : decode cX8_down 0 = .ok (.iconst 0, 1) := dk_3 (dk_at dksX8_down_0 0 rfl rfl)
theorem dX8_down_1 : decode cX8_down 1 = .ok (.istore_n 2, 1) := dk_61 (dk_at dksX8_down_0 1 rfl rfl)
theorem dX8_down_2 : decode cX8_down 2 = .ok (.iload_n 2, 1) := dk_28 (dk_at dksX8_down_0 2 rfl rfl)
theorem dX8_down_3 : decode cX8_down 3 = .ok (.aload_n 0, 1) := dk_42 (dk_at dksX8_down_0 3 rfl rfl)
theorem dX8_down_4 : decode cX8_down 4 = .ok (.getfield 19, 3) := dk_180 0 19 (dk_at dksX8_down_0 4 rfl rfl)
theorem dX8_down_7 : decode cX8_down 7 = .ok (.invokevirtual 39, 3) := dk_182 0 39 (dk_at dksX8_down_0 7 rfl rfl)
theorem dX8_down_10 : decode cX8_down 10 = .ok (.if_icmp .ge 16, 3) := dk_162 0 16 (dk_at dksX8_down_0 10 rfl rfl)
theorem dX8_down_13 : decode cX8_down 13 = .ok (.aload_n 0, 1) := dk_42 (dk_at dksX8_down_0 13 rfl rfl)
theorem dX8_down_14 : decode cX8_down 14 = .ok (.getfield 15, 3) := dk_180 0 15 (dk_at dksX8_down_0 14 rfl rfl)
theorem dX8_down_17 : decode cX8_down 17 = .ok (.iload_n 2, 1) := dk_28 (dk_at dksX8_down_0 17 rfl rfl)
theorem dX8_down_18 : decode cX8_down 18 = .ok (.lconst 0, 1) := dk_9 (dk_at dksX8_down_0 18 rfl rfl)
theorem dX8_down_19 : decode cX8_down 19 = .ok (.lastore, 1) := dk_80 (dk_at dksX8_down_0 19 rfl rfl)
theorem dX8_down_20 : decode cX8_down 20 = .ok (.iinc 2 1, 3) := dk_132 2 1 (dk_at dksX8_down_0 20 rfl rfl)
theorem dX8_down_23 : decode cX8_down 23 = .ok (.goto (-21), 3) := dk_167 255 235 (dk_at dksX8_down_1 0 rfl rfl)
theorem dX8_down_26 : decode cX8_down 26 = .ok (.aload_n 0, 1) := dk_42 (dk_at dksX8_down_1 3 rfl rfl)
theorem dX8_down_27 : decode cX8_down 27 = .ok (.iload_n 1, 1) := dk_27 (dk_at dksX8_down_1 4 rfl rfl)
theorem dX8_down_28 : decode cX8_down 28 = .ok (.invokevirtual 78, 3) := dk_182 0 78 (dk_at dksX8_down_1 5 rfl rfl)
theorem dX8_down_31 : decode cX8_down 31 = .ok (.lreturn, 1) := dk_173 (dk_at dksX8_down_1 8 rfl rfl)
abbrev cX8_goes : ByteArray := prog_6_method_6_code
def yX8_goes : MethodName := ⟨RX8, "goes", "(I)J"⟩
def dkwX8_goes_4 : List UInt8 := [10, 32, 184, 0, 85, 80, 42, 180, 0, 15, 27, 47, 173]
abbrev dktX8_goes_4 : List UInt8 := dkwX8_goes_4 ++ []
def dkwX8_goes_3 : List UInt8 := [32, 42, 27, 4, 21, 4, 120, 130, 182, 0, 78, 97, 65, 132, 4, 1, 167, 255, 192, 42, 180, 0, 15, 27]
abbrev dktX8_goes_3 : List UInt8 := dkwX8_goes_3 ++ dktX8_goes_4
def dkwX8_goes_2 : List UInt8 := [42, 180, 0, 23, 27, 4, 21, 4, 120, 130, 182, 0, 33, 42, 180, 0, 23, 27, 182, 0, 33, 162, 0, 16]
abbrev dktX8_goes_2 : List UInt8 := dkwX8_goes_2 ++ dktX8_goes_3
def dkwX8_goes_1 : List UInt8 := [21, 4, 42, 180, 0, 19, 182, 0, 75, 162, 0, 58, 42, 180, 0, 19, 21, 4, 182, 0, 82, 154, 0, 40]
abbrev dktX8_goes_1 : List UInt8 := dkwX8_goes_1 ++ dktX8_goes_2
def dkwX8_goes_0 : List UInt8 := [42, 180, 0, 15, 27, 47, 9, 148, 158, 0, 10, 42, 180, 0, 15, 27, 47, 173, 9, 65, 3, 54, 4]
abbrev dktX8_goes_0 : List UInt8 := dkwX8_goes_0 ++ dktX8_goes_1
theorem dksX8_goes_0 : cX8_goes.data.toList.drop 0 = dktX8_goes_0 := by decide +kernel
theorem dksX8_goes_1 : cX8_goes.data.toList.drop 23 = dktX8_goes_1 := dk_seg dksX8_goes_0 23 rfl rfl
theorem dksX8_goes_2 : cX8_goes.data.toList.drop 47 = dktX8_goes_2 := dk_seg dksX8_goes_1 24 rfl rfl
theorem dksX8_goes_3 : cX8_goes.data.toList.drop 71 = dktX8_goes_3 := dk_seg dksX8_goes_2 24 rfl rfl
theorem dksX8_goes_4 : cX8_goes.data.toList.drop 95 = dktX8_goes_4 := dk_seg dksX8_goes_3 24 rfl rfl
theorem dX8_goes_0 : decode cX8_goes 0 = .ok (.aload_n 0, 1) := dk_42 (dk_at dksX8_goes_0 0 rfl rfl)
theorem dX8_goes_1 : decode cX8_goes 1 = .ok (.getfield 15, 3) := dk_180 0 15 (dk_at dksX8_goes_0 1 rfl rfl)
theorem dX8_goes_4 : decode cX8_goes 4 = .ok (.iload_n 1, 1) := dk_27 (dk_at dksX8_goes_0 4 rfl rfl)
theorem dX8_goes_5 : decode cX8_goes 5 = .ok (.laload, 1) := dk_47 (dk_at dksX8_goes_0 5 rfl rfl)
theorem dX8_goes_6 : decode cX8_goes 6 = .ok (.lconst 0, 1) := dk_9 (dk_at dksX8_goes_0 6 rfl rfl)
theorem dX8_goes_7 : decode cX8_goes 7 = .ok (.lcmp, 1) := dk_148 (dk_at dksX8_goes_0 7 rfl rfl)
theorem dX8_goes_8 : decode cX8_goes 8 = .ok (.ifCond .le 10, 3) := dk_158 0 10 (dk_at dksX8_goes_0 8 rfl rfl)
theorem dX8_goes_11 : decode cX8_goes 11 = .ok (.aload_n 0, 1) := dk_42 (dk_at dksX8_goes_0 11 rfl rfl)
theorem dX8_goes_12 : decode cX8_goes 12 = .ok (.getfield 15, 3) := dk_180 0 15 (dk_at dksX8_goes_0 12 rfl rfl)
theorem dX8_goes_15 : decode cX8_goes 15 = .ok (.iload_n 1, 1) := dk_27 (dk_at dksX8_goes_0 15 rfl rfl)
theorem dX8_goes_16 : decode cX8_goes 16 = .ok (.laload, 1) := dk_47 (dk_at dksX8_goes_0 16 rfl rfl)
theorem dX8_goes_17 : decode cX8_goes 17 = .ok (.lreturn, 1) := dk_173 (dk_at dksX8_goes_0 17 rfl rfl)
theorem dX8_goes_18 : decode cX8_goes 18 = .ok (.lconst 0, 1) := dk_9 (dk_at dksX8_goes_0 18 rfl rfl)
theorem dX8_goes_19 : decode cX8_goes 19 = .ok (.lstore_n 2, 1) := dk_65 (dk_at dksX8_goes_0 19 rfl rfl)
theorem dX8_goes_20 : decode cX8_goes 20 = .ok (.iconst 0, 1) := dk_3 (dk_at dksX8_goes_0 20 rfl rfl)
theorem dX8_goes_21 : decode cX8_goes 21 = .ok (.istore 4, 2) := dk_54 4 (dk_at dksX8_goes_0 21 rfl rfl)
theorem dX8_goes_23 : decode cX8_goes 23 = .ok (.iload 4, 2) := dk_21 4 (dk_at dksX8_goes_1 0 rfl rfl)
theorem dX8_goes_25 : decode cX8_goes 25 = .ok (.aload_n 0, 1) := dk_42 (dk_at dksX8_goes_1 2 rfl rfl)
theorem dX8_goes_26 : decode cX8_goes 26 = .ok (.getfield 19, 3) := dk_180 0 19 (dk_at dksX8_goes_1 3 rfl rfl)
theorem dX8_goes_29 : decode cX8_goes 29 = .ok (.invokevirtual 75, 3) := dk_182 0 75 (dk_at dksX8_goes_1 6 rfl rfl)
theorem dX8_goes_32 : decode cX8_goes 32 = .ok (.if_icmp .ge 58, 3) := dk_162 0 58 (dk_at dksX8_goes_1 9 rfl rfl)
theorem dX8_goes_35 : decode cX8_goes 35 = .ok (.aload_n 0, 1) := dk_42 (dk_at dksX8_goes_1 12 rfl rfl)
theorem dX8_goes_36 : decode cX8_goes 36 = .ok (.getfield 19, 3) := dk_180 0 19 (dk_at dksX8_goes_1 13 rfl rfl)
theorem dX8_goes_39 : decode cX8_goes 39 = .ok (.iload 4, 2) := dk_21 4 (dk_at dksX8_goes_1 16 rfl rfl)
theorem dX8_goes_41 : decode cX8_goes 41 = .ok (.invokevirtual 82, 3) := dk_182 0 82 (dk_at dksX8_goes_1 18 rfl rfl)
theorem dX8_goes_44 : decode cX8_goes 44 = .ok (.ifCond .ne 40, 3) := dk_154 0 40 (dk_at dksX8_goes_1 21 rfl rfl)
theorem dX8_goes_47 : decode cX8_goes 47 = .ok (.aload_n 0, 1) := dk_42 (dk_at dksX8_goes_2 0 rfl rfl)
theorem dX8_goes_48 : decode cX8_goes 48 = .ok (.getfield 23, 3) := dk_180 0 23 (dk_at dksX8_goes_2 1 rfl rfl)
theorem dX8_goes_51 : decode cX8_goes 51 = .ok (.iload_n 1, 1) := dk_27 (dk_at dksX8_goes_2 4 rfl rfl)
theorem dX8_goes_52 : decode cX8_goes 52 = .ok (.iconst 1, 1) := dk_4 (dk_at dksX8_goes_2 5 rfl rfl)
theorem dX8_goes_53 : decode cX8_goes 53 = .ok (.iload 4, 2) := dk_21 4 (dk_at dksX8_goes_2 6 rfl rfl)
theorem dX8_goes_55 : decode cX8_goes 55 = .ok (.ishl, 1) := dk_120 (dk_at dksX8_goes_2 8 rfl rfl)
theorem dX8_goes_56 : decode cX8_goes 56 = .ok (.ixor, 1) := dk_130 (dk_at dksX8_goes_2 9 rfl rfl)
theorem dX8_goes_57 : decode cX8_goes 57 = .ok (.invokevirtual 33, 3) := dk_182 0 33 (dk_at dksX8_goes_2 10 rfl rfl)
theorem dX8_goes_60 : decode cX8_goes 60 = .ok (.aload_n 0, 1) := dk_42 (dk_at dksX8_goes_2 13 rfl rfl)
theorem dX8_goes_61 : decode cX8_goes 61 = .ok (.getfield 23, 3) := dk_180 0 23 (dk_at dksX8_goes_2 14 rfl rfl)
theorem dX8_goes_64 : decode cX8_goes 64 = .ok (.iload_n 1, 1) := dk_27 (dk_at dksX8_goes_2 17 rfl rfl)
theorem dX8_goes_65 : decode cX8_goes 65 = .ok (.invokevirtual 33, 3) := dk_182 0 33 (dk_at dksX8_goes_2 18 rfl rfl)
theorem dX8_goes_68 : decode cX8_goes 68 = .ok (.if_icmp .ge 16, 3) := dk_162 0 16 (dk_at dksX8_goes_2 21 rfl rfl)
theorem dX8_goes_71 : decode cX8_goes 71 = .ok (.lload_n 2, 1) := dk_32 (dk_at dksX8_goes_3 0 rfl rfl)
theorem dX8_goes_72 : decode cX8_goes 72 = .ok (.aload_n 0, 1) := dk_42 (dk_at dksX8_goes_3 1 rfl rfl)
theorem dX8_goes_73 : decode cX8_goes 73 = .ok (.iload_n 1, 1) := dk_27 (dk_at dksX8_goes_3 2 rfl rfl)
theorem dX8_goes_74 : decode cX8_goes 74 = .ok (.iconst 1, 1) := dk_4 (dk_at dksX8_goes_3 3 rfl rfl)
theorem dX8_goes_75 : decode cX8_goes 75 = .ok (.iload 4, 2) := dk_21 4 (dk_at dksX8_goes_3 4 rfl rfl)
theorem dX8_goes_77 : decode cX8_goes 77 = .ok (.ishl, 1) := dk_120 (dk_at dksX8_goes_3 6 rfl rfl)
theorem dX8_goes_78 : decode cX8_goes 78 = .ok (.ixor, 1) := dk_130 (dk_at dksX8_goes_3 7 rfl rfl)
theorem dX8_goes_79 : decode cX8_goes 79 = .ok (.invokevirtual 78, 3) := dk_182 0 78 (dk_at dksX8_goes_3 8 rfl rfl)
theorem dX8_goes_82 : decode cX8_goes 82 = .ok (.ladd, 1) := dk_97 (dk_at dksX8_goes_3 11 rfl rfl)
theorem dX8_goes_83 : decode cX8_goes 83 = .ok (.lstore_n 2, 1) := dk_65 (dk_at dksX8_goes_3 12 rfl rfl)
theorem dX8_goes_84 : decode cX8_goes 84 = .ok (.iinc 4 1, 3) := dk_132 4 1 (dk_at dksX8_goes_3 13 rfl rfl)
theorem dX8_goes_87 : decode cX8_goes 87 = .ok (.goto (-64), 3) := dk_167 255 192 (dk_at dksX8_goes_3 16 rfl rfl)
theorem dX8_goes_90 : decode cX8_goes 90 = .ok (.aload_n 0, 1) := dk_42 (dk_at dksX8_goes_3 19 rfl rfl)
theorem dX8_goes_91 : decode cX8_goes 91 = .ok (.getfield 15, 3) := dk_180 0 15 (dk_at dksX8_goes_3 20 rfl rfl)
theorem dX8_goes_94 : decode cX8_goes 94 = .ok (.iload_n 1, 1) := dk_27 (dk_at dksX8_goes_3 23 rfl rfl)
theorem dX8_goes_95 : decode cX8_goes 95 = .ok (.lconst 1, 1) := dk_10 (dk_at dksX8_goes_4 0 rfl rfl)
theorem dX8_goes_96 : decode cX8_goes 96 = .ok (.lload_n 2, 1) := dk_32 (dk_at dksX8_goes_4 1 rfl rfl)
theorem dX8_goes_97 : decode cX8_goes 97 = .ok (.invokestatic 85, 3) := dk_184 0 85 (dk_at dksX8_goes_4 2 rfl rfl)
theorem dX8_goes_100 : decode cX8_goes 100 = .ok (.lastore, 1) := dk_80 (dk_at dksX8_goes_4 5 rfl rfl)
theorem dX8_goes_101 : decode cX8_goes 101 = .ok (.aload_n 0, 1) := dk_42 (dk_at dksX8_goes_4 6 rfl rfl)
theorem dX8_goes_102 : decode cX8_goes 102 = .ok (.getfield 15, 3) := dk_180 0 15 (dk_at dksX8_goes_4 7 rfl rfl)
theorem dX8_goes_105 : decode cX8_goes 105 = .ok (.iload_n 1, 1) := dk_27 (dk_at dksX8_goes_4 10 rfl rfl)
theorem dX8_goes_106 : decode cX8_goes 106 = .ok (.laload, 1) := dk_47 (dk_at dksX8_goes_4 11 rfl rfl)
theorem dX8_goes_107 : decode cX8_goes 107 = .ok (.lreturn, 1) := dk_173 (dk_at dksX8_goes_4 12 rfl rfl)
theorem q121 : (Jvm.Cond.initialized "SpinStrip$Lakes") ∈ lw_all := lw_g (lw_at lw_m1 14 rfl) rfl
theorem q482 : (Jvm.Cond.instantiable "SpinStrip$Lakes" (4 : Nat)) ∈ lw_all := lw_g (lw_at lw_m2 135 rfl) rfl
theorem q484 : (Jvm.Cond.instanceMethod ({ cls := "SpinStrip$Lakes", name := "<init>", desc := "(LSpinStrip$Strip;LSpinStrip$Energies;)V" } : Jvm.MethodName)) ∈ lw_all := lw_g (lw_at lw_m2 137 rfl) rfl
theorem q485 : (Jvm.Cond.code ({ cls := "SpinStrip$Lakes", name := "<init>", desc := "(LSpinStrip$Strip;LSpinStrip$Energies;)V" } : Jvm.MethodName) prog_6_method_1_code (3 : Nat) (Option.none : Option Jvm.ClassFile.FieldType)) ∈ lw_all := lw_g (lw_at lw_m2 138 rfl) rfl
theorem q486 : (Jvm.Cond.methodLink "SpinStrip$Lakes" (3 : Nat) ({ cls := "java/lang/Object", name := "<init>", desc := "()V" } : Jvm.MethodName)) ∈ lw_all := lw_g (lw_at lw_m2 139 rfl) rfl
theorem q487 : (Jvm.Cond.fieldLink "SpinStrip$Lakes" (19 : Nat) "SpinStrip$Lakes" "s" "LSpinStrip$Strip;") ∈ lw_all := lw_g (lw_at lw_m2 140 rfl) rfl
theorem q488 : (Jvm.Cond.fieldLink "SpinStrip$Lakes" (23 : Nat) "SpinStrip$Lakes" "e" "LSpinStrip$Energies;") ∈ lw_all := lw_g (lw_at lw_m2 141 rfl) rfl
theorem q489 : (Jvm.Cond.fieldLink "SpinStrip$Lakes" (9 : Nat) "SpinStrip$Lakes" "met" "[Z") ∈ lw_all := lw_g (lw_at lw_m2 142 rfl) rfl
theorem q490 : (Jvm.Cond.fieldLink "SpinStrip$Lakes" (15 : Nat) "SpinStrip$Lakes" "ways" "[J") ∈ lw_all := lw_g (lw_at lw_m2 143 rfl) rfl
theorem q491 : (Jvm.Cond.laysFinal "SpinStrip$Lakes" "SpinStrip$Lakes" "s" "LSpinStrip$Strip;") ∈ lw_all := lw_g (lw_at lw_m2 144 rfl) rfl
theorem q492 : (Jvm.Cond.soleField "SpinStrip$Lakes" "s") ∈ lw_all := lw_g (lw_at lw_m2 145 rfl) rfl
theorem q493 : (Jvm.Cond.laysFinal "SpinStrip$Lakes" "SpinStrip$Lakes" "e" "LSpinStrip$Energies;") ∈ lw_all := lw_g (lw_at lw_m2 146 rfl) rfl
theorem q494 : (Jvm.Cond.soleField "SpinStrip$Lakes" "e") ∈ lw_all := lw_g (lw_at lw_m2 147 rfl) rfl
theorem q495 : (Jvm.Cond.laysFinal "SpinStrip$Lakes" "SpinStrip$Lakes" "met" "[Z") ∈ lw_all := lw_g (lw_at lw_m2 148 rfl) rfl
theorem q496 : (Jvm.Cond.soleField "SpinStrip$Lakes" "met") ∈ lw_all := lw_g (lw_at lw_m2 149 rfl) rfl
theorem q497 : (Jvm.Cond.laysFinal "SpinStrip$Lakes" "SpinStrip$Lakes" "ways" "[J") ∈ lw_all := lw_g (lw_at lw_m2 150 rfl) rfl
theorem q498 : (Jvm.Cond.soleField "SpinStrip$Lakes" "ways") ∈ lw_all := lw_g (lw_at lw_m2 151 rfl) rfl
theorem q499 : (Jvm.Cond.superclass "SpinStrip$Lakes" "java/lang/Object") ∈ lw_all := lw_g (lw_at lw_m2 152 rfl) rfl
theorem q877 : (Jvm.Cond.selects "SpinStrip$Lakes" ({ cls := "java/lang/Object", name := "getClass", desc := "()Ljava/lang/Class;" } : Jvm.MethodName) ({ cls := "java/lang/Object", name := "getClass", desc := "()Ljava/lang/Class;" } : Jvm.MethodName)) ∈ lw_all := lw_g (lw_at lw_m4 50 rfl) rfl
theorem q1762 : (Jvm.Cond.instanceMethod ({ cls := "SpinStrip$Lakes", name := "many", desc := "(I)I" } : Jvm.MethodName)) ∈ lw_all := lw_g (lw_at lw_m7 215 rfl) rfl
theorem q1763 : (Jvm.Cond.selects "SpinStrip$Lakes" ({ cls := "SpinStrip$Lakes", name := "many", desc := "(I)I" } : Jvm.MethodName) ({ cls := "SpinStrip$Lakes", name := "many", desc := "(I)I" } : Jvm.MethodName)) ∈ lw_all := lw_g (lw_at lw_m7 216 rfl) rfl
theorem q1764 : (Jvm.Cond.code ({ cls := "SpinStrip$Lakes", name := "many", desc := "(I)I" } : Jvm.MethodName) prog_6_method_3_code (4 : Nat) (Option.some Jvm.ClassFile.FieldType.int)) ∈ lw_all := lw_g (lw_at lw_m7 217 rfl) rfl
theorem q1765 : (Jvm.Cond.methodLink "SpinStrip$Lakes" (39 : Nat) ({ cls := "SpinStrip$Strip", name := "states", desc := "()I" } : Jvm.MethodName)) ∈ lw_all := lw_g (lw_at lw_m7 218 rfl) rfl
theorem q1766 : (Jvm.Cond.methodLink "SpinStrip$Lakes" (43 : Nat) ({ cls := "SpinStrip$Lakes", name := "isIn", desc := "(II)Z" } : Jvm.MethodName)) ∈ lw_all := lw_g (lw_at lw_m7 219 rfl) rfl
theorem q1767 : (Jvm.Cond.privateMethod ({ cls := "SpinStrip$Lakes", name := "isIn", desc := "(II)Z" } : Jvm.MethodName)) ∈ lw_tbl := lw_at lw_m7 220 rfl
theorem q1768 : (Jvm.Cond.instanceMethod ({ cls := "SpinStrip$Lakes", name := "isIn", desc := "(II)Z" } : Jvm.MethodName)) ∈ lw_all := lw_g (lw_at lw_m7 221 rfl) rfl
theorem q1769 : (Jvm.Cond.code ({ cls := "SpinStrip$Lakes", name := "isIn", desc := "(II)Z" } : Jvm.MethodName) prog_6_method_2_code (3 : Nat) (Option.some Jvm.ClassFile.FieldType.boolean)) ∈ lw_all := lw_g (lw_at lw_m7 222 rfl) rfl
theorem q1770 : (Jvm.Cond.methodLink "SpinStrip$Lakes" (27 : Nat) ({ cls := "SpinStrip$Strip", name := "isLawful", desc := "(I)Z" } : Jvm.MethodName)) ∈ lw_all := lw_g (lw_at lw_m7 223 rfl) rfl
theorem q1771 : (Jvm.Cond.methodLink "SpinStrip$Lakes" (33 : Nat) ({ cls := "SpinStrip$Energies", name := "of", desc := "(I)I" } : Jvm.MethodName)) ∈ lw_all := lw_g (lw_at lw_m7 224 rfl) rfl
theorem q1772 : (Jvm.Cond.methodLink "SpinStrip$Lakes" (47 : Nat) ({ cls := "SpinStrip$Lakes", name := "fills", desc := "(I)V" } : Jvm.MethodName)) ∈ lw_all := lw_g (lw_at lw_m7 225 rfl) rfl
theorem q1773 : (Jvm.Cond.privateMethod ({ cls := "SpinStrip$Lakes", name := "fills", desc := "(I)V" } : Jvm.MethodName)) ∈ lw_tbl := lw_at lw_m7 226 rfl
theorem q1774 : (Jvm.Cond.instanceMethod ({ cls := "SpinStrip$Lakes", name := "fills", desc := "(I)V" } : Jvm.MethodName)) ∈ lw_all := lw_g (lw_at lw_m7 227 rfl) rfl
theorem q1775 : (Jvm.Cond.code ({ cls := "SpinStrip$Lakes", name := "fills", desc := "(I)V" } : Jvm.MethodName) prog_6_method_4_code (6 : Nat) (Option.none : Option Jvm.ClassFile.FieldType)) ∈ lw_all := lw_g (lw_at lw_m7 228 rfl) rfl
theorem q1776 : (Jvm.Cond.classLink "SpinStrip$Lakes" (51 : Nat) "java/util/ArrayDeque") ∈ lw_all := lw_g (lw_at lw_m7 229 rfl) rfl
theorem q1777 : (Jvm.Cond.methodLink "SpinStrip$Lakes" (53 : Nat) ({ cls := "java/util/ArrayDeque", name := "<init>", desc := "()V" } : Jvm.MethodName)) ∈ lw_all := lw_g (lw_at lw_m7 230 rfl) rfl
theorem q1778 : (Jvm.Cond.methodLink "SpinStrip$Lakes" (54 : Nat) ({ cls := "java/lang/Integer", name := "valueOf", desc := "(I)Ljava/lang/Integer;" } : Jvm.MethodName)) ∈ lw_all := lw_g (lw_at lw_m7 231 rfl) rfl
theorem q1779 : (Jvm.Cond.methodLink "SpinStrip$Lakes" (60 : Nat) ({ cls := "java/util/ArrayDeque", name := "addLast", desc := "(Ljava/lang/Object;)V" } : Jvm.MethodName)) ∈ lw_all := lw_g (lw_at lw_m7 232 rfl) rfl
theorem q1780 : (Jvm.Cond.methodLink "SpinStrip$Lakes" (64 : Nat) ({ cls := "java/util/ArrayDeque", name := "isEmpty", desc := "()Z" } : Jvm.MethodName)) ∈ lw_all := lw_g (lw_at lw_m7 233 rfl) rfl
theorem q1781 : (Jvm.Cond.methodLink "SpinStrip$Lakes" (68 : Nat) ({ cls := "java/util/ArrayDeque", name := "pollFirst", desc := "()Ljava/lang/Object;" } : Jvm.MethodName)) ∈ lw_all := lw_g (lw_at lw_m7 234 rfl) rfl
theorem q1782 : (Jvm.Cond.classLink "SpinStrip$Lakes" (55 : Nat) "java/lang/Integer") ∈ lw_all := lw_g (lw_at lw_m7 235 rfl) rfl
theorem q1783 : (Jvm.Cond.methodLink "SpinStrip$Lakes" (72 : Nat) ({ cls := "java/lang/Integer", name := "intValue", desc := "()I" } : Jvm.MethodName)) ∈ lw_all := lw_g (lw_at lw_m7 236 rfl) rfl
theorem q1784 : (Jvm.Cond.methodLink "SpinStrip$Lakes" (75 : Nat) ({ cls := "SpinStrip$Strip", name := "sites", desc := "()I" } : Jvm.MethodName)) ∈ lw_all := lw_g (lw_at lw_m7 237 rfl) rfl
theorem q1790 : (Jvm.Cond.instanceMethod ({ cls := "SpinStrip$Lakes", name := "down", desc := "(I)J" } : Jvm.MethodName)) ∈ lw_all := lw_g (lw_at lw_m8 3 rfl) rfl
theorem q1791 : (Jvm.Cond.selects "SpinStrip$Lakes" ({ cls := "SpinStrip$Lakes", name := "down", desc := "(I)J" } : Jvm.MethodName) ({ cls := "SpinStrip$Lakes", name := "down", desc := "(I)J" } : Jvm.MethodName)) ∈ lw_all := lw_g (lw_at lw_m8 4 rfl) rfl
theorem q1792 : (Jvm.Cond.code ({ cls := "SpinStrip$Lakes", name := "down", desc := "(I)J" } : Jvm.MethodName) prog_6_method_5_code (3 : Nat) (Option.some Jvm.ClassFile.FieldType.long)) ∈ lw_all := lw_g (lw_at lw_m8 5 rfl) rfl
theorem q1793 : (Jvm.Cond.methodLink "SpinStrip$Lakes" (78 : Nat) ({ cls := "SpinStrip$Lakes", name := "goes", desc := "(I)J" } : Jvm.MethodName)) ∈ lw_all := lw_g (lw_at lw_m8 6 rfl) rfl
theorem q1794 : (Jvm.Cond.privateMethod ({ cls := "SpinStrip$Lakes", name := "goes", desc := "(I)J" } : Jvm.MethodName)) ∈ lw_tbl := lw_at lw_m8 7 rfl
theorem q1795 : (Jvm.Cond.instanceMethod ({ cls := "SpinStrip$Lakes", name := "goes", desc := "(I)J" } : Jvm.MethodName)) ∈ lw_all := lw_g (lw_at lw_m8 8 rfl) rfl
theorem q1796 : (Jvm.Cond.code ({ cls := "SpinStrip$Lakes", name := "goes", desc := "(I)J" } : Jvm.MethodName) prog_6_method_6_code (5 : Nat) (Option.some Jvm.ClassFile.FieldType.long)) ∈ lw_all := lw_g (lw_at lw_m8 9 rfl) rfl
theorem q1797 : (Jvm.Cond.methodLink "SpinStrip$Lakes" (82 : Nat) ({ cls := "SpinStrip$Strip", name := "isPinned", desc := "(I)Z" } : Jvm.MethodName)) ∈ lw_all := lw_g (lw_at lw_m8 10 rfl) rfl
theorem q1798 : (Jvm.Cond.methodLink "SpinStrip$Lakes" (85 : Nat) ({ cls := "java/lang/Math", name := "max", desc := "(JJ)J" } : Jvm.MethodName)) ∈ lw_all := lw_g (lw_at lw_m8 11 rfl) rfl
theorem q2398 : (Jvm.Cond.castable "SpinStrip$Lakes" "java/lang/Object") ∈ lw_tbl := lw_at lw_m10 131 rfl
theorem in_X8 : ∀ w ∈ wsX80, w ∈ lw_all := lw_in wsX80 [491, 493, 495, 497] (by decide +kernel) (by decide +kernel)
/-! SpinStrip$Level -/
set_option maxRecDepth 100000
def RX10 : String := "SpinStrip$Level"
def TX10 : u_T := fun k => match k with
  | 0 => ("SpinStrip$Level", "energy", "I", true)
  | 1 => ("SpinStrip$Level", "first", "I", true)
  | 2 => ("SpinStrip$Level", "many", "I", false)
  | 3 => ("SpinStrip$Level", "fewest", "I", false)
  | _ => ("SpinStrip$Level", "most", "I", false)
def tyX10 : Nat → FieldType := fun k => match k with
  | 0 => .int
  | 1 => .int
  | 2 => .int
  | 3 => .int
  | _ => .int
abbrev wsX100 : List Cond := u_ws RX10 TX10 5
theorem nmX10 : ∀ a, a < 5 → ∀ b, b < 5 → a ≠ b → (TX10 a).2.1 ≠ (TX10 b).2.1 := by decide +kernel
theorem tyX10_ok : ∀ k, k < 5 → parseFieldDescriptor (TX10 k).2.2.1 = some (tyX10 k) := by decide +kernel
abbrev cX10_init : ByteArray := prog_7_method_1_code
def yX10_init : MethodName := ⟨RX10, "<init>", "(II)V"⟩
def dkwX10_init_0 : List UInt8 := [42, 183, 0, 3, 42, 27, 181, 0, 9, 42, 28, 181, 0, 15, 42, 16, 16, 181, 0, 18, 177]
abbrev dktX10_init_0 : List UInt8 := dkwX10_init_0 ++ []
theorem dksX10_init_0 : cX10_init.data.toList.drop 0 = dktX10_init_0 := by decide +kernel
theorem dX10_init_0 : decode cX10_init 0 = .ok (.aload_n 0, 1) := dk_42 (dk_at dksX10_init_0 0 rfl rfl)
theorem dX10_init_1 : decode cX10_init 1 = .ok (.invokespecial 3, 3) := dk_183 0 3 (dk_at dksX10_init_0 1 rfl rfl)
theorem dX10_init_4 : decode cX10_init 4 = .ok (.aload_n 0, 1) := dk_42 (dk_at dksX10_init_0 4 rfl rfl)
theorem dX10_init_5 : decode cX10_init 5 = .ok (.iload_n 1, 1) := dk_27 (dk_at dksX10_init_0 5 rfl rfl)
theorem dX10_init_6 : decode cX10_init 6 = .ok (.putfield 9, 3) := dk_181 0 9 (dk_at dksX10_init_0 6 rfl rfl)
theorem dX10_init_9 : decode cX10_init 9 = .ok (.aload_n 0, 1) := dk_42 (dk_at dksX10_init_0 9 rfl rfl)
theorem dX10_init_10 : decode cX10_init 10 = .ok (.iload_n 2, 1) := dk_28 (dk_at dksX10_init_0 10 rfl rfl)
theorem dX10_init_11 : decode cX10_init 11 = .ok (.putfield 15, 3) := dk_181 0 15 (dk_at dksX10_init_0 11 rfl rfl)
theorem dX10_init_14 : decode cX10_init 14 = .ok (.aload_n 0, 1) := dk_42 (dk_at dksX10_init_0 14 rfl rfl)
theorem dX10_init_15 : decode cX10_init 15 = .ok (.bipush 16, 2) := dk_16 16 (dk_at dksX10_init_0 15 rfl rfl)
theorem dX10_init_17 : decode cX10_init 17 = .ok (.putfield 18, 3) := dk_181 0 18 (dk_at dksX10_init_0 17 rfl rfl)
theorem dX10_init_20 : decode cX10_init 20 = .ok (.return_, 1) := dk_177 (dk_at dksX10_init_0 20 rfl rfl)
abbrev cX10_adds : ByteArray := prog_7_method_2_code
def yX10_adds : MethodName := ⟨RX10, "adds", "(I)V"⟩
def dkwX10_adds_1 : List UInt8 := [180, 0, 30, 27, 184, 0, 33, 181, 0, 30, 177]
abbrev dktX10_adds_1 : List UInt8 := dkwX10_adds_1 ++ []
def dkwX10_adds_0 : List UInt8 := [42, 89, 180, 0, 21, 4, 96, 181, 0, 21, 42, 42, 180, 0, 18, 27, 184, 0, 24, 181, 0, 18, 42, 42]
abbrev dktX10_adds_0 : List UInt8 := dkwX10_adds_0 ++ dktX10_adds_1
theorem dksX10_adds_0 : cX10_adds.data.toList.drop 0 = dktX10_adds_0 := by decide +kernel
theorem dksX10_adds_1 : cX10_adds.data.toList.drop 24 = dktX10_adds_1 := dk_seg dksX10_adds_0 24 rfl rfl
theorem dX10_adds_0 : decode cX10_adds 0 = .ok (.aload_n 0, 1) := dk_42 (dk_at dksX10_adds_0 0 rfl rfl)
theorem dX10_adds_1 : decode cX10_adds 1 = .ok (.dup, 1) := dk_89 (dk_at dksX10_adds_0 1 rfl rfl)
theorem dX10_adds_2 : decode cX10_adds 2 = .ok (.getfield 21, 3) := dk_180 0 21 (dk_at dksX10_adds_0 2 rfl rfl)
theorem dX10_adds_5 : decode cX10_adds 5 = .ok (.iconst 1, 1) := dk_4 (dk_at dksX10_adds_0 5 rfl rfl)
theorem dX10_adds_6 : decode cX10_adds 6 = .ok (.iadd, 1) := dk_96 (dk_at dksX10_adds_0 6 rfl rfl)
theorem dX10_adds_7 : decode cX10_adds 7 = .ok (.putfield 21, 3) := dk_181 0 21 (dk_at dksX10_adds_0 7 rfl rfl)
theorem dX10_adds_10 : decode cX10_adds 10 = .ok (.aload_n 0, 1) := dk_42 (dk_at dksX10_adds_0 10 rfl rfl)
theorem dX10_adds_11 : decode cX10_adds 11 = .ok (.aload_n 0, 1) := dk_42 (dk_at dksX10_adds_0 11 rfl rfl)
theorem dX10_adds_12 : decode cX10_adds 12 = .ok (.getfield 18, 3) := dk_180 0 18 (dk_at dksX10_adds_0 12 rfl rfl)
theorem dX10_adds_15 : decode cX10_adds 15 = .ok (.iload_n 1, 1) := dk_27 (dk_at dksX10_adds_0 15 rfl rfl)
theorem dX10_adds_16 : decode cX10_adds 16 = .ok (.invokestatic 24, 3) := dk_184 0 24 (dk_at dksX10_adds_0 16 rfl rfl)
theorem dX10_adds_19 : decode cX10_adds 19 = .ok (.putfield 18, 3) := dk_181 0 18 (dk_at dksX10_adds_0 19 rfl rfl)
theorem dX10_adds_22 : decode cX10_adds 22 = .ok (.aload_n 0, 1) := dk_42 (dk_at dksX10_adds_0 22 rfl rfl)
theorem dX10_adds_23 : decode cX10_adds 23 = .ok (.aload_n 0, 1) := dk_42 (dk_at dksX10_adds_0 23 rfl rfl)
theorem dX10_adds_24 : decode cX10_adds 24 = .ok (.getfield 30, 3) := dk_180 0 30 (dk_at dksX10_adds_1 0 rfl rfl)
theorem dX10_adds_27 : decode cX10_adds 27 = .ok (.iload_n 1, 1) := dk_27 (dk_at dksX10_adds_1 3 rfl rfl)
theorem dX10_adds_28 : decode cX10_adds 28 = .ok (.invokestatic 33, 3) := dk_184 0 33 (dk_at dksX10_adds_1 4 rfl rfl)
theorem dX10_adds_31 : decode cX10_adds 31 = .ok (.putfield 30, 3) := dk_181 0 30 (dk_at dksX10_adds_1 7 rfl rfl)
theorem dX10_adds_34 : decode cX10_adds 34 = .ok (.return_, 1) := dk_177 (dk_at dksX10_adds_1 10 rfl rfl)
abbrev cX10_told : ByteArray := prog_7_method_3_code
def yX10_told : MethodName := ⟨RX10, "told", "(I)I"⟩
def dkwX10_told_2 : List UInt8 := [180, 0, 30, 172]
abbrev dktX10_told_2 : List UInt8 := dkwX10_told_2 ++ []
def dkwX10_told_1 : List UInt8 := [5, 160, 0, 10, 42, 180, 0, 15, 167, 0, 19, 27, 6, 160, 0, 10, 42, 180, 0, 18, 167, 0, 7, 42]
abbrev dktX10_told_1 : List UInt8 := dkwX10_told_1 ++ dktX10_told_2
def dkwX10_told_0 : List UInt8 := [27, 154, 0, 10, 42, 180, 0, 9, 167, 0, 43, 27, 4, 160, 0, 10, 42, 180, 0, 21, 167, 0, 31, 27]
abbrev dktX10_told_0 : List UInt8 := dkwX10_told_0 ++ dktX10_told_1
theorem dksX10_told_0 : cX10_told.data.toList.drop 0 = dktX10_told_0 := by decide +kernel
theorem dksX10_told_1 : cX10_told.data.toList.drop 24 = dktX10_told_1 := dk_seg dksX10_told_0 24 rfl rfl
theorem dksX10_told_2 : cX10_told.data.toList.drop 48 = dktX10_told_2 := dk_seg dksX10_told_1 24 rfl rfl
theorem dX10_told_0 : decode cX10_told 0 = .ok (.iload_n 1, 1) := dk_27 (dk_at dksX10_told_0 0 rfl rfl)
theorem dX10_told_1 : decode cX10_told 1 = .ok (.ifCond .ne 10, 3) := dk_154 0 10 (dk_at dksX10_told_0 1 rfl rfl)
theorem dX10_told_4 : decode cX10_told 4 = .ok (.aload_n 0, 1) := dk_42 (dk_at dksX10_told_0 4 rfl rfl)
theorem dX10_told_5 : decode cX10_told 5 = .ok (.getfield 9, 3) := dk_180 0 9 (dk_at dksX10_told_0 5 rfl rfl)
theorem dX10_told_8 : decode cX10_told 8 = .ok (.goto 43, 3) := dk_167 0 43 (dk_at dksX10_told_0 8 rfl rfl)
theorem dX10_told_11 : decode cX10_told 11 = .ok (.iload_n 1, 1) := dk_27 (dk_at dksX10_told_0 11 rfl rfl)
theorem dX10_told_12 : decode cX10_told 12 = .ok (.iconst 1, 1) := dk_4 (dk_at dksX10_told_0 12 rfl rfl)
theorem dX10_told_13 : decode cX10_told 13 = .ok (.if_icmp .ne 10, 3) := dk_160 0 10 (dk_at dksX10_told_0 13 rfl rfl)
theorem dX10_told_16 : decode cX10_told 16 = .ok (.aload_n 0, 1) := dk_42 (dk_at dksX10_told_0 16 rfl rfl)
theorem dX10_told_17 : decode cX10_told 17 = .ok (.getfield 21, 3) := dk_180 0 21 (dk_at dksX10_told_0 17 rfl rfl)
theorem dX10_told_20 : decode cX10_told 20 = .ok (.goto 31, 3) := dk_167 0 31 (dk_at dksX10_told_0 20 rfl rfl)
theorem dX10_told_23 : decode cX10_told 23 = .ok (.iload_n 1, 1) := dk_27 (dk_at dksX10_told_0 23 rfl rfl)
theorem dX10_told_24 : decode cX10_told 24 = .ok (.iconst 2, 1) := dk_5 (dk_at dksX10_told_1 0 rfl rfl)
theorem dX10_told_25 : decode cX10_told 25 = .ok (.if_icmp .ne 10, 3) := dk_160 0 10 (dk_at dksX10_told_1 1 rfl rfl)
theorem dX10_told_28 : decode cX10_told 28 = .ok (.aload_n 0, 1) := dk_42 (dk_at dksX10_told_1 4 rfl rfl)
theorem dX10_told_29 : decode cX10_told 29 = .ok (.getfield 15, 3) := dk_180 0 15 (dk_at dksX10_told_1 5 rfl rfl)
theorem dX10_told_32 : decode cX10_told 32 = .ok (.goto 19, 3) := dk_167 0 19 (dk_at dksX10_told_1 8 rfl rfl)
theorem dX10_told_35 : decode cX10_told 35 = .ok (.iload_n 1, 1) := dk_27 (dk_at dksX10_told_1 11 rfl rfl)
theorem dX10_told_36 : decode cX10_told 36 = .ok (.iconst 3, 1) := dk_6 (dk_at dksX10_told_1 12 rfl rfl)
theorem dX10_told_37 : decode cX10_told 37 = .ok (.if_icmp .ne 10, 3) := dk_160 0 10 (dk_at dksX10_told_1 13 rfl rfl)
theorem dX10_told_40 : decode cX10_told 40 = .ok (.aload_n 0, 1) := dk_42 (dk_at dksX10_told_1 16 rfl rfl)
theorem dX10_told_41 : decode cX10_told 41 = .ok (.getfield 18, 3) := dk_180 0 18 (dk_at dksX10_told_1 17 rfl rfl)
theorem dX10_told_44 : decode cX10_told 44 = .ok (.goto 7, 3) := dk_167 0 7 (dk_at dksX10_told_1 20 rfl rfl)
theorem dX10_told_47 : decode cX10_told 47 = .ok (.aload_n 0, 1) := dk_42 (dk_at dksX10_told_1 23 rfl rfl)
theorem dX10_told_48 : decode cX10_told 48 = .ok (.getfield 30, 3) := dk_180 0 30 (dk_at dksX10_told_2 0 rfl rfl)
theorem dX10_told_51 : decode cX10_told 51 = .ok (.ireturn, 1) := dk_172 (dk_at dksX10_told_2 3 rfl rfl)
theorem q134 : (Jvm.Cond.initialized "SpinStrip$Level") ∈ lw_all := lw_g (lw_at lw_m1 27 rfl) rfl
theorem q878 : (Jvm.Cond.selects "SpinStrip$Level" ({ cls := "java/lang/Object", name := "getClass", desc := "()Ljava/lang/Class;" } : Jvm.MethodName) ({ cls := "java/lang/Object", name := "getClass", desc := "()Ljava/lang/Class;" } : Jvm.MethodName)) ∈ lw_all := lw_g (lw_at lw_m4 51 rfl) rfl
theorem q997 : (Jvm.Cond.instantiable "SpinStrip$Level" (5 : Nat)) ∈ lw_all := lw_g (lw_at lw_m4 170 rfl) rfl
theorem q999 : (Jvm.Cond.instanceMethod ({ cls := "SpinStrip$Level", name := "<init>", desc := "(II)V" } : Jvm.MethodName)) ∈ lw_all := lw_g (lw_at lw_m4 172 rfl) rfl
theorem q1000 : (Jvm.Cond.code ({ cls := "SpinStrip$Level", name := "<init>", desc := "(II)V" } : Jvm.MethodName) prog_7_method_1_code (3 : Nat) (Option.none : Option Jvm.ClassFile.FieldType)) ∈ lw_all := lw_g (lw_at lw_m4 173 rfl) rfl
theorem q1001 : (Jvm.Cond.methodLink "SpinStrip$Level" (3 : Nat) ({ cls := "java/lang/Object", name := "<init>", desc := "()V" } : Jvm.MethodName)) ∈ lw_all := lw_g (lw_at lw_m4 174 rfl) rfl
theorem q1002 : (Jvm.Cond.fieldLink "SpinStrip$Level" (9 : Nat) "SpinStrip$Level" "energy" "I") ∈ lw_all := lw_g (lw_at lw_m4 175 rfl) rfl
theorem q1005 : (Jvm.Cond.fieldLink "SpinStrip$Level" (15 : Nat) "SpinStrip$Level" "first" "I") ∈ lw_all := lw_g (lw_at lw_m4 178 rfl) rfl
theorem q1006 : (Jvm.Cond.fieldLink "SpinStrip$Level" (21 : Nat) "SpinStrip$Level" "many" "I") ∈ lw_all := lw_g (lw_at lw_m4 179 rfl) rfl
theorem q1009 : (Jvm.Cond.fieldLink "SpinStrip$Level" (18 : Nat) "SpinStrip$Level" "fewest" "I") ∈ lw_all := lw_g (lw_at lw_m4 182 rfl) rfl
theorem q1010 : (Jvm.Cond.fieldLink "SpinStrip$Level" (30 : Nat) "SpinStrip$Level" "most" "I") ∈ lw_all := lw_g (lw_at lw_m4 183 rfl) rfl
theorem q1011 : (Jvm.Cond.laysFinal "SpinStrip$Level" "SpinStrip$Level" "energy" "I") ∈ lw_all := lw_g (lw_at lw_m4 184 rfl) rfl
theorem q1012 : (Jvm.Cond.soleField "SpinStrip$Level" "energy") ∈ lw_all := lw_g (lw_at lw_m4 185 rfl) rfl
theorem q1013 : (Jvm.Cond.laysFinal "SpinStrip$Level" "SpinStrip$Level" "first" "I") ∈ lw_all := lw_g (lw_at lw_m4 186 rfl) rfl
theorem q1014 : (Jvm.Cond.soleField "SpinStrip$Level" "first") ∈ lw_all := lw_g (lw_at lw_m4 187 rfl) rfl
theorem q1015 : (Jvm.Cond.lays "SpinStrip$Level" "SpinStrip$Level" "many" "I") ∈ lw_all := lw_g (lw_at lw_m4 188 rfl) rfl
theorem q1016 : (Jvm.Cond.soleField "SpinStrip$Level" "many") ∈ lw_all := lw_g (lw_at lw_m4 189 rfl) rfl
theorem q1017 : (Jvm.Cond.lays "SpinStrip$Level" "SpinStrip$Level" "fewest" "I") ∈ lw_all := lw_g (lw_at lw_m4 190 rfl) rfl
theorem q1018 : (Jvm.Cond.soleField "SpinStrip$Level" "fewest") ∈ lw_all := lw_g (lw_at lw_m4 191 rfl) rfl
theorem q1019 : (Jvm.Cond.lays "SpinStrip$Level" "SpinStrip$Level" "most" "I") ∈ lw_all := lw_g (lw_at lw_m4 192 rfl) rfl
theorem q1020 : (Jvm.Cond.soleField "SpinStrip$Level" "most") ∈ lw_all := lw_g (lw_at lw_m4 193 rfl) rfl
theorem q1021 : (Jvm.Cond.superclass "SpinStrip$Level" "java/lang/Object") ∈ lw_all := lw_g (lw_at lw_m4 194 rfl) rfl
theorem q1339 : (Jvm.Cond.instanceMethod ({ cls := "SpinStrip$Level", name := "adds", desc := "(I)V" } : Jvm.MethodName)) ∈ lw_all := lw_g (lw_at lw_m6 32 rfl) rfl
theorem q1340 : (Jvm.Cond.selects "SpinStrip$Level" ({ cls := "SpinStrip$Level", name := "adds", desc := "(I)V" } : Jvm.MethodName) ({ cls := "SpinStrip$Level", name := "adds", desc := "(I)V" } : Jvm.MethodName)) ∈ lw_all := lw_g (lw_at lw_m6 33 rfl) rfl
theorem q1341 : (Jvm.Cond.code ({ cls := "SpinStrip$Level", name := "adds", desc := "(I)V" } : Jvm.MethodName) prog_7_method_2_code (2 : Nat) (Option.none : Option Jvm.ClassFile.FieldType)) ∈ lw_all := lw_g (lw_at lw_m6 34 rfl) rfl
theorem q1342 : (Jvm.Cond.methodLink "SpinStrip$Level" (24 : Nat) ({ cls := "java/lang/Math", name := "min", desc := "(II)I" } : Jvm.MethodName)) ∈ lw_all := lw_g (lw_at lw_m6 35 rfl) rfl
theorem q1343 : (Jvm.Cond.methodLink "SpinStrip$Level" (33 : Nat) ({ cls := "java/lang/Math", name := "max", desc := "(II)I" } : Jvm.MethodName)) ∈ lw_all := lw_g (lw_at lw_m6 36 rfl) rfl
theorem q1441 : (Jvm.Cond.instanceMethod ({ cls := "SpinStrip$Level", name := "told", desc := "(I)I" } : Jvm.MethodName)) ∈ lw_all := lw_g (lw_at lw_m6 134 rfl) rfl
theorem q1442 : (Jvm.Cond.selects "SpinStrip$Level" ({ cls := "SpinStrip$Level", name := "told", desc := "(I)I" } : Jvm.MethodName) ({ cls := "SpinStrip$Level", name := "told", desc := "(I)I" } : Jvm.MethodName)) ∈ lw_all := lw_g (lw_at lw_m6 135 rfl) rfl
theorem q1443 : (Jvm.Cond.code ({ cls := "SpinStrip$Level", name := "told", desc := "(I)I" } : Jvm.MethodName) prog_7_method_3_code (2 : Nat) (Option.some Jvm.ClassFile.FieldType.int)) ∈ lw_all := lw_g (lw_at lw_m6 136 rfl) rfl
theorem q2388 : (Jvm.Cond.castable "SpinStrip$Level" "java/lang/Object") ∈ lw_tbl := lw_at lw_m10 121 rfl
theorem in_X10 : ∀ w ∈ wsX100, w ∈ lw_all := lw_in wsX100 [1011, 1013, 1015, 1017, 1019] (by decide +kernel) (by decide +kernel)
/-! SpinStrip$Spot -/
set_option maxRecDepth 100000
def RX11 : String := "SpinStrip$Spot"
def TX11 : u_T := fun k => match k with
  | 0 => ("SpinStrip$Spot", "state", "I", true)
  | _ => ("SpinStrip$Spot", "high", "I", true)
def tyX11 : Nat → FieldType := fun k => match k with
  | 0 => .int
  | _ => .int
abbrev wsX110 : List Cond := u_ws RX11 TX11 2
theorem nmX11 : ∀ a, a < 2 → ∀ b, b < 2 → a ≠ b → (TX11 a).2.1 ≠ (TX11 b).2.1 := by decide +kernel
theorem tyX11_ok : ∀ k, k < 2 → parseFieldDescriptor (TX11 k).2.2.1 = some (tyX11 k) := by decide +kernel
abbrev cX11_compareTo : ByteArray := prog_10_method_3_code
def yX11_compareTo : MethodName := ⟨RX11, "compareTo", "(Ljava/lang/Object;)I"⟩
def dkwX11_compareTo_0 : List UInt8 := [42, 43, 192, 0, 8, 182, 0, 16, 172]
abbrev dktX11_compareTo_0 : List UInt8 := dkwX11_compareTo_0 ++ []
theorem dksX11_compareTo_0 : cX11_compareTo.data.toList.drop 0 = dktX11_compareTo_0 := by decide +kernel
theorem dX11_compareTo_0 : decode cX11_compareTo 0 = .ok (.aload_n 0, 1) := dk_42 (dk_at dksX11_compareTo_0 0 rfl rfl)
theorem dX11_compareTo_1 : decode cX11_compareTo 1 = .ok (.aload_n 1, 1) := dk_43 (dk_at dksX11_compareTo_0 1 rfl rfl)
theorem dX11_compareTo_2 : decode cX11_compareTo 2 = .ok (.checkcast 8, 3) := dk_192 0 8 (dk_at dksX11_compareTo_0 2 rfl rfl)
theorem dX11_compareTo_5 : decode cX11_compareTo 5 = .ok (.invokevirtual 16, 3) := dk_182 0 16 (dk_at dksX11_compareTo_0 5 rfl rfl)
theorem dX11_compareTo_8 : decode cX11_compareTo 8 = .ok (.ireturn, 1) := dk_172 (dk_at dksX11_compareTo_0 8 rfl rfl)
abbrev cX11_compareTo_2 : ByteArray := prog_10_method_2_code
def yX11_compareTo_2 : MethodName := ⟨RX11, "compareTo", "(LSpinStrip$Spot;)I"⟩
def dkwX11_compareTo_2_1 : List UInt8 := [180, 0, 7, 43, 180, 0, 7, 100, 172]
abbrev dktX11_compareTo_2_1 : List UInt8 := dkwX11_compareTo_2_1 ++ []
def dkwX11_compareTo_2_0 : List UInt8 := [42, 180, 0, 13, 43, 180, 0, 13, 159, 0, 15, 42, 180, 0, 13, 43, 180, 0, 13, 100, 167, 0, 12, 42]
abbrev dktX11_compareTo_2_0 : List UInt8 := dkwX11_compareTo_2_0 ++ dktX11_compareTo_2_1
theorem dksX11_compareTo_2_0 : cX11_compareTo_2.data.toList.drop 0 = dktX11_compareTo_2_0 := by decide +kernel
theorem dksX11_compareTo_2_1 : cX11_compareTo_2.data.toList.drop 24 = dktX11_compareTo_2_1 := dk_seg dksX11_compareTo_2_0 24 rfl rfl
theorem dX11_compareTo_2_0 : decode cX11_compareTo_2 0 = .ok (.aload_n 0, 1) := dk_42 (dk_at dksX11_compareTo_2_0 0 rfl rfl)
theorem dX11_compareTo_2_1 : decode cX11_compareTo_2 1 = .ok (.getfield 13, 3) := dk_180 0 13 (dk_at dksX11_compareTo_2_0 1 rfl rfl)
theorem dX11_compareTo_2_4 : decode cX11_compareTo_2 4 = .ok (.aload_n 1, 1) := dk_43 (dk_at dksX11_compareTo_2_0 4 rfl rfl)
theorem dX11_compareTo_2_5 : decode cX11_compareTo_2 5 = .ok (.getfield 13, 3) := dk_180 0 13 (dk_at dksX11_compareTo_2_0 5 rfl rfl)
theorem dX11_compareTo_2_8 : decode cX11_compareTo_2 8 = .ok (.if_icmp .eq 15, 3) := dk_159 0 15 (dk_at dksX11_compareTo_2_0 8 rfl rfl)
theorem dX11_compareTo_2_11 : decode cX11_compareTo_2 11 = .ok (.aload_n 0, 1) := dk_42 (dk_at dksX11_compareTo_2_0 11 rfl rfl)
theorem dX11_compareTo_2_12 : decode cX11_compareTo_2 12 = .ok (.getfield 13, 3) := dk_180 0 13 (dk_at dksX11_compareTo_2_0 12 rfl rfl)
theorem dX11_compareTo_2_15 : decode cX11_compareTo_2 15 = .ok (.aload_n 1, 1) := dk_43 (dk_at dksX11_compareTo_2_0 15 rfl rfl)
theorem dX11_compareTo_2_16 : decode cX11_compareTo_2 16 = .ok (.getfield 13, 3) := dk_180 0 13 (dk_at dksX11_compareTo_2_0 16 rfl rfl)
theorem dX11_compareTo_2_19 : decode cX11_compareTo_2 19 = .ok (.isub, 1) := dk_100 (dk_at dksX11_compareTo_2_0 19 rfl rfl)
theorem dX11_compareTo_2_20 : decode cX11_compareTo_2 20 = .ok (.goto 12, 3) := dk_167 0 12 (dk_at dksX11_compareTo_2_0 20 rfl rfl)
theorem dX11_compareTo_2_23 : decode cX11_compareTo_2 23 = .ok (.aload_n 0, 1) := dk_42 (dk_at dksX11_compareTo_2_0 23 rfl rfl)
theorem dX11_compareTo_2_24 : decode cX11_compareTo_2 24 = .ok (.getfield 7, 3) := dk_180 0 7 (dk_at dksX11_compareTo_2_1 0 rfl rfl)
theorem dX11_compareTo_2_27 : decode cX11_compareTo_2 27 = .ok (.aload_n 1, 1) := dk_43 (dk_at dksX11_compareTo_2_1 3 rfl rfl)
theorem dX11_compareTo_2_28 : decode cX11_compareTo_2 28 = .ok (.getfield 7, 3) := dk_180 0 7 (dk_at dksX11_compareTo_2_1 4 rfl rfl)
theorem dX11_compareTo_2_31 : decode cX11_compareTo_2 31 = .ok (.isub, 1) := dk_100 (dk_at dksX11_compareTo_2_1 7 rfl rfl)
theorem dX11_compareTo_2_32 : decode cX11_compareTo_2 32 = .ok (.ireturn, 1) := dk_172 (dk_at dksX11_compareTo_2_1 8 rfl rfl)
abbrev cX11_init : ByteArray := prog_10_method_1_code
def yX11_init : MethodName := ⟨RX11, "<init>", "(II)V"⟩
def dkwX11_init_0 : List UInt8 := [42, 183, 0, 1, 42, 27, 181, 0, 7, 42, 28, 181, 0, 13, 177]
abbrev dktX11_init_0 : List UInt8 := dkwX11_init_0 ++ []
theorem dksX11_init_0 : cX11_init.data.toList.drop 0 = dktX11_init_0 := by decide +kernel
theorem dX11_init_0 : decode cX11_init 0 = .ok (.aload_n 0, 1) := dk_42 (dk_at dksX11_init_0 0 rfl rfl)
theorem dX11_init_1 : decode cX11_init 1 = .ok (.invokespecial 1, 3) := dk_183 0 1 (dk_at dksX11_init_0 1 rfl rfl)
theorem dX11_init_4 : decode cX11_init 4 = .ok (.aload_n 0, 1) := dk_42 (dk_at dksX11_init_0 4 rfl rfl)
theorem dX11_init_5 : decode cX11_init 5 = .ok (.iload_n 1, 1) := dk_27 (dk_at dksX11_init_0 5 rfl rfl)
theorem dX11_init_6 : decode cX11_init 6 = .ok (.putfield 7, 3) := dk_181 0 7 (dk_at dksX11_init_0 6 rfl rfl)
theorem dX11_init_9 : decode cX11_init 9 = .ok (.aload_n 0, 1) := dk_42 (dk_at dksX11_init_0 9 rfl rfl)
theorem dX11_init_10 : decode cX11_init 10 = .ok (.iload_n 2, 1) := dk_28 (dk_at dksX11_init_0 10 rfl rfl)
theorem dX11_init_11 : decode cX11_init 11 = .ok (.putfield 13, 3) := dk_181 0 13 (dk_at dksX11_init_0 11 rfl rfl)
theorem dX11_init_14 : decode cX11_init 14 = .ok (.return_, 1) := dk_177 (dk_at dksX11_init_0 14 rfl rfl)
theorem q147 : (Jvm.Cond.initialized "SpinStrip$Spot") ∈ lw_all := lw_g (lw_at lw_m1 40 rfl) rfl
theorem q881 : (Jvm.Cond.selects "SpinStrip$Spot" ({ cls := "java/lang/Object", name := "getClass", desc := "()Ljava/lang/Class;" } : Jvm.MethodName) ({ cls := "java/lang/Object", name := "getClass", desc := "()Ljava/lang/Class;" } : Jvm.MethodName)) ∈ lw_all := lw_g (lw_at lw_m4 54 rfl) rfl
theorem q1063 : (Jvm.Cond.castable "SpinStrip$Spot" "java/lang/Comparable") ∈ lw_tbl := lw_at lw_m4 236 rfl
theorem q1064 : (Jvm.Cond.selects "SpinStrip$Spot" ({ cls := "java/lang/Comparable", name := "compareTo", desc := "(Ljava/lang/Object;)I" } : Jvm.MethodName) ({ cls := "SpinStrip$Spot", name := "compareTo", desc := "(Ljava/lang/Object;)I" } : Jvm.MethodName)) ∈ lw_all := lw_g (lw_at lw_m4 237 rfl) rfl
theorem q1065 : (Jvm.Cond.unhidden "SpinStrip$Spot" "compareTo" "(Ljava/lang/Object;)I") ∈ lw_tbl := lw_at lw_m4 238 rfl
theorem q1066 : (Jvm.Cond.instanceMethod ({ cls := "SpinStrip$Spot", name := "compareTo", desc := "(Ljava/lang/Object;)I" } : Jvm.MethodName)) ∈ lw_all := lw_g (lw_at lw_m4 239 rfl) rfl
theorem q1067 : (Jvm.Cond.publicMethod ({ cls := "SpinStrip$Spot", name := "compareTo", desc := "(Ljava/lang/Object;)I" } : Jvm.MethodName)) ∈ lw_tbl := lw_at lw_m5 0 rfl
theorem q1068 : (Jvm.Cond.code ({ cls := "SpinStrip$Spot", name := "compareTo", desc := "(Ljava/lang/Object;)I" } : Jvm.MethodName) prog_10_method_3_code (2 : Nat) (Option.some Jvm.ClassFile.FieldType.int)) ∈ lw_all := lw_g (lw_at lw_m5 1 rfl) rfl
theorem q1069 : (Jvm.Cond.classLink "SpinStrip$Spot" (8 : Nat) "SpinStrip$Spot") ∈ lw_all := lw_g (lw_at lw_m5 2 rfl) rfl
theorem q1070 : (Jvm.Cond.methodLink "SpinStrip$Spot" (16 : Nat) ({ cls := "SpinStrip$Spot", name := "compareTo", desc := "(LSpinStrip$Spot;)I" } : Jvm.MethodName)) ∈ lw_all := lw_g (lw_at lw_m5 3 rfl) rfl
theorem q1071 : (Jvm.Cond.instanceMethod ({ cls := "SpinStrip$Spot", name := "compareTo", desc := "(LSpinStrip$Spot;)I" } : Jvm.MethodName)) ∈ lw_all := lw_g (lw_at lw_m5 4 rfl) rfl
theorem q1072 : (Jvm.Cond.selects "SpinStrip$Spot" ({ cls := "SpinStrip$Spot", name := "compareTo", desc := "(LSpinStrip$Spot;)I" } : Jvm.MethodName) ({ cls := "SpinStrip$Spot", name := "compareTo", desc := "(LSpinStrip$Spot;)I" } : Jvm.MethodName)) ∈ lw_all := lw_g (lw_at lw_m5 5 rfl) rfl
theorem q1073 : (Jvm.Cond.code ({ cls := "SpinStrip$Spot", name := "compareTo", desc := "(LSpinStrip$Spot;)I" } : Jvm.MethodName) prog_10_method_2_code (2 : Nat) (Option.some Jvm.ClassFile.FieldType.int)) ∈ lw_all := lw_g (lw_at lw_m5 6 rfl) rfl
theorem q1688 : (Jvm.Cond.instantiable "SpinStrip$Spot" (2 : Nat)) ∈ lw_all := lw_g (lw_at lw_m7 141 rfl) rfl
theorem q1691 : (Jvm.Cond.instanceMethod ({ cls := "SpinStrip$Spot", name := "<init>", desc := "(II)V" } : Jvm.MethodName)) ∈ lw_all := lw_g (lw_at lw_m7 144 rfl) rfl
theorem q1692 : (Jvm.Cond.code ({ cls := "SpinStrip$Spot", name := "<init>", desc := "(II)V" } : Jvm.MethodName) prog_10_method_1_code (3 : Nat) (Option.none : Option Jvm.ClassFile.FieldType)) ∈ lw_all := lw_g (lw_at lw_m7 145 rfl) rfl
theorem q1693 : (Jvm.Cond.methodLink "SpinStrip$Spot" (1 : Nat) ({ cls := "java/lang/Object", name := "<init>", desc := "()V" } : Jvm.MethodName)) ∈ lw_all := lw_g (lw_at lw_m7 146 rfl) rfl
theorem q1694 : (Jvm.Cond.fieldLink "SpinStrip$Spot" (7 : Nat) "SpinStrip$Spot" "state" "I") ∈ lw_all := lw_g (lw_at lw_m7 147 rfl) rfl
theorem q1696 : (Jvm.Cond.fieldLink "SpinStrip$Spot" (13 : Nat) "SpinStrip$Spot" "high" "I") ∈ lw_all := lw_g (lw_at lw_m7 149 rfl) rfl
theorem q1698 : (Jvm.Cond.laysFinal "SpinStrip$Spot" "SpinStrip$Spot" "state" "I") ∈ lw_all := lw_g (lw_at lw_m7 151 rfl) rfl
theorem q1699 : (Jvm.Cond.soleField "SpinStrip$Spot" "state") ∈ lw_all := lw_g (lw_at lw_m7 152 rfl) rfl
theorem q1700 : (Jvm.Cond.laysFinal "SpinStrip$Spot" "SpinStrip$Spot" "high" "I") ∈ lw_all := lw_g (lw_at lw_m7 153 rfl) rfl
theorem q1701 : (Jvm.Cond.soleField "SpinStrip$Spot" "high") ∈ lw_all := lw_g (lw_at lw_m7 154 rfl) rfl
theorem q1702 : (Jvm.Cond.superclass "SpinStrip$Spot" "java/lang/Object") ∈ lw_all := lw_g (lw_at lw_m7 155 rfl) rfl
theorem q2407 : (Jvm.Cond.castable "SpinStrip$Spot" "java/lang/Object") ∈ lw_tbl := lw_at lw_m10 140 rfl
theorem in_X11 : ∀ w ∈ wsX110, w ∈ lw_all := lw_in wsX110 [1698, 1700] (by decide +kernel) (by decide +kernel)
/-! SpinStrip$Greater -/
set_option maxRecDepth 100000
def RX12 : String := "SpinStrip$Greater"
abbrev cX12_compare : ByteArray := prog_4_method_3_code
def yX12_compare : MethodName := ⟨RX12, "compare", "(Ljava/lang/Object;Ljava/lang/Object;)I"⟩
def dkwX12_compare_0 : List UInt8 := [42, 43, 192, 0, 8, 44, 192, 0, 8, 182, 0, 22, 172]
abbrev dktX12_compare_0 : List UInt8 := dkwX12_compare_0 ++ []
theorem dksX12_compare_0 : cX12_compare.data.toList.drop 0 = dktX12_compare_0 := by decide +kernel
theorem dX12_compare_0 : decode cX12_compare 0 = .ok (.aload_n 0, 1) := dk_42 (dk_at dksX12_compare_0 0 rfl rfl)
theorem dX12_compare_1 : decode cX12_compare 1 = .ok (.aload_n 1, 1) := dk_43 (dk_at dksX12_compare_0 1 rfl rfl)
theorem dX12_compare_2 : decode cX12_compare 2 = .ok (.checkcast 8, 3) := dk_192 0 8 (dk_at dksX12_compare_0 2 rfl rfl)
theorem dX12_compare_5 : decode cX12_compare 5 = .ok (.aload_n 2, 1) := dk_44 (dk_at dksX12_compare_0 5 rfl rfl)
theorem dX12_compare_6 : decode cX12_compare 6 = .ok (.checkcast 8, 3) := dk_192 0 8 (dk_at dksX12_compare_0 6 rfl rfl)
theorem dX12_compare_9 : decode cX12_compare 9 = .ok (.invokevirtual 22, 3) := dk_182 0 22 (dk_at dksX12_compare_0 9 rfl rfl)
theorem dX12_compare_12 : decode cX12_compare 12 = .ok (.ireturn, 1) := dk_172 (dk_at dksX12_compare_0 12 rfl rfl)
abbrev cX12_compare_2 : ByteArray := prog_4_method_2_code
def yX12_compare_2 : MethodName := ⟨RX12, "compare", "(Ljava/lang/Integer;Ljava/lang/Integer;)I"⟩
def dkwX12_compare_2_1 : List UInt8 := [21, 4, 184, 0, 13, 29, 184, 0, 13, 100, 172, 29, 184, 0, 19, 21, 4, 184, 0, 19, 100, 172]
abbrev dktX12_compare_2_1 : List UInt8 := dkwX12_compare_2_1 ++ []
def dkwX12_compare_2_0 : List UInt8 := [43, 182, 0, 7, 62, 44, 182, 0, 7, 54, 4, 29, 184, 0, 13, 21, 4, 184, 0, 13, 159, 0, 14]
abbrev dktX12_compare_2_0 : List UInt8 := dkwX12_compare_2_0 ++ dktX12_compare_2_1
theorem dksX12_compare_2_0 : cX12_compare_2.data.toList.drop 0 = dktX12_compare_2_0 := by decide +kernel
theorem dksX12_compare_2_1 : cX12_compare_2.data.toList.drop 23 = dktX12_compare_2_1 := dk_seg dksX12_compare_2_0 23 rfl rfl
theorem dX12_compare_2_0 : decode cX12_compare_2 0 = .ok (.aload_n 1, 1) := dk_43 (dk_at dksX12_compare_2_0 0 rfl rfl)
theorem dX12_compare_2_1 : decode cX12_compare_2 1 = .ok (.invokevirtual 7, 3) := dk_182 0 7 (dk_at dksX12_compare_2_0 1 rfl rfl)
theorem dX12_compare_2_4 : decode cX12_compare_2 4 = .ok (.istore_n 3, 1) := dk_62 (dk_at dksX12_compare_2_0 4 rfl rfl)
theorem dX12_compare_2_5 : decode cX12_compare_2 5 = .ok (.aload_n 2, 1) := dk_44 (dk_at dksX12_compare_2_0 5 rfl rfl)
theorem dX12_compare_2_6 : decode cX12_compare_2 6 = .ok (.invokevirtual 7, 3) := dk_182 0 7 (dk_at dksX12_compare_2_0 6 rfl rfl)
theorem dX12_compare_2_9 : decode cX12_compare_2 9 = .ok (.istore 4, 2) := dk_54 4 (dk_at dksX12_compare_2_0 9 rfl rfl)
theorem dX12_compare_2_11 : decode cX12_compare_2 11 = .ok (.iload_n 3, 1) := dk_29 (dk_at dksX12_compare_2_0 11 rfl rfl)
theorem dX12_compare_2_12 : decode cX12_compare_2 12 = .ok (.invokestatic 13, 3) := dk_184 0 13 (dk_at dksX12_compare_2_0 12 rfl rfl)
theorem dX12_compare_2_15 : decode cX12_compare_2 15 = .ok (.iload 4, 2) := dk_21 4 (dk_at dksX12_compare_2_0 15 rfl rfl)
theorem dX12_compare_2_17 : decode cX12_compare_2 17 = .ok (.invokestatic 13, 3) := dk_184 0 13 (dk_at dksX12_compare_2_0 17 rfl rfl)
theorem dX12_compare_2_20 : decode cX12_compare_2 20 = .ok (.if_icmp .eq 14, 3) := dk_159 0 14 (dk_at dksX12_compare_2_0 20 rfl rfl)
theorem dX12_compare_2_23 : decode cX12_compare_2 23 = .ok (.iload 4, 2) := dk_21 4 (dk_at dksX12_compare_2_1 0 rfl rfl)
theorem dX12_compare_2_25 : decode cX12_compare_2 25 = .ok (.invokestatic 13, 3) := dk_184 0 13 (dk_at dksX12_compare_2_1 2 rfl rfl)
theorem dX12_compare_2_28 : decode cX12_compare_2 28 = .ok (.iload_n 3, 1) := dk_29 (dk_at dksX12_compare_2_1 5 rfl rfl)
theorem dX12_compare_2_29 : decode cX12_compare_2 29 = .ok (.invokestatic 13, 3) := dk_184 0 13 (dk_at dksX12_compare_2_1 6 rfl rfl)
theorem dX12_compare_2_32 : decode cX12_compare_2 32 = .ok (.isub, 1) := dk_100 (dk_at dksX12_compare_2_1 9 rfl rfl)
theorem dX12_compare_2_33 : decode cX12_compare_2 33 = .ok (.ireturn, 1) := dk_172 (dk_at dksX12_compare_2_1 10 rfl rfl)
theorem dX12_compare_2_34 : decode cX12_compare_2 34 = .ok (.iload_n 3, 1) := dk_29 (dk_at dksX12_compare_2_1 11 rfl rfl)
theorem dX12_compare_2_35 : decode cX12_compare_2 35 = .ok (.invokestatic 19, 3) := dk_184 0 19 (dk_at dksX12_compare_2_1 12 rfl rfl)
theorem dX12_compare_2_38 : decode cX12_compare_2 38 = .ok (.iload 4, 2) := dk_21 4 (dk_at dksX12_compare_2_1 15 rfl rfl)
theorem dX12_compare_2_40 : decode cX12_compare_2 40 = .ok (.invokestatic 19, 3) := dk_184 0 19 (dk_at dksX12_compare_2_1 17 rfl rfl)
theorem dX12_compare_2_43 : decode cX12_compare_2 43 = .ok (.isub, 1) := dk_100 (dk_at dksX12_compare_2_1 20 rfl rfl)
theorem dX12_compare_2_44 : decode cX12_compare_2 44 = .ok (.ireturn, 1) := dk_172 (dk_at dksX12_compare_2_1 21 rfl rfl)
abbrev cX12_init : ByteArray := prog_4_method_1_code
def yX12_init : MethodName := ⟨RX12, "<init>", "()V"⟩
theorem dX12_init_0 : decode cX12_init 0 = .ok (.aload_n 0, 1) := by decide +kernel
theorem dX12_init_1 : decode cX12_init 1 = .ok (.invokespecial 1, 3) := by decide +kernel
theorem dX12_init_4 : decode cX12_init 4 = .ok (.return_, 1) := by decide +kernel
theorem q148 : (Jvm.Cond.initialized "SpinStrip$Greater") ∈ lw_all := lw_g (lw_at lw_m1 41 rfl) rfl
theorem q875 : (Jvm.Cond.selects "SpinStrip$Greater" ({ cls := "java/lang/Object", name := "getClass", desc := "()Ljava/lang/Class;" } : Jvm.MethodName) ({ cls := "java/lang/Object", name := "getClass", desc := "()Ljava/lang/Class;" } : Jvm.MethodName)) ∈ lw_all := lw_g (lw_at lw_m4 48 rfl) rfl
theorem q1249 : (Jvm.Cond.castable "SpinStrip$Greater" "java/util/Comparator") ∈ lw_tbl := lw_at lw_m5 182 rfl
theorem q1250 : (Jvm.Cond.selects "SpinStrip$Greater" ({ cls := "java/util/Comparator", name := "compare", desc := "(Ljava/lang/Object;Ljava/lang/Object;)I" } : Jvm.MethodName) ({ cls := "SpinStrip$Greater", name := "compare", desc := "(Ljava/lang/Object;Ljava/lang/Object;)I" } : Jvm.MethodName)) ∈ lw_all := lw_g (lw_at lw_m5 183 rfl) rfl
theorem q1251 : (Jvm.Cond.unhidden "SpinStrip$Greater" "compare" "(Ljava/lang/Object;Ljava/lang/Object;)I") ∈ lw_tbl := lw_at lw_m5 184 rfl
theorem q1252 : (Jvm.Cond.instanceMethod ({ cls := "SpinStrip$Greater", name := "compare", desc := "(Ljava/lang/Object;Ljava/lang/Object;)I" } : Jvm.MethodName)) ∈ lw_all := lw_g (lw_at lw_m5 185 rfl) rfl
theorem q1253 : (Jvm.Cond.publicMethod ({ cls := "SpinStrip$Greater", name := "compare", desc := "(Ljava/lang/Object;Ljava/lang/Object;)I" } : Jvm.MethodName)) ∈ lw_tbl := lw_at lw_m5 186 rfl
theorem q1254 : (Jvm.Cond.code ({ cls := "SpinStrip$Greater", name := "compare", desc := "(Ljava/lang/Object;Ljava/lang/Object;)I" } : Jvm.MethodName) prog_4_method_3_code (3 : Nat) (Option.some Jvm.ClassFile.FieldType.int)) ∈ lw_all := lw_g (lw_at lw_m5 187 rfl) rfl
theorem q1255 : (Jvm.Cond.classLink "SpinStrip$Greater" (8 : Nat) "java/lang/Integer") ∈ lw_all := lw_g (lw_at lw_m5 188 rfl) rfl
theorem q1256 : (Jvm.Cond.methodLink "SpinStrip$Greater" (22 : Nat) ({ cls := "SpinStrip$Greater", name := "compare", desc := "(Ljava/lang/Integer;Ljava/lang/Integer;)I" } : Jvm.MethodName)) ∈ lw_all := lw_g (lw_at lw_m5 189 rfl) rfl
theorem q1257 : (Jvm.Cond.instanceMethod ({ cls := "SpinStrip$Greater", name := "compare", desc := "(Ljava/lang/Integer;Ljava/lang/Integer;)I" } : Jvm.MethodName)) ∈ lw_all := lw_g (lw_at lw_m5 190 rfl) rfl
theorem q1258 : (Jvm.Cond.selects "SpinStrip$Greater" ({ cls := "SpinStrip$Greater", name := "compare", desc := "(Ljava/lang/Integer;Ljava/lang/Integer;)I" } : Jvm.MethodName) ({ cls := "SpinStrip$Greater", name := "compare", desc := "(Ljava/lang/Integer;Ljava/lang/Integer;)I" } : Jvm.MethodName)) ∈ lw_all := lw_g (lw_at lw_m5 191 rfl) rfl
theorem q1259 : (Jvm.Cond.code ({ cls := "SpinStrip$Greater", name := "compare", desc := "(Ljava/lang/Integer;Ljava/lang/Integer;)I" } : Jvm.MethodName) prog_4_method_2_code (5 : Nat) (Option.some Jvm.ClassFile.FieldType.int)) ∈ lw_all := lw_g (lw_at lw_m5 192 rfl) rfl
theorem q1260 : (Jvm.Cond.methodLink "SpinStrip$Greater" (7 : Nat) ({ cls := "java/lang/Integer", name := "intValue", desc := "()I" } : Jvm.MethodName)) ∈ lw_all := lw_g (lw_at lw_m5 193 rfl) rfl
theorem q1264 : (Jvm.Cond.methodLinkNest "SpinStrip$Greater" (13 : Nat) ({ cls := "SpinStrip", name := "many", desc := "(I)I" } : Jvm.MethodName) "SpinStrip") ∈ lw_tbl := lw_at lw_m5 197 rfl
theorem q1273 : (Jvm.Cond.methodLink "SpinStrip$Greater" (19 : Nat) ({ cls := "java/lang/Integer", name := "numberOfTrailingZeros", desc := "(I)I" } : Jvm.MethodName)) ∈ lw_all := lw_g (lw_at lw_m5 206 rfl) rfl
theorem q1845 : (Jvm.Cond.instantiable "SpinStrip$Greater" (0 : Nat)) ∈ lw_all := lw_g (lw_at lw_m8 58 rfl) rfl
theorem q1847 : (Jvm.Cond.instanceMethod ({ cls := "SpinStrip$Greater", name := "<init>", desc := "()V" } : Jvm.MethodName)) ∈ lw_all := lw_g (lw_at lw_m8 60 rfl) rfl
theorem q1848 : (Jvm.Cond.code ({ cls := "SpinStrip$Greater", name := "<init>", desc := "()V" } : Jvm.MethodName) prog_4_method_1_code (1 : Nat) (Option.none : Option Jvm.ClassFile.FieldType)) ∈ lw_all := lw_g (lw_at lw_m8 61 rfl) rfl
theorem q1849 : (Jvm.Cond.methodLink "SpinStrip$Greater" (1 : Nat) ({ cls := "java/lang/Object", name := "<init>", desc := "()V" } : Jvm.MethodName)) ∈ lw_all := lw_g (lw_at lw_m8 62 rfl) rfl
theorem q1850 : (Jvm.Cond.superclass "SpinStrip$Greater" "java/lang/Object") ∈ lw_all := lw_g (lw_at lw_m8 63 rfl) rfl
theorem q2408 : (Jvm.Cond.castable "SpinStrip$Greater" "java/lang/Object") ∈ lw_tbl := lw_at lw_m10 141 rfl

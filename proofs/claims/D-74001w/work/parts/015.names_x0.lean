/-! SpinStrip -/
set_option maxRecDepth 100000
def RX0 : String := "SpinStrip"
def TX0 : u_T := fun k => match k with
  | 0 => ("SpinStrip", "fault", "LSpinStrip$Fault;", true)
  | 1 => ("SpinStrip", "tokens", "LSpinStrip$Tokens;", true)
  | 2 => ("SpinStrip", "parser", "LSpinStrip$Parser;", true)
  | 3 => ("SpinStrip", "strip", "LSpinStrip$Strip;", true)
  | 4 => ("SpinStrip", "energies", "LSpinStrip$Energies;", true)
  | 5 => ("SpinStrip", "hills", "LSpinStrip$Hills;", true)
  | 6 => ("SpinStrip", "rows", "LSpinStrip$Rows;", true)
  | 7 => ("SpinStrip", "lakes", "LSpinStrip$Lakes;", true)
  | 8 => ("SpinStrip", "past", "Ljava/util/ArrayDeque;", true)
  | 9 => ("SpinStrip", "slots", "[LSpinStrip$Strip;", true)
  | 10 => ("SpinStrip", "place", "I", false)
  | 11 => ("SpinStrip", "held", "I", false)
  | 12 => ("SpinStrip", "laid", "Z", false)
  | 13 => ("SpinStrip", "fallen", "I", false)
  | 14 => ("SpinStrip", "turns", "I", false)
  | 15 => ("SpinStrip", "joinedStrip", "LSpinStrip$Strip;", true)
  | 16 => ("SpinStrip", "joined", "LSpinStrip$Energies;", true)
  | 17 => ("SpinStrip", "product", "Ljava/util/TreeMap;", true)
  | 18 => ("SpinStrip", "sums", "[J", true)
  | _ => ("SpinStrip", "x", "J", false)
def tyX0 : Nat → FieldType := fun k => match k with
  | 0 => .object "SpinStrip$Fault"
  | 1 => .object "SpinStrip$Tokens"
  | 2 => .object "SpinStrip$Parser"
  | 3 => .object "SpinStrip$Strip"
  | 4 => .object "SpinStrip$Energies"
  | 5 => .object "SpinStrip$Hills"
  | 6 => .object "SpinStrip$Rows"
  | 7 => .object "SpinStrip$Lakes"
  | 8 => .object "java/util/ArrayDeque"
  | 9 => .array (.object "SpinStrip$Strip")
  | 10 => .int
  | 11 => .int
  | 12 => .boolean
  | 13 => .int
  | 14 => .int
  | 15 => .object "SpinStrip$Strip"
  | 16 => .object "SpinStrip$Energies"
  | 17 => .object "java/util/TreeMap"
  | 18 => .array .long
  | _ => .long
abbrev wsX00 : List Cond := u_ws RX0 TX0 20
set_option maxRecDepth 100000 in
theorem nmX0 : ∀ a, a < 20 → ∀ b, b < 20 → a ≠ b → (TX0 a).2.1 ≠ (TX0 b).2.1 := by decide +kernel
set_option maxRecDepth 100000 in
theorem tyX0_ok : ∀ k, k < 20 → parseFieldDescriptor (TX0 k).2.2.1 = some (tyX0 k) := by decide +kernel
abbrev cX0_init : ByteArray := prog_1_method_4_code
def yX0_init : MethodName := ⟨RX0, "<init>", "()V"⟩
def dkwX0_init_9 : List UInt8 := [187, 0, 98, 89, 183, 0, 100, 181, 0, 101, 42, 17, 2, 65, 188, 11, 181, 0, 105, 177]
abbrev dktX0_init_9 : List UInt8 := dkwX0_init_9 ++ []
def dkwX0_init_8 : List UInt8 := [183, 0, 40, 181, 0, 92, 42, 187, 0, 45, 89, 42, 180, 0, 92, 183, 0, 47, 181, 0, 95, 42]
abbrev dktX0_init_8 : List UInt8 := dkwX0_init_8 ++ dktX0_init_9
def dkwX0_init_7 : List UInt8 := [5, 187, 0, 38, 89, 183, 0, 40, 83, 181, 0, 84, 42, 2, 181, 0, 88, 42, 187, 0, 38, 89]
abbrev dktX0_init_7 : List UInt8 := dkwX0_init_7 ++ dktX0_init_8
def dkwX0_init_6 : List UInt8 := [189, 0, 38, 89, 3, 187, 0, 38, 89, 183, 0, 40, 83, 89, 4, 187, 0, 38, 89, 183, 0, 40, 83, 89]
abbrev dktX0_init_6 : List UInt8 := dkwX0_init_6 ++ dktX0_init_7
def dkwX0_init_5 : List UInt8 := [180, 0, 50, 183, 0, 72, 181, 0, 73, 42, 187, 0, 77, 89, 183, 0, 79, 181, 0, 80, 42, 6]
abbrev dktX0_init_5 : List UInt8 := dkwX0_init_5 ++ dktX0_init_6
def dkwX0_init_4 : List UInt8 := [187, 0, 63, 89, 42, 180, 0, 41, 183, 0, 65, 181, 0, 66, 42, 187, 0, 70, 89, 42, 180, 0, 41, 42]
abbrev dktX0_init_4 : List UInt8 := dkwX0_init_4 ++ dktX0_init_5
def dkwX0_init_3 : List UInt8 := [181, 0, 50, 42, 187, 0, 54, 89, 42, 180, 0, 41, 42, 180, 0, 50, 183, 0, 56, 181, 0, 59, 42]
abbrev dktX0_init_3 : List UInt8 := dkwX0_init_3 ++ dktX0_init_4
def dkwX0_init_2 : List UInt8 := [187, 0, 38, 89, 183, 0, 40, 181, 0, 41, 42, 187, 0, 45, 89, 42, 180, 0, 41, 183, 0, 47]
abbrev dktX0_init_2 : List UInt8 := dkwX0_init_2 ++ dktX0_init_3
def dkwX0_init_1 : List UInt8 := [181, 0, 25, 42, 187, 0, 29, 89, 42, 180, 0, 25, 42, 180, 0, 18, 183, 0, 31, 181, 0, 34, 42]
abbrev dktX0_init_1 : List UInt8 := dkwX0_init_1 ++ dktX0_init_2
def dkwX0_init_0 : List UInt8 := [42, 183, 0, 9, 42, 187, 0, 15, 89, 183, 0, 17, 181, 0, 18, 42, 187, 0, 22, 89, 183, 0, 24]
abbrev dktX0_init_0 : List UInt8 := dkwX0_init_0 ++ dktX0_init_1
theorem dksX0_init_0 : cX0_init.data.toList.drop 0 = dktX0_init_0 := by decide +kernel
theorem dksX0_init_1 : cX0_init.data.toList.drop 23 = dktX0_init_1 := dk_seg dksX0_init_0 23 rfl rfl
theorem dksX0_init_2 : cX0_init.data.toList.drop 46 = dktX0_init_2 := dk_seg dksX0_init_1 23 rfl rfl
theorem dksX0_init_3 : cX0_init.data.toList.drop 68 = dktX0_init_3 := dk_seg dksX0_init_2 22 rfl rfl
theorem dksX0_init_4 : cX0_init.data.toList.drop 91 = dktX0_init_4 := dk_seg dksX0_init_3 23 rfl rfl
theorem dksX0_init_5 : cX0_init.data.toList.drop 115 = dktX0_init_5 := dk_seg dksX0_init_4 24 rfl rfl
theorem dksX0_init_6 : cX0_init.data.toList.drop 137 = dktX0_init_6 := dk_seg dksX0_init_5 22 rfl rfl
theorem dksX0_init_7 : cX0_init.data.toList.drop 161 = dktX0_init_7 := dk_seg dksX0_init_6 24 rfl rfl
theorem dksX0_init_8 : cX0_init.data.toList.drop 183 = dktX0_init_8 := dk_seg dksX0_init_7 22 rfl rfl
theorem dksX0_init_9 : cX0_init.data.toList.drop 205 = dktX0_init_9 := dk_seg dksX0_init_8 22 rfl rfl
theorem dX0_init_0 : decode cX0_init 0 = .ok (.aload_n 0, 1) := dk_42 (dk_at dksX0_init_0 0 rfl rfl)
theorem dX0_init_1 : decode cX0_init 1 = .ok (.invokespecial 9, 3) := dk_183 0 9 (dk_at dksX0_init_0 1 rfl rfl)
theorem dX0_init_4 : decode cX0_init 4 = .ok (.aload_n 0, 1) := dk_42 (dk_at dksX0_init_0 4 rfl rfl)
theorem dX0_init_5 : decode cX0_init 5 = .ok (.new 15, 3) := dk_187 0 15 (dk_at dksX0_init_0 5 rfl rfl)
theorem dX0_init_8 : decode cX0_init 8 = .ok (.dup, 1) := dk_89 (dk_at dksX0_init_0 8 rfl rfl)
theorem dX0_init_9 : decode cX0_init 9 = .ok (.invokespecial 17, 3) := dk_183 0 17 (dk_at dksX0_init_0 9 rfl rfl)
theorem dX0_init_12 : decode cX0_init 12 = .ok (.putfield 18, 3) := dk_181 0 18 (dk_at dksX0_init_0 12 rfl rfl)
theorem dX0_init_15 : decode cX0_init 15 = .ok (.aload_n 0, 1) := dk_42 (dk_at dksX0_init_0 15 rfl rfl)
theorem dX0_init_16 : decode cX0_init 16 = .ok (.new 22, 3) := dk_187 0 22 (dk_at dksX0_init_0 16 rfl rfl)
theorem dX0_init_19 : decode cX0_init 19 = .ok (.dup, 1) := dk_89 (dk_at dksX0_init_0 19 rfl rfl)
theorem dX0_init_20 : decode cX0_init 20 = .ok (.invokespecial 24, 3) := dk_183 0 24 (dk_at dksX0_init_0 20 rfl rfl)
theorem dX0_init_23 : decode cX0_init 23 = .ok (.putfield 25, 3) := dk_181 0 25 (dk_at dksX0_init_1 0 rfl rfl)
theorem dX0_init_26 : decode cX0_init 26 = .ok (.aload_n 0, 1) := dk_42 (dk_at dksX0_init_1 3 rfl rfl)
theorem dX0_init_27 : decode cX0_init 27 = .ok (.new 29, 3) := dk_187 0 29 (dk_at dksX0_init_1 4 rfl rfl)
theorem dX0_init_30 : decode cX0_init 30 = .ok (.dup, 1) := dk_89 (dk_at dksX0_init_1 7 rfl rfl)
theorem dX0_init_31 : decode cX0_init 31 = .ok (.aload_n 0, 1) := dk_42 (dk_at dksX0_init_1 8 rfl rfl)
theorem dX0_init_32 : decode cX0_init 32 = .ok (.getfield 25, 3) := dk_180 0 25 (dk_at dksX0_init_1 9 rfl rfl)
theorem dX0_init_35 : decode cX0_init 35 = .ok (.aload_n 0, 1) := dk_42 (dk_at dksX0_init_1 12 rfl rfl)
theorem dX0_init_36 : decode cX0_init 36 = .ok (.getfield 18, 3) := dk_180 0 18 (dk_at dksX0_init_1 13 rfl rfl)
theorem dX0_init_39 : decode cX0_init 39 = .ok (.invokespecial 31, 3) := dk_183 0 31 (dk_at dksX0_init_1 16 rfl rfl)
theorem dX0_init_42 : decode cX0_init 42 = .ok (.putfield 34, 3) := dk_181 0 34 (dk_at dksX0_init_1 19 rfl rfl)
theorem dX0_init_45 : decode cX0_init 45 = .ok (.aload_n 0, 1) := dk_42 (dk_at dksX0_init_1 22 rfl rfl)
theorem dX0_init_46 : decode cX0_init 46 = .ok (.new 38, 3) := dk_187 0 38 (dk_at dksX0_init_2 0 rfl rfl)
theorem dX0_init_49 : decode cX0_init 49 = .ok (.dup, 1) := dk_89 (dk_at dksX0_init_2 3 rfl rfl)
theorem dX0_init_50 : decode cX0_init 50 = .ok (.invokespecial 40, 3) := dk_183 0 40 (dk_at dksX0_init_2 4 rfl rfl)
theorem dX0_init_53 : decode cX0_init 53 = .ok (.putfield 41, 3) := dk_181 0 41 (dk_at dksX0_init_2 7 rfl rfl)
theorem dX0_init_56 : decode cX0_init 56 = .ok (.aload_n 0, 1) := dk_42 (dk_at dksX0_init_2 10 rfl rfl)
theorem dX0_init_57 : decode cX0_init 57 = .ok (.new 45, 3) := dk_187 0 45 (dk_at dksX0_init_2 11 rfl rfl)
theorem dX0_init_60 : decode cX0_init 60 = .ok (.dup, 1) := dk_89 (dk_at dksX0_init_2 14 rfl rfl)
theorem dX0_init_61 : decode cX0_init 61 = .ok (.aload_n 0, 1) := dk_42 (dk_at dksX0_init_2 15 rfl rfl)
theorem dX0_init_62 : decode cX0_init 62 = .ok (.getfield 41, 3) := dk_180 0 41 (dk_at dksX0_init_2 16 rfl rfl)
theorem dX0_init_65 : decode cX0_init 65 = .ok (.invokespecial 47, 3) := dk_183 0 47 (dk_at dksX0_init_2 19 rfl rfl)
theorem dX0_init_68 : decode cX0_init 68 = .ok (.putfield 50, 3) := dk_181 0 50 (dk_at dksX0_init_3 0 rfl rfl)
theorem dX0_init_71 : decode cX0_init 71 = .ok (.aload_n 0, 1) := dk_42 (dk_at dksX0_init_3 3 rfl rfl)
theorem dX0_init_72 : decode cX0_init 72 = .ok (.new 54, 3) := dk_187 0 54 (dk_at dksX0_init_3 4 rfl rfl)
theorem dX0_init_75 : decode cX0_init 75 = .ok (.dup, 1) := dk_89 (dk_at dksX0_init_3 7 rfl rfl)
theorem dX0_init_76 : decode cX0_init 76 = .ok (.aload_n 0, 1) := dk_42 (dk_at dksX0_init_3 8 rfl rfl)
theorem dX0_init_77 : decode cX0_init 77 = .ok (.getfield 41, 3) := dk_180 0 41 (dk_at dksX0_init_3 9 rfl rfl)
theorem dX0_init_80 : decode cX0_init 80 = .ok (.aload_n 0, 1) := dk_42 (dk_at dksX0_init_3 12 rfl rfl)
theorem dX0_init_81 : decode cX0_init 81 = .ok (.getfield 50, 3) := dk_180 0 50 (dk_at dksX0_init_3 13 rfl rfl)
theorem dX0_init_84 : decode cX0_init 84 = .ok (.invokespecial 56, 3) := dk_183 0 56 (dk_at dksX0_init_3 16 rfl rfl)
theorem dX0_init_87 : decode cX0_init 87 = .ok (.putfield 59, 3) := dk_181 0 59 (dk_at dksX0_init_3 19 rfl rfl)
theorem dX0_init_90 : decode cX0_init 90 = .ok (.aload_n 0, 1) := dk_42 (dk_at dksX0_init_3 22 rfl rfl)
theorem dX0_init_91 : decode cX0_init 91 = .ok (.new 63, 3) := dk_187 0 63 (dk_at dksX0_init_4 0 rfl rfl)
theorem dX0_init_94 : decode cX0_init 94 = .ok (.dup, 1) := dk_89 (dk_at dksX0_init_4 3 rfl rfl)
theorem dX0_init_95 : decode cX0_init 95 = .ok (.aload_n 0, 1) := dk_42 (dk_at dksX0_init_4 4 rfl rfl)
theorem dX0_init_96 : decode cX0_init 96 = .ok (.getfield 41, 3) := dk_180 0 41 (dk_at dksX0_init_4 5 rfl rfl)
theorem dX0_init_99 : decode cX0_init 99 = .ok (.invokespecial 65, 3) := dk_183 0 65 (dk_at dksX0_init_4 8 rfl rfl)
theorem dX0_init_102 : decode cX0_init 102 = .ok (.putfield 66, 3) := dk_181 0 66 (dk_at dksX0_init_4 11 rfl rfl)
theorem dX0_init_105 : decode cX0_init 105 = .ok (.aload_n 0, 1) := dk_42 (dk_at dksX0_init_4 14 rfl rfl)
theorem dX0_init_106 : decode cX0_init 106 = .ok (.new 70, 3) := dk_187 0 70 (dk_at dksX0_init_4 15 rfl rfl)
theorem dX0_init_109 : decode cX0_init 109 = .ok (.dup, 1) := dk_89 (dk_at dksX0_init_4 18 rfl rfl)
theorem dX0_init_110 : decode cX0_init 110 = .ok (.aload_n 0, 1) := dk_42 (dk_at dksX0_init_4 19 rfl rfl)
theorem dX0_init_111 : decode cX0_init 111 = .ok (.getfield 41, 3) := dk_180 0 41 (dk_at dksX0_init_4 20 rfl rfl)
theorem dX0_init_114 : decode cX0_init 114 = .ok (.aload_n 0, 1) := dk_42 (dk_at dksX0_init_4 23 rfl rfl)
theorem dX0_init_115 : decode cX0_init 115 = .ok (.getfield 50, 3) := dk_180 0 50 (dk_at dksX0_init_5 0 rfl rfl)
theorem dX0_init_118 : decode cX0_init 118 = .ok (.invokespecial 72, 3) := dk_183 0 72 (dk_at dksX0_init_5 3 rfl rfl)
theorem dX0_init_121 : decode cX0_init 121 = .ok (.putfield 73, 3) := dk_181 0 73 (dk_at dksX0_init_5 6 rfl rfl)
theorem dX0_init_124 : decode cX0_init 124 = .ok (.aload_n 0, 1) := dk_42 (dk_at dksX0_init_5 9 rfl rfl)
theorem dX0_init_125 : decode cX0_init 125 = .ok (.new 77, 3) := dk_187 0 77 (dk_at dksX0_init_5 10 rfl rfl)
theorem dX0_init_128 : decode cX0_init 128 = .ok (.dup, 1) := dk_89 (dk_at dksX0_init_5 13 rfl rfl)
theorem dX0_init_129 : decode cX0_init 129 = .ok (.invokespecial 79, 3) := dk_183 0 79 (dk_at dksX0_init_5 14 rfl rfl)
theorem dX0_init_132 : decode cX0_init 132 = .ok (.putfield 80, 3) := dk_181 0 80 (dk_at dksX0_init_5 17 rfl rfl)
theorem dX0_init_135 : decode cX0_init 135 = .ok (.aload_n 0, 1) := dk_42 (dk_at dksX0_init_5 20 rfl rfl)
theorem dX0_init_136 : decode cX0_init 136 = .ok (.iconst 3, 1) := dk_6 (dk_at dksX0_init_5 21 rfl rfl)
theorem dX0_init_137 : decode cX0_init 137 = .ok (.anewarray 38, 3) := dk_189 0 38 (dk_at dksX0_init_6 0 rfl rfl)
theorem dX0_init_140 : decode cX0_init 140 = .ok (.dup, 1) := dk_89 (dk_at dksX0_init_6 3 rfl rfl)
theorem dX0_init_141 : decode cX0_init 141 = .ok (.iconst 0, 1) := dk_3 (dk_at dksX0_init_6 4 rfl rfl)
theorem dX0_init_142 : decode cX0_init 142 = .ok (.new 38, 3) := dk_187 0 38 (dk_at dksX0_init_6 5 rfl rfl)
theorem dX0_init_145 : decode cX0_init 145 = .ok (.dup, 1) := dk_89 (dk_at dksX0_init_6 8 rfl rfl)
theorem dX0_init_146 : decode cX0_init 146 = .ok (.invokespecial 40, 3) := dk_183 0 40 (dk_at dksX0_init_6 9 rfl rfl)
theorem dX0_init_149 : decode cX0_init 149 = .ok (.aastore, 1) := dk_83 (dk_at dksX0_init_6 12 rfl rfl)
theorem dX0_init_150 : decode cX0_init 150 = .ok (.dup, 1) := dk_89 (dk_at dksX0_init_6 13 rfl rfl)
theorem dX0_init_151 : decode cX0_init 151 = .ok (.iconst 1, 1) := dk_4 (dk_at dksX0_init_6 14 rfl rfl)
theorem dX0_init_152 : decode cX0_init 152 = .ok (.new 38, 3) := dk_187 0 38 (dk_at dksX0_init_6 15 rfl rfl)
theorem dX0_init_155 : decode cX0_init 155 = .ok (.dup, 1) := dk_89 (dk_at dksX0_init_6 18 rfl rfl)
theorem dX0_init_156 : decode cX0_init 156 = .ok (.invokespecial 40, 3) := dk_183 0 40 (dk_at dksX0_init_6 19 rfl rfl)
theorem dX0_init_159 : decode cX0_init 159 = .ok (.aastore, 1) := dk_83 (dk_at dksX0_init_6 22 rfl rfl)
theorem dX0_init_160 : decode cX0_init 160 = .ok (.dup, 1) := dk_89 (dk_at dksX0_init_6 23 rfl rfl)
theorem dX0_init_161 : decode cX0_init 161 = .ok (.iconst 2, 1) := dk_5 (dk_at dksX0_init_7 0 rfl rfl)
theorem dX0_init_162 : decode cX0_init 162 = .ok (.new 38, 3) := dk_187 0 38 (dk_at dksX0_init_7 1 rfl rfl)
theorem dX0_init_165 : decode cX0_init 165 = .ok (.dup, 1) := dk_89 (dk_at dksX0_init_7 4 rfl rfl)
theorem dX0_init_166 : decode cX0_init 166 = .ok (.invokespecial 40, 3) := dk_183 0 40 (dk_at dksX0_init_7 5 rfl rfl)
theorem dX0_init_169 : decode cX0_init 169 = .ok (.aastore, 1) := dk_83 (dk_at dksX0_init_7 8 rfl rfl)
theorem dX0_init_170 : decode cX0_init 170 = .ok (.putfield 84, 3) := dk_181 0 84 (dk_at dksX0_init_7 9 rfl rfl)
theorem dX0_init_173 : decode cX0_init 173 = .ok (.aload_n 0, 1) := dk_42 (dk_at dksX0_init_7 12 rfl rfl)
theorem dX0_init_174 : decode cX0_init 174 = .ok (.iconst (-1), 1) := dk_2 (dk_at dksX0_init_7 13 rfl rfl)
theorem dX0_init_175 : decode cX0_init 175 = .ok (.putfield 88, 3) := dk_181 0 88 (dk_at dksX0_init_7 14 rfl rfl)
theorem dX0_init_178 : decode cX0_init 178 = .ok (.aload_n 0, 1) := dk_42 (dk_at dksX0_init_7 17 rfl rfl)
theorem dX0_init_179 : decode cX0_init 179 = .ok (.new 38, 3) := dk_187 0 38 (dk_at dksX0_init_7 18 rfl rfl)
theorem dX0_init_182 : decode cX0_init 182 = .ok (.dup, 1) := dk_89 (dk_at dksX0_init_7 21 rfl rfl)
theorem dX0_init_183 : decode cX0_init 183 = .ok (.invokespecial 40, 3) := dk_183 0 40 (dk_at dksX0_init_8 0 rfl rfl)
theorem dX0_init_186 : decode cX0_init 186 = .ok (.putfield 92, 3) := dk_181 0 92 (dk_at dksX0_init_8 3 rfl rfl)
theorem dX0_init_189 : decode cX0_init 189 = .ok (.aload_n 0, 1) := dk_42 (dk_at dksX0_init_8 6 rfl rfl)
theorem dX0_init_190 : decode cX0_init 190 = .ok (.new 45, 3) := dk_187 0 45 (dk_at dksX0_init_8 7 rfl rfl)
theorem dX0_init_193 : decode cX0_init 193 = .ok (.dup, 1) := dk_89 (dk_at dksX0_init_8 10 rfl rfl)
theorem dX0_init_194 : decode cX0_init 194 = .ok (.aload_n 0, 1) := dk_42 (dk_at dksX0_init_8 11 rfl rfl)
theorem dX0_init_195 : decode cX0_init 195 = .ok (.getfield 92, 3) := dk_180 0 92 (dk_at dksX0_init_8 12 rfl rfl)
theorem dX0_init_198 : decode cX0_init 198 = .ok (.invokespecial 47, 3) := dk_183 0 47 (dk_at dksX0_init_8 15 rfl rfl)
theorem dX0_init_201 : decode cX0_init 201 = .ok (.putfield 95, 3) := dk_181 0 95 (dk_at dksX0_init_8 18 rfl rfl)
theorem dX0_init_204 : decode cX0_init 204 = .ok (.aload_n 0, 1) := dk_42 (dk_at dksX0_init_8 21 rfl rfl)
theorem dX0_init_205 : decode cX0_init 205 = .ok (.new 98, 3) := dk_187 0 98 (dk_at dksX0_init_9 0 rfl rfl)
theorem dX0_init_208 : decode cX0_init 208 = .ok (.dup, 1) := dk_89 (dk_at dksX0_init_9 3 rfl rfl)
theorem dX0_init_209 : decode cX0_init 209 = .ok (.invokespecial 100, 3) := dk_183 0 100 (dk_at dksX0_init_9 4 rfl rfl)
theorem dX0_init_212 : decode cX0_init 212 = .ok (.putfield 101, 3) := dk_181 0 101 (dk_at dksX0_init_9 7 rfl rfl)
theorem dX0_init_215 : decode cX0_init 215 = .ok (.aload_n 0, 1) := dk_42 (dk_at dksX0_init_9 10 rfl rfl)
theorem dX0_init_216 : decode cX0_init 216 = .ok (.sipush 577, 3) := dk_17 2 65 (dk_at dksX0_init_9 11 rfl rfl)
theorem dX0_init_219 : decode cX0_init 219 = .ok (.newarray .long, 2) := dk_188_11 (dk_at dksX0_init_9 14 rfl rfl)
theorem dX0_init_221 : decode cX0_init 221 = .ok (.putfield 105, 3) := dk_181 0 105 (dk_at dksX0_init_9 16 rfl rfl)
theorem dX0_init_224 : decode cX0_init 224 = .ok (.return_, 1) := dk_177 (dk_at dksX0_init_9 19 rfl rfl)
abbrev cX0_feed : ByteArray := prog_1_method_5_code
def yX0_feed : MethodName := ⟨RX0, "feed", "(IIIII)I"⟩
def dkwX0_feed_2 : List UInt8 := [180, 0, 25, 180, 0, 109, 172]
abbrev dktX0_feed_2 : List UInt8 := dkwX0_feed_2 ++ []
def dkwX0_feed_1 : List UInt8 := [28, 182, 0, 112, 42, 29, 182, 0, 112, 42, 21, 4, 182, 0, 112, 42, 21, 5, 182, 0, 112, 42]
abbrev dktX0_feed_1 : List UInt8 := dkwX0_feed_1 ++ dktX0_feed_2
def dkwX0_feed_0 : List UInt8 := [42, 180, 0, 25, 180, 0, 109, 16, 20, 96, 17, 7, 208, 164, 0, 5, 2, 172, 42, 27, 182, 0, 112, 42]
abbrev dktX0_feed_0 : List UInt8 := dkwX0_feed_0 ++ dktX0_feed_1
theorem dksX0_feed_0 : cX0_feed.data.toList.drop 0 = dktX0_feed_0 := by decide +kernel
theorem dksX0_feed_1 : cX0_feed.data.toList.drop 24 = dktX0_feed_1 := dk_seg dksX0_feed_0 24 rfl rfl
theorem dksX0_feed_2 : cX0_feed.data.toList.drop 46 = dktX0_feed_2 := dk_seg dksX0_feed_1 22 rfl rfl
theorem dX0_feed_0 : decode cX0_feed 0 = .ok (.aload_n 0, 1) := dk_42 (dk_at dksX0_feed_0 0 rfl rfl)
theorem dX0_feed_1 : decode cX0_feed 1 = .ok (.getfield 25, 3) := dk_180 0 25 (dk_at dksX0_feed_0 1 rfl rfl)
theorem dX0_feed_4 : decode cX0_feed 4 = .ok (.getfield 109, 3) := dk_180 0 109 (dk_at dksX0_feed_0 4 rfl rfl)
theorem dX0_feed_7 : decode cX0_feed 7 = .ok (.bipush 20, 2) := dk_16 20 (dk_at dksX0_feed_0 7 rfl rfl)
theorem dX0_feed_9 : decode cX0_feed 9 = .ok (.iadd, 1) := dk_96 (dk_at dksX0_feed_0 9 rfl rfl)
theorem dX0_feed_10 : decode cX0_feed 10 = .ok (.sipush 2000, 3) := dk_17 7 208 (dk_at dksX0_feed_0 10 rfl rfl)
theorem dX0_feed_13 : decode cX0_feed 13 = .ok (.if_icmp .le 5, 3) := dk_164 0 5 (dk_at dksX0_feed_0 13 rfl rfl)
theorem dX0_feed_16 : decode cX0_feed 16 = .ok (.iconst (-1), 1) := dk_2 (dk_at dksX0_feed_0 16 rfl rfl)
theorem dX0_feed_17 : decode cX0_feed 17 = .ok (.ireturn, 1) := dk_172 (dk_at dksX0_feed_0 17 rfl rfl)
theorem dX0_feed_18 : decode cX0_feed 18 = .ok (.aload_n 0, 1) := dk_42 (dk_at dksX0_feed_0 18 rfl rfl)
theorem dX0_feed_19 : decode cX0_feed 19 = .ok (.iload_n 1, 1) := dk_27 (dk_at dksX0_feed_0 19 rfl rfl)
theorem dX0_feed_20 : decode cX0_feed 20 = .ok (.invokevirtual 112, 3) := dk_182 0 112 (dk_at dksX0_feed_0 20 rfl rfl)
theorem dX0_feed_23 : decode cX0_feed 23 = .ok (.aload_n 0, 1) := dk_42 (dk_at dksX0_feed_0 23 rfl rfl)
theorem dX0_feed_24 : decode cX0_feed 24 = .ok (.iload_n 2, 1) := dk_28 (dk_at dksX0_feed_1 0 rfl rfl)
theorem dX0_feed_25 : decode cX0_feed 25 = .ok (.invokevirtual 112, 3) := dk_182 0 112 (dk_at dksX0_feed_1 1 rfl rfl)
theorem dX0_feed_28 : decode cX0_feed 28 = .ok (.aload_n 0, 1) := dk_42 (dk_at dksX0_feed_1 4 rfl rfl)
theorem dX0_feed_29 : decode cX0_feed 29 = .ok (.iload_n 3, 1) := dk_29 (dk_at dksX0_feed_1 5 rfl rfl)
theorem dX0_feed_30 : decode cX0_feed 30 = .ok (.invokevirtual 112, 3) := dk_182 0 112 (dk_at dksX0_feed_1 6 rfl rfl)
theorem dX0_feed_33 : decode cX0_feed 33 = .ok (.aload_n 0, 1) := dk_42 (dk_at dksX0_feed_1 9 rfl rfl)
theorem dX0_feed_34 : decode cX0_feed 34 = .ok (.iload 4, 2) := dk_21 4 (dk_at dksX0_feed_1 10 rfl rfl)
theorem dX0_feed_36 : decode cX0_feed 36 = .ok (.invokevirtual 112, 3) := dk_182 0 112 (dk_at dksX0_feed_1 12 rfl rfl)
theorem dX0_feed_39 : decode cX0_feed 39 = .ok (.aload_n 0, 1) := dk_42 (dk_at dksX0_feed_1 15 rfl rfl)
theorem dX0_feed_40 : decode cX0_feed 40 = .ok (.iload 5, 2) := dk_21 5 (dk_at dksX0_feed_1 16 rfl rfl)
theorem dX0_feed_42 : decode cX0_feed 42 = .ok (.invokevirtual 112, 3) := dk_182 0 112 (dk_at dksX0_feed_1 18 rfl rfl)
theorem dX0_feed_45 : decode cX0_feed 45 = .ok (.aload_n 0, 1) := dk_42 (dk_at dksX0_feed_1 21 rfl rfl)
theorem dX0_feed_46 : decode cX0_feed 46 = .ok (.getfield 25, 3) := dk_180 0 25 (dk_at dksX0_feed_2 0 rfl rfl)
theorem dX0_feed_49 : decode cX0_feed 49 = .ok (.getfield 109, 3) := dk_180 0 109 (dk_at dksX0_feed_2 3 rfl rfl)
theorem dX0_feed_52 : decode cX0_feed 52 = .ok (.ireturn, 1) := dk_172 (dk_at dksX0_feed_2 6 rfl rfl)
abbrev cX0_typed : ByteArray := prog_1_method_6_code
def yX0_typed : MethodName := ⟨RX0, "typed", "(I)V"⟩
def dkwX0_typed_1 : List UInt8 := [145, 84, 42, 180, 0, 25, 89, 180, 0, 109, 4, 96, 181, 0, 109, 132, 2, 248, 167, 255, 217, 177]
abbrev dktX0_typed_1 : List UInt8 := dkwX0_typed_1 ++ []
def dkwX0_typed_0 : List UInt8 := [16, 24, 61, 28, 155, 0, 41, 42, 180, 0, 25, 180, 0, 116, 42, 180, 0, 25, 180, 0, 109, 27, 28, 122]
abbrev dktX0_typed_0 : List UInt8 := dkwX0_typed_0 ++ dktX0_typed_1
theorem dksX0_typed_0 : cX0_typed.data.toList.drop 0 = dktX0_typed_0 := by decide +kernel
theorem dksX0_typed_1 : cX0_typed.data.toList.drop 24 = dktX0_typed_1 := dk_seg dksX0_typed_0 24 rfl rfl
theorem dX0_typed_0 : decode cX0_typed 0 = .ok (.bipush 24, 2) := dk_16 24 (dk_at dksX0_typed_0 0 rfl rfl)
theorem dX0_typed_2 : decode cX0_typed 2 = .ok (.istore_n 2, 1) := dk_61 (dk_at dksX0_typed_0 2 rfl rfl)
theorem dX0_typed_3 : decode cX0_typed 3 = .ok (.iload_n 2, 1) := dk_28 (dk_at dksX0_typed_0 3 rfl rfl)
theorem dX0_typed_4 : decode cX0_typed 4 = .ok (.ifCond .lt 41, 3) := dk_155 0 41 (dk_at dksX0_typed_0 4 rfl rfl)
theorem dX0_typed_7 : decode cX0_typed 7 = .ok (.aload_n 0, 1) := dk_42 (dk_at dksX0_typed_0 7 rfl rfl)
theorem dX0_typed_8 : decode cX0_typed 8 = .ok (.getfield 25, 3) := dk_180 0 25 (dk_at dksX0_typed_0 8 rfl rfl)
theorem dX0_typed_11 : decode cX0_typed 11 = .ok (.getfield 116, 3) := dk_180 0 116 (dk_at dksX0_typed_0 11 rfl rfl)
theorem dX0_typed_14 : decode cX0_typed 14 = .ok (.aload_n 0, 1) := dk_42 (dk_at dksX0_typed_0 14 rfl rfl)
theorem dX0_typed_15 : decode cX0_typed 15 = .ok (.getfield 25, 3) := dk_180 0 25 (dk_at dksX0_typed_0 15 rfl rfl)
theorem dX0_typed_18 : decode cX0_typed 18 = .ok (.getfield 109, 3) := dk_180 0 109 (dk_at dksX0_typed_0 18 rfl rfl)
theorem dX0_typed_21 : decode cX0_typed 21 = .ok (.iload_n 1, 1) := dk_27 (dk_at dksX0_typed_0 21 rfl rfl)
theorem dX0_typed_22 : decode cX0_typed 22 = .ok (.iload_n 2, 1) := dk_28 (dk_at dksX0_typed_0 22 rfl rfl)
theorem dX0_typed_23 : decode cX0_typed 23 = .ok (.ishr, 1) := dk_122 (dk_at dksX0_typed_0 23 rfl rfl)
theorem dX0_typed_24 : decode cX0_typed 24 = .ok (.i2b, 1) := dk_145 (dk_at dksX0_typed_1 0 rfl rfl)
theorem dX0_typed_25 : decode cX0_typed 25 = .ok (.bastore, 1) := dk_84 (dk_at dksX0_typed_1 1 rfl rfl)
theorem dX0_typed_26 : decode cX0_typed 26 = .ok (.aload_n 0, 1) := dk_42 (dk_at dksX0_typed_1 2 rfl rfl)
theorem dX0_typed_27 : decode cX0_typed 27 = .ok (.getfield 25, 3) := dk_180 0 25 (dk_at dksX0_typed_1 3 rfl rfl)
theorem dX0_typed_30 : decode cX0_typed 30 = .ok (.dup, 1) := dk_89 (dk_at dksX0_typed_1 6 rfl rfl)
theorem dX0_typed_31 : decode cX0_typed 31 = .ok (.getfield 109, 3) := dk_180 0 109 (dk_at dksX0_typed_1 7 rfl rfl)
theorem dX0_typed_34 : decode cX0_typed 34 = .ok (.iconst 1, 1) := dk_4 (dk_at dksX0_typed_1 10 rfl rfl)
theorem dX0_typed_35 : decode cX0_typed 35 = .ok (.iadd, 1) := dk_96 (dk_at dksX0_typed_1 11 rfl rfl)
theorem dX0_typed_36 : decode cX0_typed 36 = .ok (.putfield 109, 3) := dk_181 0 109 (dk_at dksX0_typed_1 12 rfl rfl)
theorem dX0_typed_39 : decode cX0_typed 39 = .ok (.iinc 2 (-8), 3) := dk_132 2 248 (dk_at dksX0_typed_1 15 rfl rfl)
theorem dX0_typed_42 : decode cX0_typed 42 = .ok (.goto (-39), 3) := dk_167 255 217 (dk_at dksX0_typed_1 18 rfl rfl)
theorem dX0_typed_45 : decode cX0_typed 45 = .ok (.return_, 1) := dk_177 (dk_at dksX0_typed_1 21 rfl rfl)
abbrev cX0_back : ByteArray := prog_1_method_7_code
def yX0_back : MethodName := ⟨RX0, "back", "(I)I"⟩
def dkwX0_back_1 : List UInt8 := [180, 0, 109, 27, 100, 181, 0, 109, 42, 180, 0, 25, 180, 0, 109, 172]
abbrev dktX0_back_1 : List UInt8 := dkwX0_back_1 ++ []
def dkwX0_back_0 : List UInt8 := [27, 155, 0, 14, 27, 42, 180, 0, 25, 180, 0, 109, 164, 0, 5, 2, 172, 42, 180, 0, 25, 89]
abbrev dktX0_back_0 : List UInt8 := dkwX0_back_0 ++ dktX0_back_1
theorem dksX0_back_0 : cX0_back.data.toList.drop 0 = dktX0_back_0 := by decide +kernel
theorem dksX0_back_1 : cX0_back.data.toList.drop 22 = dktX0_back_1 := dk_seg dksX0_back_0 22 rfl rfl
theorem dX0_back_0 : decode cX0_back 0 = .ok (.iload_n 1, 1) := dk_27 (dk_at dksX0_back_0 0 rfl rfl)
theorem dX0_back_1 : decode cX0_back 1 = .ok (.ifCond .lt 14, 3) := dk_155 0 14 (dk_at dksX0_back_0 1 rfl rfl)
theorem dX0_back_4 : decode cX0_back 4 = .ok (.iload_n 1, 1) := dk_27 (dk_at dksX0_back_0 4 rfl rfl)
theorem dX0_back_5 : decode cX0_back 5 = .ok (.aload_n 0, 1) := dk_42 (dk_at dksX0_back_0 5 rfl rfl)
theorem dX0_back_6 : decode cX0_back 6 = .ok (.getfield 25, 3) := dk_180 0 25 (dk_at dksX0_back_0 6 rfl rfl)
theorem dX0_back_9 : decode cX0_back 9 = .ok (.getfield 109, 3) := dk_180 0 109 (dk_at dksX0_back_0 9 rfl rfl)
theorem dX0_back_12 : decode cX0_back 12 = .ok (.if_icmp .le 5, 3) := dk_164 0 5 (dk_at dksX0_back_0 12 rfl rfl)
theorem dX0_back_15 : decode cX0_back 15 = .ok (.iconst (-1), 1) := dk_2 (dk_at dksX0_back_0 15 rfl rfl)
theorem dX0_back_16 : decode cX0_back 16 = .ok (.ireturn, 1) := dk_172 (dk_at dksX0_back_0 16 rfl rfl)
theorem dX0_back_17 : decode cX0_back 17 = .ok (.aload_n 0, 1) := dk_42 (dk_at dksX0_back_0 17 rfl rfl)
theorem dX0_back_18 : decode cX0_back 18 = .ok (.getfield 25, 3) := dk_180 0 25 (dk_at dksX0_back_0 18 rfl rfl)
theorem dX0_back_21 : decode cX0_back 21 = .ok (.dup, 1) := dk_89 (dk_at dksX0_back_0 21 rfl rfl)
theorem dX0_back_22 : decode cX0_back 22 = .ok (.getfield 109, 3) := dk_180 0 109 (dk_at dksX0_back_1 0 rfl rfl)
theorem dX0_back_25 : decode cX0_back 25 = .ok (.iload_n 1, 1) := dk_27 (dk_at dksX0_back_1 3 rfl rfl)
theorem dX0_back_26 : decode cX0_back 26 = .ok (.isub, 1) := dk_100 (dk_at dksX0_back_1 4 rfl rfl)
theorem dX0_back_27 : decode cX0_back 27 = .ok (.putfield 109, 3) := dk_181 0 109 (dk_at dksX0_back_1 5 rfl rfl)
theorem dX0_back_30 : decode cX0_back 30 = .ok (.aload_n 0, 1) := dk_42 (dk_at dksX0_back_1 8 rfl rfl)
theorem dX0_back_31 : decode cX0_back 31 = .ok (.getfield 25, 3) := dk_180 0 25 (dk_at dksX0_back_1 9 rfl rfl)
theorem dX0_back_34 : decode cX0_back 34 = .ok (.getfield 109, 3) := dk_180 0 109 (dk_at dksX0_back_1 12 rfl rfl)
theorem dX0_back_37 : decode cX0_back 37 = .ok (.ireturn, 1) := dk_172 (dk_at dksX0_back_1 15 rfl rfl)
abbrev cX0_read : ByteArray := prog_1_method_8_code
def yX0_read : MethodName := ⟨RX0, "read", "()I"⟩
def dkwX0_read_3 : List UInt8 := [181, 0, 109, 27, 172]
abbrev dktX0_read_3 : List UInt8 := dkwX0_read_3 ++ []
def dkwX0_read_2 : List UInt8 := [167, 0, 17, 77, 44, 180, 0, 137, 60, 42, 44, 180, 0, 140, 181, 0, 88, 42, 180, 0, 25, 3]
abbrev dktX0_read_2 : List UInt8 := dkwX0_read_2 ++ dktX0_read_3
def dkwX0_read_1 : List UInt8 := [180, 0, 123, 182, 0, 124, 42, 3, 181, 0, 127, 42, 180, 0, 80, 182, 0, 131, 42, 3, 181, 0, 134]
abbrev dktX0_read_1 : List UInt8 := dkwX0_read_1 ++ dktX0_read_2
def dkwX0_read_0 : List UInt8 := [3, 60, 42, 2, 181, 0, 88, 42, 180, 0, 34, 182, 0, 120, 42, 180, 0, 41, 42, 180, 0, 34]
abbrev dktX0_read_0 : List UInt8 := dkwX0_read_0 ++ dktX0_read_1
theorem dksX0_read_0 : cX0_read.data.toList.drop 0 = dktX0_read_0 := by decide +kernel
theorem dksX0_read_1 : cX0_read.data.toList.drop 22 = dktX0_read_1 := dk_seg dksX0_read_0 22 rfl rfl
theorem dksX0_read_2 : cX0_read.data.toList.drop 45 = dktX0_read_2 := dk_seg dksX0_read_1 23 rfl rfl
theorem dksX0_read_3 : cX0_read.data.toList.drop 67 = dktX0_read_3 := dk_seg dksX0_read_2 22 rfl rfl
theorem dX0_read_0 : decode cX0_read 0 = .ok (.iconst 0, 1) := dk_3 (dk_at dksX0_read_0 0 rfl rfl)
theorem dX0_read_1 : decode cX0_read 1 = .ok (.istore_n 1, 1) := dk_60 (dk_at dksX0_read_0 1 rfl rfl)
theorem dX0_read_2 : decode cX0_read 2 = .ok (.aload_n 0, 1) := dk_42 (dk_at dksX0_read_0 2 rfl rfl)
theorem dX0_read_3 : decode cX0_read 3 = .ok (.iconst (-1), 1) := dk_2 (dk_at dksX0_read_0 3 rfl rfl)
theorem dX0_read_4 : decode cX0_read 4 = .ok (.putfield 88, 3) := dk_181 0 88 (dk_at dksX0_read_0 4 rfl rfl)
theorem dX0_read_7 : decode cX0_read 7 = .ok (.aload_n 0, 1) := dk_42 (dk_at dksX0_read_0 7 rfl rfl)
theorem dX0_read_8 : decode cX0_read 8 = .ok (.getfield 34, 3) := dk_180 0 34 (dk_at dksX0_read_0 8 rfl rfl)
theorem dX0_read_11 : decode cX0_read 11 = .ok (.invokevirtual 120, 3) := dk_182 0 120 (dk_at dksX0_read_0 11 rfl rfl)
theorem dX0_read_14 : decode cX0_read 14 = .ok (.aload_n 0, 1) := dk_42 (dk_at dksX0_read_0 14 rfl rfl)
theorem dX0_read_15 : decode cX0_read 15 = .ok (.getfield 41, 3) := dk_180 0 41 (dk_at dksX0_read_0 15 rfl rfl)
theorem dX0_read_18 : decode cX0_read 18 = .ok (.aload_n 0, 1) := dk_42 (dk_at dksX0_read_0 18 rfl rfl)
theorem dX0_read_19 : decode cX0_read 19 = .ok (.getfield 34, 3) := dk_180 0 34 (dk_at dksX0_read_0 19 rfl rfl)
theorem dX0_read_22 : decode cX0_read 22 = .ok (.getfield 123, 3) := dk_180 0 123 (dk_at dksX0_read_1 0 rfl rfl)
theorem dX0_read_25 : decode cX0_read 25 = .ok (.invokevirtual 124, 3) := dk_182 0 124 (dk_at dksX0_read_1 3 rfl rfl)
theorem dX0_read_28 : decode cX0_read 28 = .ok (.aload_n 0, 1) := dk_42 (dk_at dksX0_read_1 6 rfl rfl)
theorem dX0_read_29 : decode cX0_read 29 = .ok (.iconst 0, 1) := dk_3 (dk_at dksX0_read_1 7 rfl rfl)
theorem dX0_read_30 : decode cX0_read 30 = .ok (.putfield 127, 3) := dk_181 0 127 (dk_at dksX0_read_1 8 rfl rfl)
theorem dX0_read_33 : decode cX0_read 33 = .ok (.aload_n 0, 1) := dk_42 (dk_at dksX0_read_1 11 rfl rfl)
theorem dX0_read_34 : decode cX0_read 34 = .ok (.getfield 80, 3) := dk_180 0 80 (dk_at dksX0_read_1 12 rfl rfl)
theorem dX0_read_37 : decode cX0_read 37 = .ok (.invokevirtual 131, 3) := dk_182 0 131 (dk_at dksX0_read_1 15 rfl rfl)
theorem dX0_read_40 : decode cX0_read 40 = .ok (.aload_n 0, 1) := dk_42 (dk_at dksX0_read_1 18 rfl rfl)
theorem dX0_read_41 : decode cX0_read 41 = .ok (.iconst 0, 1) := dk_3 (dk_at dksX0_read_1 19 rfl rfl)
theorem dX0_read_42 : decode cX0_read 42 = .ok (.putfield 134, 3) := dk_181 0 134 (dk_at dksX0_read_1 20 rfl rfl)
theorem dX0_read_45 : decode cX0_read 45 = .ok (.goto 17, 3) := dk_167 0 17 (dk_at dksX0_read_2 0 rfl rfl)
theorem dX0_read_48 : decode cX0_read 48 = .ok (.astore_n 2, 1) := dk_77 (dk_at dksX0_read_2 3 rfl rfl)
theorem dX0_read_49 : decode cX0_read 49 = .ok (.aload_n 2, 1) := dk_44 (dk_at dksX0_read_2 4 rfl rfl)
theorem dX0_read_50 : decode cX0_read 50 = .ok (.getfield 137, 3) := dk_180 0 137 (dk_at dksX0_read_2 5 rfl rfl)
theorem dX0_read_53 : decode cX0_read 53 = .ok (.istore_n 1, 1) := dk_60 (dk_at dksX0_read_2 8 rfl rfl)
theorem dX0_read_54 : decode cX0_read 54 = .ok (.aload_n 0, 1) := dk_42 (dk_at dksX0_read_2 9 rfl rfl)
theorem dX0_read_55 : decode cX0_read 55 = .ok (.aload_n 2, 1) := dk_44 (dk_at dksX0_read_2 10 rfl rfl)
theorem dX0_read_56 : decode cX0_read 56 = .ok (.getfield 140, 3) := dk_180 0 140 (dk_at dksX0_read_2 11 rfl rfl)
theorem dX0_read_59 : decode cX0_read 59 = .ok (.putfield 88, 3) := dk_181 0 88 (dk_at dksX0_read_2 14 rfl rfl)
theorem dX0_read_62 : decode cX0_read 62 = .ok (.aload_n 0, 1) := dk_42 (dk_at dksX0_read_2 17 rfl rfl)
theorem dX0_read_63 : decode cX0_read 63 = .ok (.getfield 25, 3) := dk_180 0 25 (dk_at dksX0_read_2 18 rfl rfl)
theorem dX0_read_66 : decode cX0_read 66 = .ok (.iconst 0, 1) := dk_3 (dk_at dksX0_read_2 21 rfl rfl)
theorem dX0_read_67 : decode cX0_read 67 = .ok (.putfield 109, 3) := dk_181 0 109 (dk_at dksX0_read_3 0 rfl rfl)
theorem dX0_read_70 : decode cX0_read 70 = .ok (.iload_n 1, 1) := dk_27 (dk_at dksX0_read_3 3 rfl rfl)
theorem dX0_read_71 : decode cX0_read 71 = .ok (.ireturn, 1) := dk_172 (dk_at dksX0_read_3 4 rfl rfl)
abbrev cX0_isIn : ByteArray := prog_1_method_1_code
def yX0_isIn : MethodName := ⟨RX0, "isIn", "(III)Z"⟩
def dkwX0_isIn_0 : List UInt8 := [26, 27, 161, 0, 12, 26, 28, 163, 0, 7, 4, 167, 0, 4, 3, 172]
abbrev dktX0_isIn_0 : List UInt8 := dkwX0_isIn_0 ++ []
theorem dksX0_isIn_0 : cX0_isIn.data.toList.drop 0 = dktX0_isIn_0 := by decide +kernel
theorem dX0_isIn_0 : decode cX0_isIn 0 = .ok (.iload_n 0, 1) := dk_26 (dk_at dksX0_isIn_0 0 rfl rfl)
theorem dX0_isIn_1 : decode cX0_isIn 1 = .ok (.iload_n 1, 1) := dk_27 (dk_at dksX0_isIn_0 1 rfl rfl)
theorem dX0_isIn_2 : decode cX0_isIn 2 = .ok (.if_icmp .lt 12, 3) := dk_161 0 12 (dk_at dksX0_isIn_0 2 rfl rfl)
theorem dX0_isIn_5 : decode cX0_isIn 5 = .ok (.iload_n 0, 1) := dk_26 (dk_at dksX0_isIn_0 5 rfl rfl)
theorem dX0_isIn_6 : decode cX0_isIn 6 = .ok (.iload_n 2, 1) := dk_28 (dk_at dksX0_isIn_0 6 rfl rfl)
theorem dX0_isIn_7 : decode cX0_isIn 7 = .ok (.if_icmp .gt 7, 3) := dk_163 0 7 (dk_at dksX0_isIn_0 7 rfl rfl)
theorem dX0_isIn_10 : decode cX0_isIn 10 = .ok (.iconst 1, 1) := dk_4 (dk_at dksX0_isIn_0 10 rfl rfl)
theorem dX0_isIn_11 : decode cX0_isIn 11 = .ok (.goto 4, 3) := dk_167 0 4 (dk_at dksX0_isIn_0 11 rfl rfl)
theorem dX0_isIn_14 : decode cX0_isIn 14 = .ok (.iconst 0, 1) := dk_3 (dk_at dksX0_isIn_0 14 rfl rfl)
theorem dX0_isIn_15 : decode cX0_isIn 15 = .ok (.ireturn, 1) := dk_172 (dk_at dksX0_isIn_0 15 rfl rfl)
abbrev cX0_has : ByteArray := prog_1_method_2_code
def yX0_has : MethodName := ⟨RX0, "has", "(II)Z"⟩
def dkwX0_has_0 : List UInt8 := [26, 27, 122, 4, 126, 4, 160, 0, 7, 4, 167, 0, 4, 3, 172]
abbrev dktX0_has_0 : List UInt8 := dkwX0_has_0 ++ []
theorem dksX0_has_0 : cX0_has.data.toList.drop 0 = dktX0_has_0 := by decide +kernel
theorem dX0_has_0 : decode cX0_has 0 = .ok (.iload_n 0, 1) := dk_26 (dk_at dksX0_has_0 0 rfl rfl)
theorem dX0_has_1 : decode cX0_has 1 = .ok (.iload_n 1, 1) := dk_27 (dk_at dksX0_has_0 1 rfl rfl)
theorem dX0_has_2 : decode cX0_has 2 = .ok (.ishr, 1) := dk_122 (dk_at dksX0_has_0 2 rfl rfl)
theorem dX0_has_3 : decode cX0_has 3 = .ok (.iconst 1, 1) := dk_4 (dk_at dksX0_has_0 3 rfl rfl)
theorem dX0_has_4 : decode cX0_has 4 = .ok (.iand, 1) := dk_126 (dk_at dksX0_has_0 4 rfl rfl)
theorem dX0_has_5 : decode cX0_has 5 = .ok (.iconst 1, 1) := dk_4 (dk_at dksX0_has_0 5 rfl rfl)
theorem dX0_has_6 : decode cX0_has 6 = .ok (.if_icmp .ne 7, 3) := dk_160 0 7 (dk_at dksX0_has_0 6 rfl rfl)
theorem dX0_has_9 : decode cX0_has 9 = .ok (.iconst 1, 1) := dk_4 (dk_at dksX0_has_0 9 rfl rfl)
theorem dX0_has_10 : decode cX0_has 10 = .ok (.goto 4, 3) := dk_167 0 4 (dk_at dksX0_has_0 10 rfl rfl)
theorem dX0_has_13 : decode cX0_has 13 = .ok (.iconst 0, 1) := dk_3 (dk_at dksX0_has_0 13 rfl rfl)
theorem dX0_has_14 : decode cX0_has 14 = .ok (.ireturn, 1) := dk_172 (dk_at dksX0_has_0 14 rfl rfl)
abbrev cX0_place : ByteArray := prog_1_method_9_code
def yX0_place : MethodName := ⟨RX0, "place", "()I"⟩
theorem dX0_place_0 : decode cX0_place 0 = .ok (.aload_n 0, 1) := by decide +kernel
theorem dX0_place_1 : decode cX0_place 1 = .ok (.getfield 88, 3) := by decide +kernel
theorem dX0_place_4 : decode cX0_place 4 = .ok (.ireturn, 1) := by decide +kernel
abbrev cX0_tie : ByteArray := prog_1_method_12_code
def yX0_tie : MethodName := ⟨RX0, "tie", "(IZI)Z"⟩
def dkwX0_tie_2 : List UInt8 := [42, 4, 182, 0, 171, 42, 180, 0, 41, 27, 28, 29, 182, 0, 175, 4, 172]
abbrev dktX0_tie_2 : List UInt8 := dkwX0_tie_2 ++ []
def dkwX0_tie_1 : List UInt8 := [16, 253, 6, 184, 0, 164, 153, 0, 16, 42, 180, 0, 41, 27, 28, 182, 0, 168, 29, 160, 0, 5, 3, 172]
abbrev dktX0_tie_1 : List UInt8 := dkwX0_tie_1 ++ dktX0_tie_2
def dkwX0_tie_0 : List UInt8 := [42, 180, 0, 41, 27, 182, 0, 156, 153, 0, 38, 42, 180, 0, 41, 27, 28, 182, 0, 160, 155, 0, 26, 29]
abbrev dktX0_tie_0 : List UInt8 := dkwX0_tie_0 ++ dktX0_tie_1
theorem dksX0_tie_0 : cX0_tie.data.toList.drop 0 = dktX0_tie_0 := by decide +kernel
theorem dksX0_tie_1 : cX0_tie.data.toList.drop 24 = dktX0_tie_1 := dk_seg dksX0_tie_0 24 rfl rfl
theorem dksX0_tie_2 : cX0_tie.data.toList.drop 48 = dktX0_tie_2 := dk_seg dksX0_tie_1 24 rfl rfl
theorem dX0_tie_0 : decode cX0_tie 0 = .ok (.aload_n 0, 1) := dk_42 (dk_at dksX0_tie_0 0 rfl rfl)
theorem dX0_tie_1 : decode cX0_tie 1 = .ok (.getfield 41, 3) := dk_180 0 41 (dk_at dksX0_tie_0 1 rfl rfl)
theorem dX0_tie_4 : decode cX0_tie 4 = .ok (.iload_n 1, 1) := dk_27 (dk_at dksX0_tie_0 4 rfl rfl)
theorem dX0_tie_5 : decode cX0_tie 5 = .ok (.invokevirtual 156, 3) := dk_182 0 156 (dk_at dksX0_tie_0 5 rfl rfl)
theorem dX0_tie_8 : decode cX0_tie 8 = .ok (.ifCond .eq 38, 3) := dk_153 0 38 (dk_at dksX0_tie_0 8 rfl rfl)
theorem dX0_tie_11 : decode cX0_tie 11 = .ok (.aload_n 0, 1) := dk_42 (dk_at dksX0_tie_0 11 rfl rfl)
theorem dX0_tie_12 : decode cX0_tie 12 = .ok (.getfield 41, 3) := dk_180 0 41 (dk_at dksX0_tie_0 12 rfl rfl)
theorem dX0_tie_15 : decode cX0_tie 15 = .ok (.iload_n 1, 1) := dk_27 (dk_at dksX0_tie_0 15 rfl rfl)
theorem dX0_tie_16 : decode cX0_tie 16 = .ok (.iload_n 2, 1) := dk_28 (dk_at dksX0_tie_0 16 rfl rfl)
theorem dX0_tie_17 : decode cX0_tie 17 = .ok (.invokevirtual 160, 3) := dk_182 0 160 (dk_at dksX0_tie_0 17 rfl rfl)
theorem dX0_tie_20 : decode cX0_tie 20 = .ok (.ifCond .lt 26, 3) := dk_155 0 26 (dk_at dksX0_tie_0 20 rfl rfl)
theorem dX0_tie_23 : decode cX0_tie 23 = .ok (.iload_n 3, 1) := dk_29 (dk_at dksX0_tie_0 23 rfl rfl)
theorem dX0_tie_24 : decode cX0_tie 24 = .ok (.bipush (-3), 2) := dk_16 253 (dk_at dksX0_tie_1 0 rfl rfl)
theorem dX0_tie_26 : decode cX0_tie 26 = .ok (.iconst 3, 1) := dk_6 (dk_at dksX0_tie_1 2 rfl rfl)
theorem dX0_tie_27 : decode cX0_tie 27 = .ok (.invokestatic 164, 3) := dk_184 0 164 (dk_at dksX0_tie_1 3 rfl rfl)
theorem dX0_tie_30 : decode cX0_tie 30 = .ok (.ifCond .eq 16, 3) := dk_153 0 16 (dk_at dksX0_tie_1 6 rfl rfl)
theorem dX0_tie_33 : decode cX0_tie 33 = .ok (.aload_n 0, 1) := dk_42 (dk_at dksX0_tie_1 9 rfl rfl)
theorem dX0_tie_34 : decode cX0_tie 34 = .ok (.getfield 41, 3) := dk_180 0 41 (dk_at dksX0_tie_1 10 rfl rfl)
theorem dX0_tie_37 : decode cX0_tie 37 = .ok (.iload_n 1, 1) := dk_27 (dk_at dksX0_tie_1 13 rfl rfl)
theorem dX0_tie_38 : decode cX0_tie 38 = .ok (.iload_n 2, 1) := dk_28 (dk_at dksX0_tie_1 14 rfl rfl)
theorem dX0_tie_39 : decode cX0_tie 39 = .ok (.invokevirtual 168, 3) := dk_182 0 168 (dk_at dksX0_tie_1 15 rfl rfl)
theorem dX0_tie_42 : decode cX0_tie 42 = .ok (.iload_n 3, 1) := dk_29 (dk_at dksX0_tie_1 18 rfl rfl)
theorem dX0_tie_43 : decode cX0_tie 43 = .ok (.if_icmp .ne 5, 3) := dk_160 0 5 (dk_at dksX0_tie_1 19 rfl rfl)
theorem dX0_tie_46 : decode cX0_tie 46 = .ok (.iconst 0, 1) := dk_3 (dk_at dksX0_tie_1 22 rfl rfl)
theorem dX0_tie_47 : decode cX0_tie 47 = .ok (.ireturn, 1) := dk_172 (dk_at dksX0_tie_1 23 rfl rfl)
theorem dX0_tie_48 : decode cX0_tie 48 = .ok (.aload_n 0, 1) := dk_42 (dk_at dksX0_tie_2 0 rfl rfl)
theorem dX0_tie_49 : decode cX0_tie 49 = .ok (.iconst 1, 1) := dk_4 (dk_at dksX0_tie_2 1 rfl rfl)
theorem dX0_tie_50 : decode cX0_tie 50 = .ok (.invokevirtual 171, 3) := dk_182 0 171 (dk_at dksX0_tie_2 2 rfl rfl)
theorem dX0_tie_53 : decode cX0_tie 53 = .ok (.aload_n 0, 1) := dk_42 (dk_at dksX0_tie_2 5 rfl rfl)
theorem dX0_tie_54 : decode cX0_tie 54 = .ok (.getfield 41, 3) := dk_180 0 41 (dk_at dksX0_tie_2 6 rfl rfl)
theorem dX0_tie_57 : decode cX0_tie 57 = .ok (.iload_n 1, 1) := dk_27 (dk_at dksX0_tie_2 9 rfl rfl)
theorem dX0_tie_58 : decode cX0_tie 58 = .ok (.iload_n 2, 1) := dk_28 (dk_at dksX0_tie_2 10 rfl rfl)
theorem dX0_tie_59 : decode cX0_tie 59 = .ok (.iload_n 3, 1) := dk_29 (dk_at dksX0_tie_2 11 rfl rfl)
theorem dX0_tie_60 : decode cX0_tie 60 = .ok (.invokevirtual 175, 3) := dk_182 0 175 (dk_at dksX0_tie_2 12 rfl rfl)
theorem dX0_tie_63 : decode cX0_tie 63 = .ok (.iconst 1, 1) := dk_4 (dk_at dksX0_tie_2 15 rfl rfl)
theorem dX0_tie_64 : decode cX0_tie 64 = .ok (.ireturn, 1) := dk_172 (dk_at dksX0_tie_2 16 rfl rfl)
abbrev cX0_keeps : ByteArray := prog_1_method_11_code
def yX0_keeps : MethodName := ⟨RX0, "keeps", "(Z)V"⟩
def dkwX0_keeps_2 : List UInt8 := [182, 0, 152, 42, 42, 180, 0, 127, 153, 0, 11, 27, 154, 0, 7, 4, 167, 0, 4, 3, 181, 0, 127, 177]
abbrev dktX0_keeps_2 : List UInt8 := dkwX0_keeps_2 ++ []
def dkwX0_keeps_1 : List UInt8 := [167, 0, 10, 187, 0, 38, 89, 183, 0, 40, 77, 44, 42, 180, 0, 41, 182, 0, 124, 42, 180, 0, 80, 44]
abbrev dktX0_keeps_1 : List UInt8 := dkwX0_keeps_1 ++ dktX0_keeps_2
def dkwX0_keeps_0 : List UInt8 := [42, 180, 0, 80, 182, 0, 144, 16, 40, 160, 0, 16, 42, 180, 0, 80, 182, 0, 148, 192, 0, 38]
abbrev dktX0_keeps_0 : List UInt8 := dkwX0_keeps_0 ++ dktX0_keeps_1
theorem dksX0_keeps_0 : cX0_keeps.data.toList.drop 0 = dktX0_keeps_0 := by decide +kernel
theorem dksX0_keeps_1 : cX0_keeps.data.toList.drop 22 = dktX0_keeps_1 := dk_seg dksX0_keeps_0 22 rfl rfl
theorem dksX0_keeps_2 : cX0_keeps.data.toList.drop 46 = dktX0_keeps_2 := dk_seg dksX0_keeps_1 24 rfl rfl
theorem dX0_keeps_0 : decode cX0_keeps 0 = .ok (.aload_n 0, 1) := dk_42 (dk_at dksX0_keeps_0 0 rfl rfl)
theorem dX0_keeps_1 : decode cX0_keeps 1 = .ok (.getfield 80, 3) := dk_180 0 80 (dk_at dksX0_keeps_0 1 rfl rfl)
theorem dX0_keeps_4 : decode cX0_keeps 4 = .ok (.invokevirtual 144, 3) := dk_182 0 144 (dk_at dksX0_keeps_0 4 rfl rfl)
theorem dX0_keeps_7 : decode cX0_keeps 7 = .ok (.bipush 40, 2) := dk_16 40 (dk_at dksX0_keeps_0 7 rfl rfl)
theorem dX0_keeps_9 : decode cX0_keeps 9 = .ok (.if_icmp .ne 16, 3) := dk_160 0 16 (dk_at dksX0_keeps_0 9 rfl rfl)
theorem dX0_keeps_12 : decode cX0_keeps 12 = .ok (.aload_n 0, 1) := dk_42 (dk_at dksX0_keeps_0 12 rfl rfl)
theorem dX0_keeps_13 : decode cX0_keeps 13 = .ok (.getfield 80, 3) := dk_180 0 80 (dk_at dksX0_keeps_0 13 rfl rfl)
theorem dX0_keeps_16 : decode cX0_keeps 16 = .ok (.invokevirtual 148, 3) := dk_182 0 148 (dk_at dksX0_keeps_0 16 rfl rfl)
theorem dX0_keeps_19 : decode cX0_keeps 19 = .ok (.checkcast 38, 3) := dk_192 0 38 (dk_at dksX0_keeps_0 19 rfl rfl)
theorem dX0_keeps_22 : decode cX0_keeps 22 = .ok (.goto 10, 3) := dk_167 0 10 (dk_at dksX0_keeps_1 0 rfl rfl)
theorem dX0_keeps_25 : decode cX0_keeps 25 = .ok (.new 38, 3) := dk_187 0 38 (dk_at dksX0_keeps_1 3 rfl rfl)
theorem dX0_keeps_28 : decode cX0_keeps 28 = .ok (.dup, 1) := dk_89 (dk_at dksX0_keeps_1 6 rfl rfl)
theorem dX0_keeps_29 : decode cX0_keeps 29 = .ok (.invokespecial 40, 3) := dk_183 0 40 (dk_at dksX0_keeps_1 7 rfl rfl)
theorem dX0_keeps_32 : decode cX0_keeps 32 = .ok (.astore_n 2, 1) := dk_77 (dk_at dksX0_keeps_1 10 rfl rfl)
theorem dX0_keeps_33 : decode cX0_keeps 33 = .ok (.aload_n 2, 1) := dk_44 (dk_at dksX0_keeps_1 11 rfl rfl)
theorem dX0_keeps_34 : decode cX0_keeps 34 = .ok (.aload_n 0, 1) := dk_42 (dk_at dksX0_keeps_1 12 rfl rfl)
theorem dX0_keeps_35 : decode cX0_keeps 35 = .ok (.getfield 41, 3) := dk_180 0 41 (dk_at dksX0_keeps_1 13 rfl rfl)
theorem dX0_keeps_38 : decode cX0_keeps 38 = .ok (.invokevirtual 124, 3) := dk_182 0 124 (dk_at dksX0_keeps_1 16 rfl rfl)
theorem dX0_keeps_41 : decode cX0_keeps 41 = .ok (.aload_n 0, 1) := dk_42 (dk_at dksX0_keeps_1 19 rfl rfl)
theorem dX0_keeps_42 : decode cX0_keeps 42 = .ok (.getfield 80, 3) := dk_180 0 80 (dk_at dksX0_keeps_1 20 rfl rfl)
theorem dX0_keeps_45 : decode cX0_keeps 45 = .ok (.aload_n 2, 1) := dk_44 (dk_at dksX0_keeps_1 23 rfl rfl)
theorem dX0_keeps_46 : decode cX0_keeps 46 = .ok (.invokevirtual 152, 3) := dk_182 0 152 (dk_at dksX0_keeps_2 0 rfl rfl)
theorem dX0_keeps_49 : decode cX0_keeps 49 = .ok (.aload_n 0, 1) := dk_42 (dk_at dksX0_keeps_2 3 rfl rfl)
theorem dX0_keeps_50 : decode cX0_keeps 50 = .ok (.aload_n 0, 1) := dk_42 (dk_at dksX0_keeps_2 4 rfl rfl)
theorem dX0_keeps_51 : decode cX0_keeps 51 = .ok (.getfield 127, 3) := dk_180 0 127 (dk_at dksX0_keeps_2 5 rfl rfl)
theorem dX0_keeps_54 : decode cX0_keeps 54 = .ok (.ifCond .eq 11, 3) := dk_153 0 11 (dk_at dksX0_keeps_2 8 rfl rfl)
theorem dX0_keeps_57 : decode cX0_keeps 57 = .ok (.iload_n 1, 1) := dk_27 (dk_at dksX0_keeps_2 11 rfl rfl)
theorem dX0_keeps_58 : decode cX0_keeps 58 = .ok (.ifCond .ne 7, 3) := dk_154 0 7 (dk_at dksX0_keeps_2 12 rfl rfl)
theorem dX0_keeps_61 : decode cX0_keeps 61 = .ok (.iconst 1, 1) := dk_4 (dk_at dksX0_keeps_2 15 rfl rfl)
theorem dX0_keeps_62 : decode cX0_keeps 62 = .ok (.goto 4, 3) := dk_167 0 4 (dk_at dksX0_keeps_2 16 rfl rfl)
theorem dX0_keeps_65 : decode cX0_keeps 65 = .ok (.iconst 0, 1) := dk_3 (dk_at dksX0_keeps_2 19 rfl rfl)
theorem dX0_keeps_66 : decode cX0_keeps 66 = .ok (.putfield 127, 3) := dk_181 0 127 (dk_at dksX0_keeps_2 20 rfl rfl)
theorem dX0_keeps_69 : decode cX0_keeps 69 = .ok (.return_, 1) := dk_177 (dk_at dksX0_keeps_2 23 rfl rfl)
abbrev cX0_pull : ByteArray := prog_1_method_13_code
def yX0_pull : MethodName := ⟨RX0, "pull", "(II)Z"⟩
def dkwX0_pull_2 : List UInt8 := [180, 0, 179, 27, 28, 79, 4, 172]
abbrev dktX0_pull_2 : List UInt8 := dkwX0_pull_2 ++ []
def dkwX0_pull_1 : List UInt8 := [180, 0, 41, 180, 0, 179, 27, 46, 28, 160, 0, 5, 3, 172, 42, 4, 182, 0, 171, 42, 180, 0, 41]
abbrev dktX0_pull_1 : List UInt8 := dkwX0_pull_1 ++ dktX0_pull_2
def dkwX0_pull_0 : List UInt8 := [42, 180, 0, 41, 27, 182, 0, 156, 153, 0, 26, 28, 16, 253, 6, 184, 0, 164, 153, 0, 16, 42]
abbrev dktX0_pull_0 : List UInt8 := dkwX0_pull_0 ++ dktX0_pull_1
theorem dksX0_pull_0 : cX0_pull.data.toList.drop 0 = dktX0_pull_0 := by decide +kernel
theorem dksX0_pull_1 : cX0_pull.data.toList.drop 22 = dktX0_pull_1 := dk_seg dksX0_pull_0 22 rfl rfl
theorem dksX0_pull_2 : cX0_pull.data.toList.drop 45 = dktX0_pull_2 := dk_seg dksX0_pull_1 23 rfl rfl
theorem dX0_pull_0 : decode cX0_pull 0 = .ok (.aload_n 0, 1) := dk_42 (dk_at dksX0_pull_0 0 rfl rfl)
theorem dX0_pull_1 : decode cX0_pull 1 = .ok (.getfield 41, 3) := dk_180 0 41 (dk_at dksX0_pull_0 1 rfl rfl)
theorem dX0_pull_4 : decode cX0_pull 4 = .ok (.iload_n 1, 1) := dk_27 (dk_at dksX0_pull_0 4 rfl rfl)
theorem dX0_pull_5 : decode cX0_pull 5 = .ok (.invokevirtual 156, 3) := dk_182 0 156 (dk_at dksX0_pull_0 5 rfl rfl)
theorem dX0_pull_8 : decode cX0_pull 8 = .ok (.ifCond .eq 26, 3) := dk_153 0 26 (dk_at dksX0_pull_0 8 rfl rfl)
theorem dX0_pull_11 : decode cX0_pull 11 = .ok (.iload_n 2, 1) := dk_28 (dk_at dksX0_pull_0 11 rfl rfl)
theorem dX0_pull_12 : decode cX0_pull 12 = .ok (.bipush (-3), 2) := dk_16 253 (dk_at dksX0_pull_0 12 rfl rfl)
theorem dX0_pull_14 : decode cX0_pull 14 = .ok (.iconst 3, 1) := dk_6 (dk_at dksX0_pull_0 14 rfl rfl)
theorem dX0_pull_15 : decode cX0_pull 15 = .ok (.invokestatic 164, 3) := dk_184 0 164 (dk_at dksX0_pull_0 15 rfl rfl)
theorem dX0_pull_18 : decode cX0_pull 18 = .ok (.ifCond .eq 16, 3) := dk_153 0 16 (dk_at dksX0_pull_0 18 rfl rfl)
theorem dX0_pull_21 : decode cX0_pull 21 = .ok (.aload_n 0, 1) := dk_42 (dk_at dksX0_pull_0 21 rfl rfl)
theorem dX0_pull_22 : decode cX0_pull 22 = .ok (.getfield 41, 3) := dk_180 0 41 (dk_at dksX0_pull_1 0 rfl rfl)
theorem dX0_pull_25 : decode cX0_pull 25 = .ok (.getfield 179, 3) := dk_180 0 179 (dk_at dksX0_pull_1 3 rfl rfl)
theorem dX0_pull_28 : decode cX0_pull 28 = .ok (.iload_n 1, 1) := dk_27 (dk_at dksX0_pull_1 6 rfl rfl)
theorem dX0_pull_29 : decode cX0_pull 29 = .ok (.iaload, 1) := dk_46 (dk_at dksX0_pull_1 7 rfl rfl)
theorem dX0_pull_30 : decode cX0_pull 30 = .ok (.iload_n 2, 1) := dk_28 (dk_at dksX0_pull_1 8 rfl rfl)
theorem dX0_pull_31 : decode cX0_pull 31 = .ok (.if_icmp .ne 5, 3) := dk_160 0 5 (dk_at dksX0_pull_1 9 rfl rfl)
theorem dX0_pull_34 : decode cX0_pull 34 = .ok (.iconst 0, 1) := dk_3 (dk_at dksX0_pull_1 12 rfl rfl)
theorem dX0_pull_35 : decode cX0_pull 35 = .ok (.ireturn, 1) := dk_172 (dk_at dksX0_pull_1 13 rfl rfl)
theorem dX0_pull_36 : decode cX0_pull 36 = .ok (.aload_n 0, 1) := dk_42 (dk_at dksX0_pull_1 14 rfl rfl)
theorem dX0_pull_37 : decode cX0_pull 37 = .ok (.iconst 1, 1) := dk_4 (dk_at dksX0_pull_1 15 rfl rfl)
theorem dX0_pull_38 : decode cX0_pull 38 = .ok (.invokevirtual 171, 3) := dk_182 0 171 (dk_at dksX0_pull_1 16 rfl rfl)
theorem dX0_pull_41 : decode cX0_pull 41 = .ok (.aload_n 0, 1) := dk_42 (dk_at dksX0_pull_1 19 rfl rfl)
theorem dX0_pull_42 : decode cX0_pull 42 = .ok (.getfield 41, 3) := dk_180 0 41 (dk_at dksX0_pull_1 20 rfl rfl)
theorem dX0_pull_45 : decode cX0_pull 45 = .ok (.getfield 179, 3) := dk_180 0 179 (dk_at dksX0_pull_2 0 rfl rfl)
theorem dX0_pull_48 : decode cX0_pull 48 = .ok (.iload_n 1, 1) := dk_27 (dk_at dksX0_pull_2 3 rfl rfl)
theorem dX0_pull_49 : decode cX0_pull 49 = .ok (.iload_n 2, 1) := dk_28 (dk_at dksX0_pull_2 4 rfl rfl)
theorem dX0_pull_50 : decode cX0_pull 50 = .ok (.iastore, 1) := dk_79 (dk_at dksX0_pull_2 5 rfl rfl)
theorem dX0_pull_51 : decode cX0_pull 51 = .ok (.iconst 1, 1) := dk_4 (dk_at dksX0_pull_2 6 rfl rfl)
theorem dX0_pull_52 : decode cX0_pull 52 = .ok (.ireturn, 1) := dk_172 (dk_at dksX0_pull_2 7 rfl rfl)
abbrev cX0_pin : ByteArray := prog_1_method_15_code
def yX0_pin : MethodName := ⟨RX0, "pin", "(II)Z"⟩
def dkwX0_pin_5 : List UInt8 := [42, 180, 0, 41, 180, 0, 190, 2, 130, 126, 181, 0, 196, 4, 172]
abbrev dktX0_pin_5 : List UInt8 := dkwX0_pin_5 ++ []
def dkwX0_pin_4 : List UInt8 := [3, 128, 181, 0, 190, 42, 180, 0, 41, 42, 180, 0, 41, 180, 0, 196, 42, 180, 0, 41, 180, 0, 183, 128]
abbrev dktX0_pin_4 : List UInt8 := dkwX0_pin_4 ++ dktX0_pin_5
def dkwX0_pin_3 : List UInt8 := [42, 180, 0, 41, 42, 180, 0, 41, 180, 0, 190, 29, 2, 130, 126, 28, 5, 160, 0, 7, 29, 167, 0, 4]
abbrev dktX0_pin_3 : List UInt8 := dkwX0_pin_3 ++ dktX0_pin_4
def dkwX0_pin_2 : List UInt8 := [180, 0, 41, 180, 0, 183, 29, 2, 130, 126, 28, 4, 160, 0, 7, 29, 167, 0, 4, 3, 128, 181, 0, 183]
abbrev dktX0_pin_2 : List UInt8 := dkwX0_pin_2 ++ dktX0_pin_3
def dkwX0_pin_1 : List UInt8 := [182, 0, 193, 28, 160, 0, 5, 3, 172, 42, 4, 182, 0, 171, 4, 27, 120, 62, 42, 180, 0, 41, 42]
abbrev dktX0_pin_1 : List UInt8 := dkwX0_pin_1 ++ dktX0_pin_2
def dkwX0_pin_0 : List UInt8 := [42, 180, 0, 41, 27, 182, 0, 156, 153, 0, 21, 28, 3, 5, 184, 0, 164, 153, 0, 12, 42, 27]
abbrev dktX0_pin_0 : List UInt8 := dkwX0_pin_0 ++ dktX0_pin_1
theorem dksX0_pin_0 : cX0_pin.data.toList.drop 0 = dktX0_pin_0 := by decide +kernel
theorem dksX0_pin_1 : cX0_pin.data.toList.drop 22 = dktX0_pin_1 := dk_seg dksX0_pin_0 22 rfl rfl
theorem dksX0_pin_2 : cX0_pin.data.toList.drop 45 = dktX0_pin_2 := dk_seg dksX0_pin_1 23 rfl rfl
theorem dksX0_pin_3 : cX0_pin.data.toList.drop 69 = dktX0_pin_3 := dk_seg dksX0_pin_2 24 rfl rfl
theorem dksX0_pin_4 : cX0_pin.data.toList.drop 93 = dktX0_pin_4 := dk_seg dksX0_pin_3 24 rfl rfl
theorem dksX0_pin_5 : cX0_pin.data.toList.drop 117 = dktX0_pin_5 := dk_seg dksX0_pin_4 24 rfl rfl
theorem dX0_pin_0 : decode cX0_pin 0 = .ok (.aload_n 0, 1) := dk_42 (dk_at dksX0_pin_0 0 rfl rfl)
theorem dX0_pin_1 : decode cX0_pin 1 = .ok (.getfield 41, 3) := dk_180 0 41 (dk_at dksX0_pin_0 1 rfl rfl)
theorem dX0_pin_4 : decode cX0_pin 4 = .ok (.iload_n 1, 1) := dk_27 (dk_at dksX0_pin_0 4 rfl rfl)
theorem dX0_pin_5 : decode cX0_pin 5 = .ok (.invokevirtual 156, 3) := dk_182 0 156 (dk_at dksX0_pin_0 5 rfl rfl)
theorem dX0_pin_8 : decode cX0_pin 8 = .ok (.ifCond .eq 21, 3) := dk_153 0 21 (dk_at dksX0_pin_0 8 rfl rfl)
theorem dX0_pin_11 : decode cX0_pin 11 = .ok (.iload_n 2, 1) := dk_28 (dk_at dksX0_pin_0 11 rfl rfl)
theorem dX0_pin_12 : decode cX0_pin 12 = .ok (.iconst 0, 1) := dk_3 (dk_at dksX0_pin_0 12 rfl rfl)
theorem dX0_pin_13 : decode cX0_pin 13 = .ok (.iconst 2, 1) := dk_5 (dk_at dksX0_pin_0 13 rfl rfl)
theorem dX0_pin_14 : decode cX0_pin 14 = .ok (.invokestatic 164, 3) := dk_184 0 164 (dk_at dksX0_pin_0 14 rfl rfl)
theorem dX0_pin_17 : decode cX0_pin 17 = .ok (.ifCond .eq 12, 3) := dk_153 0 12 (dk_at dksX0_pin_0 17 rfl rfl)
theorem dX0_pin_20 : decode cX0_pin 20 = .ok (.aload_n 0, 1) := dk_42 (dk_at dksX0_pin_0 20 rfl rfl)
theorem dX0_pin_21 : decode cX0_pin 21 = .ok (.iload_n 1, 1) := dk_27 (dk_at dksX0_pin_0 21 rfl rfl)
theorem dX0_pin_22 : decode cX0_pin 22 = .ok (.invokevirtual 193, 3) := dk_182 0 193 (dk_at dksX0_pin_1 0 rfl rfl)
theorem dX0_pin_25 : decode cX0_pin 25 = .ok (.iload_n 2, 1) := dk_28 (dk_at dksX0_pin_1 3 rfl rfl)
theorem dX0_pin_26 : decode cX0_pin 26 = .ok (.if_icmp .ne 5, 3) := dk_160 0 5 (dk_at dksX0_pin_1 4 rfl rfl)
theorem dX0_pin_29 : decode cX0_pin 29 = .ok (.iconst 0, 1) := dk_3 (dk_at dksX0_pin_1 7 rfl rfl)
theorem dX0_pin_30 : decode cX0_pin 30 = .ok (.ireturn, 1) := dk_172 (dk_at dksX0_pin_1 8 rfl rfl)
theorem dX0_pin_31 : decode cX0_pin 31 = .ok (.aload_n 0, 1) := dk_42 (dk_at dksX0_pin_1 9 rfl rfl)
theorem dX0_pin_32 : decode cX0_pin 32 = .ok (.iconst 1, 1) := dk_4 (dk_at dksX0_pin_1 10 rfl rfl)
theorem dX0_pin_33 : decode cX0_pin 33 = .ok (.invokevirtual 171, 3) := dk_182 0 171 (dk_at dksX0_pin_1 11 rfl rfl)
theorem dX0_pin_36 : decode cX0_pin 36 = .ok (.iconst 1, 1) := dk_4 (dk_at dksX0_pin_1 14 rfl rfl)
theorem dX0_pin_37 : decode cX0_pin 37 = .ok (.iload_n 1, 1) := dk_27 (dk_at dksX0_pin_1 15 rfl rfl)
theorem dX0_pin_38 : decode cX0_pin 38 = .ok (.ishl, 1) := dk_120 (dk_at dksX0_pin_1 16 rfl rfl)
theorem dX0_pin_39 : decode cX0_pin 39 = .ok (.istore_n 3, 1) := dk_62 (dk_at dksX0_pin_1 17 rfl rfl)
theorem dX0_pin_40 : decode cX0_pin 40 = .ok (.aload_n 0, 1) := dk_42 (dk_at dksX0_pin_1 18 rfl rfl)
theorem dX0_pin_41 : decode cX0_pin 41 = .ok (.getfield 41, 3) := dk_180 0 41 (dk_at dksX0_pin_1 19 rfl rfl)
theorem dX0_pin_44 : decode cX0_pin 44 = .ok (.aload_n 0, 1) := dk_42 (dk_at dksX0_pin_1 22 rfl rfl)
theorem dX0_pin_45 : decode cX0_pin 45 = .ok (.getfield 41, 3) := dk_180 0 41 (dk_at dksX0_pin_2 0 rfl rfl)
theorem dX0_pin_48 : decode cX0_pin 48 = .ok (.getfield 183, 3) := dk_180 0 183 (dk_at dksX0_pin_2 3 rfl rfl)
theorem dX0_pin_51 : decode cX0_pin 51 = .ok (.iload_n 3, 1) := dk_29 (dk_at dksX0_pin_2 6 rfl rfl)
theorem dX0_pin_52 : decode cX0_pin 52 = .ok (.iconst (-1), 1) := dk_2 (dk_at dksX0_pin_2 7 rfl rfl)
theorem dX0_pin_53 : decode cX0_pin 53 = .ok (.ixor, 1) := dk_130 (dk_at dksX0_pin_2 8 rfl rfl)
theorem dX0_pin_54 : decode cX0_pin 54 = .ok (.iand, 1) := dk_126 (dk_at dksX0_pin_2 9 rfl rfl)
theorem dX0_pin_55 : decode cX0_pin 55 = .ok (.iload_n 2, 1) := dk_28 (dk_at dksX0_pin_2 10 rfl rfl)
theorem dX0_pin_56 : decode cX0_pin 56 = .ok (.iconst 1, 1) := dk_4 (dk_at dksX0_pin_2 11 rfl rfl)
theorem dX0_pin_57 : decode cX0_pin 57 = .ok (.if_icmp .ne 7, 3) := dk_160 0 7 (dk_at dksX0_pin_2 12 rfl rfl)
theorem dX0_pin_60 : decode cX0_pin 60 = .ok (.iload_n 3, 1) := dk_29 (dk_at dksX0_pin_2 15 rfl rfl)
theorem dX0_pin_61 : decode cX0_pin 61 = .ok (.goto 4, 3) := dk_167 0 4 (dk_at dksX0_pin_2 16 rfl rfl)
theorem dX0_pin_64 : decode cX0_pin 64 = .ok (.iconst 0, 1) := dk_3 (dk_at dksX0_pin_2 19 rfl rfl)
theorem dX0_pin_65 : decode cX0_pin 65 = .ok (.ior, 1) := dk_128 (dk_at dksX0_pin_2 20 rfl rfl)
theorem dX0_pin_66 : decode cX0_pin 66 = .ok (.putfield 183, 3) := dk_181 0 183 (dk_at dksX0_pin_2 21 rfl rfl)
theorem dX0_pin_69 : decode cX0_pin 69 = .ok (.aload_n 0, 1) := dk_42 (dk_at dksX0_pin_3 0 rfl rfl)
theorem dX0_pin_70 : decode cX0_pin 70 = .ok (.getfield 41, 3) := dk_180 0 41 (dk_at dksX0_pin_3 1 rfl rfl)
theorem dX0_pin_73 : decode cX0_pin 73 = .ok (.aload_n 0, 1) := dk_42 (dk_at dksX0_pin_3 4 rfl rfl)
theorem dX0_pin_74 : decode cX0_pin 74 = .ok (.getfield 41, 3) := dk_180 0 41 (dk_at dksX0_pin_3 5 rfl rfl)
theorem dX0_pin_77 : decode cX0_pin 77 = .ok (.getfield 190, 3) := dk_180 0 190 (dk_at dksX0_pin_3 8 rfl rfl)
theorem dX0_pin_80 : decode cX0_pin 80 = .ok (.iload_n 3, 1) := dk_29 (dk_at dksX0_pin_3 11 rfl rfl)
theorem dX0_pin_81 : decode cX0_pin 81 = .ok (.iconst (-1), 1) := dk_2 (dk_at dksX0_pin_3 12 rfl rfl)
theorem dX0_pin_82 : decode cX0_pin 82 = .ok (.ixor, 1) := dk_130 (dk_at dksX0_pin_3 13 rfl rfl)
theorem dX0_pin_83 : decode cX0_pin 83 = .ok (.iand, 1) := dk_126 (dk_at dksX0_pin_3 14 rfl rfl)
theorem dX0_pin_84 : decode cX0_pin 84 = .ok (.iload_n 2, 1) := dk_28 (dk_at dksX0_pin_3 15 rfl rfl)
theorem dX0_pin_85 : decode cX0_pin 85 = .ok (.iconst 2, 1) := dk_5 (dk_at dksX0_pin_3 16 rfl rfl)
theorem dX0_pin_86 : decode cX0_pin 86 = .ok (.if_icmp .ne 7, 3) := dk_160 0 7 (dk_at dksX0_pin_3 17 rfl rfl)
theorem dX0_pin_89 : decode cX0_pin 89 = .ok (.iload_n 3, 1) := dk_29 (dk_at dksX0_pin_3 20 rfl rfl)
theorem dX0_pin_90 : decode cX0_pin 90 = .ok (.goto 4, 3) := dk_167 0 4 (dk_at dksX0_pin_3 21 rfl rfl)
theorem dX0_pin_93 : decode cX0_pin 93 = .ok (.iconst 0, 1) := dk_3 (dk_at dksX0_pin_4 0 rfl rfl)
theorem dX0_pin_94 : decode cX0_pin 94 = .ok (.ior, 1) := dk_128 (dk_at dksX0_pin_4 1 rfl rfl)
theorem dX0_pin_95 : decode cX0_pin 95 = .ok (.putfield 190, 3) := dk_181 0 190 (dk_at dksX0_pin_4 2 rfl rfl)
theorem dX0_pin_98 : decode cX0_pin 98 = .ok (.aload_n 0, 1) := dk_42 (dk_at dksX0_pin_4 5 rfl rfl)
theorem dX0_pin_99 : decode cX0_pin 99 = .ok (.getfield 41, 3) := dk_180 0 41 (dk_at dksX0_pin_4 6 rfl rfl)
theorem dX0_pin_102 : decode cX0_pin 102 = .ok (.aload_n 0, 1) := dk_42 (dk_at dksX0_pin_4 9 rfl rfl)
theorem dX0_pin_103 : decode cX0_pin 103 = .ok (.getfield 41, 3) := dk_180 0 41 (dk_at dksX0_pin_4 10 rfl rfl)
theorem dX0_pin_106 : decode cX0_pin 106 = .ok (.getfield 196, 3) := dk_180 0 196 (dk_at dksX0_pin_4 13 rfl rfl)
theorem dX0_pin_109 : decode cX0_pin 109 = .ok (.aload_n 0, 1) := dk_42 (dk_at dksX0_pin_4 16 rfl rfl)
theorem dX0_pin_110 : decode cX0_pin 110 = .ok (.getfield 41, 3) := dk_180 0 41 (dk_at dksX0_pin_4 17 rfl rfl)
theorem dX0_pin_113 : decode cX0_pin 113 = .ok (.getfield 183, 3) := dk_180 0 183 (dk_at dksX0_pin_4 20 rfl rfl)
theorem dX0_pin_116 : decode cX0_pin 116 = .ok (.ior, 1) := dk_128 (dk_at dksX0_pin_4 23 rfl rfl)
theorem dX0_pin_117 : decode cX0_pin 117 = .ok (.aload_n 0, 1) := dk_42 (dk_at dksX0_pin_5 0 rfl rfl)
theorem dX0_pin_118 : decode cX0_pin 118 = .ok (.getfield 41, 3) := dk_180 0 41 (dk_at dksX0_pin_5 1 rfl rfl)
theorem dX0_pin_121 : decode cX0_pin 121 = .ok (.getfield 190, 3) := dk_180 0 190 (dk_at dksX0_pin_5 4 rfl rfl)
theorem dX0_pin_124 : decode cX0_pin 124 = .ok (.iconst (-1), 1) := dk_2 (dk_at dksX0_pin_5 7 rfl rfl)
theorem dX0_pin_125 : decode cX0_pin 125 = .ok (.ixor, 1) := dk_130 (dk_at dksX0_pin_5 8 rfl rfl)
theorem dX0_pin_126 : decode cX0_pin 126 = .ok (.iand, 1) := dk_126 (dk_at dksX0_pin_5 9 rfl rfl)
theorem dX0_pin_127 : decode cX0_pin 127 = .ok (.putfield 196, 3) := dk_181 0 196 (dk_at dksX0_pin_5 10 rfl rfl)
theorem dX0_pin_130 : decode cX0_pin 130 = .ok (.iconst 1, 1) := dk_4 (dk_at dksX0_pin_5 13 rfl rfl)
theorem dX0_pin_131 : decode cX0_pin 131 = .ok (.ireturn, 1) := dk_172 (dk_at dksX0_pin_5 14 rfl rfl)
abbrev cX0_pinOf : ByteArray := prog_1_method_14_code
def yX0_pinOf : MethodName := ⟨RX0, "pinOf", "(I)I"⟩
def dkwX0_pinOf_1 : List UInt8 := [180, 0, 190, 27, 184, 0, 186, 153, 0, 7, 5, 167, 0, 4, 3, 172]
abbrev dktX0_pinOf_1 : List UInt8 := dkwX0_pinOf_1 ++ []
def dkwX0_pinOf_0 : List UInt8 := [42, 180, 0, 41, 180, 0, 183, 27, 184, 0, 186, 153, 0, 7, 4, 167, 0, 22, 42, 180, 0, 41]
abbrev dktX0_pinOf_0 : List UInt8 := dkwX0_pinOf_0 ++ dktX0_pinOf_1
theorem dksX0_pinOf_0 : cX0_pinOf.data.toList.drop 0 = dktX0_pinOf_0 := by decide +kernel
theorem dksX0_pinOf_1 : cX0_pinOf.data.toList.drop 22 = dktX0_pinOf_1 := dk_seg dksX0_pinOf_0 22 rfl rfl
theorem dX0_pinOf_0 : decode cX0_pinOf 0 = .ok (.aload_n 0, 1) := dk_42 (dk_at dksX0_pinOf_0 0 rfl rfl)
theorem dX0_pinOf_1 : decode cX0_pinOf 1 = .ok (.getfield 41, 3) := dk_180 0 41 (dk_at dksX0_pinOf_0 1 rfl rfl)
theorem dX0_pinOf_4 : decode cX0_pinOf 4 = .ok (.getfield 183, 3) := dk_180 0 183 (dk_at dksX0_pinOf_0 4 rfl rfl)
theorem dX0_pinOf_7 : decode cX0_pinOf 7 = .ok (.iload_n 1, 1) := dk_27 (dk_at dksX0_pinOf_0 7 rfl rfl)
theorem dX0_pinOf_8 : decode cX0_pinOf 8 = .ok (.invokestatic 186, 3) := dk_184 0 186 (dk_at dksX0_pinOf_0 8 rfl rfl)
theorem dX0_pinOf_11 : decode cX0_pinOf 11 = .ok (.ifCond .eq 7, 3) := dk_153 0 7 (dk_at dksX0_pinOf_0 11 rfl rfl)
theorem dX0_pinOf_14 : decode cX0_pinOf 14 = .ok (.iconst 1, 1) := dk_4 (dk_at dksX0_pinOf_0 14 rfl rfl)
theorem dX0_pinOf_15 : decode cX0_pinOf 15 = .ok (.goto 22, 3) := dk_167 0 22 (dk_at dksX0_pinOf_0 15 rfl rfl)
theorem dX0_pinOf_18 : decode cX0_pinOf 18 = .ok (.aload_n 0, 1) := dk_42 (dk_at dksX0_pinOf_0 18 rfl rfl)
theorem dX0_pinOf_19 : decode cX0_pinOf 19 = .ok (.getfield 41, 3) := dk_180 0 41 (dk_at dksX0_pinOf_0 19 rfl rfl)
theorem dX0_pinOf_22 : decode cX0_pinOf 22 = .ok (.getfield 190, 3) := dk_180 0 190 (dk_at dksX0_pinOf_1 0 rfl rfl)
theorem dX0_pinOf_25 : decode cX0_pinOf 25 = .ok (.iload_n 1, 1) := dk_27 (dk_at dksX0_pinOf_1 3 rfl rfl)
theorem dX0_pinOf_26 : decode cX0_pinOf 26 = .ok (.invokestatic 186, 3) := dk_184 0 186 (dk_at dksX0_pinOf_1 4 rfl rfl)
theorem dX0_pinOf_29 : decode cX0_pinOf 29 = .ok (.ifCond .eq 7, 3) := dk_153 0 7 (dk_at dksX0_pinOf_1 7 rfl rfl)
theorem dX0_pinOf_32 : decode cX0_pinOf 32 = .ok (.iconst 2, 1) := dk_5 (dk_at dksX0_pinOf_1 10 rfl rfl)
theorem dX0_pinOf_33 : decode cX0_pinOf 33 = .ok (.goto 4, 3) := dk_167 0 4 (dk_at dksX0_pinOf_1 11 rfl rfl)
theorem dX0_pinOf_36 : decode cX0_pinOf 36 = .ok (.iconst 0, 1) := dk_3 (dk_at dksX0_pinOf_1 14 rfl rfl)
theorem dX0_pinOf_37 : decode cX0_pinOf 37 = .ok (.ireturn, 1) := dk_172 (dk_at dksX0_pinOf_1 15 rfl rfl)
abbrev cX0_glass : ByteArray := prog_1_method_16_code
def yX0_glass : MethodName := ⟨RX0, "glass", "(I)Z"⟩
def dkwX0_glass_5 : List UInt8 := [172]
abbrev dktX0_glass_5 : List UInt8 := dkwX0_glass_5 ++ []
def dkwX0_glass_4 : List UInt8 := [160, 0, 7, 4, 167, 0, 4, 2, 182, 0, 175, 132, 3, 1, 167, 255, 189, 132, 2, 1, 167, 255, 176, 4]
abbrev dktX0_glass_4 : List UInt8 := dkwX0_glass_4 ++ dktX0_glass_5
def dkwX0_glass_3 : List UInt8 := [155, 0, 35, 42, 180, 0, 41, 29, 28, 4, 160, 0, 7, 4, 167, 0, 4, 3, 42, 5, 182, 0, 206, 4]
abbrev dktX0_glass_3 : List UInt8 := dkwX0_glass_3 ++ dktX0_glass_4
def dkwX0_glass_2 : List UInt8 := [182, 0, 199, 162, 0, 62, 42, 180, 0, 41, 29, 28, 4, 160, 0, 7, 4, 167, 0, 4, 3, 182, 0, 160]
abbrev dktX0_glass_2 : List UInt8 := dkwX0_glass_2 ++ dktX0_glass_3
def dkwX0_glass_1 : List UInt8 := [4, 182, 0, 171, 42, 27, 133, 181, 0, 202, 3, 61, 28, 5, 162, 0, 81, 3, 62, 29, 42, 180, 0, 41]
abbrev dktX0_glass_1 : List UInt8 := dkwX0_glass_1 ++ dktX0_glass_2
def dkwX0_glass_0 : List UInt8 := [42, 180, 0, 41, 182, 0, 199, 153, 0, 14, 27, 3, 17, 39, 15, 184, 0, 164, 154, 0, 5, 3, 172, 42]
abbrev dktX0_glass_0 : List UInt8 := dkwX0_glass_0 ++ dktX0_glass_1
theorem dksX0_glass_0 : cX0_glass.data.toList.drop 0 = dktX0_glass_0 := by decide +kernel
theorem dksX0_glass_1 : cX0_glass.data.toList.drop 24 = dktX0_glass_1 := dk_seg dksX0_glass_0 24 rfl rfl
theorem dksX0_glass_2 : cX0_glass.data.toList.drop 48 = dktX0_glass_2 := dk_seg dksX0_glass_1 24 rfl rfl
theorem dksX0_glass_3 : cX0_glass.data.toList.drop 72 = dktX0_glass_3 := dk_seg dksX0_glass_2 24 rfl rfl
theorem dksX0_glass_4 : cX0_glass.data.toList.drop 96 = dktX0_glass_4 := dk_seg dksX0_glass_3 24 rfl rfl
theorem dksX0_glass_5 : cX0_glass.data.toList.drop 120 = dktX0_glass_5 := dk_seg dksX0_glass_4 24 rfl rfl
theorem dX0_glass_0 : decode cX0_glass 0 = .ok (.aload_n 0, 1) := dk_42 (dk_at dksX0_glass_0 0 rfl rfl)
theorem dX0_glass_1 : decode cX0_glass 1 = .ok (.getfield 41, 3) := dk_180 0 41 (dk_at dksX0_glass_0 1 rfl rfl)
theorem dX0_glass_4 : decode cX0_glass 4 = .ok (.invokevirtual 199, 3) := dk_182 0 199 (dk_at dksX0_glass_0 4 rfl rfl)
theorem dX0_glass_7 : decode cX0_glass 7 = .ok (.ifCond .eq 14, 3) := dk_153 0 14 (dk_at dksX0_glass_0 7 rfl rfl)
theorem dX0_glass_10 : decode cX0_glass 10 = .ok (.iload_n 1, 1) := dk_27 (dk_at dksX0_glass_0 10 rfl rfl)
theorem dX0_glass_11 : decode cX0_glass 11 = .ok (.iconst 0, 1) := dk_3 (dk_at dksX0_glass_0 11 rfl rfl)
theorem dX0_glass_12 : decode cX0_glass 12 = .ok (.sipush 9999, 3) := dk_17 39 15 (dk_at dksX0_glass_0 12 rfl rfl)
theorem dX0_glass_15 : decode cX0_glass 15 = .ok (.invokestatic 164, 3) := dk_184 0 164 (dk_at dksX0_glass_0 15 rfl rfl)
theorem dX0_glass_18 : decode cX0_glass 18 = .ok (.ifCond .ne 5, 3) := dk_154 0 5 (dk_at dksX0_glass_0 18 rfl rfl)
theorem dX0_glass_21 : decode cX0_glass 21 = .ok (.iconst 0, 1) := dk_3 (dk_at dksX0_glass_0 21 rfl rfl)
theorem dX0_glass_22 : decode cX0_glass 22 = .ok (.ireturn, 1) := dk_172 (dk_at dksX0_glass_0 22 rfl rfl)
theorem dX0_glass_23 : decode cX0_glass 23 = .ok (.aload_n 0, 1) := dk_42 (dk_at dksX0_glass_0 23 rfl rfl)
theorem dX0_glass_24 : decode cX0_glass 24 = .ok (.iconst 1, 1) := dk_4 (dk_at dksX0_glass_1 0 rfl rfl)
theorem dX0_glass_25 : decode cX0_glass 25 = .ok (.invokevirtual 171, 3) := dk_182 0 171 (dk_at dksX0_glass_1 1 rfl rfl)
theorem dX0_glass_28 : decode cX0_glass 28 = .ok (.aload_n 0, 1) := dk_42 (dk_at dksX0_glass_1 4 rfl rfl)
theorem dX0_glass_29 : decode cX0_glass 29 = .ok (.iload_n 1, 1) := dk_27 (dk_at dksX0_glass_1 5 rfl rfl)
theorem dX0_glass_30 : decode cX0_glass 30 = .ok (.i2l, 1) := dk_133 (dk_at dksX0_glass_1 6 rfl rfl)
theorem dX0_glass_31 : decode cX0_glass 31 = .ok (.putfield 202, 3) := dk_181 0 202 (dk_at dksX0_glass_1 7 rfl rfl)
theorem dX0_glass_34 : decode cX0_glass 34 = .ok (.iconst 0, 1) := dk_3 (dk_at dksX0_glass_1 10 rfl rfl)
theorem dX0_glass_35 : decode cX0_glass 35 = .ok (.istore_n 2, 1) := dk_61 (dk_at dksX0_glass_1 11 rfl rfl)
theorem dX0_glass_36 : decode cX0_glass 36 = .ok (.iload_n 2, 1) := dk_28 (dk_at dksX0_glass_1 12 rfl rfl)
theorem dX0_glass_37 : decode cX0_glass 37 = .ok (.iconst 2, 1) := dk_5 (dk_at dksX0_glass_1 13 rfl rfl)
theorem dX0_glass_38 : decode cX0_glass 38 = .ok (.if_icmp .ge 81, 3) := dk_162 0 81 (dk_at dksX0_glass_1 14 rfl rfl)
theorem dX0_glass_41 : decode cX0_glass 41 = .ok (.iconst 0, 1) := dk_3 (dk_at dksX0_glass_1 17 rfl rfl)
theorem dX0_glass_42 : decode cX0_glass 42 = .ok (.istore_n 3, 1) := dk_62 (dk_at dksX0_glass_1 18 rfl rfl)
theorem dX0_glass_43 : decode cX0_glass 43 = .ok (.iload_n 3, 1) := dk_29 (dk_at dksX0_glass_1 19 rfl rfl)
theorem dX0_glass_44 : decode cX0_glass 44 = .ok (.aload_n 0, 1) := dk_42 (dk_at dksX0_glass_1 20 rfl rfl)
theorem dX0_glass_45 : decode cX0_glass 45 = .ok (.getfield 41, 3) := dk_180 0 41 (dk_at dksX0_glass_1 21 rfl rfl)
theorem dX0_glass_48 : decode cX0_glass 48 = .ok (.invokevirtual 199, 3) := dk_182 0 199 (dk_at dksX0_glass_2 0 rfl rfl)
theorem dX0_glass_51 : decode cX0_glass 51 = .ok (.if_icmp .ge 62, 3) := dk_162 0 62 (dk_at dksX0_glass_2 3 rfl rfl)
theorem dX0_glass_54 : decode cX0_glass 54 = .ok (.aload_n 0, 1) := dk_42 (dk_at dksX0_glass_2 6 rfl rfl)
theorem dX0_glass_55 : decode cX0_glass 55 = .ok (.getfield 41, 3) := dk_180 0 41 (dk_at dksX0_glass_2 7 rfl rfl)
theorem dX0_glass_58 : decode cX0_glass 58 = .ok (.iload_n 3, 1) := dk_29 (dk_at dksX0_glass_2 10 rfl rfl)
theorem dX0_glass_59 : decode cX0_glass 59 = .ok (.iload_n 2, 1) := dk_28 (dk_at dksX0_glass_2 11 rfl rfl)
theorem dX0_glass_60 : decode cX0_glass 60 = .ok (.iconst 1, 1) := dk_4 (dk_at dksX0_glass_2 12 rfl rfl)
theorem dX0_glass_61 : decode cX0_glass 61 = .ok (.if_icmp .ne 7, 3) := dk_160 0 7 (dk_at dksX0_glass_2 13 rfl rfl)
theorem dX0_glass_64 : decode cX0_glass 64 = .ok (.iconst 1, 1) := dk_4 (dk_at dksX0_glass_2 16 rfl rfl)
theorem dX0_glass_65 : decode cX0_glass 65 = .ok (.goto 4, 3) := dk_167 0 4 (dk_at dksX0_glass_2 17 rfl rfl)
theorem dX0_glass_68 : decode cX0_glass 68 = .ok (.iconst 0, 1) := dk_3 (dk_at dksX0_glass_2 20 rfl rfl)
theorem dX0_glass_69 : decode cX0_glass 69 = .ok (.invokevirtual 160, 3) := dk_182 0 160 (dk_at dksX0_glass_2 21 rfl rfl)
theorem dX0_glass_72 : decode cX0_glass 72 = .ok (.ifCond .lt 35, 3) := dk_155 0 35 (dk_at dksX0_glass_3 0 rfl rfl)
theorem dX0_glass_75 : decode cX0_glass 75 = .ok (.aload_n 0, 1) := dk_42 (dk_at dksX0_glass_3 3 rfl rfl)
theorem dX0_glass_76 : decode cX0_glass 76 = .ok (.getfield 41, 3) := dk_180 0 41 (dk_at dksX0_glass_3 4 rfl rfl)
theorem dX0_glass_79 : decode cX0_glass 79 = .ok (.iload_n 3, 1) := dk_29 (dk_at dksX0_glass_3 7 rfl rfl)
theorem dX0_glass_80 : decode cX0_glass 80 = .ok (.iload_n 2, 1) := dk_28 (dk_at dksX0_glass_3 8 rfl rfl)
theorem dX0_glass_81 : decode cX0_glass 81 = .ok (.iconst 1, 1) := dk_4 (dk_at dksX0_glass_3 9 rfl rfl)
theorem dX0_glass_82 : decode cX0_glass 82 = .ok (.if_icmp .ne 7, 3) := dk_160 0 7 (dk_at dksX0_glass_3 10 rfl rfl)
theorem dX0_glass_85 : decode cX0_glass 85 = .ok (.iconst 1, 1) := dk_4 (dk_at dksX0_glass_3 13 rfl rfl)
theorem dX0_glass_86 : decode cX0_glass 86 = .ok (.goto 4, 3) := dk_167 0 4 (dk_at dksX0_glass_3 14 rfl rfl)
theorem dX0_glass_89 : decode cX0_glass 89 = .ok (.iconst 0, 1) := dk_3 (dk_at dksX0_glass_3 17 rfl rfl)
theorem dX0_glass_90 : decode cX0_glass 90 = .ok (.aload_n 0, 1) := dk_42 (dk_at dksX0_glass_3 18 rfl rfl)
theorem dX0_glass_91 : decode cX0_glass 91 = .ok (.iconst 2, 1) := dk_5 (dk_at dksX0_glass_3 19 rfl rfl)
theorem dX0_glass_92 : decode cX0_glass 92 = .ok (.invokevirtual 206, 3) := dk_182 0 206 (dk_at dksX0_glass_3 20 rfl rfl)
theorem dX0_glass_95 : decode cX0_glass 95 = .ok (.iconst 1, 1) := dk_4 (dk_at dksX0_glass_3 23 rfl rfl)
theorem dX0_glass_96 : decode cX0_glass 96 = .ok (.if_icmp .ne 7, 3) := dk_160 0 7 (dk_at dksX0_glass_4 0 rfl rfl)
theorem dX0_glass_99 : decode cX0_glass 99 = .ok (.iconst 1, 1) := dk_4 (dk_at dksX0_glass_4 3 rfl rfl)
theorem dX0_glass_100 : decode cX0_glass 100 = .ok (.goto 4, 3) := dk_167 0 4 (dk_at dksX0_glass_4 4 rfl rfl)
theorem dX0_glass_103 : decode cX0_glass 103 = .ok (.iconst (-1), 1) := dk_2 (dk_at dksX0_glass_4 7 rfl rfl)
theorem dX0_glass_104 : decode cX0_glass 104 = .ok (.invokevirtual 175, 3) := dk_182 0 175 (dk_at dksX0_glass_4 8 rfl rfl)
theorem dX0_glass_107 : decode cX0_glass 107 = .ok (.iinc 3 1, 3) := dk_132 3 1 (dk_at dksX0_glass_4 11 rfl rfl)
theorem dX0_glass_110 : decode cX0_glass 110 = .ok (.goto (-67), 3) := dk_167 255 189 (dk_at dksX0_glass_4 14 rfl rfl)
theorem dX0_glass_113 : decode cX0_glass 113 = .ok (.iinc 2 1, 3) := dk_132 2 1 (dk_at dksX0_glass_4 17 rfl rfl)
theorem dX0_glass_116 : decode cX0_glass 116 = .ok (.goto (-80), 3) := dk_167 255 176 (dk_at dksX0_glass_4 20 rfl rfl)
theorem dX0_glass_119 : decode cX0_glass 119 = .ok (.iconst 1, 1) := dk_4 (dk_at dksX0_glass_4 23 rfl rfl)
theorem dX0_glass_120 : decode cX0_glass 120 = .ok (.ireturn, 1) := dk_172 (dk_at dksX0_glass_5 0 rfl rfl)
abbrev cX0_draw : ByteArray := prog_1_method_48_code
def yX0_draw : MethodName := ⟨RX0, "draw", "(I)I"⟩
def dkwX0_draw_1 : List UInt8 := [20, 1, 139, 109, 27, 133, 113, 136, 172]
abbrev dktX0_draw_1 : List UInt8 := dkwX0_draw_1 ++ []
def dkwX0_draw_0 : List UInt8 := [42, 42, 180, 0, 202, 20, 1, 133, 105, 20, 1, 135, 97, 20, 1, 137, 113, 181, 0, 202, 42, 180, 0, 202]
abbrev dktX0_draw_0 : List UInt8 := dkwX0_draw_0 ++ dktX0_draw_1
theorem dksX0_draw_0 : cX0_draw.data.toList.drop 0 = dktX0_draw_0 := by decide +kernel
theorem dksX0_draw_1 : cX0_draw.data.toList.drop 24 = dktX0_draw_1 := dk_seg dksX0_draw_0 24 rfl rfl
theorem dX0_draw_0 : decode cX0_draw 0 = .ok (.aload_n 0, 1) := dk_42 (dk_at dksX0_draw_0 0 rfl rfl)
theorem dX0_draw_1 : decode cX0_draw 1 = .ok (.aload_n 0, 1) := dk_42 (dk_at dksX0_draw_0 1 rfl rfl)
theorem dX0_draw_2 : decode cX0_draw 2 = .ok (.getfield 202, 3) := dk_180 0 202 (dk_at dksX0_draw_0 2 rfl rfl)
theorem dX0_draw_5 : decode cX0_draw 5 = .ok (.ldc2_w 389, 3) := dk_20 1 133 (dk_at dksX0_draw_0 5 rfl rfl)
theorem dX0_draw_8 : decode cX0_draw 8 = .ok (.lmul, 1) := dk_105 (dk_at dksX0_draw_0 8 rfl rfl)
theorem dX0_draw_9 : decode cX0_draw 9 = .ok (.ldc2_w 391, 3) := dk_20 1 135 (dk_at dksX0_draw_0 9 rfl rfl)
theorem dX0_draw_12 : decode cX0_draw 12 = .ok (.ladd, 1) := dk_97 (dk_at dksX0_draw_0 12 rfl rfl)
theorem dX0_draw_13 : decode cX0_draw 13 = .ok (.ldc2_w 393, 3) := dk_20 1 137 (dk_at dksX0_draw_0 13 rfl rfl)
theorem dX0_draw_16 : decode cX0_draw 16 = .ok (.lrem, 1) := dk_113 (dk_at dksX0_draw_0 16 rfl rfl)
theorem dX0_draw_17 : decode cX0_draw 17 = .ok (.putfield 202, 3) := dk_181 0 202 (dk_at dksX0_draw_0 17 rfl rfl)
theorem dX0_draw_20 : decode cX0_draw 20 = .ok (.aload_n 0, 1) := dk_42 (dk_at dksX0_draw_0 20 rfl rfl)
theorem dX0_draw_21 : decode cX0_draw 21 = .ok (.getfield 202, 3) := dk_180 0 202 (dk_at dksX0_draw_0 21 rfl rfl)
theorem dX0_draw_24 : decode cX0_draw 24 = .ok (.ldc2_w 395, 3) := dk_20 1 139 (dk_at dksX0_draw_1 0 rfl rfl)
theorem dX0_draw_27 : decode cX0_draw 27 = .ok (.ldiv, 1) := dk_109 (dk_at dksX0_draw_1 3 rfl rfl)
theorem dX0_draw_28 : decode cX0_draw 28 = .ok (.iload_n 1, 1) := dk_27 (dk_at dksX0_draw_1 4 rfl rfl)
theorem dX0_draw_29 : decode cX0_draw 29 = .ok (.i2l, 1) := dk_133 (dk_at dksX0_draw_1 5 rfl rfl)
theorem dX0_draw_30 : decode cX0_draw 30 = .ok (.lrem, 1) := dk_113 (dk_at dksX0_draw_1 6 rfl rfl)
theorem dX0_draw_31 : decode cX0_draw 31 = .ok (.l2i, 1) := dk_136 (dk_at dksX0_draw_1 7 rfl rfl)
theorem dX0_draw_32 : decode cX0_draw 32 = .ok (.ireturn, 1) := dk_172 (dk_at dksX0_draw_1 8 rfl rfl)
abbrev cX0_turn : ByteArray := prog_1_method_17_code
def yX0_turn : MethodName := ⟨RX0, "turn", "(I)Z"⟩
def dkwX0_turn_1 : List UInt8 := [42, 3, 182, 0, 171, 42, 180, 0, 41, 89, 180, 0, 196, 4, 27, 120, 130, 181, 0, 196, 4, 172]
abbrev dktX0_turn_1 : List UInt8 := dkwX0_turn_1 ++ []
def dkwX0_turn_0 : List UInt8 := [42, 180, 0, 41, 27, 182, 0, 156, 153, 0, 14, 42, 180, 0, 41, 27, 182, 0, 209, 153, 0, 5, 3, 172]
abbrev dktX0_turn_0 : List UInt8 := dkwX0_turn_0 ++ dktX0_turn_1
theorem dksX0_turn_0 : cX0_turn.data.toList.drop 0 = dktX0_turn_0 := by decide +kernel
theorem dksX0_turn_1 : cX0_turn.data.toList.drop 24 = dktX0_turn_1 := dk_seg dksX0_turn_0 24 rfl rfl
theorem dX0_turn_0 : decode cX0_turn 0 = .ok (.aload_n 0, 1) := dk_42 (dk_at dksX0_turn_0 0 rfl rfl)
theorem dX0_turn_1 : decode cX0_turn 1 = .ok (.getfield 41, 3) := dk_180 0 41 (dk_at dksX0_turn_0 1 rfl rfl)
theorem dX0_turn_4 : decode cX0_turn 4 = .ok (.iload_n 1, 1) := dk_27 (dk_at dksX0_turn_0 4 rfl rfl)
theorem dX0_turn_5 : decode cX0_turn 5 = .ok (.invokevirtual 156, 3) := dk_182 0 156 (dk_at dksX0_turn_0 5 rfl rfl)
theorem dX0_turn_8 : decode cX0_turn 8 = .ok (.ifCond .eq 14, 3) := dk_153 0 14 (dk_at dksX0_turn_0 8 rfl rfl)
theorem dX0_turn_11 : decode cX0_turn 11 = .ok (.aload_n 0, 1) := dk_42 (dk_at dksX0_turn_0 11 rfl rfl)
theorem dX0_turn_12 : decode cX0_turn 12 = .ok (.getfield 41, 3) := dk_180 0 41 (dk_at dksX0_turn_0 12 rfl rfl)
theorem dX0_turn_15 : decode cX0_turn 15 = .ok (.iload_n 1, 1) := dk_27 (dk_at dksX0_turn_0 15 rfl rfl)
theorem dX0_turn_16 : decode cX0_turn 16 = .ok (.invokevirtual 209, 3) := dk_182 0 209 (dk_at dksX0_turn_0 16 rfl rfl)
theorem dX0_turn_19 : decode cX0_turn 19 = .ok (.ifCond .eq 5, 3) := dk_153 0 5 (dk_at dksX0_turn_0 19 rfl rfl)
theorem dX0_turn_22 : decode cX0_turn 22 = .ok (.iconst 0, 1) := dk_3 (dk_at dksX0_turn_0 22 rfl rfl)
theorem dX0_turn_23 : decode cX0_turn 23 = .ok (.ireturn, 1) := dk_172 (dk_at dksX0_turn_0 23 rfl rfl)
theorem dX0_turn_24 : decode cX0_turn 24 = .ok (.aload_n 0, 1) := dk_42 (dk_at dksX0_turn_1 0 rfl rfl)
theorem dX0_turn_25 : decode cX0_turn 25 = .ok (.iconst 0, 1) := dk_3 (dk_at dksX0_turn_1 1 rfl rfl)
theorem dX0_turn_26 : decode cX0_turn 26 = .ok (.invokevirtual 171, 3) := dk_182 0 171 (dk_at dksX0_turn_1 2 rfl rfl)
theorem dX0_turn_29 : decode cX0_turn 29 = .ok (.aload_n 0, 1) := dk_42 (dk_at dksX0_turn_1 5 rfl rfl)
theorem dX0_turn_30 : decode cX0_turn 30 = .ok (.getfield 41, 3) := dk_180 0 41 (dk_at dksX0_turn_1 6 rfl rfl)
theorem dX0_turn_33 : decode cX0_turn 33 = .ok (.dup, 1) := dk_89 (dk_at dksX0_turn_1 9 rfl rfl)
theorem dX0_turn_34 : decode cX0_turn 34 = .ok (.getfield 196, 3) := dk_180 0 196 (dk_at dksX0_turn_1 10 rfl rfl)
theorem dX0_turn_37 : decode cX0_turn 37 = .ok (.iconst 1, 1) := dk_4 (dk_at dksX0_turn_1 13 rfl rfl)
theorem dX0_turn_38 : decode cX0_turn 38 = .ok (.iload_n 1, 1) := dk_27 (dk_at dksX0_turn_1 14 rfl rfl)
theorem dX0_turn_39 : decode cX0_turn 39 = .ok (.ishl, 1) := dk_120 (dk_at dksX0_turn_1 15 rfl rfl)
theorem dX0_turn_40 : decode cX0_turn 40 = .ok (.ixor, 1) := dk_130 (dk_at dksX0_turn_1 16 rfl rfl)
theorem dX0_turn_41 : decode cX0_turn 41 = .ok (.putfield 196, 3) := dk_181 0 196 (dk_at dksX0_turn_1 17 rfl rfl)
theorem dX0_turn_44 : decode cX0_turn 44 = .ok (.iconst 1, 1) := dk_4 (dk_at dksX0_turn_1 20 rfl rfl)
theorem dX0_turn_45 : decode cX0_turn 45 = .ok (.ireturn, 1) := dk_172 (dk_at dksX0_turn_1 21 rfl rfl)
abbrev cX0_fall : ByteArray := prog_1_method_19_code
def yX0_fall : MethodName := ⟨RX0, "fall", "()I"⟩
def dkwX0_fall_2 : List UInt8 := [42, 180, 0, 215, 172]
abbrev dktX0_fall_2 : List UInt8 := dkwX0_fall_2 ++ []
def dkwX0_fall_1 : List UInt8 := [180, 0, 215, 154, 0, 5, 3, 172, 42, 3, 182, 0, 171, 42, 180, 0, 41, 42, 180, 0, 212, 181, 0, 196]
abbrev dktX0_fall_1 : List UInt8 := dkwX0_fall_1 ++ dktX0_fall_2
def dkwX0_fall_0 : List UInt8 := [42, 180, 0, 41, 182, 0, 199, 154, 0, 5, 2, 172, 42, 42, 180, 0, 41, 180, 0, 196, 182, 0, 224, 42]
abbrev dktX0_fall_0 : List UInt8 := dkwX0_fall_0 ++ dktX0_fall_1
theorem dksX0_fall_0 : cX0_fall.data.toList.drop 0 = dktX0_fall_0 := by decide +kernel
theorem dksX0_fall_1 : cX0_fall.data.toList.drop 24 = dktX0_fall_1 := dk_seg dksX0_fall_0 24 rfl rfl
theorem dksX0_fall_2 : cX0_fall.data.toList.drop 48 = dktX0_fall_2 := dk_seg dksX0_fall_1 24 rfl rfl
theorem dX0_fall_0 : decode cX0_fall 0 = .ok (.aload_n 0, 1) := dk_42 (dk_at dksX0_fall_0 0 rfl rfl)
theorem dX0_fall_1 : decode cX0_fall 1 = .ok (.getfield 41, 3) := dk_180 0 41 (dk_at dksX0_fall_0 1 rfl rfl)
theorem dX0_fall_4 : decode cX0_fall 4 = .ok (.invokevirtual 199, 3) := dk_182 0 199 (dk_at dksX0_fall_0 4 rfl rfl)
theorem dX0_fall_7 : decode cX0_fall 7 = .ok (.ifCond .ne 5, 3) := dk_154 0 5 (dk_at dksX0_fall_0 7 rfl rfl)
theorem dX0_fall_10 : decode cX0_fall 10 = .ok (.iconst (-1), 1) := dk_2 (dk_at dksX0_fall_0 10 rfl rfl)
theorem dX0_fall_11 : decode cX0_fall 11 = .ok (.ireturn, 1) := dk_172 (dk_at dksX0_fall_0 11 rfl rfl)
theorem dX0_fall_12 : decode cX0_fall 12 = .ok (.aload_n 0, 1) := dk_42 (dk_at dksX0_fall_0 12 rfl rfl)
theorem dX0_fall_13 : decode cX0_fall 13 = .ok (.aload_n 0, 1) := dk_42 (dk_at dksX0_fall_0 13 rfl rfl)
theorem dX0_fall_14 : decode cX0_fall 14 = .ok (.getfield 41, 3) := dk_180 0 41 (dk_at dksX0_fall_0 14 rfl rfl)
theorem dX0_fall_17 : decode cX0_fall 17 = .ok (.getfield 196, 3) := dk_180 0 196 (dk_at dksX0_fall_0 17 rfl rfl)
theorem dX0_fall_20 : decode cX0_fall 20 = .ok (.invokevirtual 224, 3) := dk_182 0 224 (dk_at dksX0_fall_0 20 rfl rfl)
theorem dX0_fall_23 : decode cX0_fall 23 = .ok (.aload_n 0, 1) := dk_42 (dk_at dksX0_fall_0 23 rfl rfl)
theorem dX0_fall_24 : decode cX0_fall 24 = .ok (.getfield 215, 3) := dk_180 0 215 (dk_at dksX0_fall_1 0 rfl rfl)
theorem dX0_fall_27 : decode cX0_fall 27 = .ok (.ifCond .ne 5, 3) := dk_154 0 5 (dk_at dksX0_fall_1 3 rfl rfl)
theorem dX0_fall_30 : decode cX0_fall 30 = .ok (.iconst 0, 1) := dk_3 (dk_at dksX0_fall_1 6 rfl rfl)
theorem dX0_fall_31 : decode cX0_fall 31 = .ok (.ireturn, 1) := dk_172 (dk_at dksX0_fall_1 7 rfl rfl)
theorem dX0_fall_32 : decode cX0_fall 32 = .ok (.aload_n 0, 1) := dk_42 (dk_at dksX0_fall_1 8 rfl rfl)
theorem dX0_fall_33 : decode cX0_fall 33 = .ok (.iconst 0, 1) := dk_3 (dk_at dksX0_fall_1 9 rfl rfl)
theorem dX0_fall_34 : decode cX0_fall 34 = .ok (.invokevirtual 171, 3) := dk_182 0 171 (dk_at dksX0_fall_1 10 rfl rfl)
theorem dX0_fall_37 : decode cX0_fall 37 = .ok (.aload_n 0, 1) := dk_42 (dk_at dksX0_fall_1 13 rfl rfl)
theorem dX0_fall_38 : decode cX0_fall 38 = .ok (.getfield 41, 3) := dk_180 0 41 (dk_at dksX0_fall_1 14 rfl rfl)
theorem dX0_fall_41 : decode cX0_fall 41 = .ok (.aload_n 0, 1) := dk_42 (dk_at dksX0_fall_1 17 rfl rfl)
theorem dX0_fall_42 : decode cX0_fall 42 = .ok (.getfield 212, 3) := dk_180 0 212 (dk_at dksX0_fall_1 18 rfl rfl)
theorem dX0_fall_45 : decode cX0_fall 45 = .ok (.putfield 196, 3) := dk_181 0 196 (dk_at dksX0_fall_1 21 rfl rfl)
theorem dX0_fall_48 : decode cX0_fall 48 = .ok (.aload_n 0, 1) := dk_42 (dk_at dksX0_fall_2 0 rfl rfl)
theorem dX0_fall_49 : decode cX0_fall 49 = .ok (.getfield 215, 3) := dk_180 0 215 (dk_at dksX0_fall_2 1 rfl rfl)
theorem dX0_fall_52 : decode cX0_fall 52 = .ok (.ireturn, 1) := dk_172 (dk_at dksX0_fall_2 4 rfl rfl)
abbrev cX0_falls : ByteArray := prog_1_method_18_code
def yX0_falls : MethodName := ⟨RX0, "falls", "(I)V"⟩
def dkwX0_falls_2 : List UInt8 := [181, 0, 215, 42, 180, 0, 50, 42, 180, 0, 212, 182, 0, 221, 61, 167, 255, 218, 177]
abbrev dktX0_falls_2 : List UInt8 := dkwX0_falls_2 ++ []
def dkwX0_falls_1 : List UInt8 := [155, 0, 40, 42, 89, 180, 0, 212, 4, 28, 120, 130, 181, 0, 212, 42, 89, 180, 0, 215, 4, 96]
abbrev dktX0_falls_1 : List UInt8 := dkwX0_falls_1 ++ dktX0_falls_2
def dkwX0_falls_0 : List UInt8 := [42, 27, 181, 0, 212, 42, 3, 181, 0, 215, 42, 182, 0, 218, 42, 180, 0, 212, 182, 0, 221, 61, 28]
abbrev dktX0_falls_0 : List UInt8 := dkwX0_falls_0 ++ dktX0_falls_1
theorem dksX0_falls_0 : cX0_falls.data.toList.drop 0 = dktX0_falls_0 := by decide +kernel
theorem dksX0_falls_1 : cX0_falls.data.toList.drop 23 = dktX0_falls_1 := dk_seg dksX0_falls_0 23 rfl rfl
theorem dksX0_falls_2 : cX0_falls.data.toList.drop 45 = dktX0_falls_2 := dk_seg dksX0_falls_1 22 rfl rfl
theorem dX0_falls_0 : decode cX0_falls 0 = .ok (.aload_n 0, 1) := dk_42 (dk_at dksX0_falls_0 0 rfl rfl)
theorem dX0_falls_1 : decode cX0_falls 1 = .ok (.iload_n 1, 1) := dk_27 (dk_at dksX0_falls_0 1 rfl rfl)
theorem dX0_falls_2 : decode cX0_falls 2 = .ok (.putfield 212, 3) := dk_181 0 212 (dk_at dksX0_falls_0 2 rfl rfl)
theorem dX0_falls_5 : decode cX0_falls 5 = .ok (.aload_n 0, 1) := dk_42 (dk_at dksX0_falls_0 5 rfl rfl)
theorem dX0_falls_6 : decode cX0_falls 6 = .ok (.iconst 0, 1) := dk_3 (dk_at dksX0_falls_0 6 rfl rfl)
theorem dX0_falls_7 : decode cX0_falls 7 = .ok (.putfield 215, 3) := dk_181 0 215 (dk_at dksX0_falls_0 7 rfl rfl)
theorem dX0_falls_10 : decode cX0_falls 10 = .ok (.aload_n 0, 1) := dk_42 (dk_at dksX0_falls_0 10 rfl rfl)
theorem dX0_falls_11 : decode cX0_falls 11 = .ok (.invokevirtual 218, 3) := dk_182 0 218 (dk_at dksX0_falls_0 11 rfl rfl)
theorem dX0_falls_14 : decode cX0_falls 14 = .ok (.aload_n 0, 1) := dk_42 (dk_at dksX0_falls_0 14 rfl rfl)
theorem dX0_falls_15 : decode cX0_falls 15 = .ok (.getfield 212, 3) := dk_180 0 212 (dk_at dksX0_falls_0 15 rfl rfl)
theorem dX0_falls_18 : decode cX0_falls 18 = .ok (.invokevirtual 221, 3) := dk_182 0 221 (dk_at dksX0_falls_0 18 rfl rfl)
theorem dX0_falls_21 : decode cX0_falls 21 = .ok (.istore_n 2, 1) := dk_61 (dk_at dksX0_falls_0 21 rfl rfl)
theorem dX0_falls_22 : decode cX0_falls 22 = .ok (.iload_n 2, 1) := dk_28 (dk_at dksX0_falls_0 22 rfl rfl)
theorem dX0_falls_23 : decode cX0_falls 23 = .ok (.ifCond .lt 40, 3) := dk_155 0 40 (dk_at dksX0_falls_1 0 rfl rfl)
theorem dX0_falls_26 : decode cX0_falls 26 = .ok (.aload_n 0, 1) := dk_42 (dk_at dksX0_falls_1 3 rfl rfl)
theorem dX0_falls_27 : decode cX0_falls 27 = .ok (.dup, 1) := dk_89 (dk_at dksX0_falls_1 4 rfl rfl)
theorem dX0_falls_28 : decode cX0_falls 28 = .ok (.getfield 212, 3) := dk_180 0 212 (dk_at dksX0_falls_1 5 rfl rfl)
theorem dX0_falls_31 : decode cX0_falls 31 = .ok (.iconst 1, 1) := dk_4 (dk_at dksX0_falls_1 8 rfl rfl)
theorem dX0_falls_32 : decode cX0_falls 32 = .ok (.iload_n 2, 1) := dk_28 (dk_at dksX0_falls_1 9 rfl rfl)
theorem dX0_falls_33 : decode cX0_falls 33 = .ok (.ishl, 1) := dk_120 (dk_at dksX0_falls_1 10 rfl rfl)
theorem dX0_falls_34 : decode cX0_falls 34 = .ok (.ixor, 1) := dk_130 (dk_at dksX0_falls_1 11 rfl rfl)
theorem dX0_falls_35 : decode cX0_falls 35 = .ok (.putfield 212, 3) := dk_181 0 212 (dk_at dksX0_falls_1 12 rfl rfl)
theorem dX0_falls_38 : decode cX0_falls 38 = .ok (.aload_n 0, 1) := dk_42 (dk_at dksX0_falls_1 15 rfl rfl)
theorem dX0_falls_39 : decode cX0_falls 39 = .ok (.dup, 1) := dk_89 (dk_at dksX0_falls_1 16 rfl rfl)
theorem dX0_falls_40 : decode cX0_falls 40 = .ok (.getfield 215, 3) := dk_180 0 215 (dk_at dksX0_falls_1 17 rfl rfl)
theorem dX0_falls_43 : decode cX0_falls 43 = .ok (.iconst 1, 1) := dk_4 (dk_at dksX0_falls_1 20 rfl rfl)
theorem dX0_falls_44 : decode cX0_falls 44 = .ok (.iadd, 1) := dk_96 (dk_at dksX0_falls_1 21 rfl rfl)
theorem dX0_falls_45 : decode cX0_falls 45 = .ok (.putfield 215, 3) := dk_181 0 215 (dk_at dksX0_falls_2 0 rfl rfl)
theorem dX0_falls_48 : decode cX0_falls 48 = .ok (.aload_n 0, 1) := dk_42 (dk_at dksX0_falls_2 3 rfl rfl)
theorem dX0_falls_49 : decode cX0_falls 49 = .ok (.getfield 50, 3) := dk_180 0 50 (dk_at dksX0_falls_2 4 rfl rfl)
theorem dX0_falls_52 : decode cX0_falls 52 = .ok (.aload_n 0, 1) := dk_42 (dk_at dksX0_falls_2 7 rfl rfl)
theorem dX0_falls_53 : decode cX0_falls 53 = .ok (.getfield 212, 3) := dk_180 0 212 (dk_at dksX0_falls_2 8 rfl rfl)
theorem dX0_falls_56 : decode cX0_falls 56 = .ok (.invokevirtual 221, 3) := dk_182 0 221 (dk_at dksX0_falls_2 11 rfl rfl)
theorem dX0_falls_59 : decode cX0_falls 59 = .ok (.istore_n 2, 1) := dk_61 (dk_at dksX0_falls_2 14 rfl rfl)
theorem dX0_falls_60 : decode cX0_falls 60 = .ok (.goto (-38), 3) := dk_167 255 218 (dk_at dksX0_falls_2 15 rfl rfl)
theorem dX0_falls_63 : decode cX0_falls 63 = .ok (.return_, 1) := dk_177 (dk_at dksX0_falls_2 18 rfl rfl)
abbrev cX0_energies : ByteArray := prog_1_method_10_code
def yX0_energies : MethodName := ⟨RX0, "energies", "()LSpinStrip$Energies;"⟩
def dkwX0_energies_0 : List UInt8 := [42, 180, 0, 127, 154, 0, 10, 42, 180, 0, 50, 182, 0, 141, 42, 4, 181, 0, 127, 42, 180, 0, 50, 176]
abbrev dktX0_energies_0 : List UInt8 := dkwX0_energies_0 ++ []
theorem dksX0_energies_0 : cX0_energies.data.toList.drop 0 = dktX0_energies_0 := by decide +kernel
theorem dX0_energies_0 : decode cX0_energies 0 = .ok (.aload_n 0, 1) := dk_42 (dk_at dksX0_energies_0 0 rfl rfl)
theorem dX0_energies_1 : decode cX0_energies 1 = .ok (.getfield 127, 3) := dk_180 0 127 (dk_at dksX0_energies_0 1 rfl rfl)
theorem dX0_energies_4 : decode cX0_energies 4 = .ok (.ifCond .ne 10, 3) := dk_154 0 10 (dk_at dksX0_energies_0 4 rfl rfl)
theorem dX0_energies_7 : decode cX0_energies 7 = .ok (.aload_n 0, 1) := dk_42 (dk_at dksX0_energies_0 7 rfl rfl)
theorem dX0_energies_8 : decode cX0_energies 8 = .ok (.getfield 50, 3) := dk_180 0 50 (dk_at dksX0_energies_0 8 rfl rfl)
theorem dX0_energies_11 : decode cX0_energies 11 = .ok (.invokevirtual 141, 3) := dk_182 0 141 (dk_at dksX0_energies_0 11 rfl rfl)
theorem dX0_energies_14 : decode cX0_energies 14 = .ok (.aload_n 0, 1) := dk_42 (dk_at dksX0_energies_0 14 rfl rfl)
theorem dX0_energies_15 : decode cX0_energies 15 = .ok (.iconst 1, 1) := dk_4 (dk_at dksX0_energies_0 15 rfl rfl)
theorem dX0_energies_16 : decode cX0_energies 16 = .ok (.putfield 127, 3) := dk_181 0 127 (dk_at dksX0_energies_0 16 rfl rfl)
theorem dX0_energies_19 : decode cX0_energies 19 = .ok (.aload_n 0, 1) := dk_42 (dk_at dksX0_energies_0 19 rfl rfl)
theorem dX0_energies_20 : decode cX0_energies 20 = .ok (.getfield 50, 3) := dk_180 0 50 (dk_at dksX0_energies_0 20 rfl rfl)
theorem dX0_energies_23 : decode cX0_energies 23 = .ok (.areturn, 1) := dk_176 (dk_at dksX0_energies_0 23 rfl rfl)
abbrev cX0_many : ByteArray := prog_1_method_3_code
def yX0_many : MethodName := ⟨RX0, "many", "(I)I"⟩
theorem dX0_many_0 : decode cX0_many 0 = .ok (.iload_n 0, 1) := by decide +kernel
theorem dX0_many_1 : decode cX0_many 1 = .ok (.invokestatic 3, 3) := by decide +kernel
theorem dX0_many_4 : decode cX0_many 4 = .ok (.ireturn, 1) := by decide +kernel
abbrev cX0_undo : ByteArray := prog_1_method_20_code
def yX0_undo : MethodName := ⟨RX0, "undo", "()Z"⟩
def dkwX0_undo_1 : List UInt8 := [192, 0, 38, 182, 0, 124, 42, 3, 181, 0, 127, 4, 172]
abbrev dktX0_undo_1 : List UInt8 := dkwX0_undo_1 ++ []
def dkwX0_undo_0 : List UInt8 := [42, 180, 0, 80, 182, 0, 226, 153, 0, 5, 3, 172, 42, 180, 0, 41, 42, 180, 0, 80, 182, 0, 230]
abbrev dktX0_undo_0 : List UInt8 := dkwX0_undo_0 ++ dktX0_undo_1
theorem dksX0_undo_0 : cX0_undo.data.toList.drop 0 = dktX0_undo_0 := by decide +kernel
theorem dksX0_undo_1 : cX0_undo.data.toList.drop 23 = dktX0_undo_1 := dk_seg dksX0_undo_0 23 rfl rfl
theorem dX0_undo_0 : decode cX0_undo 0 = .ok (.aload_n 0, 1) := dk_42 (dk_at dksX0_undo_0 0 rfl rfl)
theorem dX0_undo_1 : decode cX0_undo 1 = .ok (.getfield 80, 3) := dk_180 0 80 (dk_at dksX0_undo_0 1 rfl rfl)
theorem dX0_undo_4 : decode cX0_undo 4 = .ok (.invokevirtual 226, 3) := dk_182 0 226 (dk_at dksX0_undo_0 4 rfl rfl)
theorem dX0_undo_7 : decode cX0_undo 7 = .ok (.ifCond .eq 5, 3) := dk_153 0 5 (dk_at dksX0_undo_0 7 rfl rfl)
theorem dX0_undo_10 : decode cX0_undo 10 = .ok (.iconst 0, 1) := dk_3 (dk_at dksX0_undo_0 10 rfl rfl)
theorem dX0_undo_11 : decode cX0_undo 11 = .ok (.ireturn, 1) := dk_172 (dk_at dksX0_undo_0 11 rfl rfl)
theorem dX0_undo_12 : decode cX0_undo 12 = .ok (.aload_n 0, 1) := dk_42 (dk_at dksX0_undo_0 12 rfl rfl)
theorem dX0_undo_13 : decode cX0_undo 13 = .ok (.getfield 41, 3) := dk_180 0 41 (dk_at dksX0_undo_0 13 rfl rfl)
theorem dX0_undo_16 : decode cX0_undo 16 = .ok (.aload_n 0, 1) := dk_42 (dk_at dksX0_undo_0 16 rfl rfl)
theorem dX0_undo_17 : decode cX0_undo 17 = .ok (.getfield 80, 3) := dk_180 0 80 (dk_at dksX0_undo_0 17 rfl rfl)
theorem dX0_undo_20 : decode cX0_undo 20 = .ok (.invokevirtual 230, 3) := dk_182 0 230 (dk_at dksX0_undo_0 20 rfl rfl)
theorem dX0_undo_23 : decode cX0_undo 23 = .ok (.checkcast 38, 3) := dk_192 0 38 (dk_at dksX0_undo_1 0 rfl rfl)
theorem dX0_undo_26 : decode cX0_undo 26 = .ok (.invokevirtual 124, 3) := dk_182 0 124 (dk_at dksX0_undo_1 3 rfl rfl)
theorem dX0_undo_29 : decode cX0_undo 29 = .ok (.aload_n 0, 1) := dk_42 (dk_at dksX0_undo_1 6 rfl rfl)
theorem dX0_undo_30 : decode cX0_undo 30 = .ok (.iconst 0, 1) := dk_3 (dk_at dksX0_undo_1 7 rfl rfl)
theorem dX0_undo_31 : decode cX0_undo 31 = .ok (.putfield 127, 3) := dk_181 0 127 (dk_at dksX0_undo_1 8 rfl rfl)
theorem dX0_undo_34 : decode cX0_undo 34 = .ok (.iconst 1, 1) := dk_4 (dk_at dksX0_undo_1 11 rfl rfl)
theorem dX0_undo_35 : decode cX0_undo 35 = .ok (.ireturn, 1) := dk_172 (dk_at dksX0_undo_1 12 rfl rfl)
abbrev cX0_site : ByteArray := prog_1_method_21_code
def yX0_site : MethodName := ⟨RX0, "site", "(II)I"⟩
def dkwX0_site_7 : List UInt8 := [172, 18, 233, 172]
abbrev dktX0_site_7 : List UInt8 := dkwX0_site_7 ++ []
def dkwX0_site_6 : List UInt8 := [153, 0, 7, 4, 167, 0, 4, 3, 172, 42, 180, 0, 41, 42, 180, 0, 41, 180, 0, 196, 27, 182, 0, 237]
abbrev dktX0_site_6 : List UInt8 := dkwX0_site_6 ++ dktX0_site_7
def dkwX0_site_5 : List UInt8 := [160, 0, 7, 4, 167, 0, 4, 3, 182, 0, 168, 172, 42, 180, 0, 41, 180, 0, 196, 27, 184, 0, 186]
abbrev dktX0_site_5 : List UInt8 := dkwX0_site_5 ++ dktX0_site_6
def dkwX0_site_4 : List UInt8 := [167, 0, 4, 3, 182, 0, 160, 156, 0, 8, 16, 100, 167, 0, 21, 42, 180, 0, 41, 27, 28, 8]
abbrev dktX0_site_4 : List UInt8 := dkwX0_site_4 ++ dktX0_site_5
def dkwX0_site_3 : List UInt8 := [180, 0, 179, 27, 46, 172, 42, 27, 182, 0, 193, 172, 42, 180, 0, 41, 27, 28, 8, 160, 0, 7, 4]
abbrev dktX0_site_3 : List UInt8 := dkwX0_site_3 ++ dktX0_site_4
def dkwX0_site_2 : List UInt8 := [27, 42, 180, 0, 41, 180, 0, 234, 108, 172, 27, 42, 180, 0, 41, 180, 0, 234, 112, 172, 42, 180, 0, 41]
abbrev dktX0_site_2 : List UInt8 := dkwX0_site_2 ++ dktX0_site_3
def dkwX0_site_1 : List UInt8 := [170, 0, 0, 0, 162, 0, 0, 0, 0, 0, 0, 0, 7, 0, 0, 0, 45, 0, 0, 0, 55, 0, 0, 0, 65, 0, 0, 0, 75, 0, 0, 0, 81, 0, 0, 0, 81, 0, 0, 0, 126, 0, 0, 0, 146]
abbrev dktX0_site_1 : List UInt8 := dkwX0_site_1 ++ dktX0_site_2
def dkwX0_site_0 : List UInt8 := [42, 180, 0, 41, 27, 182, 0, 156, 154, 0, 6, 18, 233, 172, 28]
abbrev dktX0_site_0 : List UInt8 := dkwX0_site_0 ++ dktX0_site_1
theorem dksX0_site_0 : cX0_site.data.toList.drop 0 = dktX0_site_0 := by decide +kernel
theorem dksX0_site_1 : cX0_site.data.toList.drop 15 = dktX0_site_1 := dk_seg dksX0_site_0 15 rfl rfl
theorem dksX0_site_2 : cX0_site.data.toList.drop 60 = dktX0_site_2 := dk_seg dksX0_site_1 45 rfl rfl
theorem dksX0_site_3 : cX0_site.data.toList.drop 84 = dktX0_site_3 := dk_seg dksX0_site_2 24 rfl rfl
theorem dksX0_site_4 : cX0_site.data.toList.drop 107 = dktX0_site_4 := dk_seg dksX0_site_3 23 rfl rfl
theorem dksX0_site_5 : cX0_site.data.toList.drop 129 = dktX0_site_5 := dk_seg dksX0_site_4 22 rfl rfl
theorem dksX0_site_6 : cX0_site.data.toList.drop 152 = dktX0_site_6 := dk_seg dksX0_site_5 23 rfl rfl
theorem dksX0_site_7 : cX0_site.data.toList.drop 176 = dktX0_site_7 := dk_seg dksX0_site_6 24 rfl rfl
theorem dX0_site_0 : decode cX0_site 0 = .ok (.aload_n 0, 1) := dk_42 (dk_at dksX0_site_0 0 rfl rfl)
theorem dX0_site_1 : decode cX0_site 1 = .ok (.getfield 41, 3) := dk_180 0 41 (dk_at dksX0_site_0 1 rfl rfl)
theorem dX0_site_4 : decode cX0_site 4 = .ok (.iload_n 1, 1) := dk_27 (dk_at dksX0_site_0 4 rfl rfl)
theorem dX0_site_5 : decode cX0_site 5 = .ok (.invokevirtual 156, 3) := dk_182 0 156 (dk_at dksX0_site_0 5 rfl rfl)
theorem dX0_site_8 : decode cX0_site 8 = .ok (.ifCond .ne 6, 3) := dk_154 0 6 (dk_at dksX0_site_0 8 rfl rfl)
theorem dX0_site_11 : decode cX0_site 11 = .ok (.ldc 233, 2) := dk_18 233 (dk_at dksX0_site_0 11 rfl rfl)
theorem dX0_site_13 : decode cX0_site 13 = .ok (.ireturn, 1) := dk_172 (dk_at dksX0_site_0 13 rfl rfl)
theorem dX0_site_14 : decode cX0_site 14 = .ok (.iload_n 2, 1) := dk_28 (dk_at dksX0_site_0 14 rfl rfl)
theorem dX0_site_15 : decode cX0_site 15 = .ok (.tableswitch 162 0 7 #[45, 55, 65, 75, 81, 81, 126, 146], 45) := by decide +kernel
theorem dX0_site_60 : decode cX0_site 60 = .ok (.iload_n 1, 1) := dk_27 (dk_at dksX0_site_2 0 rfl rfl)
theorem dX0_site_61 : decode cX0_site 61 = .ok (.aload_n 0, 1) := dk_42 (dk_at dksX0_site_2 1 rfl rfl)
theorem dX0_site_62 : decode cX0_site 62 = .ok (.getfield 41, 3) := dk_180 0 41 (dk_at dksX0_site_2 2 rfl rfl)
theorem dX0_site_65 : decode cX0_site 65 = .ok (.getfield 234, 3) := dk_180 0 234 (dk_at dksX0_site_2 5 rfl rfl)
theorem dX0_site_68 : decode cX0_site 68 = .ok (.idiv, 1) := dk_108 (dk_at dksX0_site_2 8 rfl rfl)
theorem dX0_site_69 : decode cX0_site 69 = .ok (.ireturn, 1) := dk_172 (dk_at dksX0_site_2 9 rfl rfl)
theorem dX0_site_70 : decode cX0_site 70 = .ok (.iload_n 1, 1) := dk_27 (dk_at dksX0_site_2 10 rfl rfl)
theorem dX0_site_71 : decode cX0_site 71 = .ok (.aload_n 0, 1) := dk_42 (dk_at dksX0_site_2 11 rfl rfl)
theorem dX0_site_72 : decode cX0_site 72 = .ok (.getfield 41, 3) := dk_180 0 41 (dk_at dksX0_site_2 12 rfl rfl)
theorem dX0_site_75 : decode cX0_site 75 = .ok (.getfield 234, 3) := dk_180 0 234 (dk_at dksX0_site_2 15 rfl rfl)
theorem dX0_site_78 : decode cX0_site 78 = .ok (.irem, 1) := dk_112 (dk_at dksX0_site_2 18 rfl rfl)
theorem dX0_site_79 : decode cX0_site 79 = .ok (.ireturn, 1) := dk_172 (dk_at dksX0_site_2 19 rfl rfl)
theorem dX0_site_80 : decode cX0_site 80 = .ok (.aload_n 0, 1) := dk_42 (dk_at dksX0_site_2 20 rfl rfl)
theorem dX0_site_81 : decode cX0_site 81 = .ok (.getfield 41, 3) := dk_180 0 41 (dk_at dksX0_site_2 21 rfl rfl)
theorem dX0_site_84 : decode cX0_site 84 = .ok (.getfield 179, 3) := dk_180 0 179 (dk_at dksX0_site_3 0 rfl rfl)
theorem dX0_site_87 : decode cX0_site 87 = .ok (.iload_n 1, 1) := dk_27 (dk_at dksX0_site_3 3 rfl rfl)
theorem dX0_site_88 : decode cX0_site 88 = .ok (.iaload, 1) := dk_46 (dk_at dksX0_site_3 4 rfl rfl)
theorem dX0_site_89 : decode cX0_site 89 = .ok (.ireturn, 1) := dk_172 (dk_at dksX0_site_3 5 rfl rfl)
theorem dX0_site_90 : decode cX0_site 90 = .ok (.aload_n 0, 1) := dk_42 (dk_at dksX0_site_3 6 rfl rfl)
theorem dX0_site_91 : decode cX0_site 91 = .ok (.iload_n 1, 1) := dk_27 (dk_at dksX0_site_3 7 rfl rfl)
theorem dX0_site_92 : decode cX0_site 92 = .ok (.invokevirtual 193, 3) := dk_182 0 193 (dk_at dksX0_site_3 8 rfl rfl)
theorem dX0_site_95 : decode cX0_site 95 = .ok (.ireturn, 1) := dk_172 (dk_at dksX0_site_3 11 rfl rfl)
theorem dX0_site_96 : decode cX0_site 96 = .ok (.aload_n 0, 1) := dk_42 (dk_at dksX0_site_3 12 rfl rfl)
theorem dX0_site_97 : decode cX0_site 97 = .ok (.getfield 41, 3) := dk_180 0 41 (dk_at dksX0_site_3 13 rfl rfl)
theorem dX0_site_100 : decode cX0_site 100 = .ok (.iload_n 1, 1) := dk_27 (dk_at dksX0_site_3 16 rfl rfl)
theorem dX0_site_101 : decode cX0_site 101 = .ok (.iload_n 2, 1) := dk_28 (dk_at dksX0_site_3 17 rfl rfl)
theorem dX0_site_102 : decode cX0_site 102 = .ok (.iconst 5, 1) := dk_8 (dk_at dksX0_site_3 18 rfl rfl)
theorem dX0_site_103 : decode cX0_site 103 = .ok (.if_icmp .ne 7, 3) := dk_160 0 7 (dk_at dksX0_site_3 19 rfl rfl)
theorem dX0_site_106 : decode cX0_site 106 = .ok (.iconst 1, 1) := dk_4 (dk_at dksX0_site_3 22 rfl rfl)
theorem dX0_site_107 : decode cX0_site 107 = .ok (.goto 4, 3) := dk_167 0 4 (dk_at dksX0_site_4 0 rfl rfl)
theorem dX0_site_110 : decode cX0_site 110 = .ok (.iconst 0, 1) := dk_3 (dk_at dksX0_site_4 3 rfl rfl)
theorem dX0_site_111 : decode cX0_site 111 = .ok (.invokevirtual 160, 3) := dk_182 0 160 (dk_at dksX0_site_4 4 rfl rfl)
theorem dX0_site_114 : decode cX0_site 114 = .ok (.ifCond .ge 8, 3) := dk_156 0 8 (dk_at dksX0_site_4 7 rfl rfl)
theorem dX0_site_117 : decode cX0_site 117 = .ok (.bipush 100, 2) := dk_16 100 (dk_at dksX0_site_4 10 rfl rfl)
theorem dX0_site_119 : decode cX0_site 119 = .ok (.goto 21, 3) := dk_167 0 21 (dk_at dksX0_site_4 12 rfl rfl)
theorem dX0_site_122 : decode cX0_site 122 = .ok (.aload_n 0, 1) := dk_42 (dk_at dksX0_site_4 15 rfl rfl)
theorem dX0_site_123 : decode cX0_site 123 = .ok (.getfield 41, 3) := dk_180 0 41 (dk_at dksX0_site_4 16 rfl rfl)
theorem dX0_site_126 : decode cX0_site 126 = .ok (.iload_n 1, 1) := dk_27 (dk_at dksX0_site_4 19 rfl rfl)
theorem dX0_site_127 : decode cX0_site 127 = .ok (.iload_n 2, 1) := dk_28 (dk_at dksX0_site_4 20 rfl rfl)
theorem dX0_site_128 : decode cX0_site 128 = .ok (.iconst 5, 1) := dk_8 (dk_at dksX0_site_4 21 rfl rfl)
theorem dX0_site_129 : decode cX0_site 129 = .ok (.if_icmp .ne 7, 3) := dk_160 0 7 (dk_at dksX0_site_5 0 rfl rfl)
theorem dX0_site_132 : decode cX0_site 132 = .ok (.iconst 1, 1) := dk_4 (dk_at dksX0_site_5 3 rfl rfl)
theorem dX0_site_133 : decode cX0_site 133 = .ok (.goto 4, 3) := dk_167 0 4 (dk_at dksX0_site_5 4 rfl rfl)
theorem dX0_site_136 : decode cX0_site 136 = .ok (.iconst 0, 1) := dk_3 (dk_at dksX0_site_5 7 rfl rfl)
theorem dX0_site_137 : decode cX0_site 137 = .ok (.invokevirtual 168, 3) := dk_182 0 168 (dk_at dksX0_site_5 8 rfl rfl)
theorem dX0_site_140 : decode cX0_site 140 = .ok (.ireturn, 1) := dk_172 (dk_at dksX0_site_5 11 rfl rfl)
theorem dX0_site_141 : decode cX0_site 141 = .ok (.aload_n 0, 1) := dk_42 (dk_at dksX0_site_5 12 rfl rfl)
theorem dX0_site_142 : decode cX0_site 142 = .ok (.getfield 41, 3) := dk_180 0 41 (dk_at dksX0_site_5 13 rfl rfl)
theorem dX0_site_145 : decode cX0_site 145 = .ok (.getfield 196, 3) := dk_180 0 196 (dk_at dksX0_site_5 16 rfl rfl)
theorem dX0_site_148 : decode cX0_site 148 = .ok (.iload_n 1, 1) := dk_27 (dk_at dksX0_site_5 19 rfl rfl)
theorem dX0_site_149 : decode cX0_site 149 = .ok (.invokestatic 186, 3) := dk_184 0 186 (dk_at dksX0_site_5 20 rfl rfl)
theorem dX0_site_152 : decode cX0_site 152 = .ok (.ifCond .eq 7, 3) := dk_153 0 7 (dk_at dksX0_site_6 0 rfl rfl)
theorem dX0_site_155 : decode cX0_site 155 = .ok (.iconst 1, 1) := dk_4 (dk_at dksX0_site_6 3 rfl rfl)
theorem dX0_site_156 : decode cX0_site 156 = .ok (.goto 4, 3) := dk_167 0 4 (dk_at dksX0_site_6 4 rfl rfl)
theorem dX0_site_159 : decode cX0_site 159 = .ok (.iconst 0, 1) := dk_3 (dk_at dksX0_site_6 7 rfl rfl)
theorem dX0_site_160 : decode cX0_site 160 = .ok (.ireturn, 1) := dk_172 (dk_at dksX0_site_6 8 rfl rfl)
theorem dX0_site_161 : decode cX0_site 161 = .ok (.aload_n 0, 1) := dk_42 (dk_at dksX0_site_6 9 rfl rfl)
theorem dX0_site_162 : decode cX0_site 162 = .ok (.getfield 41, 3) := dk_180 0 41 (dk_at dksX0_site_6 10 rfl rfl)
theorem dX0_site_165 : decode cX0_site 165 = .ok (.aload_n 0, 1) := dk_42 (dk_at dksX0_site_6 13 rfl rfl)
theorem dX0_site_166 : decode cX0_site 166 = .ok (.getfield 41, 3) := dk_180 0 41 (dk_at dksX0_site_6 14 rfl rfl)
theorem dX0_site_169 : decode cX0_site 169 = .ok (.getfield 196, 3) := dk_180 0 196 (dk_at dksX0_site_6 17 rfl rfl)
theorem dX0_site_172 : decode cX0_site 172 = .ok (.iload_n 1, 1) := dk_27 (dk_at dksX0_site_6 20 rfl rfl)
theorem dX0_site_173 : decode cX0_site 173 = .ok (.invokevirtual 237, 3) := dk_182 0 237 (dk_at dksX0_site_6 21 rfl rfl)
theorem dX0_site_176 : decode cX0_site 176 = .ok (.ireturn, 1) := dk_172 (dk_at dksX0_site_7 0 rfl rfl)
theorem dX0_site_177 : decode cX0_site 177 = .ok (.ldc 233, 2) := dk_18 233 (dk_at dksX0_site_7 1 rfl rfl)
theorem dX0_site_179 : decode cX0_site 179 = .ok (.ireturn, 1) := dk_172 (dk_at dksX0_site_7 3 rfl rfl)
abbrev cX0_level : ByteArray := prog_1_method_22_code
def yX0_level : MethodName := ⟨RX0, "level", "(II)I"⟩
def dkwX0_level_1 : List UInt8 := [198, 0, 12, 28, 3, 7, 184, 0, 164, 154, 0, 8, 18, 233, 167, 0, 8, 45, 28, 182, 0, 248, 172]
abbrev dktX0_level_1 : List UInt8 := dkwX0_level_1 ++ []
def dkwX0_level_0 : List UInt8 := [27, 2, 160, 0, 11, 42, 182, 0, 218, 182, 0, 241, 172, 42, 182, 0, 218, 27, 182, 0, 244, 78, 45]
abbrev dktX0_level_0 : List UInt8 := dkwX0_level_0 ++ dktX0_level_1
theorem dksX0_level_0 : cX0_level.data.toList.drop 0 = dktX0_level_0 := by decide +kernel
theorem dksX0_level_1 : cX0_level.data.toList.drop 23 = dktX0_level_1 := dk_seg dksX0_level_0 23 rfl rfl
theorem dX0_level_0 : decode cX0_level 0 = .ok (.iload_n 1, 1) := dk_27 (dk_at dksX0_level_0 0 rfl rfl)
theorem dX0_level_1 : decode cX0_level 1 = .ok (.iconst (-1), 1) := dk_2 (dk_at dksX0_level_0 1 rfl rfl)
theorem dX0_level_2 : decode cX0_level 2 = .ok (.if_icmp .ne 11, 3) := dk_160 0 11 (dk_at dksX0_level_0 2 rfl rfl)
theorem dX0_level_5 : decode cX0_level 5 = .ok (.aload_n 0, 1) := dk_42 (dk_at dksX0_level_0 5 rfl rfl)
theorem dX0_level_6 : decode cX0_level 6 = .ok (.invokevirtual 218, 3) := dk_182 0 218 (dk_at dksX0_level_0 6 rfl rfl)
theorem dX0_level_9 : decode cX0_level 9 = .ok (.invokevirtual 241, 3) := dk_182 0 241 (dk_at dksX0_level_0 9 rfl rfl)
theorem dX0_level_12 : decode cX0_level 12 = .ok (.ireturn, 1) := dk_172 (dk_at dksX0_level_0 12 rfl rfl)
theorem dX0_level_13 : decode cX0_level 13 = .ok (.aload_n 0, 1) := dk_42 (dk_at dksX0_level_0 13 rfl rfl)
theorem dX0_level_14 : decode cX0_level 14 = .ok (.invokevirtual 218, 3) := dk_182 0 218 (dk_at dksX0_level_0 14 rfl rfl)
theorem dX0_level_17 : decode cX0_level 17 = .ok (.iload_n 1, 1) := dk_27 (dk_at dksX0_level_0 17 rfl rfl)
theorem dX0_level_18 : decode cX0_level 18 = .ok (.invokevirtual 244, 3) := dk_182 0 244 (dk_at dksX0_level_0 18 rfl rfl)
theorem dX0_level_21 : decode cX0_level 21 = .ok (.astore_n 3, 1) := dk_78 (dk_at dksX0_level_0 21 rfl rfl)
theorem dX0_level_22 : decode cX0_level 22 = .ok (.aload_n 3, 1) := dk_45 (dk_at dksX0_level_0 22 rfl rfl)
theorem dX0_level_23 : decode cX0_level 23 = .ok (.ifnull 12, 3) := dk_198 0 12 (dk_at dksX0_level_1 0 rfl rfl)
theorem dX0_level_26 : decode cX0_level 26 = .ok (.iload_n 2, 1) := dk_28 (dk_at dksX0_level_1 3 rfl rfl)
theorem dX0_level_27 : decode cX0_level 27 = .ok (.iconst 0, 1) := dk_3 (dk_at dksX0_level_1 4 rfl rfl)
theorem dX0_level_28 : decode cX0_level 28 = .ok (.iconst 4, 1) := dk_7 (dk_at dksX0_level_1 5 rfl rfl)
theorem dX0_level_29 : decode cX0_level 29 = .ok (.invokestatic 164, 3) := dk_184 0 164 (dk_at dksX0_level_1 6 rfl rfl)
theorem dX0_level_32 : decode cX0_level 32 = .ok (.ifCond .ne 8, 3) := dk_154 0 8 (dk_at dksX0_level_1 9 rfl rfl)
theorem dX0_level_35 : decode cX0_level 35 = .ok (.ldc 233, 2) := dk_18 233 (dk_at dksX0_level_1 12 rfl rfl)
theorem dX0_level_37 : decode cX0_level 37 = .ok (.goto 8, 3) := dk_167 0 8 (dk_at dksX0_level_1 14 rfl rfl)
theorem dX0_level_40 : decode cX0_level 40 = .ok (.aload_n 3, 1) := dk_45 (dk_at dksX0_level_1 17 rfl rfl)
theorem dX0_level_41 : decode cX0_level 41 = .ok (.iload_n 2, 1) := dk_28 (dk_at dksX0_level_1 18 rfl rfl)
theorem dX0_level_42 : decode cX0_level 42 = .ok (.invokevirtual 248, 3) := dk_182 0 248 (dk_at dksX0_level_1 19 rfl rfl)
theorem dX0_level_45 : decode cX0_level 45 = .ok (.ireturn, 1) := dk_172 (dk_at dksX0_level_1 22 rfl rfl)
abbrev cX0_both : ByteArray := prog_1_method_23_code
def yX0_both : MethodName := ⟨RX0, "both", "(II)I"⟩
def dkwX0_both_1 : List UInt8 := [172]
abbrev dktX0_both_1 : List UInt8 := dkwX0_both_1 ++ []
def dkwX0_both_0 : List UInt8 := [42, 182, 0, 218, 27, 182, 0, 253, 154, 0, 7, 3, 167, 0, 12, 42, 180, 0, 50, 27, 28, 182, 1, 0]
abbrev dktX0_both_0 : List UInt8 := dkwX0_both_0 ++ dktX0_both_1
theorem dksX0_both_0 : cX0_both.data.toList.drop 0 = dktX0_both_0 := by decide +kernel
theorem dksX0_both_1 : cX0_both.data.toList.drop 24 = dktX0_both_1 := dk_seg dksX0_both_0 24 rfl rfl
theorem dX0_both_0 : decode cX0_both 0 = .ok (.aload_n 0, 1) := dk_42 (dk_at dksX0_both_0 0 rfl rfl)
theorem dX0_both_1 : decode cX0_both 1 = .ok (.invokevirtual 218, 3) := dk_182 0 218 (dk_at dksX0_both_0 1 rfl rfl)
theorem dX0_both_4 : decode cX0_both 4 = .ok (.iload_n 1, 1) := dk_27 (dk_at dksX0_both_0 4 rfl rfl)
theorem dX0_both_5 : decode cX0_both 5 = .ok (.invokevirtual 253, 3) := dk_182 0 253 (dk_at dksX0_both_0 5 rfl rfl)
theorem dX0_both_8 : decode cX0_both 8 = .ok (.ifCond .ne 7, 3) := dk_154 0 7 (dk_at dksX0_both_0 8 rfl rfl)
theorem dX0_both_11 : decode cX0_both 11 = .ok (.iconst 0, 1) := dk_3 (dk_at dksX0_both_0 11 rfl rfl)
theorem dX0_both_12 : decode cX0_both 12 = .ok (.goto 12, 3) := dk_167 0 12 (dk_at dksX0_both_0 12 rfl rfl)
theorem dX0_both_15 : decode cX0_both 15 = .ok (.aload_n 0, 1) := dk_42 (dk_at dksX0_both_0 15 rfl rfl)
theorem dX0_both_16 : decode cX0_both 16 = .ok (.getfield 50, 3) := dk_180 0 50 (dk_at dksX0_both_0 16 rfl rfl)
theorem dX0_both_19 : decode cX0_both 19 = .ok (.iload_n 1, 1) := dk_27 (dk_at dksX0_both_0 19 rfl rfl)
theorem dX0_both_20 : decode cX0_both 20 = .ok (.iload_n 2, 1) := dk_28 (dk_at dksX0_both_0 20 rfl rfl)
theorem dX0_both_21 : decode cX0_both 21 = .ok (.invokevirtual 256, 3) := dk_182 1 0 (dk_at dksX0_both_0 21 rfl rfl)
theorem dX0_both_24 : decode cX0_both 24 = .ok (.ireturn, 1) := dk_172 (dk_at dksX0_both_1 0 rfl rfl)
abbrev cX0_broken : ByteArray := prog_1_method_24_code
def yX0_broken : MethodName := ⟨RX0, "broken", "(I)I"⟩
def dkwX0_broken_1 : List UInt8 := [180, 1, 6, 27, 46, 167, 0, 4, 3, 172]
abbrev dktX0_broken_1 : List UInt8 := dkwX0_broken_1 ++ []
def dkwX0_broken_0 : List UInt8 := [27, 3, 16, 32, 184, 0, 164, 153, 0, 25, 42, 182, 0, 218, 180, 1, 3, 158, 0, 15, 42, 180, 0, 50]
abbrev dktX0_broken_0 : List UInt8 := dkwX0_broken_0 ++ dktX0_broken_1
theorem dksX0_broken_0 : cX0_broken.data.toList.drop 0 = dktX0_broken_0 := by decide +kernel
theorem dksX0_broken_1 : cX0_broken.data.toList.drop 24 = dktX0_broken_1 := dk_seg dksX0_broken_0 24 rfl rfl
theorem dX0_broken_0 : decode cX0_broken 0 = .ok (.iload_n 1, 1) := dk_27 (dk_at dksX0_broken_0 0 rfl rfl)
theorem dX0_broken_1 : decode cX0_broken 1 = .ok (.iconst 0, 1) := dk_3 (dk_at dksX0_broken_0 1 rfl rfl)
theorem dX0_broken_2 : decode cX0_broken 2 = .ok (.bipush 32, 2) := dk_16 32 (dk_at dksX0_broken_0 2 rfl rfl)
theorem dX0_broken_4 : decode cX0_broken 4 = .ok (.invokestatic 164, 3) := dk_184 0 164 (dk_at dksX0_broken_0 4 rfl rfl)
theorem dX0_broken_7 : decode cX0_broken 7 = .ok (.ifCond .eq 25, 3) := dk_153 0 25 (dk_at dksX0_broken_0 7 rfl rfl)
theorem dX0_broken_10 : decode cX0_broken 10 = .ok (.aload_n 0, 1) := dk_42 (dk_at dksX0_broken_0 10 rfl rfl)
theorem dX0_broken_11 : decode cX0_broken 11 = .ok (.invokevirtual 218, 3) := dk_182 0 218 (dk_at dksX0_broken_0 11 rfl rfl)
theorem dX0_broken_14 : decode cX0_broken 14 = .ok (.getfield 259, 3) := dk_180 1 3 (dk_at dksX0_broken_0 14 rfl rfl)
theorem dX0_broken_17 : decode cX0_broken 17 = .ok (.ifCond .le 15, 3) := dk_158 0 15 (dk_at dksX0_broken_0 17 rfl rfl)
theorem dX0_broken_20 : decode cX0_broken 20 = .ok (.aload_n 0, 1) := dk_42 (dk_at dksX0_broken_0 20 rfl rfl)
theorem dX0_broken_21 : decode cX0_broken 21 = .ok (.getfield 50, 3) := dk_180 0 50 (dk_at dksX0_broken_0 21 rfl rfl)
theorem dX0_broken_24 : decode cX0_broken 24 = .ok (.getfield 262, 3) := dk_180 1 6 (dk_at dksX0_broken_1 0 rfl rfl)
theorem dX0_broken_27 : decode cX0_broken 27 = .ok (.iload_n 1, 1) := dk_27 (dk_at dksX0_broken_1 3 rfl rfl)
theorem dX0_broken_28 : decode cX0_broken 28 = .ok (.iaload, 1) := dk_46 (dk_at dksX0_broken_1 4 rfl rfl)
theorem dX0_broken_29 : decode cX0_broken 29 = .ok (.goto 4, 3) := dk_167 0 4 (dk_at dksX0_broken_1 5 rfl rfl)
theorem dX0_broken_32 : decode cX0_broken 32 = .ok (.iconst 0, 1) := dk_3 (dk_at dksX0_broken_1 8 rfl rfl)
theorem dX0_broken_33 : decode cX0_broken 33 = .ok (.ireturn, 1) := dk_172 (dk_at dksX0_broken_1 9 rfl rfl)
abbrev cX0_ground : ByteArray := prog_1_method_25_code
def yX0_ground : MethodName := ⟨RX0, "ground", "(I)I"⟩
def dkwX0_ground_3 : List UInt8 := [180, 1, 9, 100, 172]
abbrev dktX0_ground_3 : List UInt8 := dkwX0_ground_3 ++ []
def dkwX0_ground_2 : List UInt8 := [182, 0, 241, 4, 160, 0, 8, 16, 254, 167, 0, 19, 42, 180, 0, 50, 4, 182, 0, 244, 180, 1, 9, 44]
abbrev dktX0_ground_2 : List UInt8 := dkwX0_ground_2 ++ dktX0_ground_3
def dkwX0_ground_1 : List UInt8 := [180, 0, 50, 3, 182, 0, 244, 77, 27, 6, 162, 0, 9, 44, 27, 182, 0, 248, 172, 42, 180, 0, 50]
abbrev dktX0_ground_1 : List UInt8 := dkwX0_ground_1 ++ dktX0_ground_2
def dkwX0_ground_0 : List UInt8 := [27, 3, 6, 184, 0, 164, 153, 0, 13, 42, 182, 0, 218, 182, 0, 241, 154, 0, 6, 18, 233, 172, 42]
abbrev dktX0_ground_0 : List UInt8 := dkwX0_ground_0 ++ dktX0_ground_1
theorem dksX0_ground_0 : cX0_ground.data.toList.drop 0 = dktX0_ground_0 := by decide +kernel
theorem dksX0_ground_1 : cX0_ground.data.toList.drop 23 = dktX0_ground_1 := dk_seg dksX0_ground_0 23 rfl rfl
theorem dksX0_ground_2 : cX0_ground.data.toList.drop 46 = dktX0_ground_2 := dk_seg dksX0_ground_1 23 rfl rfl
theorem dksX0_ground_3 : cX0_ground.data.toList.drop 70 = dktX0_ground_3 := dk_seg dksX0_ground_2 24 rfl rfl
theorem dX0_ground_0 : decode cX0_ground 0 = .ok (.iload_n 1, 1) := dk_27 (dk_at dksX0_ground_0 0 rfl rfl)
theorem dX0_ground_1 : decode cX0_ground 1 = .ok (.iconst 0, 1) := dk_3 (dk_at dksX0_ground_0 1 rfl rfl)
theorem dX0_ground_2 : decode cX0_ground 2 = .ok (.iconst 3, 1) := dk_6 (dk_at dksX0_ground_0 2 rfl rfl)
theorem dX0_ground_3 : decode cX0_ground 3 = .ok (.invokestatic 164, 3) := dk_184 0 164 (dk_at dksX0_ground_0 3 rfl rfl)
theorem dX0_ground_6 : decode cX0_ground 6 = .ok (.ifCond .eq 13, 3) := dk_153 0 13 (dk_at dksX0_ground_0 6 rfl rfl)
theorem dX0_ground_9 : decode cX0_ground 9 = .ok (.aload_n 0, 1) := dk_42 (dk_at dksX0_ground_0 9 rfl rfl)
theorem dX0_ground_10 : decode cX0_ground 10 = .ok (.invokevirtual 218, 3) := dk_182 0 218 (dk_at dksX0_ground_0 10 rfl rfl)
theorem dX0_ground_13 : decode cX0_ground 13 = .ok (.invokevirtual 241, 3) := dk_182 0 241 (dk_at dksX0_ground_0 13 rfl rfl)
theorem dX0_ground_16 : decode cX0_ground 16 = .ok (.ifCond .ne 6, 3) := dk_154 0 6 (dk_at dksX0_ground_0 16 rfl rfl)
theorem dX0_ground_19 : decode cX0_ground 19 = .ok (.ldc 233, 2) := dk_18 233 (dk_at dksX0_ground_0 19 rfl rfl)
theorem dX0_ground_21 : decode cX0_ground 21 = .ok (.ireturn, 1) := dk_172 (dk_at dksX0_ground_0 21 rfl rfl)
theorem dX0_ground_22 : decode cX0_ground 22 = .ok (.aload_n 0, 1) := dk_42 (dk_at dksX0_ground_0 22 rfl rfl)
theorem dX0_ground_23 : decode cX0_ground 23 = .ok (.getfield 50, 3) := dk_180 0 50 (dk_at dksX0_ground_1 0 rfl rfl)
theorem dX0_ground_26 : decode cX0_ground 26 = .ok (.iconst 0, 1) := dk_3 (dk_at dksX0_ground_1 3 rfl rfl)
theorem dX0_ground_27 : decode cX0_ground 27 = .ok (.invokevirtual 244, 3) := dk_182 0 244 (dk_at dksX0_ground_1 4 rfl rfl)
theorem dX0_ground_30 : decode cX0_ground 30 = .ok (.astore_n 2, 1) := dk_77 (dk_at dksX0_ground_1 7 rfl rfl)
theorem dX0_ground_31 : decode cX0_ground 31 = .ok (.iload_n 1, 1) := dk_27 (dk_at dksX0_ground_1 8 rfl rfl)
theorem dX0_ground_32 : decode cX0_ground 32 = .ok (.iconst 3, 1) := dk_6 (dk_at dksX0_ground_1 9 rfl rfl)
theorem dX0_ground_33 : decode cX0_ground 33 = .ok (.if_icmp .ge 9, 3) := dk_162 0 9 (dk_at dksX0_ground_1 10 rfl rfl)
theorem dX0_ground_36 : decode cX0_ground 36 = .ok (.aload_n 2, 1) := dk_44 (dk_at dksX0_ground_1 13 rfl rfl)
theorem dX0_ground_37 : decode cX0_ground 37 = .ok (.iload_n 1, 1) := dk_27 (dk_at dksX0_ground_1 14 rfl rfl)
theorem dX0_ground_38 : decode cX0_ground 38 = .ok (.invokevirtual 248, 3) := dk_182 0 248 (dk_at dksX0_ground_1 15 rfl rfl)
theorem dX0_ground_41 : decode cX0_ground 41 = .ok (.ireturn, 1) := dk_172 (dk_at dksX0_ground_1 18 rfl rfl)
theorem dX0_ground_42 : decode cX0_ground 42 = .ok (.aload_n 0, 1) := dk_42 (dk_at dksX0_ground_1 19 rfl rfl)
theorem dX0_ground_43 : decode cX0_ground 43 = .ok (.getfield 50, 3) := dk_180 0 50 (dk_at dksX0_ground_1 20 rfl rfl)
theorem dX0_ground_46 : decode cX0_ground 46 = .ok (.invokevirtual 241, 3) := dk_182 0 241 (dk_at dksX0_ground_2 0 rfl rfl)
theorem dX0_ground_49 : decode cX0_ground 49 = .ok (.iconst 1, 1) := dk_4 (dk_at dksX0_ground_2 3 rfl rfl)
theorem dX0_ground_50 : decode cX0_ground 50 = .ok (.if_icmp .ne 8, 3) := dk_160 0 8 (dk_at dksX0_ground_2 4 rfl rfl)
theorem dX0_ground_53 : decode cX0_ground 53 = .ok (.bipush (-2), 2) := dk_16 254 (dk_at dksX0_ground_2 7 rfl rfl)
theorem dX0_ground_55 : decode cX0_ground 55 = .ok (.goto 19, 3) := dk_167 0 19 (dk_at dksX0_ground_2 9 rfl rfl)
theorem dX0_ground_58 : decode cX0_ground 58 = .ok (.aload_n 0, 1) := dk_42 (dk_at dksX0_ground_2 12 rfl rfl)
theorem dX0_ground_59 : decode cX0_ground 59 = .ok (.getfield 50, 3) := dk_180 0 50 (dk_at dksX0_ground_2 13 rfl rfl)
theorem dX0_ground_62 : decode cX0_ground 62 = .ok (.iconst 1, 1) := dk_4 (dk_at dksX0_ground_2 16 rfl rfl)
theorem dX0_ground_63 : decode cX0_ground 63 = .ok (.invokevirtual 244, 3) := dk_182 0 244 (dk_at dksX0_ground_2 17 rfl rfl)
theorem dX0_ground_66 : decode cX0_ground 66 = .ok (.getfield 265, 3) := dk_180 1 9 (dk_at dksX0_ground_2 20 rfl rfl)
theorem dX0_ground_69 : decode cX0_ground 69 = .ok (.aload_n 2, 1) := dk_44 (dk_at dksX0_ground_2 23 rfl rfl)
theorem dX0_ground_70 : decode cX0_ground 70 = .ok (.getfield 265, 3) := dk_180 1 9 (dk_at dksX0_ground_3 0 rfl rfl)
theorem dX0_ground_73 : decode cX0_ground 73 = .ok (.isub, 1) := dk_100 (dk_at dksX0_ground_3 3 rfl rfl)
theorem dX0_ground_74 : decode cX0_ground 74 = .ok (.ireturn, 1) := dk_172 (dk_at dksX0_ground_3 4 rfl rfl)
abbrev cX0_pair : ByteArray := prog_1_method_28_code
def yX0_pair : MethodName := ⟨RX0, "pair", "(IIII)I"⟩
def dkwX0_pair_3 : List UInt8 := [180, 1, 24, 21, 4, 184, 1, 26, 172]
abbrev dktX0_pair_3 : List UInt8 := dkwX0_pair_3 ++ []
def dkwX0_pair_2 : List UInt8 := [199, 0, 8, 18, 233, 167, 0, 27, 42, 180, 0, 50, 27, 28, 25, 5, 180, 1, 9, 182, 1, 20, 25, 5]
abbrev dktX0_pair_2 : List UInt8 := dkwX0_pair_2 ++ dktX0_pair_3
def dkwX0_pair_1 : List UInt8 := [3, 4, 184, 0, 164, 153, 0, 14, 42, 182, 0, 218, 29, 182, 0, 244, 167, 0, 4, 1, 58, 5, 25, 5]
abbrev dktX0_pair_1 : List UInt8 := dkwX0_pair_1 ++ dktX0_pair_2
def dkwX0_pair_0 : List UInt8 := [42, 180, 0, 41, 27, 182, 0, 156, 153, 0, 35, 42, 180, 0, 41, 28, 182, 0, 156, 153, 0, 24, 21, 4]
abbrev dktX0_pair_0 : List UInt8 := dkwX0_pair_0 ++ dktX0_pair_1
theorem dksX0_pair_0 : cX0_pair.data.toList.drop 0 = dktX0_pair_0 := by decide +kernel
theorem dksX0_pair_1 : cX0_pair.data.toList.drop 24 = dktX0_pair_1 := dk_seg dksX0_pair_0 24 rfl rfl
theorem dksX0_pair_2 : cX0_pair.data.toList.drop 48 = dktX0_pair_2 := dk_seg dksX0_pair_1 24 rfl rfl
theorem dksX0_pair_3 : cX0_pair.data.toList.drop 72 = dktX0_pair_3 := dk_seg dksX0_pair_2 24 rfl rfl
theorem dX0_pair_0 : decode cX0_pair 0 = .ok (.aload_n 0, 1) := dk_42 (dk_at dksX0_pair_0 0 rfl rfl)
theorem dX0_pair_1 : decode cX0_pair 1 = .ok (.getfield 41, 3) := dk_180 0 41 (dk_at dksX0_pair_0 1 rfl rfl)
theorem dX0_pair_4 : decode cX0_pair 4 = .ok (.iload_n 1, 1) := dk_27 (dk_at dksX0_pair_0 4 rfl rfl)
theorem dX0_pair_5 : decode cX0_pair 5 = .ok (.invokevirtual 156, 3) := dk_182 0 156 (dk_at dksX0_pair_0 5 rfl rfl)
theorem dX0_pair_8 : decode cX0_pair 8 = .ok (.ifCond .eq 35, 3) := dk_153 0 35 (dk_at dksX0_pair_0 8 rfl rfl)
theorem dX0_pair_11 : decode cX0_pair 11 = .ok (.aload_n 0, 1) := dk_42 (dk_at dksX0_pair_0 11 rfl rfl)
theorem dX0_pair_12 : decode cX0_pair 12 = .ok (.getfield 41, 3) := dk_180 0 41 (dk_at dksX0_pair_0 12 rfl rfl)
theorem dX0_pair_15 : decode cX0_pair 15 = .ok (.iload_n 2, 1) := dk_28 (dk_at dksX0_pair_0 15 rfl rfl)
theorem dX0_pair_16 : decode cX0_pair 16 = .ok (.invokevirtual 156, 3) := dk_182 0 156 (dk_at dksX0_pair_0 16 rfl rfl)
theorem dX0_pair_19 : decode cX0_pair 19 = .ok (.ifCond .eq 24, 3) := dk_153 0 24 (dk_at dksX0_pair_0 19 rfl rfl)
theorem dX0_pair_22 : decode cX0_pair 22 = .ok (.iload 4, 2) := dk_21 4 (dk_at dksX0_pair_0 22 rfl rfl)
theorem dX0_pair_24 : decode cX0_pair 24 = .ok (.iconst 0, 1) := dk_3 (dk_at dksX0_pair_1 0 rfl rfl)
theorem dX0_pair_25 : decode cX0_pair 25 = .ok (.iconst 1, 1) := dk_4 (dk_at dksX0_pair_1 1 rfl rfl)
theorem dX0_pair_26 : decode cX0_pair 26 = .ok (.invokestatic 164, 3) := dk_184 0 164 (dk_at dksX0_pair_1 2 rfl rfl)
theorem dX0_pair_29 : decode cX0_pair 29 = .ok (.ifCond .eq 14, 3) := dk_153 0 14 (dk_at dksX0_pair_1 5 rfl rfl)
theorem dX0_pair_32 : decode cX0_pair 32 = .ok (.aload_n 0, 1) := dk_42 (dk_at dksX0_pair_1 8 rfl rfl)
theorem dX0_pair_33 : decode cX0_pair 33 = .ok (.invokevirtual 218, 3) := dk_182 0 218 (dk_at dksX0_pair_1 9 rfl rfl)
theorem dX0_pair_36 : decode cX0_pair 36 = .ok (.iload_n 3, 1) := dk_29 (dk_at dksX0_pair_1 12 rfl rfl)
theorem dX0_pair_37 : decode cX0_pair 37 = .ok (.invokevirtual 244, 3) := dk_182 0 244 (dk_at dksX0_pair_1 13 rfl rfl)
theorem dX0_pair_40 : decode cX0_pair 40 = .ok (.goto 4, 3) := dk_167 0 4 (dk_at dksX0_pair_1 16 rfl rfl)
theorem dX0_pair_43 : decode cX0_pair 43 = .ok (.aconst_null, 1) := dk_1 (dk_at dksX0_pair_1 19 rfl rfl)
theorem dX0_pair_44 : decode cX0_pair 44 = .ok (.astore 5, 2) := dk_58 5 (dk_at dksX0_pair_1 20 rfl rfl)
theorem dX0_pair_46 : decode cX0_pair 46 = .ok (.aload 5, 2) := dk_25 5 (dk_at dksX0_pair_1 22 rfl rfl)
theorem dX0_pair_48 : decode cX0_pair 48 = .ok (.ifnonnull 8, 3) := dk_199 0 8 (dk_at dksX0_pair_2 0 rfl rfl)
theorem dX0_pair_51 : decode cX0_pair 51 = .ok (.ldc 233, 2) := dk_18 233 (dk_at dksX0_pair_2 3 rfl rfl)
theorem dX0_pair_53 : decode cX0_pair 53 = .ok (.goto 27, 3) := dk_167 0 27 (dk_at dksX0_pair_2 5 rfl rfl)
theorem dX0_pair_56 : decode cX0_pair 56 = .ok (.aload_n 0, 1) := dk_42 (dk_at dksX0_pair_2 8 rfl rfl)
theorem dX0_pair_57 : decode cX0_pair 57 = .ok (.getfield 50, 3) := dk_180 0 50 (dk_at dksX0_pair_2 9 rfl rfl)
theorem dX0_pair_60 : decode cX0_pair 60 = .ok (.iload_n 1, 1) := dk_27 (dk_at dksX0_pair_2 12 rfl rfl)
theorem dX0_pair_61 : decode cX0_pair 61 = .ok (.iload_n 2, 1) := dk_28 (dk_at dksX0_pair_2 13 rfl rfl)
theorem dX0_pair_62 : decode cX0_pair 62 = .ok (.aload 5, 2) := dk_25 5 (dk_at dksX0_pair_2 14 rfl rfl)
theorem dX0_pair_64 : decode cX0_pair 64 = .ok (.getfield 265, 3) := dk_180 1 9 (dk_at dksX0_pair_2 16 rfl rfl)
theorem dX0_pair_67 : decode cX0_pair 67 = .ok (.invokevirtual 276, 3) := dk_182 1 20 (dk_at dksX0_pair_2 19 rfl rfl)
theorem dX0_pair_70 : decode cX0_pair 70 = .ok (.aload 5, 2) := dk_25 5 (dk_at dksX0_pair_2 22 rfl rfl)
theorem dX0_pair_72 : decode cX0_pair 72 = .ok (.getfield 280, 3) := dk_180 1 24 (dk_at dksX0_pair_3 0 rfl rfl)
theorem dX0_pair_75 : decode cX0_pair 75 = .ok (.iload 4, 2) := dk_21 4 (dk_at dksX0_pair_3 3 rfl rfl)
theorem dX0_pair_77 : decode cX0_pair 77 = .ok (.invokestatic 282, 3) := dk_184 1 26 (dk_at dksX0_pair_3 5 rfl rfl)
theorem dX0_pair_80 : decode cX0_pair 80 = .ok (.ireturn, 1) := dk_172 (dk_at dksX0_pair_3 8 rfl rfl)
abbrev cX0_part : ByteArray := prog_1_method_27_code
def yX0_part : MethodName := ⟨RX0, "part", "(III)I"⟩
def dkwX0_part_0 : List UInt8 := [26, 184, 1, 15, 27, 184, 1, 12, 62, 28, 154, 0, 9, 26, 29, 108, 167, 0, 6, 27, 29, 108, 172]
abbrev dktX0_part_0 : List UInt8 := dkwX0_part_0 ++ []
theorem dksX0_part_0 : cX0_part.data.toList.drop 0 = dktX0_part_0 := by decide +kernel
theorem dX0_part_0 : decode cX0_part 0 = .ok (.iload_n 0, 1) := dk_26 (dk_at dksX0_part_0 0 rfl rfl)
theorem dX0_part_1 : decode cX0_part 1 = .ok (.invokestatic 271, 3) := dk_184 1 15 (dk_at dksX0_part_0 1 rfl rfl)
theorem dX0_part_4 : decode cX0_part 4 = .ok (.iload_n 1, 1) := dk_27 (dk_at dksX0_part_0 4 rfl rfl)
theorem dX0_part_5 : decode cX0_part 5 = .ok (.invokestatic 268, 3) := dk_184 1 12 (dk_at dksX0_part_0 5 rfl rfl)
theorem dX0_part_8 : decode cX0_part 8 = .ok (.istore_n 3, 1) := dk_62 (dk_at dksX0_part_0 8 rfl rfl)
theorem dX0_part_9 : decode cX0_part 9 = .ok (.iload_n 2, 1) := dk_28 (dk_at dksX0_part_0 9 rfl rfl)
theorem dX0_part_10 : decode cX0_part 10 = .ok (.ifCond .ne 9, 3) := dk_154 0 9 (dk_at dksX0_part_0 10 rfl rfl)
theorem dX0_part_13 : decode cX0_part 13 = .ok (.iload_n 0, 1) := dk_26 (dk_at dksX0_part_0 13 rfl rfl)
theorem dX0_part_14 : decode cX0_part 14 = .ok (.iload_n 3, 1) := dk_29 (dk_at dksX0_part_0 14 rfl rfl)
theorem dX0_part_15 : decode cX0_part 15 = .ok (.idiv, 1) := dk_108 (dk_at dksX0_part_0 15 rfl rfl)
theorem dX0_part_16 : decode cX0_part 16 = .ok (.goto 6, 3) := dk_167 0 6 (dk_at dksX0_part_0 16 rfl rfl)
theorem dX0_part_19 : decode cX0_part 19 = .ok (.iload_n 1, 1) := dk_27 (dk_at dksX0_part_0 19 rfl rfl)
theorem dX0_part_20 : decode cX0_part 20 = .ok (.iload_n 3, 1) := dk_29 (dk_at dksX0_part_0 20 rfl rfl)
theorem dX0_part_21 : decode cX0_part 21 = .ok (.idiv, 1) := dk_108 (dk_at dksX0_part_0 21 rfl rfl)
theorem dX0_part_22 : decode cX0_part 22 = .ok (.ireturn, 1) := dk_172 (dk_at dksX0_part_0 22 rfl rfl)
abbrev cX0_divisor : ByteArray := prog_1_method_26_code
def yX0_divisor : MethodName := ⟨RX0, "divisor", "(II)I"⟩
def dkwX0_divisor_0 : List UInt8 := [27, 154, 0, 7, 26, 167, 0, 10, 27, 26, 27, 112, 184, 1, 12, 172]
abbrev dktX0_divisor_0 : List UInt8 := dkwX0_divisor_0 ++ []
theorem dksX0_divisor_0 : cX0_divisor.data.toList.drop 0 = dktX0_divisor_0 := by decide +kernel
theorem dX0_divisor_0 : decode cX0_divisor 0 = .ok (.iload_n 1, 1) := dk_27 (dk_at dksX0_divisor_0 0 rfl rfl)
theorem dX0_divisor_1 : decode cX0_divisor 1 = .ok (.ifCond .ne 7, 3) := dk_154 0 7 (dk_at dksX0_divisor_0 1 rfl rfl)
theorem dX0_divisor_4 : decode cX0_divisor 4 = .ok (.iload_n 0, 1) := dk_26 (dk_at dksX0_divisor_0 4 rfl rfl)
theorem dX0_divisor_5 : decode cX0_divisor 5 = .ok (.goto 10, 3) := dk_167 0 10 (dk_at dksX0_divisor_0 5 rfl rfl)
theorem dX0_divisor_8 : decode cX0_divisor 8 = .ok (.iload_n 1, 1) := dk_27 (dk_at dksX0_divisor_0 8 rfl rfl)
theorem dX0_divisor_9 : decode cX0_divisor 9 = .ok (.iload_n 0, 1) := dk_26 (dk_at dksX0_divisor_0 9 rfl rfl)
theorem dX0_divisor_10 : decode cX0_divisor 10 = .ok (.iload_n 1, 1) := dk_27 (dk_at dksX0_divisor_0 10 rfl rfl)
theorem dX0_divisor_11 : decode cX0_divisor 11 = .ok (.irem, 1) := dk_112 (dk_at dksX0_divisor_0 11 rfl rfl)
theorem dX0_divisor_12 : decode cX0_divisor 12 = .ok (.invokestatic 268, 3) := dk_184 1 12 (dk_at dksX0_divisor_0 12 rfl rfl)
theorem dX0_divisor_15 : decode cX0_divisor 15 = .ok (.ireturn, 1) := dk_172 (dk_at dksX0_divisor_0 15 rfl rfl)
abbrev cX0_mean : ByteArray := prog_1_method_29_code
def yX0_mean : MethodName := ⟨RX0, "mean", "(II)I"⟩
def dkwX0_mean_2 : List UInt8 := [184, 1, 26, 172]
abbrev dktX0_mean_2 : List UInt8 := dkwX0_mean_2 ++ []
def dkwX0_mean_1 : List UInt8 := [199, 0, 8, 18, 233, 167, 0, 22, 42, 180, 0, 50, 45, 180, 1, 9, 182, 1, 29, 45, 180, 1, 24, 28]
abbrev dktX0_mean_1 : List UInt8 := dkwX0_mean_1 ++ dktX0_mean_2
def dkwX0_mean_0 : List UInt8 := [28, 3, 4, 184, 0, 164, 153, 0, 14, 42, 182, 0, 218, 27, 182, 0, 244, 167, 0, 4, 1, 78, 45]
abbrev dktX0_mean_0 : List UInt8 := dkwX0_mean_0 ++ dktX0_mean_1
theorem dksX0_mean_0 : cX0_mean.data.toList.drop 0 = dktX0_mean_0 := by decide +kernel
theorem dksX0_mean_1 : cX0_mean.data.toList.drop 23 = dktX0_mean_1 := dk_seg dksX0_mean_0 23 rfl rfl
theorem dksX0_mean_2 : cX0_mean.data.toList.drop 47 = dktX0_mean_2 := dk_seg dksX0_mean_1 24 rfl rfl
theorem dX0_mean_0 : decode cX0_mean 0 = .ok (.iload_n 2, 1) := dk_28 (dk_at dksX0_mean_0 0 rfl rfl)
theorem dX0_mean_1 : decode cX0_mean 1 = .ok (.iconst 0, 1) := dk_3 (dk_at dksX0_mean_0 1 rfl rfl)
theorem dX0_mean_2 : decode cX0_mean 2 = .ok (.iconst 1, 1) := dk_4 (dk_at dksX0_mean_0 2 rfl rfl)
theorem dX0_mean_3 : decode cX0_mean 3 = .ok (.invokestatic 164, 3) := dk_184 0 164 (dk_at dksX0_mean_0 3 rfl rfl)
theorem dX0_mean_6 : decode cX0_mean 6 = .ok (.ifCond .eq 14, 3) := dk_153 0 14 (dk_at dksX0_mean_0 6 rfl rfl)
theorem dX0_mean_9 : decode cX0_mean 9 = .ok (.aload_n 0, 1) := dk_42 (dk_at dksX0_mean_0 9 rfl rfl)
theorem dX0_mean_10 : decode cX0_mean 10 = .ok (.invokevirtual 218, 3) := dk_182 0 218 (dk_at dksX0_mean_0 10 rfl rfl)
theorem dX0_mean_13 : decode cX0_mean 13 = .ok (.iload_n 1, 1) := dk_27 (dk_at dksX0_mean_0 13 rfl rfl)
theorem dX0_mean_14 : decode cX0_mean 14 = .ok (.invokevirtual 244, 3) := dk_182 0 244 (dk_at dksX0_mean_0 14 rfl rfl)
theorem dX0_mean_17 : decode cX0_mean 17 = .ok (.goto 4, 3) := dk_167 0 4 (dk_at dksX0_mean_0 17 rfl rfl)
theorem dX0_mean_20 : decode cX0_mean 20 = .ok (.aconst_null, 1) := dk_1 (dk_at dksX0_mean_0 20 rfl rfl)
theorem dX0_mean_21 : decode cX0_mean 21 = .ok (.astore_n 3, 1) := dk_78 (dk_at dksX0_mean_0 21 rfl rfl)
theorem dX0_mean_22 : decode cX0_mean 22 = .ok (.aload_n 3, 1) := dk_45 (dk_at dksX0_mean_0 22 rfl rfl)
theorem dX0_mean_23 : decode cX0_mean 23 = .ok (.ifnonnull 8, 3) := dk_199 0 8 (dk_at dksX0_mean_1 0 rfl rfl)
theorem dX0_mean_26 : decode cX0_mean 26 = .ok (.ldc 233, 2) := dk_18 233 (dk_at dksX0_mean_1 3 rfl rfl)
theorem dX0_mean_28 : decode cX0_mean 28 = .ok (.goto 22, 3) := dk_167 0 22 (dk_at dksX0_mean_1 5 rfl rfl)
theorem dX0_mean_31 : decode cX0_mean 31 = .ok (.aload_n 0, 1) := dk_42 (dk_at dksX0_mean_1 8 rfl rfl)
theorem dX0_mean_32 : decode cX0_mean 32 = .ok (.getfield 50, 3) := dk_180 0 50 (dk_at dksX0_mean_1 9 rfl rfl)
theorem dX0_mean_35 : decode cX0_mean 35 = .ok (.aload_n 3, 1) := dk_45 (dk_at dksX0_mean_1 12 rfl rfl)
theorem dX0_mean_36 : decode cX0_mean 36 = .ok (.getfield 265, 3) := dk_180 1 9 (dk_at dksX0_mean_1 13 rfl rfl)
theorem dX0_mean_39 : decode cX0_mean 39 = .ok (.invokevirtual 285, 3) := dk_182 1 29 (dk_at dksX0_mean_1 16 rfl rfl)
theorem dX0_mean_42 : decode cX0_mean 42 = .ok (.aload_n 3, 1) := dk_45 (dk_at dksX0_mean_1 19 rfl rfl)
theorem dX0_mean_43 : decode cX0_mean 43 = .ok (.getfield 280, 3) := dk_180 1 24 (dk_at dksX0_mean_1 20 rfl rfl)
theorem dX0_mean_46 : decode cX0_mean 46 = .ok (.iload_n 2, 1) := dk_28 (dk_at dksX0_mean_1 23 rfl rfl)
theorem dX0_mean_47 : decode cX0_mean 47 = .ok (.invokestatic 282, 3) := dk_184 1 26 (dk_at dksX0_mean_2 0 rfl rfl)
theorem dX0_mean_50 : decode cX0_mean 50 = .ok (.ireturn, 1) := dk_172 (dk_at dksX0_mean_2 3 rfl rfl)
abbrev cX0_value : ByteArray := prog_1_method_30_code
def yX0_value : MethodName := ⟨RX0, "value", "(I)I"⟩
def dkwX0_value_3 : List UInt8 := [22, 4, 27, 133, 105, 20, 1, 36, 113, 55, 4, 132, 6, 1, 167, 255, 214, 32, 136, 172]
abbrev dktX0_value_3 : List UInt8 := dkwX0_value_3 ++ []
def dkwX0_value_2 : List UInt8 := [163, 0, 40, 32, 42, 180, 0, 50, 21, 6, 182, 0, 253, 133, 22, 4, 105, 97, 20, 1, 36, 113, 65]
abbrev dktX0_value_2 : List UInt8 := dkwX0_value_2 ++ dktX0_value_3
def dkwX0_value_1 : List UInt8 := [182, 0, 241, 154, 0, 5, 3, 172, 42, 180, 0, 50, 180, 1, 33, 54, 6, 21, 6, 17, 0, 144]
abbrev dktX0_value_1 : List UInt8 := dkwX0_value_1 ++ dktX0_value_2
def dkwX0_value_0 : List UInt8 := [27, 3, 19, 1, 32, 184, 0, 164, 154, 0, 5, 2, 172, 9, 65, 10, 55, 4, 42, 182, 0, 218]
abbrev dktX0_value_0 : List UInt8 := dkwX0_value_0 ++ dktX0_value_1
theorem dksX0_value_0 : cX0_value.data.toList.drop 0 = dktX0_value_0 := by decide +kernel
theorem dksX0_value_1 : cX0_value.data.toList.drop 22 = dktX0_value_1 := dk_seg dksX0_value_0 22 rfl rfl
theorem dksX0_value_2 : cX0_value.data.toList.drop 44 = dktX0_value_2 := dk_seg dksX0_value_1 22 rfl rfl
theorem dksX0_value_3 : cX0_value.data.toList.drop 67 = dktX0_value_3 := dk_seg dksX0_value_2 23 rfl rfl
theorem dX0_value_0 : decode cX0_value 0 = .ok (.iload_n 1, 1) := dk_27 (dk_at dksX0_value_0 0 rfl rfl)
theorem dX0_value_1 : decode cX0_value 1 = .ok (.iconst 0, 1) := dk_3 (dk_at dksX0_value_0 1 rfl rfl)
theorem dX0_value_2 : decode cX0_value 2 = .ok (.ldc_w 288, 3) := dk_19 1 32 (dk_at dksX0_value_0 2 rfl rfl)
theorem dX0_value_5 : decode cX0_value 5 = .ok (.invokestatic 164, 3) := dk_184 0 164 (dk_at dksX0_value_0 5 rfl rfl)
theorem dX0_value_8 : decode cX0_value 8 = .ok (.ifCond .ne 5, 3) := dk_154 0 5 (dk_at dksX0_value_0 8 rfl rfl)
theorem dX0_value_11 : decode cX0_value 11 = .ok (.iconst (-1), 1) := dk_2 (dk_at dksX0_value_0 11 rfl rfl)
theorem dX0_value_12 : decode cX0_value 12 = .ok (.ireturn, 1) := dk_172 (dk_at dksX0_value_0 12 rfl rfl)
theorem dX0_value_13 : decode cX0_value 13 = .ok (.lconst 0, 1) := dk_9 (dk_at dksX0_value_0 13 rfl rfl)
theorem dX0_value_14 : decode cX0_value 14 = .ok (.lstore_n 2, 1) := dk_65 (dk_at dksX0_value_0 14 rfl rfl)
theorem dX0_value_15 : decode cX0_value 15 = .ok (.lconst 1, 1) := dk_10 (dk_at dksX0_value_0 15 rfl rfl)
theorem dX0_value_16 : decode cX0_value 16 = .ok (.lstore 4, 2) := dk_55 4 (dk_at dksX0_value_0 16 rfl rfl)
theorem dX0_value_18 : decode cX0_value 18 = .ok (.aload_n 0, 1) := dk_42 (dk_at dksX0_value_0 18 rfl rfl)
theorem dX0_value_19 : decode cX0_value 19 = .ok (.invokevirtual 218, 3) := dk_182 0 218 (dk_at dksX0_value_0 19 rfl rfl)
theorem dX0_value_22 : decode cX0_value 22 = .ok (.invokevirtual 241, 3) := dk_182 0 241 (dk_at dksX0_value_1 0 rfl rfl)
theorem dX0_value_25 : decode cX0_value 25 = .ok (.ifCond .ne 5, 3) := dk_154 0 5 (dk_at dksX0_value_1 3 rfl rfl)
theorem dX0_value_28 : decode cX0_value 28 = .ok (.iconst 0, 1) := dk_3 (dk_at dksX0_value_1 6 rfl rfl)
theorem dX0_value_29 : decode cX0_value 29 = .ok (.ireturn, 1) := dk_172 (dk_at dksX0_value_1 7 rfl rfl)
theorem dX0_value_30 : decode cX0_value 30 = .ok (.aload_n 0, 1) := dk_42 (dk_at dksX0_value_1 8 rfl rfl)
theorem dX0_value_31 : decode cX0_value 31 = .ok (.getfield 50, 3) := dk_180 0 50 (dk_at dksX0_value_1 9 rfl rfl)
theorem dX0_value_34 : decode cX0_value 34 = .ok (.getfield 289, 3) := dk_180 1 33 (dk_at dksX0_value_1 12 rfl rfl)
theorem dX0_value_37 : decode cX0_value 37 = .ok (.istore 6, 2) := dk_54 6 (dk_at dksX0_value_1 15 rfl rfl)
theorem dX0_value_39 : decode cX0_value 39 = .ok (.iload 6, 2) := dk_21 6 (dk_at dksX0_value_1 17 rfl rfl)
theorem dX0_value_41 : decode cX0_value 41 = .ok (.sipush 144, 3) := dk_17 0 144 (dk_at dksX0_value_1 19 rfl rfl)
theorem dX0_value_44 : decode cX0_value 44 = .ok (.if_icmp .gt 40, 3) := dk_163 0 40 (dk_at dksX0_value_2 0 rfl rfl)
theorem dX0_value_47 : decode cX0_value 47 = .ok (.lload_n 2, 1) := dk_32 (dk_at dksX0_value_2 3 rfl rfl)
theorem dX0_value_48 : decode cX0_value 48 = .ok (.aload_n 0, 1) := dk_42 (dk_at dksX0_value_2 4 rfl rfl)
theorem dX0_value_49 : decode cX0_value 49 = .ok (.getfield 50, 3) := dk_180 0 50 (dk_at dksX0_value_2 5 rfl rfl)
theorem dX0_value_52 : decode cX0_value 52 = .ok (.iload 6, 2) := dk_21 6 (dk_at dksX0_value_2 8 rfl rfl)
theorem dX0_value_54 : decode cX0_value 54 = .ok (.invokevirtual 253, 3) := dk_182 0 253 (dk_at dksX0_value_2 10 rfl rfl)
theorem dX0_value_57 : decode cX0_value 57 = .ok (.i2l, 1) := dk_133 (dk_at dksX0_value_2 13 rfl rfl)
theorem dX0_value_58 : decode cX0_value 58 = .ok (.lload 4, 2) := dk_22 4 (dk_at dksX0_value_2 14 rfl rfl)
theorem dX0_value_60 : decode cX0_value 60 = .ok (.lmul, 1) := dk_105 (dk_at dksX0_value_2 16 rfl rfl)
theorem dX0_value_61 : decode cX0_value 61 = .ok (.ladd, 1) := dk_97 (dk_at dksX0_value_2 17 rfl rfl)
theorem dX0_value_62 : decode cX0_value 62 = .ok (.ldc2_w 292, 3) := dk_20 1 36 (dk_at dksX0_value_2 18 rfl rfl)
theorem dX0_value_65 : decode cX0_value 65 = .ok (.lrem, 1) := dk_113 (dk_at dksX0_value_2 21 rfl rfl)
theorem dX0_value_66 : decode cX0_value 66 = .ok (.lstore_n 2, 1) := dk_65 (dk_at dksX0_value_2 22 rfl rfl)
theorem dX0_value_67 : decode cX0_value 67 = .ok (.lload 4, 2) := dk_22 4 (dk_at dksX0_value_3 0 rfl rfl)
theorem dX0_value_69 : decode cX0_value 69 = .ok (.iload_n 1, 1) := dk_27 (dk_at dksX0_value_3 2 rfl rfl)
theorem dX0_value_70 : decode cX0_value 70 = .ok (.i2l, 1) := dk_133 (dk_at dksX0_value_3 3 rfl rfl)
theorem dX0_value_71 : decode cX0_value 71 = .ok (.lmul, 1) := dk_105 (dk_at dksX0_value_3 4 rfl rfl)
theorem dX0_value_72 : decode cX0_value 72 = .ok (.ldc2_w 292, 3) := dk_20 1 36 (dk_at dksX0_value_3 5 rfl rfl)
theorem dX0_value_75 : decode cX0_value 75 = .ok (.lrem, 1) := dk_113 (dk_at dksX0_value_3 8 rfl rfl)
theorem dX0_value_76 : decode cX0_value 76 = .ok (.lstore 4, 2) := dk_55 4 (dk_at dksX0_value_3 9 rfl rfl)
theorem dX0_value_78 : decode cX0_value 78 = .ok (.iinc 6 1, 3) := dk_132 6 1 (dk_at dksX0_value_3 11 rfl rfl)
theorem dX0_value_81 : decode cX0_value 81 = .ok (.goto (-42), 3) := dk_167 255 214 (dk_at dksX0_value_3 14 rfl rfl)
theorem dX0_value_84 : decode cX0_value 84 = .ok (.lload_n 2, 1) := dk_32 (dk_at dksX0_value_3 17 rfl rfl)
theorem dX0_value_85 : decode cX0_value 85 = .ok (.l2i, 1) := dk_136 (dk_at dksX0_value_3 18 rfl rfl)
theorem dX0_value_86 : decode cX0_value 86 = .ok (.ireturn, 1) := dk_172 (dk_at dksX0_value_3 19 rfl rfl)
abbrev cX0_joined : ByteArray := prog_1_method_33_code
def yX0_joined : MethodName := ⟨RX0, "joined", "(III)J"⟩
def dkwX0_joined_6 : List UInt8 := [173]
abbrev dktX0_joined_6 : List UInt8 := dkwX0_joined_6 ++ []
def dkwX0_joined_5 : List UInt8 := [21, 4, 133, 167, 0, 21, 42, 180, 0, 101, 21, 4, 184, 1, 39, 182, 1, 71, 192, 1, 44, 182, 1, 74]
abbrev dktX0_joined_5 : List UInt8 := dkwX0_joined_5 ++ dktX0_joined_6
def dkwX0_joined_4 : List UInt8 := [184, 1, 39, 182, 1, 67, 192, 0, 4, 182, 1, 64, 54, 4, 132, 5, 1, 167, 255, 227, 29, 154, 0, 9]
abbrev dktX0_joined_4 : List UInt8 := dkwX0_joined_4 ++ dktX0_joined_5
def dkwX0_joined_3 : List UInt8 := [192, 0, 4, 182, 1, 64, 54, 4, 3, 54, 5, 21, 5, 28, 162, 0, 29, 42, 180, 0, 101, 21, 4]
abbrev dktX0_joined_3 : List UInt8 := dkwX0_joined_3 ++ dktX0_joined_4
def dkwX0_joined_2 : List UInt8 := [153, 0, 12, 29, 3, 4, 184, 0, 164, 154, 0, 7, 20, 1, 55, 173, 42, 180, 0, 101, 182, 1, 61]
abbrev dktX0_joined_2 : List UInt8 := dkwX0_joined_2 ++ dktX0_joined_3
def dkwX0_joined_1 : List UInt8 := [180, 0, 101, 182, 1, 60, 133, 173, 28, 3, 42, 180, 0, 101, 182, 1, 60, 4, 100, 184, 0, 164]
abbrev dktX0_joined_1 : List UInt8 := dkwX0_joined_1 ++ dktX0_joined_2
def dkwX0_joined_0 : List UInt8 := [42, 27, 182, 1, 52, 154, 0, 7, 20, 1, 55, 173, 42, 27, 182, 1, 57, 28, 2, 160, 0, 12, 42]
abbrev dktX0_joined_0 : List UInt8 := dkwX0_joined_0 ++ dktX0_joined_1
theorem dksX0_joined_0 : cX0_joined.data.toList.drop 0 = dktX0_joined_0 := by decide +kernel
theorem dksX0_joined_1 : cX0_joined.data.toList.drop 23 = dktX0_joined_1 := dk_seg dksX0_joined_0 23 rfl rfl
theorem dksX0_joined_2 : cX0_joined.data.toList.drop 45 = dktX0_joined_2 := dk_seg dksX0_joined_1 22 rfl rfl
theorem dksX0_joined_3 : cX0_joined.data.toList.drop 68 = dktX0_joined_3 := dk_seg dksX0_joined_2 23 rfl rfl
theorem dksX0_joined_4 : cX0_joined.data.toList.drop 91 = dktX0_joined_4 := dk_seg dksX0_joined_3 23 rfl rfl
theorem dksX0_joined_5 : cX0_joined.data.toList.drop 115 = dktX0_joined_5 := dk_seg dksX0_joined_4 24 rfl rfl
theorem dksX0_joined_6 : cX0_joined.data.toList.drop 139 = dktX0_joined_6 := dk_seg dksX0_joined_5 24 rfl rfl
theorem dX0_joined_0 : decode cX0_joined 0 = .ok (.aload_n 0, 1) := dk_42 (dk_at dksX0_joined_0 0 rfl rfl)
theorem dX0_joined_1 : decode cX0_joined 1 = .ok (.iload_n 1, 1) := dk_27 (dk_at dksX0_joined_0 1 rfl rfl)
theorem dX0_joined_2 : decode cX0_joined 2 = .ok (.invokevirtual 308, 3) := dk_182 1 52 (dk_at dksX0_joined_0 2 rfl rfl)
theorem dX0_joined_5 : decode cX0_joined 5 = .ok (.ifCond .ne 7, 3) := dk_154 0 7 (dk_at dksX0_joined_0 5 rfl rfl)
theorem dX0_joined_8 : decode cX0_joined 8 = .ok (.ldc2_w 311, 3) := dk_20 1 55 (dk_at dksX0_joined_0 8 rfl rfl)
theorem dX0_joined_11 : decode cX0_joined 11 = .ok (.lreturn, 1) := dk_173 (dk_at dksX0_joined_0 11 rfl rfl)
theorem dX0_joined_12 : decode cX0_joined 12 = .ok (.aload_n 0, 1) := dk_42 (dk_at dksX0_joined_0 12 rfl rfl)
theorem dX0_joined_13 : decode cX0_joined 13 = .ok (.iload_n 1, 1) := dk_27 (dk_at dksX0_joined_0 13 rfl rfl)
theorem dX0_joined_14 : decode cX0_joined 14 = .ok (.invokevirtual 313, 3) := dk_182 1 57 (dk_at dksX0_joined_0 14 rfl rfl)
theorem dX0_joined_17 : decode cX0_joined 17 = .ok (.iload_n 2, 1) := dk_28 (dk_at dksX0_joined_0 17 rfl rfl)
theorem dX0_joined_18 : decode cX0_joined 18 = .ok (.iconst (-1), 1) := dk_2 (dk_at dksX0_joined_0 18 rfl rfl)
theorem dX0_joined_19 : decode cX0_joined 19 = .ok (.if_icmp .ne 12, 3) := dk_160 0 12 (dk_at dksX0_joined_0 19 rfl rfl)
theorem dX0_joined_22 : decode cX0_joined 22 = .ok (.aload_n 0, 1) := dk_42 (dk_at dksX0_joined_0 22 rfl rfl)
theorem dX0_joined_23 : decode cX0_joined 23 = .ok (.getfield 101, 3) := dk_180 0 101 (dk_at dksX0_joined_1 0 rfl rfl)
theorem dX0_joined_26 : decode cX0_joined 26 = .ok (.invokevirtual 316, 3) := dk_182 1 60 (dk_at dksX0_joined_1 3 rfl rfl)
theorem dX0_joined_29 : decode cX0_joined 29 = .ok (.i2l, 1) := dk_133 (dk_at dksX0_joined_1 6 rfl rfl)
theorem dX0_joined_30 : decode cX0_joined 30 = .ok (.lreturn, 1) := dk_173 (dk_at dksX0_joined_1 7 rfl rfl)
theorem dX0_joined_31 : decode cX0_joined 31 = .ok (.iload_n 2, 1) := dk_28 (dk_at dksX0_joined_1 8 rfl rfl)
theorem dX0_joined_32 : decode cX0_joined 32 = .ok (.iconst 0, 1) := dk_3 (dk_at dksX0_joined_1 9 rfl rfl)
theorem dX0_joined_33 : decode cX0_joined 33 = .ok (.aload_n 0, 1) := dk_42 (dk_at dksX0_joined_1 10 rfl rfl)
theorem dX0_joined_34 : decode cX0_joined 34 = .ok (.getfield 101, 3) := dk_180 0 101 (dk_at dksX0_joined_1 11 rfl rfl)
theorem dX0_joined_37 : decode cX0_joined 37 = .ok (.invokevirtual 316, 3) := dk_182 1 60 (dk_at dksX0_joined_1 14 rfl rfl)
theorem dX0_joined_40 : decode cX0_joined 40 = .ok (.iconst 1, 1) := dk_4 (dk_at dksX0_joined_1 17 rfl rfl)
theorem dX0_joined_41 : decode cX0_joined 41 = .ok (.isub, 1) := dk_100 (dk_at dksX0_joined_1 18 rfl rfl)
theorem dX0_joined_42 : decode cX0_joined 42 = .ok (.invokestatic 164, 3) := dk_184 0 164 (dk_at dksX0_joined_1 19 rfl rfl)
theorem dX0_joined_45 : decode cX0_joined 45 = .ok (.ifCond .eq 12, 3) := dk_153 0 12 (dk_at dksX0_joined_2 0 rfl rfl)
theorem dX0_joined_48 : decode cX0_joined 48 = .ok (.iload_n 3, 1) := dk_29 (dk_at dksX0_joined_2 3 rfl rfl)
theorem dX0_joined_49 : decode cX0_joined 49 = .ok (.iconst 0, 1) := dk_3 (dk_at dksX0_joined_2 4 rfl rfl)
theorem dX0_joined_50 : decode cX0_joined 50 = .ok (.iconst 1, 1) := dk_4 (dk_at dksX0_joined_2 5 rfl rfl)
theorem dX0_joined_51 : decode cX0_joined 51 = .ok (.invokestatic 164, 3) := dk_184 0 164 (dk_at dksX0_joined_2 6 rfl rfl)
theorem dX0_joined_54 : decode cX0_joined 54 = .ok (.ifCond .ne 7, 3) := dk_154 0 7 (dk_at dksX0_joined_2 9 rfl rfl)
theorem dX0_joined_57 : decode cX0_joined 57 = .ok (.ldc2_w 311, 3) := dk_20 1 55 (dk_at dksX0_joined_2 12 rfl rfl)
theorem dX0_joined_60 : decode cX0_joined 60 = .ok (.lreturn, 1) := dk_173 (dk_at dksX0_joined_2 15 rfl rfl)
theorem dX0_joined_61 : decode cX0_joined 61 = .ok (.aload_n 0, 1) := dk_42 (dk_at dksX0_joined_2 16 rfl rfl)
theorem dX0_joined_62 : decode cX0_joined 62 = .ok (.getfield 101, 3) := dk_180 0 101 (dk_at dksX0_joined_2 17 rfl rfl)
theorem dX0_joined_65 : decode cX0_joined 65 = .ok (.invokevirtual 317, 3) := dk_182 1 61 (dk_at dksX0_joined_2 20 rfl rfl)
theorem dX0_joined_68 : decode cX0_joined 68 = .ok (.checkcast 4, 3) := dk_192 0 4 (dk_at dksX0_joined_3 0 rfl rfl)
theorem dX0_joined_71 : decode cX0_joined 71 = .ok (.invokevirtual 320, 3) := dk_182 1 64 (dk_at dksX0_joined_3 3 rfl rfl)
theorem dX0_joined_74 : decode cX0_joined 74 = .ok (.istore 4, 2) := dk_54 4 (dk_at dksX0_joined_3 6 rfl rfl)
theorem dX0_joined_76 : decode cX0_joined 76 = .ok (.iconst 0, 1) := dk_3 (dk_at dksX0_joined_3 8 rfl rfl)
theorem dX0_joined_77 : decode cX0_joined 77 = .ok (.istore 5, 2) := dk_54 5 (dk_at dksX0_joined_3 9 rfl rfl)
theorem dX0_joined_79 : decode cX0_joined 79 = .ok (.iload 5, 2) := dk_21 5 (dk_at dksX0_joined_3 11 rfl rfl)
theorem dX0_joined_81 : decode cX0_joined 81 = .ok (.iload_n 2, 1) := dk_28 (dk_at dksX0_joined_3 13 rfl rfl)
theorem dX0_joined_82 : decode cX0_joined 82 = .ok (.if_icmp .ge 29, 3) := dk_162 0 29 (dk_at dksX0_joined_3 14 rfl rfl)
theorem dX0_joined_85 : decode cX0_joined 85 = .ok (.aload_n 0, 1) := dk_42 (dk_at dksX0_joined_3 17 rfl rfl)
theorem dX0_joined_86 : decode cX0_joined 86 = .ok (.getfield 101, 3) := dk_180 0 101 (dk_at dksX0_joined_3 18 rfl rfl)
theorem dX0_joined_89 : decode cX0_joined 89 = .ok (.iload 4, 2) := dk_21 4 (dk_at dksX0_joined_3 21 rfl rfl)
theorem dX0_joined_91 : decode cX0_joined 91 = .ok (.invokestatic 295, 3) := dk_184 1 39 (dk_at dksX0_joined_4 0 rfl rfl)
theorem dX0_joined_94 : decode cX0_joined 94 = .ok (.invokevirtual 323, 3) := dk_182 1 67 (dk_at dksX0_joined_4 3 rfl rfl)
theorem dX0_joined_97 : decode cX0_joined 97 = .ok (.checkcast 4, 3) := dk_192 0 4 (dk_at dksX0_joined_4 6 rfl rfl)
theorem dX0_joined_100 : decode cX0_joined 100 = .ok (.invokevirtual 320, 3) := dk_182 1 64 (dk_at dksX0_joined_4 9 rfl rfl)
theorem dX0_joined_103 : decode cX0_joined 103 = .ok (.istore 4, 2) := dk_54 4 (dk_at dksX0_joined_4 12 rfl rfl)
theorem dX0_joined_105 : decode cX0_joined 105 = .ok (.iinc 5 1, 3) := dk_132 5 1 (dk_at dksX0_joined_4 14 rfl rfl)
theorem dX0_joined_108 : decode cX0_joined 108 = .ok (.goto (-29), 3) := dk_167 255 227 (dk_at dksX0_joined_4 17 rfl rfl)
theorem dX0_joined_111 : decode cX0_joined 111 = .ok (.iload_n 3, 1) := dk_29 (dk_at dksX0_joined_4 20 rfl rfl)
theorem dX0_joined_112 : decode cX0_joined 112 = .ok (.ifCond .ne 9, 3) := dk_154 0 9 (dk_at dksX0_joined_4 21 rfl rfl)
theorem dX0_joined_115 : decode cX0_joined 115 = .ok (.iload 4, 2) := dk_21 4 (dk_at dksX0_joined_5 0 rfl rfl)
theorem dX0_joined_117 : decode cX0_joined 117 = .ok (.i2l, 1) := dk_133 (dk_at dksX0_joined_5 2 rfl rfl)
theorem dX0_joined_118 : decode cX0_joined 118 = .ok (.goto 21, 3) := dk_167 0 21 (dk_at dksX0_joined_5 3 rfl rfl)
theorem dX0_joined_121 : decode cX0_joined 121 = .ok (.aload_n 0, 1) := dk_42 (dk_at dksX0_joined_5 6 rfl rfl)
theorem dX0_joined_122 : decode cX0_joined 122 = .ok (.getfield 101, 3) := dk_180 0 101 (dk_at dksX0_joined_5 7 rfl rfl)
theorem dX0_joined_125 : decode cX0_joined 125 = .ok (.iload 4, 2) := dk_21 4 (dk_at dksX0_joined_5 10 rfl rfl)
theorem dX0_joined_127 : decode cX0_joined 127 = .ok (.invokestatic 295, 3) := dk_184 1 39 (dk_at dksX0_joined_5 12 rfl rfl)
theorem dX0_joined_130 : decode cX0_joined 130 = .ok (.invokevirtual 327, 3) := dk_182 1 71 (dk_at dksX0_joined_5 15 rfl rfl)
theorem dX0_joined_133 : decode cX0_joined 133 = .ok (.checkcast 300, 3) := dk_192 1 44 (dk_at dksX0_joined_5 18 rfl rfl)
theorem dX0_joined_136 : decode cX0_joined 136 = .ok (.invokevirtual 330, 3) := dk_182 1 74 (dk_at dksX0_joined_5 21 rfl rfl)
theorem dX0_joined_139 : decode cX0_joined 139 = .ok (.lreturn, 1) := dk_173 (dk_at dksX0_joined_6 0 rfl rfl)
abbrev cX0_isHeld : ByteArray := prog_1_method_31_code
def yX0_isHeld : MethodName := ⟨RX0, "isHeld", "(I)Z"⟩
def dkwX0_isHeld_1 : List UInt8 := [3, 172]
abbrev dktX0_isHeld_1 : List UInt8 := dkwX0_isHeld_1 ++ []
def dkwX0_isHeld_0 : List UInt8 := [27, 3, 5, 184, 0, 164, 153, 0, 18, 42, 180, 0, 134, 27, 184, 0, 186, 153, 0, 7, 4, 167, 0, 4]
abbrev dktX0_isHeld_0 : List UInt8 := dkwX0_isHeld_0 ++ dktX0_isHeld_1
theorem dksX0_isHeld_0 : cX0_isHeld.data.toList.drop 0 = dktX0_isHeld_0 := by decide +kernel
theorem dksX0_isHeld_1 : cX0_isHeld.data.toList.drop 24 = dktX0_isHeld_1 := dk_seg dksX0_isHeld_0 24 rfl rfl
theorem dX0_isHeld_0 : decode cX0_isHeld 0 = .ok (.iload_n 1, 1) := dk_27 (dk_at dksX0_isHeld_0 0 rfl rfl)
theorem dX0_isHeld_1 : decode cX0_isHeld 1 = .ok (.iconst 0, 1) := dk_3 (dk_at dksX0_isHeld_0 1 rfl rfl)
theorem dX0_isHeld_2 : decode cX0_isHeld 2 = .ok (.iconst 2, 1) := dk_5 (dk_at dksX0_isHeld_0 2 rfl rfl)
theorem dX0_isHeld_3 : decode cX0_isHeld 3 = .ok (.invokestatic 164, 3) := dk_184 0 164 (dk_at dksX0_isHeld_0 3 rfl rfl)
theorem dX0_isHeld_6 : decode cX0_isHeld 6 = .ok (.ifCond .eq 18, 3) := dk_153 0 18 (dk_at dksX0_isHeld_0 6 rfl rfl)
theorem dX0_isHeld_9 : decode cX0_isHeld 9 = .ok (.aload_n 0, 1) := dk_42 (dk_at dksX0_isHeld_0 9 rfl rfl)
theorem dX0_isHeld_10 : decode cX0_isHeld 10 = .ok (.getfield 134, 3) := dk_180 0 134 (dk_at dksX0_isHeld_0 10 rfl rfl)
theorem dX0_isHeld_13 : decode cX0_isHeld 13 = .ok (.iload_n 1, 1) := dk_27 (dk_at dksX0_isHeld_0 13 rfl rfl)
theorem dX0_isHeld_14 : decode cX0_isHeld 14 = .ok (.invokestatic 186, 3) := dk_184 0 186 (dk_at dksX0_isHeld_0 14 rfl rfl)
theorem dX0_isHeld_17 : decode cX0_isHeld 17 = .ok (.ifCond .eq 7, 3) := dk_153 0 7 (dk_at dksX0_isHeld_0 17 rfl rfl)
theorem dX0_isHeld_20 : decode cX0_isHeld 20 = .ok (.iconst 1, 1) := dk_4 (dk_at dksX0_isHeld_0 20 rfl rfl)
theorem dX0_isHeld_21 : decode cX0_isHeld 21 = .ok (.goto 4, 3) := dk_167 0 4 (dk_at dksX0_isHeld_0 21 rfl rfl)
theorem dX0_isHeld_24 : decode cX0_isHeld 24 = .ok (.iconst 0, 1) := dk_3 (dk_at dksX0_isHeld_1 0 rfl rfl)
theorem dX0_isHeld_25 : decode cX0_isHeld 25 = .ok (.ireturn, 1) := dk_172 (dk_at dksX0_isHeld_1 1 rfl rfl)
abbrev cX0_joins : ByteArray := prog_1_method_32_code
def yX0_joins : MethodName := ⟨RX0, "joins", "(I)V"⟩
def dkwX0_joins_7 : List UInt8 := [47, 184, 1, 43, 182, 1, 48, 87, 132, 2, 1, 167, 255, 208, 177]
abbrev dktX0_joins_7 : List UInt8 := dkwX0_joins_7 ++ []
def dkwX0_joins_6 : List UInt8 := [28, 47, 9, 148, 158, 0, 28, 42, 180, 0, 101, 28, 17, 1, 32, 100, 184, 1, 39, 42, 180, 0, 105, 28]
abbrev dktX0_joins_6 : List UInt8 := dkwX0_joins_6 ++ dktX0_joins_7
def dkwX0_joins_5 : List UInt8 := [167, 255, 212, 132, 2, 1, 167, 255, 191, 3, 61, 28, 42, 180, 0, 105, 190, 162, 0, 45, 42, 180, 0, 105]
abbrev dktX0_joins_5 : List UInt8 := dkwX0_joins_5 ++ dktX0_joins_6
def dkwX0_joins_4 : List UInt8 := [42, 180, 0, 50, 28, 182, 0, 253, 133, 42, 180, 0, 95, 29, 182, 0, 253, 133, 105, 97, 80, 132, 3, 1]
abbrev dktX0_joins_4 : List UInt8 := dkwX0_joins_4 ++ dktX0_joins_5
def dkwX0_joins_3 : List UInt8 := [180, 1, 33, 62, 29, 17, 0, 144, 163, 0, 43, 42, 180, 0, 105, 28, 29, 96, 17, 1, 32, 96, 92, 47]
abbrev dktX0_joins_3 : List UInt8 := dkwX0_joins_3 ++ dktX0_joins_4
def dkwX0_joins_2 : List UInt8 := [167, 255, 237, 42, 182, 0, 218, 180, 1, 33, 61, 28, 17, 0, 144, 163, 0, 64, 42, 180, 0, 95]
abbrev dktX0_joins_2 : List UInt8 := dkwX0_joins_2 ++ dktX0_joins_3
def dkwX0_joins_1 : List UInt8 := [182, 1, 38, 3, 61, 28, 42, 180, 0, 105, 190, 162, 0, 16, 42, 180, 0, 105, 28, 9, 80, 132, 2, 1]
abbrev dktX0_joins_1 : List UInt8 := dkwX0_joins_1 ++ dktX0_joins_2
def dkwX0_joins_0 : List UInt8 := [42, 180, 0, 92, 42, 180, 0, 84, 27, 50, 182, 0, 124, 42, 180, 0, 95, 182, 0, 141, 42, 180, 0, 101]
abbrev dktX0_joins_0 : List UInt8 := dkwX0_joins_0 ++ dktX0_joins_1
theorem dksX0_joins_0 : cX0_joins.data.toList.drop 0 = dktX0_joins_0 := by decide +kernel
theorem dksX0_joins_1 : cX0_joins.data.toList.drop 24 = dktX0_joins_1 := dk_seg dksX0_joins_0 24 rfl rfl
theorem dksX0_joins_2 : cX0_joins.data.toList.drop 48 = dktX0_joins_2 := dk_seg dksX0_joins_1 24 rfl rfl
theorem dksX0_joins_3 : cX0_joins.data.toList.drop 70 = dktX0_joins_3 := dk_seg dksX0_joins_2 22 rfl rfl
theorem dksX0_joins_4 : cX0_joins.data.toList.drop 94 = dktX0_joins_4 := dk_seg dksX0_joins_3 24 rfl rfl
theorem dksX0_joins_5 : cX0_joins.data.toList.drop 118 = dktX0_joins_5 := dk_seg dksX0_joins_4 24 rfl rfl
theorem dksX0_joins_6 : cX0_joins.data.toList.drop 142 = dktX0_joins_6 := dk_seg dksX0_joins_5 24 rfl rfl
theorem dksX0_joins_7 : cX0_joins.data.toList.drop 166 = dktX0_joins_7 := dk_seg dksX0_joins_6 24 rfl rfl
theorem dX0_joins_0 : decode cX0_joins 0 = .ok (.aload_n 0, 1) := dk_42 (dk_at dksX0_joins_0 0 rfl rfl)
theorem dX0_joins_1 : decode cX0_joins 1 = .ok (.getfield 92, 3) := dk_180 0 92 (dk_at dksX0_joins_0 1 rfl rfl)
theorem dX0_joins_4 : decode cX0_joins 4 = .ok (.aload_n 0, 1) := dk_42 (dk_at dksX0_joins_0 4 rfl rfl)
theorem dX0_joins_5 : decode cX0_joins 5 = .ok (.getfield 84, 3) := dk_180 0 84 (dk_at dksX0_joins_0 5 rfl rfl)
theorem dX0_joins_8 : decode cX0_joins 8 = .ok (.iload_n 1, 1) := dk_27 (dk_at dksX0_joins_0 8 rfl rfl)
theorem dX0_joins_9 : decode cX0_joins 9 = .ok (.aaload, 1) := dk_50 (dk_at dksX0_joins_0 9 rfl rfl)
theorem dX0_joins_10 : decode cX0_joins 10 = .ok (.invokevirtual 124, 3) := dk_182 0 124 (dk_at dksX0_joins_0 10 rfl rfl)
theorem dX0_joins_13 : decode cX0_joins 13 = .ok (.aload_n 0, 1) := dk_42 (dk_at dksX0_joins_0 13 rfl rfl)
theorem dX0_joins_14 : decode cX0_joins 14 = .ok (.getfield 95, 3) := dk_180 0 95 (dk_at dksX0_joins_0 14 rfl rfl)
theorem dX0_joins_17 : decode cX0_joins 17 = .ok (.invokevirtual 141, 3) := dk_182 0 141 (dk_at dksX0_joins_0 17 rfl rfl)
theorem dX0_joins_20 : decode cX0_joins 20 = .ok (.aload_n 0, 1) := dk_42 (dk_at dksX0_joins_0 20 rfl rfl)
theorem dX0_joins_21 : decode cX0_joins 21 = .ok (.getfield 101, 3) := dk_180 0 101 (dk_at dksX0_joins_0 21 rfl rfl)
theorem dX0_joins_24 : decode cX0_joins 24 = .ok (.invokevirtual 294, 3) := dk_182 1 38 (dk_at dksX0_joins_1 0 rfl rfl)
theorem dX0_joins_27 : decode cX0_joins 27 = .ok (.iconst 0, 1) := dk_3 (dk_at dksX0_joins_1 3 rfl rfl)
theorem dX0_joins_28 : decode cX0_joins 28 = .ok (.istore_n 2, 1) := dk_61 (dk_at dksX0_joins_1 4 rfl rfl)
theorem dX0_joins_29 : decode cX0_joins 29 = .ok (.iload_n 2, 1) := dk_28 (dk_at dksX0_joins_1 5 rfl rfl)
theorem dX0_joins_30 : decode cX0_joins 30 = .ok (.aload_n 0, 1) := dk_42 (dk_at dksX0_joins_1 6 rfl rfl)
theorem dX0_joins_31 : decode cX0_joins 31 = .ok (.getfield 105, 3) := dk_180 0 105 (dk_at dksX0_joins_1 7 rfl rfl)
theorem dX0_joins_34 : decode cX0_joins 34 = .ok (.arraylength, 1) := dk_190 (dk_at dksX0_joins_1 10 rfl rfl)
theorem dX0_joins_35 : decode cX0_joins 35 = .ok (.if_icmp .ge 16, 3) := dk_162 0 16 (dk_at dksX0_joins_1 11 rfl rfl)
theorem dX0_joins_38 : decode cX0_joins 38 = .ok (.aload_n 0, 1) := dk_42 (dk_at dksX0_joins_1 14 rfl rfl)
theorem dX0_joins_39 : decode cX0_joins 39 = .ok (.getfield 105, 3) := dk_180 0 105 (dk_at dksX0_joins_1 15 rfl rfl)
theorem dX0_joins_42 : decode cX0_joins 42 = .ok (.iload_n 2, 1) := dk_28 (dk_at dksX0_joins_1 18 rfl rfl)
theorem dX0_joins_43 : decode cX0_joins 43 = .ok (.lconst 0, 1) := dk_9 (dk_at dksX0_joins_1 19 rfl rfl)
theorem dX0_joins_44 : decode cX0_joins 44 = .ok (.lastore, 1) := dk_80 (dk_at dksX0_joins_1 20 rfl rfl)
theorem dX0_joins_45 : decode cX0_joins 45 = .ok (.iinc 2 1, 3) := dk_132 2 1 (dk_at dksX0_joins_1 21 rfl rfl)
theorem dX0_joins_48 : decode cX0_joins 48 = .ok (.goto (-19), 3) := dk_167 255 237 (dk_at dksX0_joins_2 0 rfl rfl)
theorem dX0_joins_51 : decode cX0_joins 51 = .ok (.aload_n 0, 1) := dk_42 (dk_at dksX0_joins_2 3 rfl rfl)
theorem dX0_joins_52 : decode cX0_joins 52 = .ok (.invokevirtual 218, 3) := dk_182 0 218 (dk_at dksX0_joins_2 4 rfl rfl)
theorem dX0_joins_55 : decode cX0_joins 55 = .ok (.getfield 289, 3) := dk_180 1 33 (dk_at dksX0_joins_2 7 rfl rfl)
theorem dX0_joins_58 : decode cX0_joins 58 = .ok (.istore_n 2, 1) := dk_61 (dk_at dksX0_joins_2 10 rfl rfl)
theorem dX0_joins_59 : decode cX0_joins 59 = .ok (.iload_n 2, 1) := dk_28 (dk_at dksX0_joins_2 11 rfl rfl)
theorem dX0_joins_60 : decode cX0_joins 60 = .ok (.sipush 144, 3) := dk_17 0 144 (dk_at dksX0_joins_2 12 rfl rfl)
theorem dX0_joins_63 : decode cX0_joins 63 = .ok (.if_icmp .gt 64, 3) := dk_163 0 64 (dk_at dksX0_joins_2 15 rfl rfl)
theorem dX0_joins_66 : decode cX0_joins 66 = .ok (.aload_n 0, 1) := dk_42 (dk_at dksX0_joins_2 18 rfl rfl)
theorem dX0_joins_67 : decode cX0_joins 67 = .ok (.getfield 95, 3) := dk_180 0 95 (dk_at dksX0_joins_2 19 rfl rfl)
theorem dX0_joins_70 : decode cX0_joins 70 = .ok (.getfield 289, 3) := dk_180 1 33 (dk_at dksX0_joins_3 0 rfl rfl)
theorem dX0_joins_73 : decode cX0_joins 73 = .ok (.istore_n 3, 1) := dk_62 (dk_at dksX0_joins_3 3 rfl rfl)
theorem dX0_joins_74 : decode cX0_joins 74 = .ok (.iload_n 3, 1) := dk_29 (dk_at dksX0_joins_3 4 rfl rfl)
theorem dX0_joins_75 : decode cX0_joins 75 = .ok (.sipush 144, 3) := dk_17 0 144 (dk_at dksX0_joins_3 5 rfl rfl)
theorem dX0_joins_78 : decode cX0_joins 78 = .ok (.if_icmp .gt 43, 3) := dk_163 0 43 (dk_at dksX0_joins_3 8 rfl rfl)
theorem dX0_joins_81 : decode cX0_joins 81 = .ok (.aload_n 0, 1) := dk_42 (dk_at dksX0_joins_3 11 rfl rfl)
theorem dX0_joins_82 : decode cX0_joins 82 = .ok (.getfield 105, 3) := dk_180 0 105 (dk_at dksX0_joins_3 12 rfl rfl)
theorem dX0_joins_85 : decode cX0_joins 85 = .ok (.iload_n 2, 1) := dk_28 (dk_at dksX0_joins_3 15 rfl rfl)
theorem dX0_joins_86 : decode cX0_joins 86 = .ok (.iload_n 3, 1) := dk_29 (dk_at dksX0_joins_3 16 rfl rfl)
theorem dX0_joins_87 : decode cX0_joins 87 = .ok (.iadd, 1) := dk_96 (dk_at dksX0_joins_3 17 rfl rfl)
theorem dX0_joins_88 : decode cX0_joins 88 = .ok (.sipush 288, 3) := dk_17 1 32 (dk_at dksX0_joins_3 18 rfl rfl)
theorem dX0_joins_91 : decode cX0_joins 91 = .ok (.iadd, 1) := dk_96 (dk_at dksX0_joins_3 21 rfl rfl)
theorem dX0_joins_92 : decode cX0_joins 92 = .ok (.dup2, 1) := dk_92 (dk_at dksX0_joins_3 22 rfl rfl)
theorem dX0_joins_93 : decode cX0_joins 93 = .ok (.laload, 1) := dk_47 (dk_at dksX0_joins_3 23 rfl rfl)
theorem dX0_joins_94 : decode cX0_joins 94 = .ok (.aload_n 0, 1) := dk_42 (dk_at dksX0_joins_4 0 rfl rfl)
theorem dX0_joins_95 : decode cX0_joins 95 = .ok (.getfield 50, 3) := dk_180 0 50 (dk_at dksX0_joins_4 1 rfl rfl)
theorem dX0_joins_98 : decode cX0_joins 98 = .ok (.iload_n 2, 1) := dk_28 (dk_at dksX0_joins_4 4 rfl rfl)
theorem dX0_joins_99 : decode cX0_joins 99 = .ok (.invokevirtual 253, 3) := dk_182 0 253 (dk_at dksX0_joins_4 5 rfl rfl)
theorem dX0_joins_102 : decode cX0_joins 102 = .ok (.i2l, 1) := dk_133 (dk_at dksX0_joins_4 8 rfl rfl)
theorem dX0_joins_103 : decode cX0_joins 103 = .ok (.aload_n 0, 1) := dk_42 (dk_at dksX0_joins_4 9 rfl rfl)
theorem dX0_joins_104 : decode cX0_joins 104 = .ok (.getfield 95, 3) := dk_180 0 95 (dk_at dksX0_joins_4 10 rfl rfl)
theorem dX0_joins_107 : decode cX0_joins 107 = .ok (.iload_n 3, 1) := dk_29 (dk_at dksX0_joins_4 13 rfl rfl)
theorem dX0_joins_108 : decode cX0_joins 108 = .ok (.invokevirtual 253, 3) := dk_182 0 253 (dk_at dksX0_joins_4 14 rfl rfl)
theorem dX0_joins_111 : decode cX0_joins 111 = .ok (.i2l, 1) := dk_133 (dk_at dksX0_joins_4 17 rfl rfl)
theorem dX0_joins_112 : decode cX0_joins 112 = .ok (.lmul, 1) := dk_105 (dk_at dksX0_joins_4 18 rfl rfl)
theorem dX0_joins_113 : decode cX0_joins 113 = .ok (.ladd, 1) := dk_97 (dk_at dksX0_joins_4 19 rfl rfl)
theorem dX0_joins_114 : decode cX0_joins 114 = .ok (.lastore, 1) := dk_80 (dk_at dksX0_joins_4 20 rfl rfl)
theorem dX0_joins_115 : decode cX0_joins 115 = .ok (.iinc 3 1, 3) := dk_132 3 1 (dk_at dksX0_joins_4 21 rfl rfl)
theorem dX0_joins_118 : decode cX0_joins 118 = .ok (.goto (-44), 3) := dk_167 255 212 (dk_at dksX0_joins_5 0 rfl rfl)
theorem dX0_joins_121 : decode cX0_joins 121 = .ok (.iinc 2 1, 3) := dk_132 2 1 (dk_at dksX0_joins_5 3 rfl rfl)
theorem dX0_joins_124 : decode cX0_joins 124 = .ok (.goto (-65), 3) := dk_167 255 191 (dk_at dksX0_joins_5 6 rfl rfl)
theorem dX0_joins_127 : decode cX0_joins 127 = .ok (.iconst 0, 1) := dk_3 (dk_at dksX0_joins_5 9 rfl rfl)
theorem dX0_joins_128 : decode cX0_joins 128 = .ok (.istore_n 2, 1) := dk_61 (dk_at dksX0_joins_5 10 rfl rfl)
theorem dX0_joins_129 : decode cX0_joins 129 = .ok (.iload_n 2, 1) := dk_28 (dk_at dksX0_joins_5 11 rfl rfl)
theorem dX0_joins_130 : decode cX0_joins 130 = .ok (.aload_n 0, 1) := dk_42 (dk_at dksX0_joins_5 12 rfl rfl)
theorem dX0_joins_131 : decode cX0_joins 131 = .ok (.getfield 105, 3) := dk_180 0 105 (dk_at dksX0_joins_5 13 rfl rfl)
theorem dX0_joins_134 : decode cX0_joins 134 = .ok (.arraylength, 1) := dk_190 (dk_at dksX0_joins_5 16 rfl rfl)
theorem dX0_joins_135 : decode cX0_joins 135 = .ok (.if_icmp .ge 45, 3) := dk_162 0 45 (dk_at dksX0_joins_5 17 rfl rfl)
theorem dX0_joins_138 : decode cX0_joins 138 = .ok (.aload_n 0, 1) := dk_42 (dk_at dksX0_joins_5 20 rfl rfl)
theorem dX0_joins_139 : decode cX0_joins 139 = .ok (.getfield 105, 3) := dk_180 0 105 (dk_at dksX0_joins_5 21 rfl rfl)
theorem dX0_joins_142 : decode cX0_joins 142 = .ok (.iload_n 2, 1) := dk_28 (dk_at dksX0_joins_6 0 rfl rfl)
theorem dX0_joins_143 : decode cX0_joins 143 = .ok (.laload, 1) := dk_47 (dk_at dksX0_joins_6 1 rfl rfl)
theorem dX0_joins_144 : decode cX0_joins 144 = .ok (.lconst 0, 1) := dk_9 (dk_at dksX0_joins_6 2 rfl rfl)
theorem dX0_joins_145 : decode cX0_joins 145 = .ok (.lcmp, 1) := dk_148 (dk_at dksX0_joins_6 3 rfl rfl)
theorem dX0_joins_146 : decode cX0_joins 146 = .ok (.ifCond .le 28, 3) := dk_158 0 28 (dk_at dksX0_joins_6 4 rfl rfl)
theorem dX0_joins_149 : decode cX0_joins 149 = .ok (.aload_n 0, 1) := dk_42 (dk_at dksX0_joins_6 7 rfl rfl)
theorem dX0_joins_150 : decode cX0_joins 150 = .ok (.getfield 101, 3) := dk_180 0 101 (dk_at dksX0_joins_6 8 rfl rfl)
theorem dX0_joins_153 : decode cX0_joins 153 = .ok (.iload_n 2, 1) := dk_28 (dk_at dksX0_joins_6 11 rfl rfl)
theorem dX0_joins_154 : decode cX0_joins 154 = .ok (.sipush 288, 3) := dk_17 1 32 (dk_at dksX0_joins_6 12 rfl rfl)
theorem dX0_joins_157 : decode cX0_joins 157 = .ok (.isub, 1) := dk_100 (dk_at dksX0_joins_6 15 rfl rfl)
theorem dX0_joins_158 : decode cX0_joins 158 = .ok (.invokestatic 295, 3) := dk_184 1 39 (dk_at dksX0_joins_6 16 rfl rfl)
theorem dX0_joins_161 : decode cX0_joins 161 = .ok (.aload_n 0, 1) := dk_42 (dk_at dksX0_joins_6 19 rfl rfl)
theorem dX0_joins_162 : decode cX0_joins 162 = .ok (.getfield 105, 3) := dk_180 0 105 (dk_at dksX0_joins_6 20 rfl rfl)
theorem dX0_joins_165 : decode cX0_joins 165 = .ok (.iload_n 2, 1) := dk_28 (dk_at dksX0_joins_6 23 rfl rfl)
theorem dX0_joins_166 : decode cX0_joins 166 = .ok (.laload, 1) := dk_47 (dk_at dksX0_joins_7 0 rfl rfl)
theorem dX0_joins_167 : decode cX0_joins 167 = .ok (.invokestatic 299, 3) := dk_184 1 43 (dk_at dksX0_joins_7 1 rfl rfl)
theorem dX0_joins_170 : decode cX0_joins 170 = .ok (.invokevirtual 304, 3) := dk_182 1 48 (dk_at dksX0_joins_7 4 rfl rfl)
theorem dX0_joins_173 : decode cX0_joins 173 = .ok (.pop, 1) := dk_87 (dk_at dksX0_joins_7 7 rfl rfl)
theorem dX0_joins_174 : decode cX0_joins 174 = .ok (.iinc 2 1, 3) := dk_132 2 1 (dk_at dksX0_joins_7 8 rfl rfl)
theorem dX0_joins_177 : decode cX0_joins 177 = .ok (.goto (-48), 3) := dk_167 255 208 (dk_at dksX0_joins_7 11 rfl rfl)
theorem dX0_joins_180 : decode cX0_joins 180 = .ok (.return_, 1) := dk_177 (dk_at dksX0_joins_7 14 rfl rfl)
abbrev cX0_state : ByteArray := prog_1_method_34_code
def yX0_state : MethodName := ⟨RX0, "state", "(II)I"⟩
def dkwX0_state_5 : List UInt8 := [180, 0, 215, 172]
abbrev dktX0_state_5 : List UInt8 := dkwX0_state_5 ++ []
def dkwX0_state_4 : List UInt8 := [182, 1, 89, 172, 42, 27, 182, 0, 224, 28, 6, 160, 0, 10, 42, 180, 0, 212, 167, 0, 7, 42]
abbrev dktX0_state_4 : List UInt8 := dkwX0_state_4 ++ dktX0_state_5
def dkwX0_state_3 : List UInt8 := [182, 1, 86, 153, 0, 7, 4, 167, 0, 4, 3, 172, 42, 182, 0, 218, 42, 180, 0, 50, 27, 182, 1, 81]
abbrev dktX0_state_3 : List UInt8 := dkwX0_state_3 ++ dktX0_state_4
def dkwX0_state_2 : List UInt8 := [42, 182, 0, 218, 27, 182, 1, 81, 172, 42, 180, 0, 41, 27, 182, 1, 84, 172, 42, 182, 0, 218, 27]
abbrev dktX0_state_2 : List UInt8 := dkwX0_state_2 ++ dktX0_state_3
def dkwX0_state_1 : List UInt8 := [170, 0, 0, 0, 0, 0, 0, 91, 0, 0, 0, 0, 0, 0, 0, 5, 0, 0, 0, 40, 0, 0, 0, 49, 0, 0, 0, 58, 0, 0, 0, 91, 0, 0, 0, 91, 0, 0, 0, 75]
abbrev dktX0_state_1 : List UInt8 := dkwX0_state_1 ++ dktX0_state_2
def dkwX0_state_0 : List UInt8 := [42, 180, 0, 41, 27, 182, 1, 78, 153, 0, 12, 28, 3, 8, 184, 0, 164, 154, 0, 6, 18, 233, 172, 28]
abbrev dktX0_state_0 : List UInt8 := dkwX0_state_0 ++ dktX0_state_1
theorem dksX0_state_0 : cX0_state.data.toList.drop 0 = dktX0_state_0 := by decide +kernel
theorem dksX0_state_1 : cX0_state.data.toList.drop 24 = dktX0_state_1 := dk_seg dksX0_state_0 24 rfl rfl
theorem dksX0_state_2 : cX0_state.data.toList.drop 64 = dktX0_state_2 := dk_seg dksX0_state_1 40 rfl rfl
theorem dksX0_state_3 : cX0_state.data.toList.drop 87 = dktX0_state_3 := dk_seg dksX0_state_2 23 rfl rfl
theorem dksX0_state_4 : cX0_state.data.toList.drop 111 = dktX0_state_4 := dk_seg dksX0_state_3 24 rfl rfl
theorem dksX0_state_5 : cX0_state.data.toList.drop 133 = dktX0_state_5 := dk_seg dksX0_state_4 22 rfl rfl
theorem dX0_state_0 : decode cX0_state 0 = .ok (.aload_n 0, 1) := dk_42 (dk_at dksX0_state_0 0 rfl rfl)
theorem dX0_state_1 : decode cX0_state 1 = .ok (.getfield 41, 3) := dk_180 0 41 (dk_at dksX0_state_0 1 rfl rfl)
theorem dX0_state_4 : decode cX0_state 4 = .ok (.iload_n 1, 1) := dk_27 (dk_at dksX0_state_0 4 rfl rfl)
theorem dX0_state_5 : decode cX0_state 5 = .ok (.invokevirtual 334, 3) := dk_182 1 78 (dk_at dksX0_state_0 5 rfl rfl)
theorem dX0_state_8 : decode cX0_state 8 = .ok (.ifCond .eq 12, 3) := dk_153 0 12 (dk_at dksX0_state_0 8 rfl rfl)
theorem dX0_state_11 : decode cX0_state 11 = .ok (.iload_n 2, 1) := dk_28 (dk_at dksX0_state_0 11 rfl rfl)
theorem dX0_state_12 : decode cX0_state 12 = .ok (.iconst 0, 1) := dk_3 (dk_at dksX0_state_0 12 rfl rfl)
theorem dX0_state_13 : decode cX0_state 13 = .ok (.iconst 5, 1) := dk_8 (dk_at dksX0_state_0 13 rfl rfl)
theorem dX0_state_14 : decode cX0_state 14 = .ok (.invokestatic 164, 3) := dk_184 0 164 (dk_at dksX0_state_0 14 rfl rfl)
theorem dX0_state_17 : decode cX0_state 17 = .ok (.ifCond .ne 6, 3) := dk_154 0 6 (dk_at dksX0_state_0 17 rfl rfl)
theorem dX0_state_20 : decode cX0_state 20 = .ok (.ldc 233, 2) := dk_18 233 (dk_at dksX0_state_0 20 rfl rfl)
theorem dX0_state_22 : decode cX0_state 22 = .ok (.ireturn, 1) := dk_172 (dk_at dksX0_state_0 22 rfl rfl)
theorem dX0_state_23 : decode cX0_state 23 = .ok (.iload_n 2, 1) := dk_28 (dk_at dksX0_state_0 23 rfl rfl)
theorem dX0_state_24 : decode cX0_state 24 = .ok (.tableswitch 91 0 5 #[40, 49, 58, 91, 91, 75], 40) := by decide +kernel
theorem dX0_state_64 : decode cX0_state 64 = .ok (.aload_n 0, 1) := dk_42 (dk_at dksX0_state_2 0 rfl rfl)
theorem dX0_state_65 : decode cX0_state 65 = .ok (.invokevirtual 218, 3) := dk_182 0 218 (dk_at dksX0_state_2 1 rfl rfl)
theorem dX0_state_68 : decode cX0_state 68 = .ok (.iload_n 1, 1) := dk_27 (dk_at dksX0_state_2 4 rfl rfl)
theorem dX0_state_69 : decode cX0_state 69 = .ok (.invokevirtual 337, 3) := dk_182 1 81 (dk_at dksX0_state_2 5 rfl rfl)
theorem dX0_state_72 : decode cX0_state 72 = .ok (.ireturn, 1) := dk_172 (dk_at dksX0_state_2 8 rfl rfl)
theorem dX0_state_73 : decode cX0_state 73 = .ok (.aload_n 0, 1) := dk_42 (dk_at dksX0_state_2 9 rfl rfl)
theorem dX0_state_74 : decode cX0_state 74 = .ok (.getfield 41, 3) := dk_180 0 41 (dk_at dksX0_state_2 10 rfl rfl)
theorem dX0_state_77 : decode cX0_state 77 = .ok (.iload_n 1, 1) := dk_27 (dk_at dksX0_state_2 13 rfl rfl)
theorem dX0_state_78 : decode cX0_state 78 = .ok (.invokevirtual 340, 3) := dk_182 1 84 (dk_at dksX0_state_2 14 rfl rfl)
theorem dX0_state_81 : decode cX0_state 81 = .ok (.ireturn, 1) := dk_172 (dk_at dksX0_state_2 17 rfl rfl)
theorem dX0_state_82 : decode cX0_state 82 = .ok (.aload_n 0, 1) := dk_42 (dk_at dksX0_state_2 18 rfl rfl)
theorem dX0_state_83 : decode cX0_state 83 = .ok (.invokevirtual 218, 3) := dk_182 0 218 (dk_at dksX0_state_2 19 rfl rfl)
theorem dX0_state_86 : decode cX0_state 86 = .ok (.iload_n 1, 1) := dk_27 (dk_at dksX0_state_2 22 rfl rfl)
theorem dX0_state_87 : decode cX0_state 87 = .ok (.invokevirtual 342, 3) := dk_182 1 86 (dk_at dksX0_state_3 0 rfl rfl)
theorem dX0_state_90 : decode cX0_state 90 = .ok (.ifCond .eq 7, 3) := dk_153 0 7 (dk_at dksX0_state_3 3 rfl rfl)
theorem dX0_state_93 : decode cX0_state 93 = .ok (.iconst 1, 1) := dk_4 (dk_at dksX0_state_3 6 rfl rfl)
theorem dX0_state_94 : decode cX0_state 94 = .ok (.goto 4, 3) := dk_167 0 4 (dk_at dksX0_state_3 7 rfl rfl)
theorem dX0_state_97 : decode cX0_state 97 = .ok (.iconst 0, 1) := dk_3 (dk_at dksX0_state_3 10 rfl rfl)
theorem dX0_state_98 : decode cX0_state 98 = .ok (.ireturn, 1) := dk_172 (dk_at dksX0_state_3 11 rfl rfl)
theorem dX0_state_99 : decode cX0_state 99 = .ok (.aload_n 0, 1) := dk_42 (dk_at dksX0_state_3 12 rfl rfl)
theorem dX0_state_100 : decode cX0_state 100 = .ok (.invokevirtual 218, 3) := dk_182 0 218 (dk_at dksX0_state_3 13 rfl rfl)
theorem dX0_state_103 : decode cX0_state 103 = .ok (.aload_n 0, 1) := dk_42 (dk_at dksX0_state_3 16 rfl rfl)
theorem dX0_state_104 : decode cX0_state 104 = .ok (.getfield 50, 3) := dk_180 0 50 (dk_at dksX0_state_3 17 rfl rfl)
theorem dX0_state_107 : decode cX0_state 107 = .ok (.iload_n 1, 1) := dk_27 (dk_at dksX0_state_3 20 rfl rfl)
theorem dX0_state_108 : decode cX0_state 108 = .ok (.invokevirtual 337, 3) := dk_182 1 81 (dk_at dksX0_state_3 21 rfl rfl)
theorem dX0_state_111 : decode cX0_state 111 = .ok (.invokevirtual 345, 3) := dk_182 1 89 (dk_at dksX0_state_4 0 rfl rfl)
theorem dX0_state_114 : decode cX0_state 114 = .ok (.ireturn, 1) := dk_172 (dk_at dksX0_state_4 3 rfl rfl)
theorem dX0_state_115 : decode cX0_state 115 = .ok (.aload_n 0, 1) := dk_42 (dk_at dksX0_state_4 4 rfl rfl)
theorem dX0_state_116 : decode cX0_state 116 = .ok (.iload_n 1, 1) := dk_27 (dk_at dksX0_state_4 5 rfl rfl)
theorem dX0_state_117 : decode cX0_state 117 = .ok (.invokevirtual 224, 3) := dk_182 0 224 (dk_at dksX0_state_4 6 rfl rfl)
theorem dX0_state_120 : decode cX0_state 120 = .ok (.iload_n 2, 1) := dk_28 (dk_at dksX0_state_4 9 rfl rfl)
theorem dX0_state_121 : decode cX0_state 121 = .ok (.iconst 3, 1) := dk_6 (dk_at dksX0_state_4 10 rfl rfl)
theorem dX0_state_122 : decode cX0_state 122 = .ok (.if_icmp .ne 10, 3) := dk_160 0 10 (dk_at dksX0_state_4 11 rfl rfl)
theorem dX0_state_125 : decode cX0_state 125 = .ok (.aload_n 0, 1) := dk_42 (dk_at dksX0_state_4 14 rfl rfl)
theorem dX0_state_126 : decode cX0_state 126 = .ok (.getfield 212, 3) := dk_180 0 212 (dk_at dksX0_state_4 15 rfl rfl)
theorem dX0_state_129 : decode cX0_state 129 = .ok (.goto 7, 3) := dk_167 0 7 (dk_at dksX0_state_4 18 rfl rfl)
theorem dX0_state_132 : decode cX0_state 132 = .ok (.aload_n 0, 1) := dk_42 (dk_at dksX0_state_4 21 rfl rfl)
theorem dX0_state_133 : decode cX0_state 133 = .ok (.getfield 215, 3) := dk_180 0 215 (dk_at dksX0_state_5 0 rfl rfl)
theorem dX0_state_136 : decode cX0_state 136 = .ok (.ireturn, 1) := dk_172 (dk_at dksX0_state_5 3 rfl rfl)
abbrev cX0_stuck : ByteArray := prog_1_method_35_code
def yX0_stuck : MethodName := ⟨RX0, "stuck", "(Z)I"⟩
def dkwX0_stuck_2 : List UInt8 := [182, 1, 95, 154, 0, 6, 132, 2, 1, 132, 3, 1, 167, 255, 202, 28, 172]
abbrev dktX0_stuck_2 : List UInt8 := dkwX0_stuck_2 ++ []
def dkwX0_stuck_1 : List UInt8 := [153, 0, 32, 42, 182, 0, 218, 29, 182, 1, 86, 153, 0, 21, 27, 153, 0, 14, 42, 180, 0, 50, 29]
abbrev dktX0_stuck_1 : List UInt8 := dkwX0_stuck_1 ++ dktX0_stuck_2
def dkwX0_stuck_0 : List UInt8 := [3, 61, 3, 62, 29, 42, 180, 0, 41, 182, 1, 92, 162, 0, 49, 42, 180, 0, 41, 29, 182, 1, 78]
abbrev dktX0_stuck_0 : List UInt8 := dkwX0_stuck_0 ++ dktX0_stuck_1
theorem dksX0_stuck_0 : cX0_stuck.data.toList.drop 0 = dktX0_stuck_0 := by decide +kernel
theorem dksX0_stuck_1 : cX0_stuck.data.toList.drop 23 = dktX0_stuck_1 := dk_seg dksX0_stuck_0 23 rfl rfl
theorem dksX0_stuck_2 : cX0_stuck.data.toList.drop 46 = dktX0_stuck_2 := dk_seg dksX0_stuck_1 23 rfl rfl
theorem dX0_stuck_0 : decode cX0_stuck 0 = .ok (.iconst 0, 1) := dk_3 (dk_at dksX0_stuck_0 0 rfl rfl)
theorem dX0_stuck_1 : decode cX0_stuck 1 = .ok (.istore_n 2, 1) := dk_61 (dk_at dksX0_stuck_0 1 rfl rfl)
theorem dX0_stuck_2 : decode cX0_stuck 2 = .ok (.iconst 0, 1) := dk_3 (dk_at dksX0_stuck_0 2 rfl rfl)
theorem dX0_stuck_3 : decode cX0_stuck 3 = .ok (.istore_n 3, 1) := dk_62 (dk_at dksX0_stuck_0 3 rfl rfl)
theorem dX0_stuck_4 : decode cX0_stuck 4 = .ok (.iload_n 3, 1) := dk_29 (dk_at dksX0_stuck_0 4 rfl rfl)
theorem dX0_stuck_5 : decode cX0_stuck 5 = .ok (.aload_n 0, 1) := dk_42 (dk_at dksX0_stuck_0 5 rfl rfl)
theorem dX0_stuck_6 : decode cX0_stuck 6 = .ok (.getfield 41, 3) := dk_180 0 41 (dk_at dksX0_stuck_0 6 rfl rfl)
theorem dX0_stuck_9 : decode cX0_stuck 9 = .ok (.invokevirtual 348, 3) := dk_182 1 92 (dk_at dksX0_stuck_0 9 rfl rfl)
theorem dX0_stuck_12 : decode cX0_stuck 12 = .ok (.if_icmp .ge 49, 3) := dk_162 0 49 (dk_at dksX0_stuck_0 12 rfl rfl)
theorem dX0_stuck_15 : decode cX0_stuck 15 = .ok (.aload_n 0, 1) := dk_42 (dk_at dksX0_stuck_0 15 rfl rfl)
theorem dX0_stuck_16 : decode cX0_stuck 16 = .ok (.getfield 41, 3) := dk_180 0 41 (dk_at dksX0_stuck_0 16 rfl rfl)
theorem dX0_stuck_19 : decode cX0_stuck 19 = .ok (.iload_n 3, 1) := dk_29 (dk_at dksX0_stuck_0 19 rfl rfl)
theorem dX0_stuck_20 : decode cX0_stuck 20 = .ok (.invokevirtual 334, 3) := dk_182 1 78 (dk_at dksX0_stuck_0 20 rfl rfl)
theorem dX0_stuck_23 : decode cX0_stuck 23 = .ok (.ifCond .eq 32, 3) := dk_153 0 32 (dk_at dksX0_stuck_1 0 rfl rfl)
theorem dX0_stuck_26 : decode cX0_stuck 26 = .ok (.aload_n 0, 1) := dk_42 (dk_at dksX0_stuck_1 3 rfl rfl)
theorem dX0_stuck_27 : decode cX0_stuck 27 = .ok (.invokevirtual 218, 3) := dk_182 0 218 (dk_at dksX0_stuck_1 4 rfl rfl)
theorem dX0_stuck_30 : decode cX0_stuck 30 = .ok (.iload_n 3, 1) := dk_29 (dk_at dksX0_stuck_1 7 rfl rfl)
theorem dX0_stuck_31 : decode cX0_stuck 31 = .ok (.invokevirtual 342, 3) := dk_182 1 86 (dk_at dksX0_stuck_1 8 rfl rfl)
theorem dX0_stuck_34 : decode cX0_stuck 34 = .ok (.ifCond .eq 21, 3) := dk_153 0 21 (dk_at dksX0_stuck_1 11 rfl rfl)
theorem dX0_stuck_37 : decode cX0_stuck 37 = .ok (.iload_n 1, 1) := dk_27 (dk_at dksX0_stuck_1 14 rfl rfl)
theorem dX0_stuck_38 : decode cX0_stuck 38 = .ok (.ifCond .eq 14, 3) := dk_153 0 14 (dk_at dksX0_stuck_1 15 rfl rfl)
theorem dX0_stuck_41 : decode cX0_stuck 41 = .ok (.aload_n 0, 1) := dk_42 (dk_at dksX0_stuck_1 18 rfl rfl)
theorem dX0_stuck_42 : decode cX0_stuck 42 = .ok (.getfield 50, 3) := dk_180 0 50 (dk_at dksX0_stuck_1 19 rfl rfl)
theorem dX0_stuck_45 : decode cX0_stuck 45 = .ok (.iload_n 3, 1) := dk_29 (dk_at dksX0_stuck_1 22 rfl rfl)
theorem dX0_stuck_46 : decode cX0_stuck 46 = .ok (.invokevirtual 351, 3) := dk_182 1 95 (dk_at dksX0_stuck_2 0 rfl rfl)
theorem dX0_stuck_49 : decode cX0_stuck 49 = .ok (.ifCond .ne 6, 3) := dk_154 0 6 (dk_at dksX0_stuck_2 3 rfl rfl)
theorem dX0_stuck_52 : decode cX0_stuck 52 = .ok (.iinc 2 1, 3) := dk_132 2 1 (dk_at dksX0_stuck_2 6 rfl rfl)
theorem dX0_stuck_55 : decode cX0_stuck 55 = .ok (.iinc 3 1, 3) := dk_132 3 1 (dk_at dksX0_stuck_2 9 rfl rfl)
theorem dX0_stuck_58 : decode cX0_stuck 58 = .ok (.goto (-54), 3) := dk_167 255 202 (dk_at dksX0_stuck_2 12 rfl rfl)
theorem dX0_stuck_61 : decode cX0_stuck 61 = .ok (.iload_n 2, 1) := dk_28 (dk_at dksX0_stuck_2 15 rfl rfl)
theorem dX0_stuck_62 : decode cX0_stuck 62 = .ok (.ireturn, 1) := dk_172 (dk_at dksX0_stuck_2 16 rfl rfl)
abbrev cX0_rows : ByteArray := prog_1_method_36_code
def yX0_rows : MethodName := ⟨RX0, "rows", "(III)I"⟩
def dkwX0_rows_2 : List UInt8 := [153, 0, 16, 42, 180, 0, 66, 27, 28, 29, 182, 1, 101, 167, 0, 4, 3, 172]
abbrev dktX0_rows_2 : List UInt8 := dkwX0_rows_2 ++ []
def dkwX0_rows_1 : List UInt8 := [180, 0, 234, 120, 4, 100, 184, 0, 164, 154, 0, 5, 2, 172, 29, 17, 254, 224, 17, 1, 32, 184, 0, 164]
abbrev dktX0_rows_1 : List UInt8 := dkwX0_rows_1 ++ dktX0_rows_2
def dkwX0_rows_0 : List UInt8 := [27, 3, 42, 180, 0, 41, 180, 1, 98, 4, 100, 184, 0, 164, 153, 0, 22, 28, 3, 4, 42, 180, 0, 41]
abbrev dktX0_rows_0 : List UInt8 := dkwX0_rows_0 ++ dktX0_rows_1
theorem dksX0_rows_0 : cX0_rows.data.toList.drop 0 = dktX0_rows_0 := by decide +kernel
theorem dksX0_rows_1 : cX0_rows.data.toList.drop 24 = dktX0_rows_1 := dk_seg dksX0_rows_0 24 rfl rfl
theorem dksX0_rows_2 : cX0_rows.data.toList.drop 48 = dktX0_rows_2 := dk_seg dksX0_rows_1 24 rfl rfl
theorem dX0_rows_0 : decode cX0_rows 0 = .ok (.iload_n 1, 1) := dk_27 (dk_at dksX0_rows_0 0 rfl rfl)
theorem dX0_rows_1 : decode cX0_rows 1 = .ok (.iconst 0, 1) := dk_3 (dk_at dksX0_rows_0 1 rfl rfl)
theorem dX0_rows_2 : decode cX0_rows 2 = .ok (.aload_n 0, 1) := dk_42 (dk_at dksX0_rows_0 2 rfl rfl)
theorem dX0_rows_3 : decode cX0_rows 3 = .ok (.getfield 41, 3) := dk_180 0 41 (dk_at dksX0_rows_0 3 rfl rfl)
theorem dX0_rows_6 : decode cX0_rows 6 = .ok (.getfield 354, 3) := dk_180 1 98 (dk_at dksX0_rows_0 6 rfl rfl)
theorem dX0_rows_9 : decode cX0_rows 9 = .ok (.iconst 1, 1) := dk_4 (dk_at dksX0_rows_0 9 rfl rfl)
theorem dX0_rows_10 : decode cX0_rows 10 = .ok (.isub, 1) := dk_100 (dk_at dksX0_rows_0 10 rfl rfl)
theorem dX0_rows_11 : decode cX0_rows 11 = .ok (.invokestatic 164, 3) := dk_184 0 164 (dk_at dksX0_rows_0 11 rfl rfl)
theorem dX0_rows_14 : decode cX0_rows 14 = .ok (.ifCond .eq 22, 3) := dk_153 0 22 (dk_at dksX0_rows_0 14 rfl rfl)
theorem dX0_rows_17 : decode cX0_rows 17 = .ok (.iload_n 2, 1) := dk_28 (dk_at dksX0_rows_0 17 rfl rfl)
theorem dX0_rows_18 : decode cX0_rows 18 = .ok (.iconst 0, 1) := dk_3 (dk_at dksX0_rows_0 18 rfl rfl)
theorem dX0_rows_19 : decode cX0_rows 19 = .ok (.iconst 1, 1) := dk_4 (dk_at dksX0_rows_0 19 rfl rfl)
theorem dX0_rows_20 : decode cX0_rows 20 = .ok (.aload_n 0, 1) := dk_42 (dk_at dksX0_rows_0 20 rfl rfl)
theorem dX0_rows_21 : decode cX0_rows 21 = .ok (.getfield 41, 3) := dk_180 0 41 (dk_at dksX0_rows_0 21 rfl rfl)
theorem dX0_rows_24 : decode cX0_rows 24 = .ok (.getfield 234, 3) := dk_180 0 234 (dk_at dksX0_rows_1 0 rfl rfl)
theorem dX0_rows_27 : decode cX0_rows 27 = .ok (.ishl, 1) := dk_120 (dk_at dksX0_rows_1 3 rfl rfl)
theorem dX0_rows_28 : decode cX0_rows 28 = .ok (.iconst 1, 1) := dk_4 (dk_at dksX0_rows_1 4 rfl rfl)
theorem dX0_rows_29 : decode cX0_rows 29 = .ok (.isub, 1) := dk_100 (dk_at dksX0_rows_1 5 rfl rfl)
theorem dX0_rows_30 : decode cX0_rows 30 = .ok (.invokestatic 164, 3) := dk_184 0 164 (dk_at dksX0_rows_1 6 rfl rfl)
theorem dX0_rows_33 : decode cX0_rows 33 = .ok (.ifCond .ne 5, 3) := dk_154 0 5 (dk_at dksX0_rows_1 9 rfl rfl)
theorem dX0_rows_36 : decode cX0_rows 36 = .ok (.iconst (-1), 1) := dk_2 (dk_at dksX0_rows_1 12 rfl rfl)
theorem dX0_rows_37 : decode cX0_rows 37 = .ok (.ireturn, 1) := dk_172 (dk_at dksX0_rows_1 13 rfl rfl)
theorem dX0_rows_38 : decode cX0_rows 38 = .ok (.iload_n 3, 1) := dk_29 (dk_at dksX0_rows_1 14 rfl rfl)
theorem dX0_rows_39 : decode cX0_rows 39 = .ok (.sipush (-288), 3) := dk_17 254 224 (dk_at dksX0_rows_1 15 rfl rfl)
theorem dX0_rows_42 : decode cX0_rows 42 = .ok (.sipush 288, 3) := dk_17 1 32 (dk_at dksX0_rows_1 18 rfl rfl)
theorem dX0_rows_45 : decode cX0_rows 45 = .ok (.invokestatic 164, 3) := dk_184 0 164 (dk_at dksX0_rows_1 21 rfl rfl)
theorem dX0_rows_48 : decode cX0_rows 48 = .ok (.ifCond .eq 16, 3) := dk_153 0 16 (dk_at dksX0_rows_2 0 rfl rfl)
theorem dX0_rows_51 : decode cX0_rows 51 = .ok (.aload_n 0, 1) := dk_42 (dk_at dksX0_rows_2 3 rfl rfl)
theorem dX0_rows_52 : decode cX0_rows 52 = .ok (.getfield 66, 3) := dk_180 0 66 (dk_at dksX0_rows_2 4 rfl rfl)
theorem dX0_rows_55 : decode cX0_rows 55 = .ok (.iload_n 1, 1) := dk_27 (dk_at dksX0_rows_2 7 rfl rfl)
theorem dX0_rows_56 : decode cX0_rows 56 = .ok (.iload_n 2, 1) := dk_28 (dk_at dksX0_rows_2 8 rfl rfl)
theorem dX0_rows_57 : decode cX0_rows 57 = .ok (.iload_n 3, 1) := dk_29 (dk_at dksX0_rows_2 9 rfl rfl)
theorem dX0_rows_58 : decode cX0_rows 58 = .ok (.invokevirtual 357, 3) := dk_182 1 101 (dk_at dksX0_rows_2 10 rfl rfl)
theorem dX0_rows_61 : decode cX0_rows 61 = .ok (.goto 4, 3) := dk_167 0 4 (dk_at dksX0_rows_2 13 rfl rfl)
theorem dX0_rows_64 : decode cX0_rows 64 = .ok (.iconst 0, 1) := dk_3 (dk_at dksX0_rows_2 16 rfl rfl)
theorem dX0_rows_65 : decode cX0_rows 65 = .ok (.ireturn, 1) := dk_172 (dk_at dksX0_rows_2 17 rfl rfl)
abbrev cX0_square : ByteArray := prog_1_method_37_code
def yX0_square : MethodName := ⟨RX0, "square", "(I)I"⟩
def dkwX0_square_0 : List UInt8 := [42, 180, 0, 41, 27, 182, 0, 156, 153, 0, 14, 42, 180, 0, 41, 27, 182, 1, 103, 167, 0, 4, 2, 172]
abbrev dktX0_square_0 : List UInt8 := dkwX0_square_0 ++ []
theorem dksX0_square_0 : cX0_square.data.toList.drop 0 = dktX0_square_0 := by decide +kernel
theorem dX0_square_0 : decode cX0_square 0 = .ok (.aload_n 0, 1) := dk_42 (dk_at dksX0_square_0 0 rfl rfl)
theorem dX0_square_1 : decode cX0_square 1 = .ok (.getfield 41, 3) := dk_180 0 41 (dk_at dksX0_square_0 1 rfl rfl)
theorem dX0_square_4 : decode cX0_square 4 = .ok (.iload_n 1, 1) := dk_27 (dk_at dksX0_square_0 4 rfl rfl)
theorem dX0_square_5 : decode cX0_square 5 = .ok (.invokevirtual 156, 3) := dk_182 0 156 (dk_at dksX0_square_0 5 rfl rfl)
theorem dX0_square_8 : decode cX0_square 8 = .ok (.ifCond .eq 14, 3) := dk_153 0 14 (dk_at dksX0_square_0 8 rfl rfl)
theorem dX0_square_11 : decode cX0_square 11 = .ok (.aload_n 0, 1) := dk_42 (dk_at dksX0_square_0 11 rfl rfl)
theorem dX0_square_12 : decode cX0_square 12 = .ok (.getfield 41, 3) := dk_180 0 41 (dk_at dksX0_square_0 12 rfl rfl)
theorem dX0_square_15 : decode cX0_square 15 = .ok (.iload_n 1, 1) := dk_27 (dk_at dksX0_square_0 15 rfl rfl)
theorem dX0_square_16 : decode cX0_square 16 = .ok (.invokevirtual 359, 3) := dk_182 1 103 (dk_at dksX0_square_0 16 rfl rfl)
theorem dX0_square_19 : decode cX0_square 19 = .ok (.goto 4, 3) := dk_167 0 4 (dk_at dksX0_square_0 19 rfl rfl)
theorem dX0_square_22 : decode cX0_square 22 = .ok (.iconst (-1), 1) := dk_2 (dk_at dksX0_square_0 22 rfl rfl)
theorem dX0_square_23 : decode cX0_square 23 = .ok (.ireturn, 1) := dk_172 (dk_at dksX0_square_0 23 rfl rfl)
abbrev cX0_overlap : ByteArray := prog_1_method_38_code
def yX0_overlap : MethodName := ⟨RX0, "overlap", "(I)I"⟩
def dkwX0_overlap_0 : List UInt8 := [42, 182, 0, 218, 27, 182, 1, 106, 172]
abbrev dktX0_overlap_0 : List UInt8 := dkwX0_overlap_0 ++ []
theorem dksX0_overlap_0 : cX0_overlap.data.toList.drop 0 = dktX0_overlap_0 := by decide +kernel
theorem dX0_overlap_0 : decode cX0_overlap 0 = .ok (.aload_n 0, 1) := dk_42 (dk_at dksX0_overlap_0 0 rfl rfl)
theorem dX0_overlap_1 : decode cX0_overlap 1 = .ok (.invokevirtual 218, 3) := dk_182 0 218 (dk_at dksX0_overlap_0 1 rfl rfl)
theorem dX0_overlap_4 : decode cX0_overlap 4 = .ok (.iload_n 1, 1) := dk_27 (dk_at dksX0_overlap_0 4 rfl rfl)
theorem dX0_overlap_5 : decode cX0_overlap 5 = .ok (.invokevirtual 362, 3) := dk_182 1 106 (dk_at dksX0_overlap_0 5 rfl rfl)
theorem dX0_overlap_8 : decode cX0_overlap 8 = .ok (.ireturn, 1) := dk_172 (dk_at dksX0_overlap_0 8 rfl rfl)
abbrev cX0_basin : ByteArray := prog_1_method_39_code
def yX0_basin : MethodName := ⟨RX0, "basin", "(I)I"⟩
def dkwX0_basin_1 : List UInt8 := [182, 0, 218, 27, 182, 1, 109, 167, 0, 5, 18, 233, 172]
abbrev dktX0_basin_1 : List UInt8 := dkwX0_basin_1 ++ []
def dkwX0_basin_0 : List UInt8 := [42, 180, 0, 41, 27, 182, 1, 78, 153, 0, 26, 42, 180, 0, 41, 182, 0, 199, 16, 10, 163, 0, 14, 42]
abbrev dktX0_basin_0 : List UInt8 := dkwX0_basin_0 ++ dktX0_basin_1
theorem dksX0_basin_0 : cX0_basin.data.toList.drop 0 = dktX0_basin_0 := by decide +kernel
theorem dksX0_basin_1 : cX0_basin.data.toList.drop 24 = dktX0_basin_1 := dk_seg dksX0_basin_0 24 rfl rfl
theorem dX0_basin_0 : decode cX0_basin 0 = .ok (.aload_n 0, 1) := dk_42 (dk_at dksX0_basin_0 0 rfl rfl)
theorem dX0_basin_1 : decode cX0_basin 1 = .ok (.getfield 41, 3) := dk_180 0 41 (dk_at dksX0_basin_0 1 rfl rfl)
theorem dX0_basin_4 : decode cX0_basin 4 = .ok (.iload_n 1, 1) := dk_27 (dk_at dksX0_basin_0 4 rfl rfl)
theorem dX0_basin_5 : decode cX0_basin 5 = .ok (.invokevirtual 334, 3) := dk_182 1 78 (dk_at dksX0_basin_0 5 rfl rfl)
theorem dX0_basin_8 : decode cX0_basin 8 = .ok (.ifCond .eq 26, 3) := dk_153 0 26 (dk_at dksX0_basin_0 8 rfl rfl)
theorem dX0_basin_11 : decode cX0_basin 11 = .ok (.aload_n 0, 1) := dk_42 (dk_at dksX0_basin_0 11 rfl rfl)
theorem dX0_basin_12 : decode cX0_basin 12 = .ok (.getfield 41, 3) := dk_180 0 41 (dk_at dksX0_basin_0 12 rfl rfl)
theorem dX0_basin_15 : decode cX0_basin 15 = .ok (.invokevirtual 199, 3) := dk_182 0 199 (dk_at dksX0_basin_0 15 rfl rfl)
theorem dX0_basin_18 : decode cX0_basin 18 = .ok (.bipush 10, 2) := dk_16 10 (dk_at dksX0_basin_0 18 rfl rfl)
theorem dX0_basin_20 : decode cX0_basin 20 = .ok (.if_icmp .gt 14, 3) := dk_163 0 14 (dk_at dksX0_basin_0 20 rfl rfl)
theorem dX0_basin_23 : decode cX0_basin 23 = .ok (.aload_n 0, 1) := dk_42 (dk_at dksX0_basin_0 23 rfl rfl)
theorem dX0_basin_24 : decode cX0_basin 24 = .ok (.invokevirtual 218, 3) := dk_182 0 218 (dk_at dksX0_basin_1 0 rfl rfl)
theorem dX0_basin_27 : decode cX0_basin 27 = .ok (.iload_n 1, 1) := dk_27 (dk_at dksX0_basin_1 3 rfl rfl)
theorem dX0_basin_28 : decode cX0_basin 28 = .ok (.invokevirtual 365, 3) := dk_182 1 109 (dk_at dksX0_basin_1 4 rfl rfl)
theorem dX0_basin_31 : decode cX0_basin 31 = .ok (.goto 5, 3) := dk_167 0 5 (dk_at dksX0_basin_1 7 rfl rfl)
theorem dX0_basin_34 : decode cX0_basin 34 = .ok (.ldc 233, 2) := dk_18 233 (dk_at dksX0_basin_1 10 rfl rfl)
theorem dX0_basin_36 : decode cX0_basin 36 = .ok (.ireturn, 1) := dk_172 (dk_at dksX0_basin_1 12 rfl rfl)
abbrev cX0_stiff : ByteArray := prog_1_method_40_code
def yX0_stiff : MethodName := ⟨RX0, "stiff", "(II)I"⟩
def dkwX0_stiff_3 : List UInt8 := [167, 0, 7, 21, 4, 29, 100, 172]
abbrev dktX0_stiff_3 : List UInt8 := dkwX0_stiff_3 ++ []
def dkwX0_stiff_2 : List UInt8 := [182, 1, 112, 54, 4, 29, 17, 0, 144, 163, 0, 11, 21, 4, 17, 0, 144, 164, 0, 8, 18, 233]
abbrev dktX0_stiff_2 : List UInt8 := dkwX0_stiff_2 ++ dktX0_stiff_3
def dkwX0_stiff_1 : List UInt8 := [160, 0, 6, 18, 233, 172, 42, 182, 0, 218, 27, 28, 4, 182, 1, 112, 62, 42, 180, 0, 50, 27, 28, 3]
abbrev dktX0_stiff_1 : List UInt8 := dkwX0_stiff_1 ++ dktX0_stiff_2
def dkwX0_stiff_0 : List UInt8 := [42, 180, 0, 41, 27, 182, 0, 156, 153, 0, 19, 42, 180, 0, 41, 28, 182, 0, 156, 153, 0, 8, 27, 28]
abbrev dktX0_stiff_0 : List UInt8 := dkwX0_stiff_0 ++ dktX0_stiff_1
theorem dksX0_stiff_0 : cX0_stiff.data.toList.drop 0 = dktX0_stiff_0 := by decide +kernel
theorem dksX0_stiff_1 : cX0_stiff.data.toList.drop 24 = dktX0_stiff_1 := dk_seg dksX0_stiff_0 24 rfl rfl
theorem dksX0_stiff_2 : cX0_stiff.data.toList.drop 48 = dktX0_stiff_2 := dk_seg dksX0_stiff_1 24 rfl rfl
theorem dksX0_stiff_3 : cX0_stiff.data.toList.drop 70 = dktX0_stiff_3 := dk_seg dksX0_stiff_2 22 rfl rfl
theorem dX0_stiff_0 : decode cX0_stiff 0 = .ok (.aload_n 0, 1) := dk_42 (dk_at dksX0_stiff_0 0 rfl rfl)
theorem dX0_stiff_1 : decode cX0_stiff 1 = .ok (.getfield 41, 3) := dk_180 0 41 (dk_at dksX0_stiff_0 1 rfl rfl)
theorem dX0_stiff_4 : decode cX0_stiff 4 = .ok (.iload_n 1, 1) := dk_27 (dk_at dksX0_stiff_0 4 rfl rfl)
theorem dX0_stiff_5 : decode cX0_stiff 5 = .ok (.invokevirtual 156, 3) := dk_182 0 156 (dk_at dksX0_stiff_0 5 rfl rfl)
theorem dX0_stiff_8 : decode cX0_stiff 8 = .ok (.ifCond .eq 19, 3) := dk_153 0 19 (dk_at dksX0_stiff_0 8 rfl rfl)
theorem dX0_stiff_11 : decode cX0_stiff 11 = .ok (.aload_n 0, 1) := dk_42 (dk_at dksX0_stiff_0 11 rfl rfl)
theorem dX0_stiff_12 : decode cX0_stiff 12 = .ok (.getfield 41, 3) := dk_180 0 41 (dk_at dksX0_stiff_0 12 rfl rfl)
theorem dX0_stiff_15 : decode cX0_stiff 15 = .ok (.iload_n 2, 1) := dk_28 (dk_at dksX0_stiff_0 15 rfl rfl)
theorem dX0_stiff_16 : decode cX0_stiff 16 = .ok (.invokevirtual 156, 3) := dk_182 0 156 (dk_at dksX0_stiff_0 16 rfl rfl)
theorem dX0_stiff_19 : decode cX0_stiff 19 = .ok (.ifCond .eq 8, 3) := dk_153 0 8 (dk_at dksX0_stiff_0 19 rfl rfl)
theorem dX0_stiff_22 : decode cX0_stiff 22 = .ok (.iload_n 1, 1) := dk_27 (dk_at dksX0_stiff_0 22 rfl rfl)
theorem dX0_stiff_23 : decode cX0_stiff 23 = .ok (.iload_n 2, 1) := dk_28 (dk_at dksX0_stiff_0 23 rfl rfl)
theorem dX0_stiff_24 : decode cX0_stiff 24 = .ok (.if_icmp .ne 6, 3) := dk_160 0 6 (dk_at dksX0_stiff_1 0 rfl rfl)
theorem dX0_stiff_27 : decode cX0_stiff 27 = .ok (.ldc 233, 2) := dk_18 233 (dk_at dksX0_stiff_1 3 rfl rfl)
theorem dX0_stiff_29 : decode cX0_stiff 29 = .ok (.ireturn, 1) := dk_172 (dk_at dksX0_stiff_1 5 rfl rfl)
theorem dX0_stiff_30 : decode cX0_stiff 30 = .ok (.aload_n 0, 1) := dk_42 (dk_at dksX0_stiff_1 6 rfl rfl)
theorem dX0_stiff_31 : decode cX0_stiff 31 = .ok (.invokevirtual 218, 3) := dk_182 0 218 (dk_at dksX0_stiff_1 7 rfl rfl)
theorem dX0_stiff_34 : decode cX0_stiff 34 = .ok (.iload_n 1, 1) := dk_27 (dk_at dksX0_stiff_1 10 rfl rfl)
theorem dX0_stiff_35 : decode cX0_stiff 35 = .ok (.iload_n 2, 1) := dk_28 (dk_at dksX0_stiff_1 11 rfl rfl)
theorem dX0_stiff_36 : decode cX0_stiff 36 = .ok (.iconst 1, 1) := dk_4 (dk_at dksX0_stiff_1 12 rfl rfl)
theorem dX0_stiff_37 : decode cX0_stiff 37 = .ok (.invokevirtual 368, 3) := dk_182 1 112 (dk_at dksX0_stiff_1 13 rfl rfl)
theorem dX0_stiff_40 : decode cX0_stiff 40 = .ok (.istore_n 3, 1) := dk_62 (dk_at dksX0_stiff_1 16 rfl rfl)
theorem dX0_stiff_41 : decode cX0_stiff 41 = .ok (.aload_n 0, 1) := dk_42 (dk_at dksX0_stiff_1 17 rfl rfl)
theorem dX0_stiff_42 : decode cX0_stiff 42 = .ok (.getfield 50, 3) := dk_180 0 50 (dk_at dksX0_stiff_1 18 rfl rfl)
theorem dX0_stiff_45 : decode cX0_stiff 45 = .ok (.iload_n 1, 1) := dk_27 (dk_at dksX0_stiff_1 21 rfl rfl)
theorem dX0_stiff_46 : decode cX0_stiff 46 = .ok (.iload_n 2, 1) := dk_28 (dk_at dksX0_stiff_1 22 rfl rfl)
theorem dX0_stiff_47 : decode cX0_stiff 47 = .ok (.iconst 0, 1) := dk_3 (dk_at dksX0_stiff_1 23 rfl rfl)
theorem dX0_stiff_48 : decode cX0_stiff 48 = .ok (.invokevirtual 368, 3) := dk_182 1 112 (dk_at dksX0_stiff_2 0 rfl rfl)
theorem dX0_stiff_51 : decode cX0_stiff 51 = .ok (.istore 4, 2) := dk_54 4 (dk_at dksX0_stiff_2 3 rfl rfl)
theorem dX0_stiff_53 : decode cX0_stiff 53 = .ok (.iload_n 3, 1) := dk_29 (dk_at dksX0_stiff_2 5 rfl rfl)
theorem dX0_stiff_54 : decode cX0_stiff 54 = .ok (.sipush 144, 3) := dk_17 0 144 (dk_at dksX0_stiff_2 6 rfl rfl)
theorem dX0_stiff_57 : decode cX0_stiff 57 = .ok (.if_icmp .gt 11, 3) := dk_163 0 11 (dk_at dksX0_stiff_2 9 rfl rfl)
theorem dX0_stiff_60 : decode cX0_stiff 60 = .ok (.iload 4, 2) := dk_21 4 (dk_at dksX0_stiff_2 12 rfl rfl)
theorem dX0_stiff_62 : decode cX0_stiff 62 = .ok (.sipush 144, 3) := dk_17 0 144 (dk_at dksX0_stiff_2 14 rfl rfl)
theorem dX0_stiff_65 : decode cX0_stiff 65 = .ok (.if_icmp .le 8, 3) := dk_164 0 8 (dk_at dksX0_stiff_2 17 rfl rfl)
theorem dX0_stiff_68 : decode cX0_stiff 68 = .ok (.ldc 233, 2) := dk_18 233 (dk_at dksX0_stiff_2 20 rfl rfl)
theorem dX0_stiff_70 : decode cX0_stiff 70 = .ok (.goto 7, 3) := dk_167 0 7 (dk_at dksX0_stiff_3 0 rfl rfl)
theorem dX0_stiff_73 : decode cX0_stiff 73 = .ok (.iload 4, 2) := dk_21 4 (dk_at dksX0_stiff_3 3 rfl rfl)
theorem dX0_stiff_75 : decode cX0_stiff 75 = .ok (.iload_n 3, 1) := dk_29 (dk_at dksX0_stiff_3 5 rfl rfl)
theorem dX0_stiff_76 : decode cX0_stiff 76 = .ok (.isub, 1) := dk_100 (dk_at dksX0_stiff_3 6 rfl rfl)
theorem dX0_stiff_77 : decode cX0_stiff 77 = .ok (.ireturn, 1) := dk_172 (dk_at dksX0_stiff_3 7 rfl rfl)
abbrev cX0_hill : ByteArray := prog_1_method_42_code
def yX0_hill : MethodName := ⟨RX0, "hill", "(I)I"⟩
def dkwX0_hill_1 : List UInt8 := [182, 1, 119, 167, 0, 5, 18, 233, 172]
abbrev dktX0_hill_1 : List UInt8 := dkwX0_hill_1 ++ []
def dkwX0_hill_0 : List UInt8 := [42, 180, 0, 41, 27, 182, 1, 78, 153, 0, 22, 42, 182, 1, 116, 153, 0, 15, 42, 180, 0, 59, 27, 2]
abbrev dktX0_hill_0 : List UInt8 := dkwX0_hill_0 ++ dktX0_hill_1
theorem dksX0_hill_0 : cX0_hill.data.toList.drop 0 = dktX0_hill_0 := by decide +kernel
theorem dksX0_hill_1 : cX0_hill.data.toList.drop 24 = dktX0_hill_1 := dk_seg dksX0_hill_0 24 rfl rfl
theorem dX0_hill_0 : decode cX0_hill 0 = .ok (.aload_n 0, 1) := dk_42 (dk_at dksX0_hill_0 0 rfl rfl)
theorem dX0_hill_1 : decode cX0_hill 1 = .ok (.getfield 41, 3) := dk_180 0 41 (dk_at dksX0_hill_0 1 rfl rfl)
theorem dX0_hill_4 : decode cX0_hill 4 = .ok (.iload_n 1, 1) := dk_27 (dk_at dksX0_hill_0 4 rfl rfl)
theorem dX0_hill_5 : decode cX0_hill 5 = .ok (.invokevirtual 334, 3) := dk_182 1 78 (dk_at dksX0_hill_0 5 rfl rfl)
theorem dX0_hill_8 : decode cX0_hill 8 = .ok (.ifCond .eq 22, 3) := dk_153 0 22 (dk_at dksX0_hill_0 8 rfl rfl)
theorem dX0_hill_11 : decode cX0_hill 11 = .ok (.aload_n 0, 1) := dk_42 (dk_at dksX0_hill_0 11 rfl rfl)
theorem dX0_hill_12 : decode cX0_hill 12 = .ok (.invokevirtual 372, 3) := dk_182 1 116 (dk_at dksX0_hill_0 12 rfl rfl)
theorem dX0_hill_15 : decode cX0_hill 15 = .ok (.ifCond .eq 15, 3) := dk_153 0 15 (dk_at dksX0_hill_0 15 rfl rfl)
theorem dX0_hill_18 : decode cX0_hill 18 = .ok (.aload_n 0, 1) := dk_42 (dk_at dksX0_hill_0 18 rfl rfl)
theorem dX0_hill_19 : decode cX0_hill 19 = .ok (.getfield 59, 3) := dk_180 0 59 (dk_at dksX0_hill_0 19 rfl rfl)
theorem dX0_hill_22 : decode cX0_hill 22 = .ok (.iload_n 1, 1) := dk_27 (dk_at dksX0_hill_0 22 rfl rfl)
theorem dX0_hill_23 : decode cX0_hill 23 = .ok (.iconst (-1), 1) := dk_2 (dk_at dksX0_hill_0 23 rfl rfl)
theorem dX0_hill_24 : decode cX0_hill 24 = .ok (.invokevirtual 375, 3) := dk_182 1 119 (dk_at dksX0_hill_1 0 rfl rfl)
theorem dX0_hill_27 : decode cX0_hill 27 = .ok (.goto 5, 3) := dk_167 0 5 (dk_at dksX0_hill_1 3 rfl rfl)
theorem dX0_hill_30 : decode cX0_hill 30 = .ok (.ldc 233, 2) := dk_18 233 (dk_at dksX0_hill_1 6 rfl rfl)
theorem dX0_hill_32 : decode cX0_hill 32 = .ok (.ireturn, 1) := dk_172 (dk_at dksX0_hill_1 8 rfl rfl)
abbrev cX0_areFew : ByteArray := prog_1_method_41_code
def yX0_areFew : MethodName := ⟨RX0, "areFew", "()Z"⟩
def dkwX0_areFew_1 : List UInt8 := [167, 0, 4, 3, 172]
abbrev dktX0_areFew_1 : List UInt8 := dkwX0_areFew_1 ++ []
def dkwX0_areFew_0 : List UInt8 := [42, 182, 0, 218, 180, 1, 3, 158, 0, 19, 42, 180, 0, 41, 182, 0, 199, 16, 10, 163, 0, 7, 4]
abbrev dktX0_areFew_0 : List UInt8 := dkwX0_areFew_0 ++ dktX0_areFew_1
theorem dksX0_areFew_0 : cX0_areFew.data.toList.drop 0 = dktX0_areFew_0 := by decide +kernel
theorem dksX0_areFew_1 : cX0_areFew.data.toList.drop 23 = dktX0_areFew_1 := dk_seg dksX0_areFew_0 23 rfl rfl
theorem dX0_areFew_0 : decode cX0_areFew 0 = .ok (.aload_n 0, 1) := dk_42 (dk_at dksX0_areFew_0 0 rfl rfl)
theorem dX0_areFew_1 : decode cX0_areFew 1 = .ok (.invokevirtual 218, 3) := dk_182 0 218 (dk_at dksX0_areFew_0 1 rfl rfl)
theorem dX0_areFew_4 : decode cX0_areFew 4 = .ok (.getfield 259, 3) := dk_180 1 3 (dk_at dksX0_areFew_0 4 rfl rfl)
theorem dX0_areFew_7 : decode cX0_areFew 7 = .ok (.ifCond .le 19, 3) := dk_158 0 19 (dk_at dksX0_areFew_0 7 rfl rfl)
theorem dX0_areFew_10 : decode cX0_areFew 10 = .ok (.aload_n 0, 1) := dk_42 (dk_at dksX0_areFew_0 10 rfl rfl)
theorem dX0_areFew_11 : decode cX0_areFew 11 = .ok (.getfield 41, 3) := dk_180 0 41 (dk_at dksX0_areFew_0 11 rfl rfl)
theorem dX0_areFew_14 : decode cX0_areFew 14 = .ok (.invokevirtual 199, 3) := dk_182 0 199 (dk_at dksX0_areFew_0 14 rfl rfl)
theorem dX0_areFew_17 : decode cX0_areFew 17 = .ok (.bipush 10, 2) := dk_16 10 (dk_at dksX0_areFew_0 17 rfl rfl)
theorem dX0_areFew_19 : decode cX0_areFew 19 = .ok (.if_icmp .gt 7, 3) := dk_163 0 7 (dk_at dksX0_areFew_0 19 rfl rfl)
theorem dX0_areFew_22 : decode cX0_areFew 22 = .ok (.iconst 1, 1) := dk_4 (dk_at dksX0_areFew_0 22 rfl rfl)
theorem dX0_areFew_23 : decode cX0_areFew 23 = .ok (.goto 4, 3) := dk_167 0 4 (dk_at dksX0_areFew_1 0 rfl rfl)
theorem dX0_areFew_26 : decode cX0_areFew 26 = .ok (.iconst 0, 1) := dk_3 (dk_at dksX0_areFew_1 3 rfl rfl)
theorem dX0_areFew_27 : decode cX0_areFew 27 = .ok (.ireturn, 1) := dk_172 (dk_at dksX0_areFew_1 4 rfl rfl)
abbrev cX0_pass : ByteArray := prog_1_method_43_code
def yX0_pass : MethodName := ⟨RX0, "pass", "(II)I"⟩
def dkwX0_pass_1 : List UInt8 := [182, 1, 116, 153, 0, 15, 42, 180, 0, 59, 27, 28, 182, 1, 119, 167, 0, 5, 18, 233, 172]
abbrev dktX0_pass_1 : List UInt8 := dkwX0_pass_1 ++ []
def dkwX0_pass_0 : List UInt8 := [42, 180, 0, 41, 27, 182, 1, 78, 153, 0, 33, 42, 180, 0, 41, 28, 182, 1, 78, 153, 0, 22, 42]
abbrev dktX0_pass_0 : List UInt8 := dkwX0_pass_0 ++ dktX0_pass_1
theorem dksX0_pass_0 : cX0_pass.data.toList.drop 0 = dktX0_pass_0 := by decide +kernel
theorem dksX0_pass_1 : cX0_pass.data.toList.drop 23 = dktX0_pass_1 := dk_seg dksX0_pass_0 23 rfl rfl
theorem dX0_pass_0 : decode cX0_pass 0 = .ok (.aload_n 0, 1) := dk_42 (dk_at dksX0_pass_0 0 rfl rfl)
theorem dX0_pass_1 : decode cX0_pass 1 = .ok (.getfield 41, 3) := dk_180 0 41 (dk_at dksX0_pass_0 1 rfl rfl)
theorem dX0_pass_4 : decode cX0_pass 4 = .ok (.iload_n 1, 1) := dk_27 (dk_at dksX0_pass_0 4 rfl rfl)
theorem dX0_pass_5 : decode cX0_pass 5 = .ok (.invokevirtual 334, 3) := dk_182 1 78 (dk_at dksX0_pass_0 5 rfl rfl)
theorem dX0_pass_8 : decode cX0_pass 8 = .ok (.ifCond .eq 33, 3) := dk_153 0 33 (dk_at dksX0_pass_0 8 rfl rfl)
theorem dX0_pass_11 : decode cX0_pass 11 = .ok (.aload_n 0, 1) := dk_42 (dk_at dksX0_pass_0 11 rfl rfl)
theorem dX0_pass_12 : decode cX0_pass 12 = .ok (.getfield 41, 3) := dk_180 0 41 (dk_at dksX0_pass_0 12 rfl rfl)
theorem dX0_pass_15 : decode cX0_pass 15 = .ok (.iload_n 2, 1) := dk_28 (dk_at dksX0_pass_0 15 rfl rfl)
theorem dX0_pass_16 : decode cX0_pass 16 = .ok (.invokevirtual 334, 3) := dk_182 1 78 (dk_at dksX0_pass_0 16 rfl rfl)
theorem dX0_pass_19 : decode cX0_pass 19 = .ok (.ifCond .eq 22, 3) := dk_153 0 22 (dk_at dksX0_pass_0 19 rfl rfl)
theorem dX0_pass_22 : decode cX0_pass 22 = .ok (.aload_n 0, 1) := dk_42 (dk_at dksX0_pass_0 22 rfl rfl)
theorem dX0_pass_23 : decode cX0_pass 23 = .ok (.invokevirtual 372, 3) := dk_182 1 116 (dk_at dksX0_pass_1 0 rfl rfl)
theorem dX0_pass_26 : decode cX0_pass 26 = .ok (.ifCond .eq 15, 3) := dk_153 0 15 (dk_at dksX0_pass_1 3 rfl rfl)
theorem dX0_pass_29 : decode cX0_pass 29 = .ok (.aload_n 0, 1) := dk_42 (dk_at dksX0_pass_1 6 rfl rfl)
theorem dX0_pass_30 : decode cX0_pass 30 = .ok (.getfield 59, 3) := dk_180 0 59 (dk_at dksX0_pass_1 7 rfl rfl)
theorem dX0_pass_33 : decode cX0_pass 33 = .ok (.iload_n 1, 1) := dk_27 (dk_at dksX0_pass_1 10 rfl rfl)
theorem dX0_pass_34 : decode cX0_pass 34 = .ok (.iload_n 2, 1) := dk_28 (dk_at dksX0_pass_1 11 rfl rfl)
theorem dX0_pass_35 : decode cX0_pass 35 = .ok (.invokevirtual 375, 3) := dk_182 1 119 (dk_at dksX0_pass_1 12 rfl rfl)
theorem dX0_pass_38 : decode cX0_pass 38 = .ok (.goto 5, 3) := dk_167 0 5 (dk_at dksX0_pass_1 15 rfl rfl)
theorem dX0_pass_41 : decode cX0_pass 41 = .ok (.ldc 233, 2) := dk_18 233 (dk_at dksX0_pass_1 18 rfl rfl)
theorem dX0_pass_43 : decode cX0_pass 43 = .ok (.ireturn, 1) := dk_172 (dk_at dksX0_pass_1 20 rfl rfl)
abbrev cX0_lakes : ByteArray := prog_1_method_44_code
def yX0_lakes : MethodName := ⟨RX0, "lakes", "(I)I"⟩
def dkwX0_lakes_1 : List UInt8 := [182, 1, 121, 167, 0, 5, 18, 233, 172]
abbrev dktX0_lakes_1 : List UInt8 := dkwX0_lakes_1 ++ []
def dkwX0_lakes_0 : List UInt8 := [42, 182, 0, 218, 87, 42, 180, 0, 41, 182, 0, 199, 16, 10, 163, 0, 14, 42, 180, 0, 73, 27]
abbrev dktX0_lakes_0 : List UInt8 := dkwX0_lakes_0 ++ dktX0_lakes_1
theorem dksX0_lakes_0 : cX0_lakes.data.toList.drop 0 = dktX0_lakes_0 := by decide +kernel
theorem dksX0_lakes_1 : cX0_lakes.data.toList.drop 22 = dktX0_lakes_1 := dk_seg dksX0_lakes_0 22 rfl rfl
theorem dX0_lakes_0 : decode cX0_lakes 0 = .ok (.aload_n 0, 1) := dk_42 (dk_at dksX0_lakes_0 0 rfl rfl)
theorem dX0_lakes_1 : decode cX0_lakes 1 = .ok (.invokevirtual 218, 3) := dk_182 0 218 (dk_at dksX0_lakes_0 1 rfl rfl)
theorem dX0_lakes_4 : decode cX0_lakes 4 = .ok (.pop, 1) := dk_87 (dk_at dksX0_lakes_0 4 rfl rfl)
theorem dX0_lakes_5 : decode cX0_lakes 5 = .ok (.aload_n 0, 1) := dk_42 (dk_at dksX0_lakes_0 5 rfl rfl)
theorem dX0_lakes_6 : decode cX0_lakes 6 = .ok (.getfield 41, 3) := dk_180 0 41 (dk_at dksX0_lakes_0 6 rfl rfl)
theorem dX0_lakes_9 : decode cX0_lakes 9 = .ok (.invokevirtual 199, 3) := dk_182 0 199 (dk_at dksX0_lakes_0 9 rfl rfl)
theorem dX0_lakes_12 : decode cX0_lakes 12 = .ok (.bipush 10, 2) := dk_16 10 (dk_at dksX0_lakes_0 12 rfl rfl)
theorem dX0_lakes_14 : decode cX0_lakes 14 = .ok (.if_icmp .gt 14, 3) := dk_163 0 14 (dk_at dksX0_lakes_0 14 rfl rfl)
theorem dX0_lakes_17 : decode cX0_lakes 17 = .ok (.aload_n 0, 1) := dk_42 (dk_at dksX0_lakes_0 17 rfl rfl)
theorem dX0_lakes_18 : decode cX0_lakes 18 = .ok (.getfield 73, 3) := dk_180 0 73 (dk_at dksX0_lakes_0 18 rfl rfl)
theorem dX0_lakes_21 : decode cX0_lakes 21 = .ok (.iload_n 1, 1) := dk_27 (dk_at dksX0_lakes_0 21 rfl rfl)
theorem dX0_lakes_22 : decode cX0_lakes 22 = .ok (.invokevirtual 377, 3) := dk_182 1 121 (dk_at dksX0_lakes_1 0 rfl rfl)
theorem dX0_lakes_25 : decode cX0_lakes 25 = .ok (.goto 5, 3) := dk_167 0 5 (dk_at dksX0_lakes_1 3 rfl rfl)
theorem dX0_lakes_28 : decode cX0_lakes 28 = .ok (.ldc 233, 2) := dk_18 233 (dk_at dksX0_lakes_1 6 rfl rfl)
theorem dX0_lakes_30 : decode cX0_lakes 30 = .ok (.ireturn, 1) := dk_172 (dk_at dksX0_lakes_1 8 rfl rfl)
abbrev cX0_down : ByteArray := prog_1_method_45_code
def yX0_down : MethodName := ⟨RX0, "down", "(I)J"⟩
def dkwX0_down_1 : List UInt8 := [182, 1, 123, 167, 0, 6, 20, 1, 55, 173]
abbrev dktX0_down_1 : List UInt8 := dkwX0_down_1 ++ []
def dkwX0_down_0 : List UInt8 := [42, 180, 0, 41, 27, 182, 1, 78, 153, 0, 21, 42, 182, 1, 116, 153, 0, 14, 42, 180, 0, 73, 27]
abbrev dktX0_down_0 : List UInt8 := dkwX0_down_0 ++ dktX0_down_1
theorem dksX0_down_0 : cX0_down.data.toList.drop 0 = dktX0_down_0 := by decide +kernel
theorem dksX0_down_1 : cX0_down.data.toList.drop 23 = dktX0_down_1 := dk_seg dksX0_down_0 23 rfl rfl
theorem dX0_down_0 : decode cX0_down 0 = .ok (.aload_n 0, 1) := dk_42 (dk_at dksX0_down_0 0 rfl rfl)
theorem dX0_down_1 : decode cX0_down 1 = .ok (.getfield 41, 3) := dk_180 0 41 (dk_at dksX0_down_0 1 rfl rfl)
theorem dX0_down_4 : decode cX0_down 4 = .ok (.iload_n 1, 1) := dk_27 (dk_at dksX0_down_0 4 rfl rfl)
theorem dX0_down_5 : decode cX0_down 5 = .ok (.invokevirtual 334, 3) := dk_182 1 78 (dk_at dksX0_down_0 5 rfl rfl)
theorem dX0_down_8 : decode cX0_down 8 = .ok (.ifCond .eq 21, 3) := dk_153 0 21 (dk_at dksX0_down_0 8 rfl rfl)
theorem dX0_down_11 : decode cX0_down 11 = .ok (.aload_n 0, 1) := dk_42 (dk_at dksX0_down_0 11 rfl rfl)
theorem dX0_down_12 : decode cX0_down 12 = .ok (.invokevirtual 372, 3) := dk_182 1 116 (dk_at dksX0_down_0 12 rfl rfl)
theorem dX0_down_15 : decode cX0_down 15 = .ok (.ifCond .eq 14, 3) := dk_153 0 14 (dk_at dksX0_down_0 15 rfl rfl)
theorem dX0_down_18 : decode cX0_down 18 = .ok (.aload_n 0, 1) := dk_42 (dk_at dksX0_down_0 18 rfl rfl)
theorem dX0_down_19 : decode cX0_down 19 = .ok (.getfield 73, 3) := dk_180 0 73 (dk_at dksX0_down_0 19 rfl rfl)
theorem dX0_down_22 : decode cX0_down 22 = .ok (.iload_n 1, 1) := dk_27 (dk_at dksX0_down_0 22 rfl rfl)
theorem dX0_down_23 : decode cX0_down 23 = .ok (.invokevirtual 379, 3) := dk_182 1 123 (dk_at dksX0_down_1 0 rfl rfl)
theorem dX0_down_26 : decode cX0_down 26 = .ok (.goto 6, 3) := dk_167 0 6 (dk_at dksX0_down_1 3 rfl rfl)
theorem dX0_down_29 : decode cX0_down 29 = .ok (.ldc2_w 311, 3) := dk_20 1 55 (dk_at dksX0_down_1 6 rfl rfl)
theorem dX0_down_32 : decode cX0_down 32 = .ok (.lreturn, 1) := dk_173 (dk_at dksX0_down_1 9 rfl rfl)
abbrev cX0_nearest : ByteArray := prog_1_method_46_code
def yX0_nearest : MethodName := ⟨RX0, "nearest", "(II)I"⟩
def dkwX0_nearest_1 : List UInt8 := [182, 0, 218, 27, 182, 1, 126, 62, 28, 154, 0, 7, 29, 167, 0, 9, 29, 27, 130, 184, 1, 129, 172]
abbrev dktX0_nearest_1 : List UInt8 := dkwX0_nearest_1 ++ []
def dkwX0_nearest_0 : List UInt8 := [42, 180, 0, 41, 27, 182, 1, 78, 153, 0, 12, 28, 3, 4, 184, 0, 164, 154, 0, 6, 18, 233, 172, 42]
abbrev dktX0_nearest_0 : List UInt8 := dkwX0_nearest_0 ++ dktX0_nearest_1
theorem dksX0_nearest_0 : cX0_nearest.data.toList.drop 0 = dktX0_nearest_0 := by decide +kernel
theorem dksX0_nearest_1 : cX0_nearest.data.toList.drop 24 = dktX0_nearest_1 := dk_seg dksX0_nearest_0 24 rfl rfl
theorem dX0_nearest_0 : decode cX0_nearest 0 = .ok (.aload_n 0, 1) := dk_42 (dk_at dksX0_nearest_0 0 rfl rfl)
theorem dX0_nearest_1 : decode cX0_nearest 1 = .ok (.getfield 41, 3) := dk_180 0 41 (dk_at dksX0_nearest_0 1 rfl rfl)
theorem dX0_nearest_4 : decode cX0_nearest 4 = .ok (.iload_n 1, 1) := dk_27 (dk_at dksX0_nearest_0 4 rfl rfl)
theorem dX0_nearest_5 : decode cX0_nearest 5 = .ok (.invokevirtual 334, 3) := dk_182 1 78 (dk_at dksX0_nearest_0 5 rfl rfl)
theorem dX0_nearest_8 : decode cX0_nearest 8 = .ok (.ifCond .eq 12, 3) := dk_153 0 12 (dk_at dksX0_nearest_0 8 rfl rfl)
theorem dX0_nearest_11 : decode cX0_nearest 11 = .ok (.iload_n 2, 1) := dk_28 (dk_at dksX0_nearest_0 11 rfl rfl)
theorem dX0_nearest_12 : decode cX0_nearest 12 = .ok (.iconst 0, 1) := dk_3 (dk_at dksX0_nearest_0 12 rfl rfl)
theorem dX0_nearest_13 : decode cX0_nearest 13 = .ok (.iconst 1, 1) := dk_4 (dk_at dksX0_nearest_0 13 rfl rfl)
theorem dX0_nearest_14 : decode cX0_nearest 14 = .ok (.invokestatic 164, 3) := dk_184 0 164 (dk_at dksX0_nearest_0 14 rfl rfl)
theorem dX0_nearest_17 : decode cX0_nearest 17 = .ok (.ifCond .ne 6, 3) := dk_154 0 6 (dk_at dksX0_nearest_0 17 rfl rfl)
theorem dX0_nearest_20 : decode cX0_nearest 20 = .ok (.ldc 233, 2) := dk_18 233 (dk_at dksX0_nearest_0 20 rfl rfl)
theorem dX0_nearest_22 : decode cX0_nearest 22 = .ok (.ireturn, 1) := dk_172 (dk_at dksX0_nearest_0 22 rfl rfl)
theorem dX0_nearest_23 : decode cX0_nearest 23 = .ok (.aload_n 0, 1) := dk_42 (dk_at dksX0_nearest_0 23 rfl rfl)
theorem dX0_nearest_24 : decode cX0_nearest 24 = .ok (.invokevirtual 218, 3) := dk_182 0 218 (dk_at dksX0_nearest_1 0 rfl rfl)
theorem dX0_nearest_27 : decode cX0_nearest 27 = .ok (.iload_n 1, 1) := dk_27 (dk_at dksX0_nearest_1 3 rfl rfl)
theorem dX0_nearest_28 : decode cX0_nearest 28 = .ok (.invokevirtual 382, 3) := dk_182 1 126 (dk_at dksX0_nearest_1 4 rfl rfl)
theorem dX0_nearest_31 : decode cX0_nearest 31 = .ok (.istore_n 3, 1) := dk_62 (dk_at dksX0_nearest_1 7 rfl rfl)
theorem dX0_nearest_32 : decode cX0_nearest 32 = .ok (.iload_n 2, 1) := dk_28 (dk_at dksX0_nearest_1 8 rfl rfl)
theorem dX0_nearest_33 : decode cX0_nearest 33 = .ok (.ifCond .ne 7, 3) := dk_154 0 7 (dk_at dksX0_nearest_1 9 rfl rfl)
theorem dX0_nearest_36 : decode cX0_nearest 36 = .ok (.iload_n 3, 1) := dk_29 (dk_at dksX0_nearest_1 12 rfl rfl)
theorem dX0_nearest_37 : decode cX0_nearest 37 = .ok (.goto 9, 3) := dk_167 0 9 (dk_at dksX0_nearest_1 13 rfl rfl)
theorem dX0_nearest_40 : decode cX0_nearest 40 = .ok (.iload_n 3, 1) := dk_29 (dk_at dksX0_nearest_1 16 rfl rfl)
theorem dX0_nearest_41 : decode cX0_nearest 41 = .ok (.iload_n 1, 1) := dk_27 (dk_at dksX0_nearest_1 17 rfl rfl)
theorem dX0_nearest_42 : decode cX0_nearest 42 = .ok (.ixor, 1) := dk_130 (dk_at dksX0_nearest_1 18 rfl rfl)
theorem dX0_nearest_43 : decode cX0_nearest 43 = .ok (.invokestatic 385, 3) := dk_184 1 129 (dk_at dksX0_nearest_1 19 rfl rfl)
theorem dX0_nearest_46 : decode cX0_nearest 46 = .ok (.ireturn, 1) := dk_172 (dk_at dksX0_nearest_1 22 rfl rfl)
abbrev cX0_cluster : ByteArray := prog_1_method_47_code
def yX0_cluster : MethodName := ⟨RX0, "cluster", "(I)I"⟩
def dkwX0_cluster_0 : List UInt8 := [42, 180, 0, 41, 27, 182, 0, 156, 153, 0, 14, 42, 180, 0, 41, 27, 182, 1, 130, 167, 0, 4, 2, 172]
abbrev dktX0_cluster_0 : List UInt8 := dkwX0_cluster_0 ++ []
theorem dksX0_cluster_0 : cX0_cluster.data.toList.drop 0 = dktX0_cluster_0 := by decide +kernel
theorem dX0_cluster_0 : decode cX0_cluster 0 = .ok (.aload_n 0, 1) := dk_42 (dk_at dksX0_cluster_0 0 rfl rfl)
theorem dX0_cluster_1 : decode cX0_cluster 1 = .ok (.getfield 41, 3) := dk_180 0 41 (dk_at dksX0_cluster_0 1 rfl rfl)
theorem dX0_cluster_4 : decode cX0_cluster 4 = .ok (.iload_n 1, 1) := dk_27 (dk_at dksX0_cluster_0 4 rfl rfl)
theorem dX0_cluster_5 : decode cX0_cluster 5 = .ok (.invokevirtual 156, 3) := dk_182 0 156 (dk_at dksX0_cluster_0 5 rfl rfl)
theorem dX0_cluster_8 : decode cX0_cluster 8 = .ok (.ifCond .eq 14, 3) := dk_153 0 14 (dk_at dksX0_cluster_0 8 rfl rfl)
theorem dX0_cluster_11 : decode cX0_cluster 11 = .ok (.aload_n 0, 1) := dk_42 (dk_at dksX0_cluster_0 11 rfl rfl)
theorem dX0_cluster_12 : decode cX0_cluster 12 = .ok (.getfield 41, 3) := dk_180 0 41 (dk_at dksX0_cluster_0 12 rfl rfl)
theorem dX0_cluster_15 : decode cX0_cluster 15 = .ok (.iload_n 1, 1) := dk_27 (dk_at dksX0_cluster_0 15 rfl rfl)
theorem dX0_cluster_16 : decode cX0_cluster 16 = .ok (.invokevirtual 386, 3) := dk_182 1 130 (dk_at dksX0_cluster_0 16 rfl rfl)
theorem dX0_cluster_19 : decode cX0_cluster 19 = .ok (.goto 4, 3) := dk_167 0 4 (dk_at dksX0_cluster_0 19 rfl rfl)
theorem dX0_cluster_22 : decode cX0_cluster 22 = .ok (.iconst (-1), 1) := dk_2 (dk_at dksX0_cluster_0 22 rfl rfl)
theorem dX0_cluster_23 : decode cX0_cluster 23 = .ok (.ireturn, 1) := dk_172 (dk_at dksX0_cluster_0 23 rfl rfl)
abbrev cX0_wander : ByteArray := prog_1_method_49_code
def yX0_wander : MethodName := ⟨RX0, "wander", "(III)I"⟩
def dkwX0_wander_9 : List UInt8 := [172]
abbrev dktX0_wander_9 : List UInt8 := dkwX0_wander_9 ++ []
def dkwX0_wander_8 : List UInt8 := [167, 255, 149, 29, 154, 0, 8, 21, 4, 167, 0, 15, 29, 4, 160, 0, 8, 21, 5, 167, 0, 5, 21, 6]
abbrev dktX0_wander_8 : List UInt8 := dkwX0_wander_8 ++ dktX0_wander_9
def dkwX0_wander_7 : List UInt8 := [54, 4, 21, 5, 42, 180, 0, 50, 21, 4, 182, 1, 81, 184, 1, 144, 54, 5, 132, 6, 1, 132, 7, 1]
abbrev dktX0_wander_7 : List UInt8 := dkwX0_wander_7 ++ dktX0_wander_8
def dkwX0_wander_6 : List UInt8 := [180, 0, 50, 21, 4, 182, 1, 81, 100, 104, 100, 161, 0, 6, 167, 0, 31, 21, 4, 4, 21, 8, 120, 130]
abbrev dktX0_wander_6 : List UInt8 := dkwX0_wander_6 ++ dktX0_wander_7
def dkwX0_wander_5 : List UInt8 := [154, 0, 68, 21, 9, 16, 100, 28, 42, 180, 0, 50, 21, 4, 4, 21, 8, 120, 130, 182, 1, 81, 42]
abbrev dktX0_wander_5 : List UInt8 := dkwX0_wander_5 ++ dktX0_wander_6
def dkwX0_wander_4 : List UInt8 := [182, 0, 206, 54, 8, 42, 16, 100, 182, 0, 206, 54, 9, 42, 180, 0, 41, 21, 8, 182, 0, 209]
abbrev dktX0_wander_4 : List UInt8 := dkwX0_wander_4 ++ dktX0_wander_5
def dkwX0_wander_3 : List UInt8 := [180, 1, 141, 133, 181, 0, 202, 3, 54, 7, 21, 7, 27, 162, 0, 107, 42, 42, 180, 0, 41, 182, 0, 199]
abbrev dktX0_wander_3 : List UInt8 := dkwX0_wander_3 ++ dktX0_wander_4
def dkwX0_wander_2 : List UInt8 := [180, 0, 196, 54, 4, 42, 182, 0, 218, 21, 4, 182, 1, 81, 54, 5, 3, 54, 6, 42, 42, 180, 0, 41]
abbrev dktX0_wander_2 : List UInt8 := dkwX0_wander_2 ++ dktX0_wander_3
def dkwX0_wander_1 : List UInt8 := [16, 100, 184, 0, 164, 153, 0, 12, 29, 3, 5, 184, 0, 164, 154, 0, 6, 18, 233, 172, 42, 180, 0, 41]
abbrev dktX0_wander_1 : List UInt8 := dkwX0_wander_1 ++ dktX0_wander_2
def dkwX0_wander_0 : List UInt8 := [42, 180, 0, 41, 182, 0, 199, 153, 0, 33, 27, 3, 17, 0, 200, 184, 0, 164, 153, 0, 22, 28, 3]
abbrev dktX0_wander_0 : List UInt8 := dkwX0_wander_0 ++ dktX0_wander_1
theorem dksX0_wander_0 : cX0_wander.data.toList.drop 0 = dktX0_wander_0 := by decide +kernel
theorem dksX0_wander_1 : cX0_wander.data.toList.drop 23 = dktX0_wander_1 := dk_seg dksX0_wander_0 23 rfl rfl
theorem dksX0_wander_2 : cX0_wander.data.toList.drop 47 = dktX0_wander_2 := dk_seg dksX0_wander_1 24 rfl rfl
theorem dksX0_wander_3 : cX0_wander.data.toList.drop 71 = dktX0_wander_3 := dk_seg dksX0_wander_2 24 rfl rfl
theorem dksX0_wander_4 : cX0_wander.data.toList.drop 95 = dktX0_wander_4 := dk_seg dksX0_wander_3 24 rfl rfl
theorem dksX0_wander_5 : cX0_wander.data.toList.drop 117 = dktX0_wander_5 := dk_seg dksX0_wander_4 22 rfl rfl
theorem dksX0_wander_6 : cX0_wander.data.toList.drop 140 = dktX0_wander_6 := dk_seg dksX0_wander_5 23 rfl rfl
theorem dksX0_wander_7 : cX0_wander.data.toList.drop 164 = dktX0_wander_7 := dk_seg dksX0_wander_6 24 rfl rfl
theorem dksX0_wander_8 : cX0_wander.data.toList.drop 188 = dktX0_wander_8 := dk_seg dksX0_wander_7 24 rfl rfl
theorem dksX0_wander_9 : cX0_wander.data.toList.drop 212 = dktX0_wander_9 := dk_seg dksX0_wander_8 24 rfl rfl
theorem dX0_wander_0 : decode cX0_wander 0 = .ok (.aload_n 0, 1) := dk_42 (dk_at dksX0_wander_0 0 rfl rfl)
theorem dX0_wander_1 : decode cX0_wander 1 = .ok (.getfield 41, 3) := dk_180 0 41 (dk_at dksX0_wander_0 1 rfl rfl)
theorem dX0_wander_4 : decode cX0_wander 4 = .ok (.invokevirtual 199, 3) := dk_182 0 199 (dk_at dksX0_wander_0 4 rfl rfl)
theorem dX0_wander_7 : decode cX0_wander 7 = .ok (.ifCond .eq 33, 3) := dk_153 0 33 (dk_at dksX0_wander_0 7 rfl rfl)
theorem dX0_wander_10 : decode cX0_wander 10 = .ok (.iload_n 1, 1) := dk_27 (dk_at dksX0_wander_0 10 rfl rfl)
theorem dX0_wander_11 : decode cX0_wander 11 = .ok (.iconst 0, 1) := dk_3 (dk_at dksX0_wander_0 11 rfl rfl)
theorem dX0_wander_12 : decode cX0_wander 12 = .ok (.sipush 200, 3) := dk_17 0 200 (dk_at dksX0_wander_0 12 rfl rfl)
theorem dX0_wander_15 : decode cX0_wander 15 = .ok (.invokestatic 164, 3) := dk_184 0 164 (dk_at dksX0_wander_0 15 rfl rfl)
theorem dX0_wander_18 : decode cX0_wander 18 = .ok (.ifCond .eq 22, 3) := dk_153 0 22 (dk_at dksX0_wander_0 18 rfl rfl)
theorem dX0_wander_21 : decode cX0_wander 21 = .ok (.iload_n 2, 1) := dk_28 (dk_at dksX0_wander_0 21 rfl rfl)
theorem dX0_wander_22 : decode cX0_wander 22 = .ok (.iconst 0, 1) := dk_3 (dk_at dksX0_wander_0 22 rfl rfl)
theorem dX0_wander_23 : decode cX0_wander 23 = .ok (.bipush 100, 2) := dk_16 100 (dk_at dksX0_wander_1 0 rfl rfl)
theorem dX0_wander_25 : decode cX0_wander 25 = .ok (.invokestatic 164, 3) := dk_184 0 164 (dk_at dksX0_wander_1 2 rfl rfl)
theorem dX0_wander_28 : decode cX0_wander 28 = .ok (.ifCond .eq 12, 3) := dk_153 0 12 (dk_at dksX0_wander_1 5 rfl rfl)
theorem dX0_wander_31 : decode cX0_wander 31 = .ok (.iload_n 3, 1) := dk_29 (dk_at dksX0_wander_1 8 rfl rfl)
theorem dX0_wander_32 : decode cX0_wander 32 = .ok (.iconst 0, 1) := dk_3 (dk_at dksX0_wander_1 9 rfl rfl)
theorem dX0_wander_33 : decode cX0_wander 33 = .ok (.iconst 2, 1) := dk_5 (dk_at dksX0_wander_1 10 rfl rfl)
theorem dX0_wander_34 : decode cX0_wander 34 = .ok (.invokestatic 164, 3) := dk_184 0 164 (dk_at dksX0_wander_1 11 rfl rfl)
theorem dX0_wander_37 : decode cX0_wander 37 = .ok (.ifCond .ne 6, 3) := dk_154 0 6 (dk_at dksX0_wander_1 14 rfl rfl)
theorem dX0_wander_40 : decode cX0_wander 40 = .ok (.ldc 233, 2) := dk_18 233 (dk_at dksX0_wander_1 17 rfl rfl)
theorem dX0_wander_42 : decode cX0_wander 42 = .ok (.ireturn, 1) := dk_172 (dk_at dksX0_wander_1 19 rfl rfl)
theorem dX0_wander_43 : decode cX0_wander 43 = .ok (.aload_n 0, 1) := dk_42 (dk_at dksX0_wander_1 20 rfl rfl)
theorem dX0_wander_44 : decode cX0_wander 44 = .ok (.getfield 41, 3) := dk_180 0 41 (dk_at dksX0_wander_1 21 rfl rfl)
theorem dX0_wander_47 : decode cX0_wander 47 = .ok (.getfield 196, 3) := dk_180 0 196 (dk_at dksX0_wander_2 0 rfl rfl)
theorem dX0_wander_50 : decode cX0_wander 50 = .ok (.istore 4, 2) := dk_54 4 (dk_at dksX0_wander_2 3 rfl rfl)
theorem dX0_wander_52 : decode cX0_wander 52 = .ok (.aload_n 0, 1) := dk_42 (dk_at dksX0_wander_2 5 rfl rfl)
theorem dX0_wander_53 : decode cX0_wander 53 = .ok (.invokevirtual 218, 3) := dk_182 0 218 (dk_at dksX0_wander_2 6 rfl rfl)
theorem dX0_wander_56 : decode cX0_wander 56 = .ok (.iload 4, 2) := dk_21 4 (dk_at dksX0_wander_2 9 rfl rfl)
theorem dX0_wander_58 : decode cX0_wander 58 = .ok (.invokevirtual 337, 3) := dk_182 1 81 (dk_at dksX0_wander_2 11 rfl rfl)
theorem dX0_wander_61 : decode cX0_wander 61 = .ok (.istore 5, 2) := dk_54 5 (dk_at dksX0_wander_2 14 rfl rfl)
theorem dX0_wander_63 : decode cX0_wander 63 = .ok (.iconst 0, 1) := dk_3 (dk_at dksX0_wander_2 16 rfl rfl)
theorem dX0_wander_64 : decode cX0_wander 64 = .ok (.istore 6, 2) := dk_54 6 (dk_at dksX0_wander_2 17 rfl rfl)
theorem dX0_wander_66 : decode cX0_wander 66 = .ok (.aload_n 0, 1) := dk_42 (dk_at dksX0_wander_2 19 rfl rfl)
theorem dX0_wander_67 : decode cX0_wander 67 = .ok (.aload_n 0, 1) := dk_42 (dk_at dksX0_wander_2 20 rfl rfl)
theorem dX0_wander_68 : decode cX0_wander 68 = .ok (.getfield 41, 3) := dk_180 0 41 (dk_at dksX0_wander_2 21 rfl rfl)
theorem dX0_wander_71 : decode cX0_wander 71 = .ok (.getfield 397, 3) := dk_180 1 141 (dk_at dksX0_wander_3 0 rfl rfl)
theorem dX0_wander_74 : decode cX0_wander 74 = .ok (.i2l, 1) := dk_133 (dk_at dksX0_wander_3 3 rfl rfl)
theorem dX0_wander_75 : decode cX0_wander 75 = .ok (.putfield 202, 3) := dk_181 0 202 (dk_at dksX0_wander_3 4 rfl rfl)
theorem dX0_wander_78 : decode cX0_wander 78 = .ok (.iconst 0, 1) := dk_3 (dk_at dksX0_wander_3 7 rfl rfl)
theorem dX0_wander_79 : decode cX0_wander 79 = .ok (.istore 7, 2) := dk_54 7 (dk_at dksX0_wander_3 8 rfl rfl)
theorem dX0_wander_81 : decode cX0_wander 81 = .ok (.iload 7, 2) := dk_21 7 (dk_at dksX0_wander_3 10 rfl rfl)
theorem dX0_wander_83 : decode cX0_wander 83 = .ok (.iload_n 1, 1) := dk_27 (dk_at dksX0_wander_3 12 rfl rfl)
theorem dX0_wander_84 : decode cX0_wander 84 = .ok (.if_icmp .ge 107, 3) := dk_162 0 107 (dk_at dksX0_wander_3 13 rfl rfl)
theorem dX0_wander_87 : decode cX0_wander 87 = .ok (.aload_n 0, 1) := dk_42 (dk_at dksX0_wander_3 16 rfl rfl)
theorem dX0_wander_88 : decode cX0_wander 88 = .ok (.aload_n 0, 1) := dk_42 (dk_at dksX0_wander_3 17 rfl rfl)
theorem dX0_wander_89 : decode cX0_wander 89 = .ok (.getfield 41, 3) := dk_180 0 41 (dk_at dksX0_wander_3 18 rfl rfl)
theorem dX0_wander_92 : decode cX0_wander 92 = .ok (.invokevirtual 199, 3) := dk_182 0 199 (dk_at dksX0_wander_3 21 rfl rfl)
theorem dX0_wander_95 : decode cX0_wander 95 = .ok (.invokevirtual 206, 3) := dk_182 0 206 (dk_at dksX0_wander_4 0 rfl rfl)
theorem dX0_wander_98 : decode cX0_wander 98 = .ok (.istore 8, 2) := dk_54 8 (dk_at dksX0_wander_4 3 rfl rfl)
theorem dX0_wander_100 : decode cX0_wander 100 = .ok (.aload_n 0, 1) := dk_42 (dk_at dksX0_wander_4 5 rfl rfl)
theorem dX0_wander_101 : decode cX0_wander 101 = .ok (.bipush 100, 2) := dk_16 100 (dk_at dksX0_wander_4 6 rfl rfl)
theorem dX0_wander_103 : decode cX0_wander 103 = .ok (.invokevirtual 206, 3) := dk_182 0 206 (dk_at dksX0_wander_4 8 rfl rfl)
theorem dX0_wander_106 : decode cX0_wander 106 = .ok (.istore 9, 2) := dk_54 9 (dk_at dksX0_wander_4 11 rfl rfl)
theorem dX0_wander_108 : decode cX0_wander 108 = .ok (.aload_n 0, 1) := dk_42 (dk_at dksX0_wander_4 13 rfl rfl)
theorem dX0_wander_109 : decode cX0_wander 109 = .ok (.getfield 41, 3) := dk_180 0 41 (dk_at dksX0_wander_4 14 rfl rfl)
theorem dX0_wander_112 : decode cX0_wander 112 = .ok (.iload 8, 2) := dk_21 8 (dk_at dksX0_wander_4 17 rfl rfl)
theorem dX0_wander_114 : decode cX0_wander 114 = .ok (.invokevirtual 209, 3) := dk_182 0 209 (dk_at dksX0_wander_4 19 rfl rfl)
theorem dX0_wander_117 : decode cX0_wander 117 = .ok (.ifCond .ne 68, 3) := dk_154 0 68 (dk_at dksX0_wander_5 0 rfl rfl)
theorem dX0_wander_120 : decode cX0_wander 120 = .ok (.iload 9, 2) := dk_21 9 (dk_at dksX0_wander_5 3 rfl rfl)
theorem dX0_wander_122 : decode cX0_wander 122 = .ok (.bipush 100, 2) := dk_16 100 (dk_at dksX0_wander_5 5 rfl rfl)
theorem dX0_wander_124 : decode cX0_wander 124 = .ok (.iload_n 2, 1) := dk_28 (dk_at dksX0_wander_5 7 rfl rfl)
theorem dX0_wander_125 : decode cX0_wander 125 = .ok (.aload_n 0, 1) := dk_42 (dk_at dksX0_wander_5 8 rfl rfl)
theorem dX0_wander_126 : decode cX0_wander 126 = .ok (.getfield 50, 3) := dk_180 0 50 (dk_at dksX0_wander_5 9 rfl rfl)
theorem dX0_wander_129 : decode cX0_wander 129 = .ok (.iload 4, 2) := dk_21 4 (dk_at dksX0_wander_5 12 rfl rfl)
theorem dX0_wander_131 : decode cX0_wander 131 = .ok (.iconst 1, 1) := dk_4 (dk_at dksX0_wander_5 14 rfl rfl)
theorem dX0_wander_132 : decode cX0_wander 132 = .ok (.iload 8, 2) := dk_21 8 (dk_at dksX0_wander_5 15 rfl rfl)
theorem dX0_wander_134 : decode cX0_wander 134 = .ok (.ishl, 1) := dk_120 (dk_at dksX0_wander_5 17 rfl rfl)
theorem dX0_wander_135 : decode cX0_wander 135 = .ok (.ixor, 1) := dk_130 (dk_at dksX0_wander_5 18 rfl rfl)
theorem dX0_wander_136 : decode cX0_wander 136 = .ok (.invokevirtual 337, 3) := dk_182 1 81 (dk_at dksX0_wander_5 19 rfl rfl)
theorem dX0_wander_139 : decode cX0_wander 139 = .ok (.aload_n 0, 1) := dk_42 (dk_at dksX0_wander_5 22 rfl rfl)
theorem dX0_wander_140 : decode cX0_wander 140 = .ok (.getfield 50, 3) := dk_180 0 50 (dk_at dksX0_wander_6 0 rfl rfl)
theorem dX0_wander_143 : decode cX0_wander 143 = .ok (.iload 4, 2) := dk_21 4 (dk_at dksX0_wander_6 3 rfl rfl)
theorem dX0_wander_145 : decode cX0_wander 145 = .ok (.invokevirtual 337, 3) := dk_182 1 81 (dk_at dksX0_wander_6 5 rfl rfl)
theorem dX0_wander_148 : decode cX0_wander 148 = .ok (.isub, 1) := dk_100 (dk_at dksX0_wander_6 8 rfl rfl)
theorem dX0_wander_149 : decode cX0_wander 149 = .ok (.imul, 1) := dk_104 (dk_at dksX0_wander_6 9 rfl rfl)
theorem dX0_wander_150 : decode cX0_wander 150 = .ok (.isub, 1) := dk_100 (dk_at dksX0_wander_6 10 rfl rfl)
theorem dX0_wander_151 : decode cX0_wander 151 = .ok (.if_icmp .lt 6, 3) := dk_161 0 6 (dk_at dksX0_wander_6 11 rfl rfl)
theorem dX0_wander_154 : decode cX0_wander 154 = .ok (.goto 31, 3) := dk_167 0 31 (dk_at dksX0_wander_6 14 rfl rfl)
theorem dX0_wander_157 : decode cX0_wander 157 = .ok (.iload 4, 2) := dk_21 4 (dk_at dksX0_wander_6 17 rfl rfl)
theorem dX0_wander_159 : decode cX0_wander 159 = .ok (.iconst 1, 1) := dk_4 (dk_at dksX0_wander_6 19 rfl rfl)
theorem dX0_wander_160 : decode cX0_wander 160 = .ok (.iload 8, 2) := dk_21 8 (dk_at dksX0_wander_6 20 rfl rfl)
theorem dX0_wander_162 : decode cX0_wander 162 = .ok (.ishl, 1) := dk_120 (dk_at dksX0_wander_6 22 rfl rfl)
theorem dX0_wander_163 : decode cX0_wander 163 = .ok (.ixor, 1) := dk_130 (dk_at dksX0_wander_6 23 rfl rfl)
theorem dX0_wander_164 : decode cX0_wander 164 = .ok (.istore 4, 2) := dk_54 4 (dk_at dksX0_wander_7 0 rfl rfl)
theorem dX0_wander_166 : decode cX0_wander 166 = .ok (.iload 5, 2) := dk_21 5 (dk_at dksX0_wander_7 2 rfl rfl)
theorem dX0_wander_168 : decode cX0_wander 168 = .ok (.aload_n 0, 1) := dk_42 (dk_at dksX0_wander_7 4 rfl rfl)
theorem dX0_wander_169 : decode cX0_wander 169 = .ok (.getfield 50, 3) := dk_180 0 50 (dk_at dksX0_wander_7 5 rfl rfl)
theorem dX0_wander_172 : decode cX0_wander 172 = .ok (.iload 4, 2) := dk_21 4 (dk_at dksX0_wander_7 8 rfl rfl)
theorem dX0_wander_174 : decode cX0_wander 174 = .ok (.invokevirtual 337, 3) := dk_182 1 81 (dk_at dksX0_wander_7 10 rfl rfl)
theorem dX0_wander_177 : decode cX0_wander 177 = .ok (.invokestatic 400, 3) := dk_184 1 144 (dk_at dksX0_wander_7 13 rfl rfl)
theorem dX0_wander_180 : decode cX0_wander 180 = .ok (.istore 5, 2) := dk_54 5 (dk_at dksX0_wander_7 16 rfl rfl)
theorem dX0_wander_182 : decode cX0_wander 182 = .ok (.iinc 6 1, 3) := dk_132 6 1 (dk_at dksX0_wander_7 18 rfl rfl)
theorem dX0_wander_185 : decode cX0_wander 185 = .ok (.iinc 7 1, 3) := dk_132 7 1 (dk_at dksX0_wander_7 21 rfl rfl)
theorem dX0_wander_188 : decode cX0_wander 188 = .ok (.goto (-107), 3) := dk_167 255 149 (dk_at dksX0_wander_8 0 rfl rfl)
theorem dX0_wander_191 : decode cX0_wander 191 = .ok (.iload_n 3, 1) := dk_29 (dk_at dksX0_wander_8 3 rfl rfl)
theorem dX0_wander_192 : decode cX0_wander 192 = .ok (.ifCond .ne 8, 3) := dk_154 0 8 (dk_at dksX0_wander_8 4 rfl rfl)
theorem dX0_wander_195 : decode cX0_wander 195 = .ok (.iload 4, 2) := dk_21 4 (dk_at dksX0_wander_8 7 rfl rfl)
theorem dX0_wander_197 : decode cX0_wander 197 = .ok (.goto 15, 3) := dk_167 0 15 (dk_at dksX0_wander_8 9 rfl rfl)
theorem dX0_wander_200 : decode cX0_wander 200 = .ok (.iload_n 3, 1) := dk_29 (dk_at dksX0_wander_8 12 rfl rfl)
theorem dX0_wander_201 : decode cX0_wander 201 = .ok (.iconst 1, 1) := dk_4 (dk_at dksX0_wander_8 13 rfl rfl)
theorem dX0_wander_202 : decode cX0_wander 202 = .ok (.if_icmp .ne 8, 3) := dk_160 0 8 (dk_at dksX0_wander_8 14 rfl rfl)
theorem dX0_wander_205 : decode cX0_wander 205 = .ok (.iload 5, 2) := dk_21 5 (dk_at dksX0_wander_8 17 rfl rfl)
theorem dX0_wander_207 : decode cX0_wander 207 = .ok (.goto 5, 3) := dk_167 0 5 (dk_at dksX0_wander_8 19 rfl rfl)
theorem dX0_wander_210 : decode cX0_wander 210 = .ok (.iload 6, 2) := dk_21 6 (dk_at dksX0_wander_8 22 rfl rfl)
theorem dX0_wander_212 : decode cX0_wander 212 = .ok (.ireturn, 1) := dk_172 (dk_at dksX0_wander_9 0 rfl rfl)
abbrev cX0_hold : ByteArray := prog_1_method_50_code
def yX0_hold : MethodName := ⟨RX0, "hold", "(I)Z"⟩
def dkwX0_hold_1 : List UInt8 := [42, 89, 180, 0, 134, 4, 27, 120, 128, 181, 0, 134, 4, 172]
abbrev dktX0_hold_1 : List UInt8 := dkwX0_hold_1 ++ []
def dkwX0_hold_0 : List UInt8 := [27, 3, 5, 184, 0, 164, 154, 0, 5, 3, 172, 42, 180, 0, 84, 27, 50, 42, 180, 0, 41, 182, 0, 124]
abbrev dktX0_hold_0 : List UInt8 := dkwX0_hold_0 ++ dktX0_hold_1
theorem dksX0_hold_0 : cX0_hold.data.toList.drop 0 = dktX0_hold_0 := by decide +kernel
theorem dksX0_hold_1 : cX0_hold.data.toList.drop 24 = dktX0_hold_1 := dk_seg dksX0_hold_0 24 rfl rfl
theorem dX0_hold_0 : decode cX0_hold 0 = .ok (.iload_n 1, 1) := dk_27 (dk_at dksX0_hold_0 0 rfl rfl)
theorem dX0_hold_1 : decode cX0_hold 1 = .ok (.iconst 0, 1) := dk_3 (dk_at dksX0_hold_0 1 rfl rfl)
theorem dX0_hold_2 : decode cX0_hold 2 = .ok (.iconst 2, 1) := dk_5 (dk_at dksX0_hold_0 2 rfl rfl)
theorem dX0_hold_3 : decode cX0_hold 3 = .ok (.invokestatic 164, 3) := dk_184 0 164 (dk_at dksX0_hold_0 3 rfl rfl)
theorem dX0_hold_6 : decode cX0_hold 6 = .ok (.ifCond .ne 5, 3) := dk_154 0 5 (dk_at dksX0_hold_0 6 rfl rfl)
theorem dX0_hold_9 : decode cX0_hold 9 = .ok (.iconst 0, 1) := dk_3 (dk_at dksX0_hold_0 9 rfl rfl)
theorem dX0_hold_10 : decode cX0_hold 10 = .ok (.ireturn, 1) := dk_172 (dk_at dksX0_hold_0 10 rfl rfl)
theorem dX0_hold_11 : decode cX0_hold 11 = .ok (.aload_n 0, 1) := dk_42 (dk_at dksX0_hold_0 11 rfl rfl)
theorem dX0_hold_12 : decode cX0_hold 12 = .ok (.getfield 84, 3) := dk_180 0 84 (dk_at dksX0_hold_0 12 rfl rfl)
theorem dX0_hold_15 : decode cX0_hold 15 = .ok (.iload_n 1, 1) := dk_27 (dk_at dksX0_hold_0 15 rfl rfl)
theorem dX0_hold_16 : decode cX0_hold 16 = .ok (.aaload, 1) := dk_50 (dk_at dksX0_hold_0 16 rfl rfl)
theorem dX0_hold_17 : decode cX0_hold 17 = .ok (.aload_n 0, 1) := dk_42 (dk_at dksX0_hold_0 17 rfl rfl)
theorem dX0_hold_18 : decode cX0_hold 18 = .ok (.getfield 41, 3) := dk_180 0 41 (dk_at dksX0_hold_0 18 rfl rfl)
theorem dX0_hold_21 : decode cX0_hold 21 = .ok (.invokevirtual 124, 3) := dk_182 0 124 (dk_at dksX0_hold_0 21 rfl rfl)
theorem dX0_hold_24 : decode cX0_hold 24 = .ok (.aload_n 0, 1) := dk_42 (dk_at dksX0_hold_1 0 rfl rfl)
theorem dX0_hold_25 : decode cX0_hold 25 = .ok (.dup, 1) := dk_89 (dk_at dksX0_hold_1 1 rfl rfl)
theorem dX0_hold_26 : decode cX0_hold 26 = .ok (.getfield 134, 3) := dk_180 0 134 (dk_at dksX0_hold_1 2 rfl rfl)
theorem dX0_hold_29 : decode cX0_hold 29 = .ok (.iconst 1, 1) := dk_4 (dk_at dksX0_hold_1 5 rfl rfl)
theorem dX0_hold_30 : decode cX0_hold 30 = .ok (.iload_n 1, 1) := dk_27 (dk_at dksX0_hold_1 6 rfl rfl)
theorem dX0_hold_31 : decode cX0_hold 31 = .ok (.ishl, 1) := dk_120 (dk_at dksX0_hold_1 7 rfl rfl)
theorem dX0_hold_32 : decode cX0_hold 32 = .ok (.ior, 1) := dk_128 (dk_at dksX0_hold_1 8 rfl rfl)
theorem dX0_hold_33 : decode cX0_hold 33 = .ok (.putfield 134, 3) := dk_181 0 134 (dk_at dksX0_hold_1 9 rfl rfl)
theorem dX0_hold_36 : decode cX0_hold 36 = .ok (.iconst 1, 1) := dk_4 (dk_at dksX0_hold_1 12 rfl rfl)
theorem dX0_hold_37 : decode cX0_hold 37 = .ok (.ireturn, 1) := dk_172 (dk_at dksX0_hold_1 13 rfl rfl)
abbrev cX0_restore : ByteArray := prog_1_method_51_code
def yX0_restore : MethodName := ⟨RX0, "restore", "(I)Z"⟩
def dkwX0_restore_1 : List UInt8 := [3, 181, 0, 127, 42, 180, 0, 80, 182, 0, 131, 4, 172]
abbrev dktX0_restore_1 : List UInt8 := dkwX0_restore_1 ++ []
def dkwX0_restore_0 : List UInt8 := [42, 27, 182, 1, 52, 154, 0, 5, 3, 172, 42, 180, 0, 41, 42, 180, 0, 84, 27, 50, 182, 0, 124, 42]
abbrev dktX0_restore_0 : List UInt8 := dkwX0_restore_0 ++ dktX0_restore_1
theorem dksX0_restore_0 : cX0_restore.data.toList.drop 0 = dktX0_restore_0 := by decide +kernel
theorem dksX0_restore_1 : cX0_restore.data.toList.drop 24 = dktX0_restore_1 := dk_seg dksX0_restore_0 24 rfl rfl
theorem dX0_restore_0 : decode cX0_restore 0 = .ok (.aload_n 0, 1) := dk_42 (dk_at dksX0_restore_0 0 rfl rfl)
theorem dX0_restore_1 : decode cX0_restore 1 = .ok (.iload_n 1, 1) := dk_27 (dk_at dksX0_restore_0 1 rfl rfl)
theorem dX0_restore_2 : decode cX0_restore 2 = .ok (.invokevirtual 308, 3) := dk_182 1 52 (dk_at dksX0_restore_0 2 rfl rfl)
theorem dX0_restore_5 : decode cX0_restore 5 = .ok (.ifCond .ne 5, 3) := dk_154 0 5 (dk_at dksX0_restore_0 5 rfl rfl)
theorem dX0_restore_8 : decode cX0_restore 8 = .ok (.iconst 0, 1) := dk_3 (dk_at dksX0_restore_0 8 rfl rfl)
theorem dX0_restore_9 : decode cX0_restore 9 = .ok (.ireturn, 1) := dk_172 (dk_at dksX0_restore_0 9 rfl rfl)
theorem dX0_restore_10 : decode cX0_restore 10 = .ok (.aload_n 0, 1) := dk_42 (dk_at dksX0_restore_0 10 rfl rfl)
theorem dX0_restore_11 : decode cX0_restore 11 = .ok (.getfield 41, 3) := dk_180 0 41 (dk_at dksX0_restore_0 11 rfl rfl)
theorem dX0_restore_14 : decode cX0_restore 14 = .ok (.aload_n 0, 1) := dk_42 (dk_at dksX0_restore_0 14 rfl rfl)
theorem dX0_restore_15 : decode cX0_restore 15 = .ok (.getfield 84, 3) := dk_180 0 84 (dk_at dksX0_restore_0 15 rfl rfl)
theorem dX0_restore_18 : decode cX0_restore 18 = .ok (.iload_n 1, 1) := dk_27 (dk_at dksX0_restore_0 18 rfl rfl)
theorem dX0_restore_19 : decode cX0_restore 19 = .ok (.aaload, 1) := dk_50 (dk_at dksX0_restore_0 19 rfl rfl)
theorem dX0_restore_20 : decode cX0_restore 20 = .ok (.invokevirtual 124, 3) := dk_182 0 124 (dk_at dksX0_restore_0 20 rfl rfl)
theorem dX0_restore_23 : decode cX0_restore 23 = .ok (.aload_n 0, 1) := dk_42 (dk_at dksX0_restore_0 23 rfl rfl)
theorem dX0_restore_24 : decode cX0_restore 24 = .ok (.iconst 0, 1) := dk_3 (dk_at dksX0_restore_1 0 rfl rfl)
theorem dX0_restore_25 : decode cX0_restore 25 = .ok (.putfield 127, 3) := dk_181 0 127 (dk_at dksX0_restore_1 1 rfl rfl)
theorem dX0_restore_28 : decode cX0_restore 28 = .ok (.aload_n 0, 1) := dk_42 (dk_at dksX0_restore_1 4 rfl rfl)
theorem dX0_restore_29 : decode cX0_restore 29 = .ok (.getfield 80, 3) := dk_180 0 80 (dk_at dksX0_restore_1 5 rfl rfl)
theorem dX0_restore_32 : decode cX0_restore 32 = .ok (.invokevirtual 131, 3) := dk_182 0 131 (dk_at dksX0_restore_1 8 rfl rfl)
theorem dX0_restore_35 : decode cX0_restore 35 = .ok (.iconst 1, 1) := dk_4 (dk_at dksX0_restore_1 11 rfl rfl)
theorem dX0_restore_36 : decode cX0_restore 36 = .ok (.ireturn, 1) := dk_172 (dk_at dksX0_restore_1 12 rfl rfl)
abbrev cX0_count : ByteArray := prog_1_method_55_code
def yX0_count : MethodName := ⟨RX0, "count", "(I)I"⟩
def dkwX0_count_8 : List UInt8 := [172, 2, 172]
abbrev dktX0_count_8 : List UInt8 := dkwX0_count_8 ++ []
def dkwX0_count_7 : List UInt8 := [182, 1, 64, 184, 1, 129, 172, 42, 180, 0, 41, 180, 1, 170, 172, 42, 182, 1, 173, 172, 42, 182, 1, 176]
abbrev dktX0_count_7 : List UInt8 := dkwX0_count_7 ++ dktX0_count_8
def dkwX0_count_6 : List UInt8 := [42, 180, 0, 41, 182, 0, 199, 154, 0, 7, 3, 167, 0, 19, 42, 182, 1, 162, 182, 1, 167, 192, 0, 4]
abbrev dktX0_count_6 : List UInt8 := dkwX0_count_6 ++ dktX0_count_7
def dkwX0_count_5 : List UInt8 := [42, 180, 0, 134, 184, 1, 129, 172, 42, 180, 0, 41, 180, 1, 141, 172, 42, 182, 1, 162, 182, 1, 166, 172]
abbrev dktX0_count_5 : List UInt8 := dkwX0_count_5 ++ dktX0_count_6
def dkwX0_count_4 : List UInt8 := [42, 180, 0, 41, 182, 1, 159, 172, 42, 180, 0, 25, 180, 0, 109, 172, 42, 180, 0, 80, 182, 0, 144, 172]
abbrev dktX0_count_4 : List UInt8 := dkwX0_count_4 ++ dktX0_count_5
def dkwX0_count_3 : List UInt8 := [42, 182, 0, 218, 180, 1, 3, 172, 42, 180, 0, 41, 180, 0, 183, 42, 180, 0, 41, 180, 0, 190, 128, 172]
abbrev dktX0_count_3 : List UInt8 := dkwX0_count_3 ++ dktX0_count_4
def dkwX0_count_2 : List UInt8 := [42, 180, 0, 41, 180, 0, 234, 172, 42, 180, 0, 41, 180, 1, 98, 172, 42, 180, 0, 41, 180, 0, 196, 172]
abbrev dktX0_count_2 : List UInt8 := dkwX0_count_2 ++ dktX0_count_3
def dkwX0_count_1 : List UInt8 := [170, 0, 0, 0, 0, 0, 220, 0, 0, 0, 0, 0, 0, 0, 14, 0, 0, 0, 75, 0, 0, 0, 83, 0, 0, 0, 91, 0, 0, 0, 99, 0, 0, 0, 107, 0, 0, 0, 123, 0, 0, 0, 131, 0, 0, 0, 139, 0, 0, 0, 147, 0, 0, 0, 155, 0, 0, 0, 163, 0, 0, 0, 171, 0, 0, 0, 202, 0, 0, 0, 210, 0, 0, 0, 215]
abbrev dktX0_count_1 : List UInt8 := dkwX0_count_1 ++ dktX0_count_2
def dkwX0_count_0 : List UInt8 := [27]
abbrev dktX0_count_0 : List UInt8 := dkwX0_count_0 ++ dktX0_count_1
theorem dksX0_count_0 : cX0_count.data.toList.drop 0 = dktX0_count_0 := by decide +kernel
theorem dksX0_count_1 : cX0_count.data.toList.drop 1 = dktX0_count_1 := dk_seg dksX0_count_0 1 rfl rfl
theorem dksX0_count_2 : cX0_count.data.toList.drop 76 = dktX0_count_2 := dk_seg dksX0_count_1 75 rfl rfl
theorem dksX0_count_3 : cX0_count.data.toList.drop 100 = dktX0_count_3 := dk_seg dksX0_count_2 24 rfl rfl
theorem dksX0_count_4 : cX0_count.data.toList.drop 124 = dktX0_count_4 := dk_seg dksX0_count_3 24 rfl rfl
theorem dksX0_count_5 : cX0_count.data.toList.drop 148 = dktX0_count_5 := dk_seg dksX0_count_4 24 rfl rfl
theorem dksX0_count_6 : cX0_count.data.toList.drop 172 = dktX0_count_6 := dk_seg dksX0_count_5 24 rfl rfl
theorem dksX0_count_7 : cX0_count.data.toList.drop 196 = dktX0_count_7 := dk_seg dksX0_count_6 24 rfl rfl
theorem dksX0_count_8 : cX0_count.data.toList.drop 220 = dktX0_count_8 := dk_seg dksX0_count_7 24 rfl rfl
theorem dX0_count_0 : decode cX0_count 0 = .ok (.iload_n 1, 1) := dk_27 (dk_at dksX0_count_0 0 rfl rfl)
theorem dX0_count_1 : decode cX0_count 1 = .ok (.tableswitch 220 0 14 #[75, 83, 91, 99, 107, 123, 131, 139, 147, 155, 163, 171, 202, 210, 215], 75) := by decide +kernel
theorem dX0_count_76 : decode cX0_count 76 = .ok (.aload_n 0, 1) := dk_42 (dk_at dksX0_count_2 0 rfl rfl)
theorem dX0_count_77 : decode cX0_count 77 = .ok (.getfield 41, 3) := dk_180 0 41 (dk_at dksX0_count_2 1 rfl rfl)
theorem dX0_count_80 : decode cX0_count 80 = .ok (.getfield 234, 3) := dk_180 0 234 (dk_at dksX0_count_2 4 rfl rfl)
theorem dX0_count_83 : decode cX0_count 83 = .ok (.ireturn, 1) := dk_172 (dk_at dksX0_count_2 7 rfl rfl)
theorem dX0_count_84 : decode cX0_count 84 = .ok (.aload_n 0, 1) := dk_42 (dk_at dksX0_count_2 8 rfl rfl)
theorem dX0_count_85 : decode cX0_count 85 = .ok (.getfield 41, 3) := dk_180 0 41 (dk_at dksX0_count_2 9 rfl rfl)
theorem dX0_count_88 : decode cX0_count 88 = .ok (.getfield 354, 3) := dk_180 1 98 (dk_at dksX0_count_2 12 rfl rfl)
theorem dX0_count_91 : decode cX0_count 91 = .ok (.ireturn, 1) := dk_172 (dk_at dksX0_count_2 15 rfl rfl)
theorem dX0_count_92 : decode cX0_count 92 = .ok (.aload_n 0, 1) := dk_42 (dk_at dksX0_count_2 16 rfl rfl)
theorem dX0_count_93 : decode cX0_count 93 = .ok (.getfield 41, 3) := dk_180 0 41 (dk_at dksX0_count_2 17 rfl rfl)
theorem dX0_count_96 : decode cX0_count 96 = .ok (.getfield 196, 3) := dk_180 0 196 (dk_at dksX0_count_2 20 rfl rfl)
theorem dX0_count_99 : decode cX0_count 99 = .ok (.ireturn, 1) := dk_172 (dk_at dksX0_count_2 23 rfl rfl)
theorem dX0_count_100 : decode cX0_count 100 = .ok (.aload_n 0, 1) := dk_42 (dk_at dksX0_count_3 0 rfl rfl)
theorem dX0_count_101 : decode cX0_count 101 = .ok (.invokevirtual 218, 3) := dk_182 0 218 (dk_at dksX0_count_3 1 rfl rfl)
theorem dX0_count_104 : decode cX0_count 104 = .ok (.getfield 259, 3) := dk_180 1 3 (dk_at dksX0_count_3 4 rfl rfl)
theorem dX0_count_107 : decode cX0_count 107 = .ok (.ireturn, 1) := dk_172 (dk_at dksX0_count_3 7 rfl rfl)
theorem dX0_count_108 : decode cX0_count 108 = .ok (.aload_n 0, 1) := dk_42 (dk_at dksX0_count_3 8 rfl rfl)
theorem dX0_count_109 : decode cX0_count 109 = .ok (.getfield 41, 3) := dk_180 0 41 (dk_at dksX0_count_3 9 rfl rfl)
theorem dX0_count_112 : decode cX0_count 112 = .ok (.getfield 183, 3) := dk_180 0 183 (dk_at dksX0_count_3 12 rfl rfl)
theorem dX0_count_115 : decode cX0_count 115 = .ok (.aload_n 0, 1) := dk_42 (dk_at dksX0_count_3 15 rfl rfl)
theorem dX0_count_116 : decode cX0_count 116 = .ok (.getfield 41, 3) := dk_180 0 41 (dk_at dksX0_count_3 16 rfl rfl)
theorem dX0_count_119 : decode cX0_count 119 = .ok (.getfield 190, 3) := dk_180 0 190 (dk_at dksX0_count_3 19 rfl rfl)
theorem dX0_count_122 : decode cX0_count 122 = .ok (.ior, 1) := dk_128 (dk_at dksX0_count_3 22 rfl rfl)
theorem dX0_count_123 : decode cX0_count 123 = .ok (.ireturn, 1) := dk_172 (dk_at dksX0_count_3 23 rfl rfl)
theorem dX0_count_124 : decode cX0_count 124 = .ok (.aload_n 0, 1) := dk_42 (dk_at dksX0_count_4 0 rfl rfl)
theorem dX0_count_125 : decode cX0_count 125 = .ok (.getfield 41, 3) := dk_180 0 41 (dk_at dksX0_count_4 1 rfl rfl)
theorem dX0_count_128 : decode cX0_count 128 = .ok (.invokevirtual 415, 3) := dk_182 1 159 (dk_at dksX0_count_4 4 rfl rfl)
theorem dX0_count_131 : decode cX0_count 131 = .ok (.ireturn, 1) := dk_172 (dk_at dksX0_count_4 7 rfl rfl)
theorem dX0_count_132 : decode cX0_count 132 = .ok (.aload_n 0, 1) := dk_42 (dk_at dksX0_count_4 8 rfl rfl)
theorem dX0_count_133 : decode cX0_count 133 = .ok (.getfield 25, 3) := dk_180 0 25 (dk_at dksX0_count_4 9 rfl rfl)
theorem dX0_count_136 : decode cX0_count 136 = .ok (.getfield 109, 3) := dk_180 0 109 (dk_at dksX0_count_4 12 rfl rfl)
theorem dX0_count_139 : decode cX0_count 139 = .ok (.ireturn, 1) := dk_172 (dk_at dksX0_count_4 15 rfl rfl)
theorem dX0_count_140 : decode cX0_count 140 = .ok (.aload_n 0, 1) := dk_42 (dk_at dksX0_count_4 16 rfl rfl)
theorem dX0_count_141 : decode cX0_count 141 = .ok (.getfield 80, 3) := dk_180 0 80 (dk_at dksX0_count_4 17 rfl rfl)
theorem dX0_count_144 : decode cX0_count 144 = .ok (.invokevirtual 144, 3) := dk_182 0 144 (dk_at dksX0_count_4 20 rfl rfl)
theorem dX0_count_147 : decode cX0_count 147 = .ok (.ireturn, 1) := dk_172 (dk_at dksX0_count_4 23 rfl rfl)
theorem dX0_count_148 : decode cX0_count 148 = .ok (.aload_n 0, 1) := dk_42 (dk_at dksX0_count_5 0 rfl rfl)
theorem dX0_count_149 : decode cX0_count 149 = .ok (.getfield 134, 3) := dk_180 0 134 (dk_at dksX0_count_5 1 rfl rfl)
theorem dX0_count_152 : decode cX0_count 152 = .ok (.invokestatic 385, 3) := dk_184 1 129 (dk_at dksX0_count_5 4 rfl rfl)
theorem dX0_count_155 : decode cX0_count 155 = .ok (.ireturn, 1) := dk_172 (dk_at dksX0_count_5 7 rfl rfl)
theorem dX0_count_156 : decode cX0_count 156 = .ok (.aload_n 0, 1) := dk_42 (dk_at dksX0_count_5 8 rfl rfl)
theorem dX0_count_157 : decode cX0_count 157 = .ok (.getfield 41, 3) := dk_180 0 41 (dk_at dksX0_count_5 9 rfl rfl)
theorem dX0_count_160 : decode cX0_count 160 = .ok (.getfield 397, 3) := dk_180 1 141 (dk_at dksX0_count_5 12 rfl rfl)
theorem dX0_count_163 : decode cX0_count 163 = .ok (.ireturn, 1) := dk_172 (dk_at dksX0_count_5 15 rfl rfl)
theorem dX0_count_164 : decode cX0_count 164 = .ok (.aload_n 0, 1) := dk_42 (dk_at dksX0_count_5 16 rfl rfl)
theorem dX0_count_165 : decode cX0_count 165 = .ok (.invokevirtual 418, 3) := dk_182 1 162 (dk_at dksX0_count_5 17 rfl rfl)
theorem dX0_count_168 : decode cX0_count 168 = .ok (.invokevirtual 422, 3) := dk_182 1 166 (dk_at dksX0_count_5 20 rfl rfl)
theorem dX0_count_171 : decode cX0_count 171 = .ok (.ireturn, 1) := dk_172 (dk_at dksX0_count_5 23 rfl rfl)
theorem dX0_count_172 : decode cX0_count 172 = .ok (.aload_n 0, 1) := dk_42 (dk_at dksX0_count_6 0 rfl rfl)
theorem dX0_count_173 : decode cX0_count 173 = .ok (.getfield 41, 3) := dk_180 0 41 (dk_at dksX0_count_6 1 rfl rfl)
theorem dX0_count_176 : decode cX0_count 176 = .ok (.invokevirtual 199, 3) := dk_182 0 199 (dk_at dksX0_count_6 4 rfl rfl)
theorem dX0_count_179 : decode cX0_count 179 = .ok (.ifCond .ne 7, 3) := dk_154 0 7 (dk_at dksX0_count_6 7 rfl rfl)
theorem dX0_count_182 : decode cX0_count 182 = .ok (.iconst 0, 1) := dk_3 (dk_at dksX0_count_6 10 rfl rfl)
theorem dX0_count_183 : decode cX0_count 183 = .ok (.goto 19, 3) := dk_167 0 19 (dk_at dksX0_count_6 11 rfl rfl)
theorem dX0_count_186 : decode cX0_count 186 = .ok (.aload_n 0, 1) := dk_42 (dk_at dksX0_count_6 14 rfl rfl)
theorem dX0_count_187 : decode cX0_count 187 = .ok (.invokevirtual 418, 3) := dk_182 1 162 (dk_at dksX0_count_6 15 rfl rfl)
theorem dX0_count_190 : decode cX0_count 190 = .ok (.invokevirtual 423, 3) := dk_182 1 167 (dk_at dksX0_count_6 18 rfl rfl)
theorem dX0_count_193 : decode cX0_count 193 = .ok (.checkcast 4, 3) := dk_192 0 4 (dk_at dksX0_count_6 21 rfl rfl)
theorem dX0_count_196 : decode cX0_count 196 = .ok (.invokevirtual 320, 3) := dk_182 1 64 (dk_at dksX0_count_7 0 rfl rfl)
theorem dX0_count_199 : decode cX0_count 199 = .ok (.invokestatic 385, 3) := dk_184 1 129 (dk_at dksX0_count_7 3 rfl rfl)
theorem dX0_count_202 : decode cX0_count 202 = .ok (.ireturn, 1) := dk_172 (dk_at dksX0_count_7 6 rfl rfl)
theorem dX0_count_203 : decode cX0_count 203 = .ok (.aload_n 0, 1) := dk_42 (dk_at dksX0_count_7 7 rfl rfl)
theorem dX0_count_204 : decode cX0_count 204 = .ok (.getfield 41, 3) := dk_180 0 41 (dk_at dksX0_count_7 8 rfl rfl)
theorem dX0_count_207 : decode cX0_count 207 = .ok (.getfield 426, 3) := dk_180 1 170 (dk_at dksX0_count_7 11 rfl rfl)
theorem dX0_count_210 : decode cX0_count 210 = .ok (.ireturn, 1) := dk_172 (dk_at dksX0_count_7 14 rfl rfl)
theorem dX0_count_211 : decode cX0_count 211 = .ok (.aload_n 0, 1) := dk_42 (dk_at dksX0_count_7 15 rfl rfl)
theorem dX0_count_212 : decode cX0_count 212 = .ok (.invokevirtual 429, 3) := dk_182 1 173 (dk_at dksX0_count_7 16 rfl rfl)
theorem dX0_count_215 : decode cX0_count 215 = .ok (.ireturn, 1) := dk_172 (dk_at dksX0_count_7 19 rfl rfl)
theorem dX0_count_216 : decode cX0_count 216 = .ok (.aload_n 0, 1) := dk_42 (dk_at dksX0_count_7 20 rfl rfl)
theorem dX0_count_217 : decode cX0_count 217 = .ok (.invokevirtual 432, 3) := dk_182 1 176 (dk_at dksX0_count_7 21 rfl rfl)
theorem dX0_count_220 : decode cX0_count 220 = .ok (.ireturn, 1) := dk_172 (dk_at dksX0_count_8 0 rfl rfl)
theorem dX0_count_221 : decode cX0_count 221 = .ok (.iconst (-1), 1) := dk_2 (dk_at dksX0_count_8 1 rfl rfl)
theorem dX0_count_222 : decode cX0_count 222 = .ok (.ireturn, 1) := dk_172 (dk_at dksX0_count_8 2 rfl rfl)
abbrev cX0_clusters : ByteArray := prog_1_method_52_code
def yX0_clusters : MethodName := ⟨RX0, "clusters", "()Ljava/util/PriorityQueue;"⟩
def dkwX0_clusters_3 : List UInt8 := [167, 255, 206, 43, 176]
abbrev dktX0_clusters_3 : List UInt8 := dkwX0_clusters_3 ++ []
def dkwX0_clusters_2 : List UInt8 := [182, 1, 130, 54, 4, 28, 21, 4, 128, 61, 43, 21, 4, 184, 1, 39, 182, 1, 155, 87, 132, 3, 1]
abbrev dktX0_clusters_2 : List UInt8 := dkwX0_clusters_2 ++ dktX0_clusters_3
def dkwX0_clusters_1 : List UInt8 := [182, 0, 199, 162, 0, 45, 28, 29, 184, 0, 186, 153, 0, 6, 167, 0, 28, 42, 180, 0, 41, 29]
abbrev dktX0_clusters_1 : List UInt8 := dkwX0_clusters_1 ++ dktX0_clusters_2
def dkwX0_clusters_0 : List UInt8 := [187, 1, 147, 89, 187, 1, 149, 89, 183, 1, 151, 183, 1, 152, 76, 3, 61, 3, 62, 29, 42, 180, 0, 41]
abbrev dktX0_clusters_0 : List UInt8 := dkwX0_clusters_0 ++ dktX0_clusters_1
theorem dksX0_clusters_0 : cX0_clusters.data.toList.drop 0 = dktX0_clusters_0 := by decide +kernel
theorem dksX0_clusters_1 : cX0_clusters.data.toList.drop 24 = dktX0_clusters_1 := dk_seg dksX0_clusters_0 24 rfl rfl
theorem dksX0_clusters_2 : cX0_clusters.data.toList.drop 46 = dktX0_clusters_2 := dk_seg dksX0_clusters_1 22 rfl rfl
theorem dksX0_clusters_3 : cX0_clusters.data.toList.drop 69 = dktX0_clusters_3 := dk_seg dksX0_clusters_2 23 rfl rfl
theorem dX0_clusters_0 : decode cX0_clusters 0 = .ok (.new 403, 3) := dk_187 1 147 (dk_at dksX0_clusters_0 0 rfl rfl)
theorem dX0_clusters_3 : decode cX0_clusters 3 = .ok (.dup, 1) := dk_89 (dk_at dksX0_clusters_0 3 rfl rfl)
theorem dX0_clusters_4 : decode cX0_clusters 4 = .ok (.new 405, 3) := dk_187 1 149 (dk_at dksX0_clusters_0 4 rfl rfl)
theorem dX0_clusters_7 : decode cX0_clusters 7 = .ok (.dup, 1) := dk_89 (dk_at dksX0_clusters_0 7 rfl rfl)
theorem dX0_clusters_8 : decode cX0_clusters 8 = .ok (.invokespecial 407, 3) := dk_183 1 151 (dk_at dksX0_clusters_0 8 rfl rfl)
theorem dX0_clusters_11 : decode cX0_clusters 11 = .ok (.invokespecial 408, 3) := dk_183 1 152 (dk_at dksX0_clusters_0 11 rfl rfl)
theorem dX0_clusters_14 : decode cX0_clusters 14 = .ok (.astore_n 1, 1) := dk_76 (dk_at dksX0_clusters_0 14 rfl rfl)
theorem dX0_clusters_15 : decode cX0_clusters 15 = .ok (.iconst 0, 1) := dk_3 (dk_at dksX0_clusters_0 15 rfl rfl)
theorem dX0_clusters_16 : decode cX0_clusters 16 = .ok (.istore_n 2, 1) := dk_61 (dk_at dksX0_clusters_0 16 rfl rfl)
theorem dX0_clusters_17 : decode cX0_clusters 17 = .ok (.iconst 0, 1) := dk_3 (dk_at dksX0_clusters_0 17 rfl rfl)
theorem dX0_clusters_18 : decode cX0_clusters 18 = .ok (.istore_n 3, 1) := dk_62 (dk_at dksX0_clusters_0 18 rfl rfl)
theorem dX0_clusters_19 : decode cX0_clusters 19 = .ok (.iload_n 3, 1) := dk_29 (dk_at dksX0_clusters_0 19 rfl rfl)
theorem dX0_clusters_20 : decode cX0_clusters 20 = .ok (.aload_n 0, 1) := dk_42 (dk_at dksX0_clusters_0 20 rfl rfl)
theorem dX0_clusters_21 : decode cX0_clusters 21 = .ok (.getfield 41, 3) := dk_180 0 41 (dk_at dksX0_clusters_0 21 rfl rfl)
theorem dX0_clusters_24 : decode cX0_clusters 24 = .ok (.invokevirtual 199, 3) := dk_182 0 199 (dk_at dksX0_clusters_1 0 rfl rfl)
theorem dX0_clusters_27 : decode cX0_clusters 27 = .ok (.if_icmp .ge 45, 3) := dk_162 0 45 (dk_at dksX0_clusters_1 3 rfl rfl)
theorem dX0_clusters_30 : decode cX0_clusters 30 = .ok (.iload_n 2, 1) := dk_28 (dk_at dksX0_clusters_1 6 rfl rfl)
theorem dX0_clusters_31 : decode cX0_clusters 31 = .ok (.iload_n 3, 1) := dk_29 (dk_at dksX0_clusters_1 7 rfl rfl)
theorem dX0_clusters_32 : decode cX0_clusters 32 = .ok (.invokestatic 186, 3) := dk_184 0 186 (dk_at dksX0_clusters_1 8 rfl rfl)
theorem dX0_clusters_35 : decode cX0_clusters 35 = .ok (.ifCond .eq 6, 3) := dk_153 0 6 (dk_at dksX0_clusters_1 11 rfl rfl)
theorem dX0_clusters_38 : decode cX0_clusters 38 = .ok (.goto 28, 3) := dk_167 0 28 (dk_at dksX0_clusters_1 14 rfl rfl)
theorem dX0_clusters_41 : decode cX0_clusters 41 = .ok (.aload_n 0, 1) := dk_42 (dk_at dksX0_clusters_1 17 rfl rfl)
theorem dX0_clusters_42 : decode cX0_clusters 42 = .ok (.getfield 41, 3) := dk_180 0 41 (dk_at dksX0_clusters_1 18 rfl rfl)
theorem dX0_clusters_45 : decode cX0_clusters 45 = .ok (.iload_n 3, 1) := dk_29 (dk_at dksX0_clusters_1 21 rfl rfl)
theorem dX0_clusters_46 : decode cX0_clusters 46 = .ok (.invokevirtual 386, 3) := dk_182 1 130 (dk_at dksX0_clusters_2 0 rfl rfl)
theorem dX0_clusters_49 : decode cX0_clusters 49 = .ok (.istore 4, 2) := dk_54 4 (dk_at dksX0_clusters_2 3 rfl rfl)
theorem dX0_clusters_51 : decode cX0_clusters 51 = .ok (.iload_n 2, 1) := dk_28 (dk_at dksX0_clusters_2 5 rfl rfl)
theorem dX0_clusters_52 : decode cX0_clusters 52 = .ok (.iload 4, 2) := dk_21 4 (dk_at dksX0_clusters_2 6 rfl rfl)
theorem dX0_clusters_54 : decode cX0_clusters 54 = .ok (.ior, 1) := dk_128 (dk_at dksX0_clusters_2 8 rfl rfl)
theorem dX0_clusters_55 : decode cX0_clusters 55 = .ok (.istore_n 2, 1) := dk_61 (dk_at dksX0_clusters_2 9 rfl rfl)
theorem dX0_clusters_56 : decode cX0_clusters 56 = .ok (.aload_n 1, 1) := dk_43 (dk_at dksX0_clusters_2 10 rfl rfl)
theorem dX0_clusters_57 : decode cX0_clusters 57 = .ok (.iload 4, 2) := dk_21 4 (dk_at dksX0_clusters_2 11 rfl rfl)
theorem dX0_clusters_59 : decode cX0_clusters 59 = .ok (.invokestatic 295, 3) := dk_184 1 39 (dk_at dksX0_clusters_2 13 rfl rfl)
theorem dX0_clusters_62 : decode cX0_clusters 62 = .ok (.invokevirtual 411, 3) := dk_182 1 155 (dk_at dksX0_clusters_2 16 rfl rfl)
theorem dX0_clusters_65 : decode cX0_clusters 65 = .ok (.pop, 1) := dk_87 (dk_at dksX0_clusters_2 19 rfl rfl)
theorem dX0_clusters_66 : decode cX0_clusters 66 = .ok (.iinc 3 1, 3) := dk_132 3 1 (dk_at dksX0_clusters_2 20 rfl rfl)
theorem dX0_clusters_69 : decode cX0_clusters 69 = .ok (.goto (-50), 3) := dk_167 255 206 (dk_at dksX0_clusters_3 0 rfl rfl)
theorem dX0_clusters_72 : decode cX0_clusters 72 = .ok (.aload_n 1, 1) := dk_43 (dk_at dksX0_clusters_3 3 rfl rfl)
theorem dX0_clusters_73 : decode cX0_clusters 73 = .ok (.areturn, 1) := dk_176 (dk_at dksX0_clusters_3 4 rfl rfl)
abbrev cX0_fewestBroken : ByteArray := prog_1_method_54_code
def yX0_fewestBroken : MethodName := ⟨RX0, "fewestBroken", "()I"⟩
def dkwX0_fewestBroken_1 : List UInt8 := [154, 0, 9, 132, 1, 1, 167, 255, 241, 27, 172]
abbrev dktX0_fewestBroken_1 : List UInt8 := dkwX0_fewestBroken_1 ++ []
def dkwX0_fewestBroken_0 : List UInt8 := [42, 182, 0, 218, 180, 1, 3, 154, 0, 5, 3, 172, 3, 60, 42, 180, 0, 50, 180, 1, 6, 27, 46]
abbrev dktX0_fewestBroken_0 : List UInt8 := dkwX0_fewestBroken_0 ++ dktX0_fewestBroken_1
theorem dksX0_fewestBroken_0 : cX0_fewestBroken.data.toList.drop 0 = dktX0_fewestBroken_0 := by decide +kernel
theorem dksX0_fewestBroken_1 : cX0_fewestBroken.data.toList.drop 23 = dktX0_fewestBroken_1 := dk_seg dksX0_fewestBroken_0 23 rfl rfl
theorem dX0_fewestBroken_0 : decode cX0_fewestBroken 0 = .ok (.aload_n 0, 1) := dk_42 (dk_at dksX0_fewestBroken_0 0 rfl rfl)
theorem dX0_fewestBroken_1 : decode cX0_fewestBroken 1 = .ok (.invokevirtual 218, 3) := dk_182 0 218 (dk_at dksX0_fewestBroken_0 1 rfl rfl)
theorem dX0_fewestBroken_4 : decode cX0_fewestBroken 4 = .ok (.getfield 259, 3) := dk_180 1 3 (dk_at dksX0_fewestBroken_0 4 rfl rfl)
theorem dX0_fewestBroken_7 : decode cX0_fewestBroken 7 = .ok (.ifCond .ne 5, 3) := dk_154 0 5 (dk_at dksX0_fewestBroken_0 7 rfl rfl)
theorem dX0_fewestBroken_10 : decode cX0_fewestBroken 10 = .ok (.iconst 0, 1) := dk_3 (dk_at dksX0_fewestBroken_0 10 rfl rfl)
theorem dX0_fewestBroken_11 : decode cX0_fewestBroken 11 = .ok (.ireturn, 1) := dk_172 (dk_at dksX0_fewestBroken_0 11 rfl rfl)
theorem dX0_fewestBroken_12 : decode cX0_fewestBroken 12 = .ok (.iconst 0, 1) := dk_3 (dk_at dksX0_fewestBroken_0 12 rfl rfl)
theorem dX0_fewestBroken_13 : decode cX0_fewestBroken 13 = .ok (.istore_n 1, 1) := dk_60 (dk_at dksX0_fewestBroken_0 13 rfl rfl)
theorem dX0_fewestBroken_14 : decode cX0_fewestBroken 14 = .ok (.aload_n 0, 1) := dk_42 (dk_at dksX0_fewestBroken_0 14 rfl rfl)
theorem dX0_fewestBroken_15 : decode cX0_fewestBroken 15 = .ok (.getfield 50, 3) := dk_180 0 50 (dk_at dksX0_fewestBroken_0 15 rfl rfl)
theorem dX0_fewestBroken_18 : decode cX0_fewestBroken 18 = .ok (.getfield 262, 3) := dk_180 1 6 (dk_at dksX0_fewestBroken_0 18 rfl rfl)
theorem dX0_fewestBroken_21 : decode cX0_fewestBroken 21 = .ok (.iload_n 1, 1) := dk_27 (dk_at dksX0_fewestBroken_0 21 rfl rfl)
theorem dX0_fewestBroken_22 : decode cX0_fewestBroken 22 = .ok (.iaload, 1) := dk_46 (dk_at dksX0_fewestBroken_0 22 rfl rfl)
theorem dX0_fewestBroken_23 : decode cX0_fewestBroken 23 = .ok (.ifCond .ne 9, 3) := dk_154 0 9 (dk_at dksX0_fewestBroken_1 0 rfl rfl)
theorem dX0_fewestBroken_26 : decode cX0_fewestBroken 26 = .ok (.iinc 1 1, 3) := dk_132 1 1 (dk_at dksX0_fewestBroken_1 3 rfl rfl)
theorem dX0_fewestBroken_29 : decode cX0_fewestBroken 29 = .ok (.goto (-15), 3) := dk_167 255 241 (dk_at dksX0_fewestBroken_1 6 rfl rfl)
theorem dX0_fewestBroken_32 : decode cX0_fewestBroken 32 = .ok (.iload_n 1, 1) := dk_27 (dk_at dksX0_fewestBroken_1 9 rfl rfl)
theorem dX0_fewestBroken_33 : decode cX0_fewestBroken 33 = .ok (.ireturn, 1) := dk_172 (dk_at dksX0_fewestBroken_1 10 rfl rfl)
abbrev cX0_odd : ByteArray := prog_1_method_53_code
def yX0_odd : MethodName := ⟨RX0, "odd", "()I"⟩
def dkwX0_odd_1 : List UInt8 := [4, 160, 0, 7, 4, 167, 0, 4, 3, 96, 60, 132, 2, 1, 167, 255, 222, 27, 172]
abbrev dktX0_odd_1 : List UInt8 := dkwX0_odd_1 ++ []
def dkwX0_odd_0 : List UInt8 := [3, 60, 3, 61, 28, 42, 180, 0, 41, 182, 0, 199, 162, 0, 29, 27, 42, 180, 0, 41, 28, 182, 1, 103]
abbrev dktX0_odd_0 : List UInt8 := dkwX0_odd_0 ++ dktX0_odd_1
theorem dksX0_odd_0 : cX0_odd.data.toList.drop 0 = dktX0_odd_0 := by decide +kernel
theorem dksX0_odd_1 : cX0_odd.data.toList.drop 24 = dktX0_odd_1 := dk_seg dksX0_odd_0 24 rfl rfl
theorem dX0_odd_0 : decode cX0_odd 0 = .ok (.iconst 0, 1) := dk_3 (dk_at dksX0_odd_0 0 rfl rfl)
theorem dX0_odd_1 : decode cX0_odd 1 = .ok (.istore_n 1, 1) := dk_60 (dk_at dksX0_odd_0 1 rfl rfl)
theorem dX0_odd_2 : decode cX0_odd 2 = .ok (.iconst 0, 1) := dk_3 (dk_at dksX0_odd_0 2 rfl rfl)
theorem dX0_odd_3 : decode cX0_odd 3 = .ok (.istore_n 2, 1) := dk_61 (dk_at dksX0_odd_0 3 rfl rfl)
theorem dX0_odd_4 : decode cX0_odd 4 = .ok (.iload_n 2, 1) := dk_28 (dk_at dksX0_odd_0 4 rfl rfl)
theorem dX0_odd_5 : decode cX0_odd 5 = .ok (.aload_n 0, 1) := dk_42 (dk_at dksX0_odd_0 5 rfl rfl)
theorem dX0_odd_6 : decode cX0_odd 6 = .ok (.getfield 41, 3) := dk_180 0 41 (dk_at dksX0_odd_0 6 rfl rfl)
theorem dX0_odd_9 : decode cX0_odd 9 = .ok (.invokevirtual 199, 3) := dk_182 0 199 (dk_at dksX0_odd_0 9 rfl rfl)
theorem dX0_odd_12 : decode cX0_odd 12 = .ok (.if_icmp .ge 29, 3) := dk_162 0 29 (dk_at dksX0_odd_0 12 rfl rfl)
theorem dX0_odd_15 : decode cX0_odd 15 = .ok (.iload_n 1, 1) := dk_27 (dk_at dksX0_odd_0 15 rfl rfl)
theorem dX0_odd_16 : decode cX0_odd 16 = .ok (.aload_n 0, 1) := dk_42 (dk_at dksX0_odd_0 16 rfl rfl)
theorem dX0_odd_17 : decode cX0_odd 17 = .ok (.getfield 41, 3) := dk_180 0 41 (dk_at dksX0_odd_0 17 rfl rfl)
theorem dX0_odd_20 : decode cX0_odd 20 = .ok (.iload_n 2, 1) := dk_28 (dk_at dksX0_odd_0 20 rfl rfl)
theorem dX0_odd_21 : decode cX0_odd 21 = .ok (.invokevirtual 359, 3) := dk_182 1 103 (dk_at dksX0_odd_0 21 rfl rfl)
theorem dX0_odd_24 : decode cX0_odd 24 = .ok (.iconst 1, 1) := dk_4 (dk_at dksX0_odd_1 0 rfl rfl)
theorem dX0_odd_25 : decode cX0_odd 25 = .ok (.if_icmp .ne 7, 3) := dk_160 0 7 (dk_at dksX0_odd_1 1 rfl rfl)
theorem dX0_odd_28 : decode cX0_odd 28 = .ok (.iconst 1, 1) := dk_4 (dk_at dksX0_odd_1 4 rfl rfl)
theorem dX0_odd_29 : decode cX0_odd 29 = .ok (.goto 4, 3) := dk_167 0 4 (dk_at dksX0_odd_1 5 rfl rfl)
theorem dX0_odd_32 : decode cX0_odd 32 = .ok (.iconst 0, 1) := dk_3 (dk_at dksX0_odd_1 8 rfl rfl)
theorem dX0_odd_33 : decode cX0_odd 33 = .ok (.iadd, 1) := dk_96 (dk_at dksX0_odd_1 9 rfl rfl)
theorem dX0_odd_34 : decode cX0_odd 34 = .ok (.istore_n 1, 1) := dk_60 (dk_at dksX0_odd_1 10 rfl rfl)
theorem dX0_odd_35 : decode cX0_odd 35 = .ok (.iinc 2 1, 3) := dk_132 2 1 (dk_at dksX0_odd_1 11 rfl rfl)
theorem dX0_odd_38 : decode cX0_odd 38 = .ok (.goto (-34), 3) := dk_167 255 222 (dk_at dksX0_odd_1 14 rfl rfl)
theorem dX0_odd_41 : decode cX0_odd 41 = .ok (.iload_n 1, 1) := dk_27 (dk_at dksX0_odd_1 17 rfl rfl)
theorem dX0_odd_42 : decode cX0_odd 42 = .ok (.ireturn, 1) := dk_172 (dk_at dksX0_odd_1 18 rfl rfl)
theorem q108 : (Jvm.Cond.initialized "SpinStrip") ∈ lw_all := lw_g (lw_at lw_m1 1 rfl) rfl
theorem q150 : (Jvm.Cond.instantiable "SpinStrip" (20 : Nat)) ∈ lw_all := lw_g (lw_at lw_m1 43 rfl) rfl
theorem q152 : (Jvm.Cond.instanceMethod ({ cls := "SpinStrip", name := "<init>", desc := "()V" } : Jvm.MethodName)) ∈ lw_all := lw_g (lw_at lw_m1 45 rfl) rfl
theorem q153 : (Jvm.Cond.code ({ cls := "SpinStrip", name := "<init>", desc := "()V" } : Jvm.MethodName) prog_1_method_4_code (1 : Nat) (Option.none : Option Jvm.ClassFile.FieldType)) ∈ lw_all := lw_g (lw_at lw_m1 46 rfl) rfl
theorem q154 : (Jvm.Cond.methodLink "SpinStrip" (9 : Nat) ({ cls := "java/lang/Object", name := "<init>", desc := "()V" } : Jvm.MethodName)) ∈ lw_all := lw_g (lw_at lw_m1 47 rfl) rfl
theorem q157 : (Jvm.Cond.classLink "SpinStrip" (15 : Nat) "SpinStrip$Fault") ∈ lw_all := lw_g (lw_at lw_m1 50 rfl) rfl
theorem q196 : (Jvm.Cond.methodLink "SpinStrip" (17 : Nat) ({ cls := "SpinStrip$Fault", name := "<init>", desc := "()V" } : Jvm.MethodName)) ∈ lw_all := lw_g (lw_at lw_m1 89 rfl) rfl
theorem q210 : (Jvm.Cond.fieldLink "SpinStrip" (137 : Nat) "SpinStrip$Fault" "number" "I") ∈ lw_all := lw_g (lw_at lw_m1 103 rfl) rfl
theorem q212 : (Jvm.Cond.fieldLink "SpinStrip" (140 : Nat) "SpinStrip$Fault" "place" "I") ∈ lw_all := lw_g (lw_at lw_m1 105 rfl) rfl
theorem q231 : (Jvm.Cond.classLink "SpinStrip" (22 : Nat) "SpinStrip$Tokens") ∈ lw_all := lw_g (lw_at lw_m1 124 rfl) rfl
theorem q233 : (Jvm.Cond.methodLinkNest "SpinStrip" (24 : Nat) ({ cls := "SpinStrip$Tokens", name := "<init>", desc := "()V" } : Jvm.MethodName) "SpinStrip") ∈ lw_tbl := lw_at lw_m1 126 rfl
theorem q252 : (Jvm.Cond.fieldLink "SpinStrip" (116 : Nat) "SpinStrip$Tokens" "tape" "[B") ∈ lw_all := lw_g (lw_at lw_m1 145 rfl) rfl
theorem q254 : (Jvm.Cond.fieldLink "SpinStrip" (109 : Nat) "SpinStrip$Tokens" "taped" "I") ∈ lw_all := lw_g (lw_at lw_m1 147 rfl) rfl
theorem q281 : (Jvm.Cond.classLink "SpinStrip" (29 : Nat) "SpinStrip$Parser") ∈ lw_all := lw_g (lw_at lw_m1 174 rfl) rfl
theorem q283 : (Jvm.Cond.methodLink "SpinStrip" (31 : Nat) ({ cls := "SpinStrip$Parser", name := "<init>", desc := "(LSpinStrip$Tokens;LSpinStrip$Fault;)V" } : Jvm.MethodName)) ∈ lw_all := lw_g (lw_at lw_m1 176 rfl) rfl
theorem q296 : (Jvm.Cond.fieldLink "SpinStrip" (234 : Nat) "SpinStrip$Strip" "wide" "I") ∈ lw_all := lw_g (lw_at lw_m1 189 rfl) rfl
theorem q300 : (Jvm.Cond.fieldLink "SpinStrip" (354 : Nat) "SpinStrip$Strip" "length" "I") ∈ lw_all := lw_g (lw_at lw_m1 193 rfl) rfl
theorem q304 : (Jvm.Cond.fieldLink "SpinStrip" (426 : Nat) "SpinStrip$Strip" "rings" "I") ∈ lw_all := lw_g (lw_at lw_m1 197 rfl) rfl
theorem q307 : (Jvm.Cond.fieldLink "SpinStrip" (196 : Nat) "SpinStrip$Strip" "state" "I") ∈ lw_all := lw_g (lw_at lw_m1 200 rfl) rfl
theorem q310 : (Jvm.Cond.fieldLink "SpinStrip" (397 : Nat) "SpinStrip$Strip" "seed" "I") ∈ lw_all := lw_g (lw_at lw_m1 203 rfl) rfl
theorem q320 : (Jvm.Cond.fieldLink "SpinStrip" (179 : Nat) "SpinStrip$Strip" "field" "[I") ∈ lw_all := lw_g (lw_at lw_m1 213 rfl) rfl
theorem q324 : (Jvm.Cond.fieldLink "SpinStrip" (183 : Nat) "SpinStrip$Strip" "up" "I") ∈ lw_all := lw_g (lw_at lw_m1 217 rfl) rfl
theorem q328 : (Jvm.Cond.fieldLink "SpinStrip" (190 : Nat) "SpinStrip$Strip" "down" "I") ∈ lw_all := lw_g (lw_at lw_m1 221 rfl) rfl
theorem q354 : (Jvm.Cond.fieldLink "SpinStrip" (123 : Nat) "SpinStrip$Parser" "strip" "LSpinStrip$Strip;") ∈ lw_all := lw_g (lw_at lw_m2 7 rfl) rfl
theorem q371 : (Jvm.Cond.classLink "SpinStrip" (38 : Nat) "SpinStrip$Strip") ∈ lw_all := lw_g (lw_at lw_m2 24 rfl) rfl
theorem q372 : (Jvm.Cond.methodLinkNest "SpinStrip" (40 : Nat) ({ cls := "SpinStrip$Strip", name := "<init>", desc := "()V" } : Jvm.MethodName) "SpinStrip") ∈ lw_tbl := lw_at lw_m2 25 rfl
theorem q373 : (Jvm.Cond.classLink "SpinStrip" (45 : Nat) "SpinStrip$Energies") ∈ lw_all := lw_g (lw_at lw_m2 26 rfl) rfl
theorem q375 : (Jvm.Cond.methodLink "SpinStrip" (47 : Nat) ({ cls := "SpinStrip$Energies", name := "<init>", desc := "(LSpinStrip$Strip;)V" } : Jvm.MethodName)) ∈ lw_all := lw_g (lw_at lw_m2 28 rfl) rfl
theorem q420 : (Jvm.Cond.fieldLinkNest "SpinStrip" (262 : Nat) "SpinStrip$Energies" "broken" "[I" "SpinStrip") ∈ lw_tbl := lw_at lw_m2 73 rfl
theorem q422 : (Jvm.Cond.fieldLink "SpinStrip" (259 : Nat) "SpinStrip$Energies" "lawful" "I") ∈ lw_all := lw_g (lw_at lw_m2 75 rfl) rfl
theorem q424 : (Jvm.Cond.fieldLink "SpinStrip" (289 : Nat) "SpinStrip$Energies" "least" "I") ∈ lw_all := lw_g (lw_at lw_m2 77 rfl) rfl
theorem q443 : (Jvm.Cond.classLink "SpinStrip" (54 : Nat) "SpinStrip$Hills") ∈ lw_all := lw_g (lw_at lw_m2 96 rfl) rfl
theorem q445 : (Jvm.Cond.methodLink "SpinStrip" (56 : Nat) ({ cls := "SpinStrip$Hills", name := "<init>", desc := "(LSpinStrip$Strip;LSpinStrip$Energies;)V" } : Jvm.MethodName)) ∈ lw_all := lw_g (lw_at lw_m2 98 rfl) rfl
theorem q460 : (Jvm.Cond.classLink "SpinStrip" (63 : Nat) "SpinStrip$Rows") ∈ lw_all := lw_g (lw_at lw_m2 113 rfl) rfl
theorem q462 : (Jvm.Cond.methodLink "SpinStrip" (65 : Nat) ({ cls := "SpinStrip$Rows", name := "<init>", desc := "(LSpinStrip$Strip;)V" } : Jvm.MethodName)) ∈ lw_all := lw_g (lw_at lw_m2 115 rfl) rfl
theorem q481 : (Jvm.Cond.classLink "SpinStrip" (70 : Nat) "SpinStrip$Lakes") ∈ lw_all := lw_g (lw_at lw_m2 134 rfl) rfl
theorem q483 : (Jvm.Cond.methodLink "SpinStrip" (72 : Nat) ({ cls := "SpinStrip$Lakes", name := "<init>", desc := "(LSpinStrip$Strip;LSpinStrip$Energies;)V" } : Jvm.MethodName)) ∈ lw_all := lw_g (lw_at lw_m2 136 rfl) rfl
theorem q501 : (Jvm.Cond.classLink "SpinStrip" (77 : Nat) "java/util/ArrayDeque") ∈ lw_all := lw_g (lw_at lw_m2 154 rfl) rfl
theorem q503 : (Jvm.Cond.methodLink "SpinStrip" (79 : Nat) ({ cls := "java/util/ArrayDeque", name := "<init>", desc := "()V" } : Jvm.MethodName)) ∈ lw_all := lw_g (lw_at lw_m2 156 rfl) rfl
theorem q523 : (Jvm.Cond.classLink "SpinStrip" (98 : Nat) "java/util/TreeMap") ∈ lw_all := lw_g (lw_at lw_m2 176 rfl) rfl
theorem q524 : (Jvm.Cond.methodLink "SpinStrip" (100 : Nat) ({ cls := "java/util/TreeMap", name := "<init>", desc := "()V" } : Jvm.MethodName)) ∈ lw_all := lw_g (lw_at lw_m2 177 rfl) rfl
theorem q525 : (Jvm.Cond.fieldLink "SpinStrip" (18 : Nat) "SpinStrip" "fault" "LSpinStrip$Fault;") ∈ lw_all := lw_g (lw_at lw_m2 178 rfl) rfl
theorem q526 : (Jvm.Cond.fieldLink "SpinStrip" (25 : Nat) "SpinStrip" "tokens" "LSpinStrip$Tokens;") ∈ lw_all := lw_g (lw_at lw_m2 179 rfl) rfl
theorem q527 : (Jvm.Cond.fieldLink "SpinStrip" (34 : Nat) "SpinStrip" "parser" "LSpinStrip$Parser;") ∈ lw_all := lw_g (lw_at lw_m2 180 rfl) rfl
theorem q528 : (Jvm.Cond.fieldLink "SpinStrip" (41 : Nat) "SpinStrip" "strip" "LSpinStrip$Strip;") ∈ lw_all := lw_g (lw_at lw_m2 181 rfl) rfl
theorem q529 : (Jvm.Cond.fieldLink "SpinStrip" (50 : Nat) "SpinStrip" "energies" "LSpinStrip$Energies;") ∈ lw_all := lw_g (lw_at lw_m2 182 rfl) rfl
theorem q530 : (Jvm.Cond.fieldLink "SpinStrip" (59 : Nat) "SpinStrip" "hills" "LSpinStrip$Hills;") ∈ lw_all := lw_g (lw_at lw_m2 183 rfl) rfl
theorem q531 : (Jvm.Cond.fieldLink "SpinStrip" (66 : Nat) "SpinStrip" "rows" "LSpinStrip$Rows;") ∈ lw_all := lw_g (lw_at lw_m2 184 rfl) rfl
theorem q532 : (Jvm.Cond.fieldLink "SpinStrip" (73 : Nat) "SpinStrip" "lakes" "LSpinStrip$Lakes;") ∈ lw_all := lw_g (lw_at lw_m2 185 rfl) rfl
theorem q533 : (Jvm.Cond.fieldLink "SpinStrip" (80 : Nat) "SpinStrip" "past" "Ljava/util/ArrayDeque;") ∈ lw_all := lw_g (lw_at lw_m2 186 rfl) rfl
theorem q534 : (Jvm.Cond.fieldLink "SpinStrip" (84 : Nat) "SpinStrip" "slots" "[LSpinStrip$Strip;") ∈ lw_all := lw_g (lw_at lw_m2 187 rfl) rfl
theorem q535 : (Jvm.Cond.fieldLink "SpinStrip" (88 : Nat) "SpinStrip" "place" "I") ∈ lw_all := lw_g (lw_at lw_m2 188 rfl) rfl
theorem q536 : (Jvm.Cond.fieldLink "SpinStrip" (134 : Nat) "SpinStrip" "held" "I") ∈ lw_all := lw_g (lw_at lw_m2 189 rfl) rfl
theorem q537 : (Jvm.Cond.fieldLink "SpinStrip" (127 : Nat) "SpinStrip" "laid" "Z") ∈ lw_all := lw_g (lw_at lw_m2 190 rfl) rfl
theorem q538 : (Jvm.Cond.fieldLink "SpinStrip" (212 : Nat) "SpinStrip" "fallen" "I") ∈ lw_all := lw_g (lw_at lw_m2 191 rfl) rfl
theorem q539 : (Jvm.Cond.fieldLink "SpinStrip" (215 : Nat) "SpinStrip" "turns" "I") ∈ lw_all := lw_g (lw_at lw_m2 192 rfl) rfl
theorem q540 : (Jvm.Cond.fieldLink "SpinStrip" (92 : Nat) "SpinStrip" "joinedStrip" "LSpinStrip$Strip;") ∈ lw_all := lw_g (lw_at lw_m2 193 rfl) rfl
theorem q541 : (Jvm.Cond.fieldLink "SpinStrip" (95 : Nat) "SpinStrip" "joined" "LSpinStrip$Energies;") ∈ lw_all := lw_g (lw_at lw_m2 194 rfl) rfl
theorem q542 : (Jvm.Cond.fieldLink "SpinStrip" (101 : Nat) "SpinStrip" "product" "Ljava/util/TreeMap;") ∈ lw_all := lw_g (lw_at lw_m2 195 rfl) rfl
theorem q543 : (Jvm.Cond.fieldLink "SpinStrip" (105 : Nat) "SpinStrip" "sums" "[J") ∈ lw_all := lw_g (lw_at lw_m2 196 rfl) rfl
theorem q544 : (Jvm.Cond.fieldLink "SpinStrip" (202 : Nat) "SpinStrip" "x" "J") ∈ lw_all := lw_g (lw_at lw_m2 197 rfl) rfl
theorem q545 : (Jvm.Cond.laysFinal "SpinStrip" "SpinStrip" "fault" "LSpinStrip$Fault;") ∈ lw_all := lw_g (lw_at lw_m2 198 rfl) rfl
theorem q546 : (Jvm.Cond.soleField "SpinStrip" "fault") ∈ lw_all := lw_g (lw_at lw_m2 199 rfl) rfl
theorem q547 : (Jvm.Cond.laysFinal "SpinStrip" "SpinStrip" "tokens" "LSpinStrip$Tokens;") ∈ lw_all := lw_g (lw_at lw_m2 200 rfl) rfl
theorem q548 : (Jvm.Cond.soleField "SpinStrip" "tokens") ∈ lw_all := lw_g (lw_at lw_m2 201 rfl) rfl
theorem q549 : (Jvm.Cond.laysFinal "SpinStrip" "SpinStrip" "parser" "LSpinStrip$Parser;") ∈ lw_all := lw_g (lw_at lw_m2 202 rfl) rfl
theorem q550 : (Jvm.Cond.soleField "SpinStrip" "parser") ∈ lw_all := lw_g (lw_at lw_m2 203 rfl) rfl
theorem q551 : (Jvm.Cond.laysFinal "SpinStrip" "SpinStrip" "strip" "LSpinStrip$Strip;") ∈ lw_all := lw_g (lw_at lw_m2 204 rfl) rfl
theorem q552 : (Jvm.Cond.soleField "SpinStrip" "strip") ∈ lw_all := lw_g (lw_at lw_m2 205 rfl) rfl
theorem q553 : (Jvm.Cond.laysFinal "SpinStrip" "SpinStrip" "energies" "LSpinStrip$Energies;") ∈ lw_all := lw_g (lw_at lw_m2 206 rfl) rfl
theorem q554 : (Jvm.Cond.soleField "SpinStrip" "energies") ∈ lw_all := lw_g (lw_at lw_m2 207 rfl) rfl
theorem q555 : (Jvm.Cond.laysFinal "SpinStrip" "SpinStrip" "hills" "LSpinStrip$Hills;") ∈ lw_all := lw_g (lw_at lw_m2 208 rfl) rfl
theorem q556 : (Jvm.Cond.soleField "SpinStrip" "hills") ∈ lw_all := lw_g (lw_at lw_m2 209 rfl) rfl
theorem q557 : (Jvm.Cond.laysFinal "SpinStrip" "SpinStrip" "rows" "LSpinStrip$Rows;") ∈ lw_all := lw_g (lw_at lw_m2 210 rfl) rfl
theorem q558 : (Jvm.Cond.soleField "SpinStrip" "rows") ∈ lw_all := lw_g (lw_at lw_m2 211 rfl) rfl
theorem q559 : (Jvm.Cond.laysFinal "SpinStrip" "SpinStrip" "lakes" "LSpinStrip$Lakes;") ∈ lw_all := lw_g (lw_at lw_m2 212 rfl) rfl
theorem q560 : (Jvm.Cond.soleField "SpinStrip" "lakes") ∈ lw_all := lw_g (lw_at lw_m2 213 rfl) rfl
theorem q561 : (Jvm.Cond.laysFinal "SpinStrip" "SpinStrip" "past" "Ljava/util/ArrayDeque;") ∈ lw_all := lw_g (lw_at lw_m2 214 rfl) rfl
theorem q562 : (Jvm.Cond.soleField "SpinStrip" "past") ∈ lw_all := lw_g (lw_at lw_m2 215 rfl) rfl
theorem q563 : (Jvm.Cond.laysFinal "SpinStrip" "SpinStrip" "slots" "[LSpinStrip$Strip;") ∈ lw_all := lw_g (lw_at lw_m2 216 rfl) rfl
theorem q564 : (Jvm.Cond.soleField "SpinStrip" "slots") ∈ lw_all := lw_g (lw_at lw_m2 217 rfl) rfl
theorem q565 : (Jvm.Cond.lays "SpinStrip" "SpinStrip" "place" "I") ∈ lw_all := lw_g (lw_at lw_m2 218 rfl) rfl
theorem q566 : (Jvm.Cond.soleField "SpinStrip" "place") ∈ lw_all := lw_g (lw_at lw_m2 219 rfl) rfl
theorem q567 : (Jvm.Cond.lays "SpinStrip" "SpinStrip" "held" "I") ∈ lw_all := lw_g (lw_at lw_m2 220 rfl) rfl
theorem q568 : (Jvm.Cond.soleField "SpinStrip" "held") ∈ lw_all := lw_g (lw_at lw_m2 221 rfl) rfl
theorem q569 : (Jvm.Cond.lays "SpinStrip" "SpinStrip" "laid" "Z") ∈ lw_all := lw_g (lw_at lw_m2 222 rfl) rfl
theorem q570 : (Jvm.Cond.soleField "SpinStrip" "laid") ∈ lw_all := lw_g (lw_at lw_m2 223 rfl) rfl
theorem q571 : (Jvm.Cond.lays "SpinStrip" "SpinStrip" "fallen" "I") ∈ lw_all := lw_g (lw_at lw_m2 224 rfl) rfl
theorem q572 : (Jvm.Cond.soleField "SpinStrip" "fallen") ∈ lw_all := lw_g (lw_at lw_m2 225 rfl) rfl
theorem q573 : (Jvm.Cond.lays "SpinStrip" "SpinStrip" "turns" "I") ∈ lw_all := lw_g (lw_at lw_m2 226 rfl) rfl
theorem q574 : (Jvm.Cond.soleField "SpinStrip" "turns") ∈ lw_all := lw_g (lw_at lw_m2 227 rfl) rfl
theorem q575 : (Jvm.Cond.laysFinal "SpinStrip" "SpinStrip" "joinedStrip" "LSpinStrip$Strip;") ∈ lw_all := lw_g (lw_at lw_m2 228 rfl) rfl
theorem q576 : (Jvm.Cond.soleField "SpinStrip" "joinedStrip") ∈ lw_all := lw_g (lw_at lw_m2 229 rfl) rfl
theorem q577 : (Jvm.Cond.laysFinal "SpinStrip" "SpinStrip" "joined" "LSpinStrip$Energies;") ∈ lw_all := lw_g (lw_at lw_m2 230 rfl) rfl
theorem q578 : (Jvm.Cond.soleField "SpinStrip" "joined") ∈ lw_all := lw_g (lw_at lw_m2 231 rfl) rfl
theorem q579 : (Jvm.Cond.laysFinal "SpinStrip" "SpinStrip" "product" "Ljava/util/TreeMap;") ∈ lw_all := lw_g (lw_at lw_m2 232 rfl) rfl
theorem q580 : (Jvm.Cond.soleField "SpinStrip" "product") ∈ lw_all := lw_g (lw_at lw_m2 233 rfl) rfl
theorem q581 : (Jvm.Cond.laysFinal "SpinStrip" "SpinStrip" "sums" "[J") ∈ lw_all := lw_g (lw_at lw_m2 234 rfl) rfl
theorem q582 : (Jvm.Cond.soleField "SpinStrip" "sums") ∈ lw_all := lw_g (lw_at lw_m2 235 rfl) rfl
theorem q583 : (Jvm.Cond.lays "SpinStrip" "SpinStrip" "x" "J") ∈ lw_all := lw_g (lw_at lw_m2 236 rfl) rfl
theorem q584 : (Jvm.Cond.soleField "SpinStrip" "x") ∈ lw_all := lw_g (lw_at lw_m2 237 rfl) rfl
theorem q585 : (Jvm.Cond.superclass "SpinStrip" "java/lang/Object") ∈ lw_all := lw_g (lw_at lw_m2 238 rfl) rfl
theorem q587 : (Jvm.Cond.instanceMethod ({ cls := "SpinStrip", name := "feed", desc := "(IIIII)I" } : Jvm.MethodName)) ∈ lw_all := lw_g (lw_at lw_m3 0 rfl) rfl
theorem q588 : (Jvm.Cond.selects "SpinStrip" ({ cls := "SpinStrip", name := "feed", desc := "(IIIII)I" } : Jvm.MethodName) ({ cls := "SpinStrip", name := "feed", desc := "(IIIII)I" } : Jvm.MethodName)) ∈ lw_all := lw_g (lw_at lw_m3 1 rfl) rfl
theorem q589 : (Jvm.Cond.code ({ cls := "SpinStrip", name := "feed", desc := "(IIIII)I" } : Jvm.MethodName) prog_1_method_5_code (6 : Nat) (Option.some Jvm.ClassFile.FieldType.int)) ∈ lw_all := lw_g (lw_at lw_m3 2 rfl) rfl
theorem q590 : (Jvm.Cond.methodLink "SpinStrip" (112 : Nat) ({ cls := "SpinStrip", name := "typed", desc := "(I)V" } : Jvm.MethodName)) ∈ lw_all := lw_g (lw_at lw_m3 3 rfl) rfl
theorem q591 : (Jvm.Cond.privateMethod ({ cls := "SpinStrip", name := "typed", desc := "(I)V" } : Jvm.MethodName)) ∈ lw_tbl := lw_at lw_m3 4 rfl
theorem q592 : (Jvm.Cond.instanceMethod ({ cls := "SpinStrip", name := "typed", desc := "(I)V" } : Jvm.MethodName)) ∈ lw_all := lw_g (lw_at lw_m3 5 rfl) rfl
theorem q593 : (Jvm.Cond.code ({ cls := "SpinStrip", name := "typed", desc := "(I)V" } : Jvm.MethodName) prog_1_method_6_code (3 : Nat) (Option.none : Option Jvm.ClassFile.FieldType)) ∈ lw_all := lw_g (lw_at lw_m3 6 rfl) rfl
theorem q595 : (Jvm.Cond.instanceMethod ({ cls := "SpinStrip", name := "back", desc := "(I)I" } : Jvm.MethodName)) ∈ lw_all := lw_g (lw_at lw_m3 8 rfl) rfl
theorem q596 : (Jvm.Cond.selects "SpinStrip" ({ cls := "SpinStrip", name := "back", desc := "(I)I" } : Jvm.MethodName) ({ cls := "SpinStrip", name := "back", desc := "(I)I" } : Jvm.MethodName)) ∈ lw_all := lw_g (lw_at lw_m3 9 rfl) rfl
theorem q597 : (Jvm.Cond.code ({ cls := "SpinStrip", name := "back", desc := "(I)I" } : Jvm.MethodName) prog_1_method_7_code (2 : Nat) (Option.some Jvm.ClassFile.FieldType.int)) ∈ lw_all := lw_g (lw_at lw_m3 10 rfl) rfl
theorem q599 : (Jvm.Cond.instanceMethod ({ cls := "SpinStrip", name := "read", desc := "()I" } : Jvm.MethodName)) ∈ lw_all := lw_g (lw_at lw_m3 12 rfl) rfl
theorem q600 : (Jvm.Cond.selects "SpinStrip" ({ cls := "SpinStrip", name := "read", desc := "()I" } : Jvm.MethodName) ({ cls := "SpinStrip", name := "read", desc := "()I" } : Jvm.MethodName)) ∈ lw_all := lw_g (lw_at lw_m3 13 rfl) rfl
theorem q601 : (Jvm.Cond.codeWith ({ cls := "SpinStrip", name := "read", desc := "()I" } : Jvm.MethodName) prog_1_method_8_code (3 : Nat) (Option.some Jvm.ClassFile.FieldType.int) [((7 : Nat), (45 : Nat), (48 : Nat), (15 : Nat))]) ∈ lw_all := lw_g (lw_at lw_m3 14 rfl) rfl
theorem q602 : (Jvm.Cond.methodLink "SpinStrip" (120 : Nat) ({ cls := "SpinStrip$Parser", name := "read", desc := "()V" } : Jvm.MethodName)) ∈ lw_all := lw_g (lw_at lw_m3 15 rfl) rfl
theorem q739 : (Jvm.Cond.static ({ cls := "SpinStrip", name := "isIn", desc := "(III)Z" } : Jvm.MethodName)) ∈ lw_all := lw_g (lw_at lw_m3 152 rfl) rfl
theorem q740 : (Jvm.Cond.code ({ cls := "SpinStrip", name := "isIn", desc := "(III)Z" } : Jvm.MethodName) prog_1_method_1_code (3 : Nat) (Option.some Jvm.ClassFile.FieldType.boolean)) ∈ lw_all := lw_g (lw_at lw_m3 153 rfl) rfl
theorem q788 : (Jvm.Cond.static ({ cls := "SpinStrip", name := "has", desc := "(II)Z" } : Jvm.MethodName)) ∈ lw_all := lw_g (lw_at lw_m3 201 rfl) rfl
theorem q789 : (Jvm.Cond.code ({ cls := "SpinStrip", name := "has", desc := "(II)Z" } : Jvm.MethodName) prog_1_method_2_code (2 : Nat) (Option.some Jvm.ClassFile.FieldType.boolean)) ∈ lw_all := lw_g (lw_at lw_m3 202 rfl) rfl
theorem q802 : (Jvm.Cond.methodLink "SpinStrip" (124 : Nat) ({ cls := "SpinStrip$Strip", name := "becomes", desc := "(LSpinStrip$Strip;)V" } : Jvm.MethodName)) ∈ lw_all := lw_g (lw_at lw_m3 215 rfl) rfl
theorem q809 : (Jvm.Cond.methodLink "SpinStrip" (131 : Nat) ({ cls := "java/util/ArrayDeque", name := "clear", desc := "()V" } : Jvm.MethodName)) ∈ lw_all := lw_g (lw_at lw_m3 222 rfl) rfl
theorem q817 : (Jvm.Cond.instanceMethod ({ cls := "SpinStrip", name := "place", desc := "()I" } : Jvm.MethodName)) ∈ lw_all := lw_g (lw_at lw_m3 230 rfl) rfl
theorem q818 : (Jvm.Cond.selects "SpinStrip" ({ cls := "SpinStrip", name := "place", desc := "()I" } : Jvm.MethodName) ({ cls := "SpinStrip", name := "place", desc := "()I" } : Jvm.MethodName)) ∈ lw_all := lw_g (lw_at lw_m3 231 rfl) rfl
theorem q819 : (Jvm.Cond.code ({ cls := "SpinStrip", name := "place", desc := "()I" } : Jvm.MethodName) prog_1_method_9_code (1 : Nat) (Option.some Jvm.ClassFile.FieldType.int)) ∈ lw_all := lw_g (lw_at lw_m3 232 rfl) rfl
theorem q821 : (Jvm.Cond.instanceMethod ({ cls := "SpinStrip", name := "tie", desc := "(IZI)Z" } : Jvm.MethodName)) ∈ lw_all := lw_g (lw_at lw_m3 234 rfl) rfl
theorem q822 : (Jvm.Cond.selects "SpinStrip" ({ cls := "SpinStrip", name := "tie", desc := "(IZI)Z" } : Jvm.MethodName) ({ cls := "SpinStrip", name := "tie", desc := "(IZI)Z" } : Jvm.MethodName)) ∈ lw_all := lw_g (lw_at lw_m3 235 rfl) rfl
theorem q823 : (Jvm.Cond.code ({ cls := "SpinStrip", name := "tie", desc := "(IZI)Z" } : Jvm.MethodName) prog_1_method_12_code (4 : Nat) (Option.some Jvm.ClassFile.FieldType.boolean)) ∈ lw_all := lw_g (lw_at lw_m3 236 rfl) rfl
theorem q824 : (Jvm.Cond.methodLink "SpinStrip" (156 : Nat) ({ cls := "SpinStrip$Strip", name := "isSite", desc := "(I)Z" } : Jvm.MethodName)) ∈ lw_all := lw_g (lw_at lw_m3 237 rfl) rfl
theorem q825 : (Jvm.Cond.methodLink "SpinStrip" (160 : Nat) ({ cls := "SpinStrip$Strip", name := "other", desc := "(IZ)I" } : Jvm.MethodName)) ∈ lw_all := lw_g (lw_at lw_m3 238 rfl) rfl
theorem q826 : (Jvm.Cond.methodLink "SpinStrip" (164 : Nat) ({ cls := "SpinStrip", name := "isIn", desc := "(III)Z" } : Jvm.MethodName)) ∈ lw_all := lw_g (lw_at lw_m3 239 rfl) rfl
theorem q827 : (Jvm.Cond.methodLink "SpinStrip" (168 : Nat) ({ cls := "SpinStrip$Strip", name := "j", desc := "(IZ)I" } : Jvm.MethodName)) ∈ lw_all := lw_g (lw_at lw_m4 0 rfl) rfl
theorem q831 : (Jvm.Cond.methodLink "SpinStrip" (171 : Nat) ({ cls := "SpinStrip", name := "keeps", desc := "(Z)V" } : Jvm.MethodName)) ∈ lw_all := lw_g (lw_at lw_m4 4 rfl) rfl
theorem q832 : (Jvm.Cond.privateMethod ({ cls := "SpinStrip", name := "keeps", desc := "(Z)V" } : Jvm.MethodName)) ∈ lw_tbl := lw_at lw_m4 5 rfl
theorem q833 : (Jvm.Cond.instanceMethod ({ cls := "SpinStrip", name := "keeps", desc := "(Z)V" } : Jvm.MethodName)) ∈ lw_all := lw_g (lw_at lw_m4 6 rfl) rfl
theorem q834 : (Jvm.Cond.code ({ cls := "SpinStrip", name := "keeps", desc := "(Z)V" } : Jvm.MethodName) prog_1_method_11_code (3 : Nat) (Option.none : Option Jvm.ClassFile.FieldType)) ∈ lw_all := lw_g (lw_at lw_m4 7 rfl) rfl
theorem q835 : (Jvm.Cond.methodLink "SpinStrip" (144 : Nat) ({ cls := "java/util/ArrayDeque", name := "size", desc := "()I" } : Jvm.MethodName)) ∈ lw_all := lw_g (lw_at lw_m4 8 rfl) rfl
theorem q842 : (Jvm.Cond.methodLink "SpinStrip" (148 : Nat) ({ cls := "java/util/ArrayDeque", name := "pollFirst", desc := "()Ljava/lang/Object;" } : Jvm.MethodName)) ∈ lw_all := lw_g (lw_at lw_m4 15 rfl) rfl
theorem q852 : (Jvm.Cond.methodLink "SpinStrip" (152 : Nat) ({ cls := "java/util/ArrayDeque", name := "addLast", desc := "(Ljava/lang/Object;)V" } : Jvm.MethodName)) ∈ lw_all := lw_g (lw_at lw_m4 25 rfl) rfl
theorem q872 : (Jvm.Cond.selects "SpinStrip" ({ cls := "java/lang/Object", name := "getClass", desc := "()Ljava/lang/Class;" } : Jvm.MethodName) ({ cls := "java/lang/Object", name := "getClass", desc := "()Ljava/lang/Class;" } : Jvm.MethodName)) ∈ lw_all := lw_g (lw_at lw_m4 45 rfl) rfl
theorem q904 : (Jvm.Cond.methodLink "SpinStrip" (175 : Nat) ({ cls := "SpinStrip$Strip", name := "ties", desc := "(IZI)V" } : Jvm.MethodName)) ∈ lw_all := lw_g (lw_at lw_m4 77 rfl) rfl
theorem q906 : (Jvm.Cond.instanceMethod ({ cls := "SpinStrip", name := "pull", desc := "(II)Z" } : Jvm.MethodName)) ∈ lw_all := lw_g (lw_at lw_m4 79 rfl) rfl
theorem q907 : (Jvm.Cond.selects "SpinStrip" ({ cls := "SpinStrip", name := "pull", desc := "(II)Z" } : Jvm.MethodName) ({ cls := "SpinStrip", name := "pull", desc := "(II)Z" } : Jvm.MethodName)) ∈ lw_all := lw_g (lw_at lw_m4 80 rfl) rfl
theorem q908 : (Jvm.Cond.code ({ cls := "SpinStrip", name := "pull", desc := "(II)Z" } : Jvm.MethodName) prog_1_method_13_code (3 : Nat) (Option.some Jvm.ClassFile.FieldType.boolean)) ∈ lw_all := lw_g (lw_at lw_m4 81 rfl) rfl
theorem q910 : (Jvm.Cond.instanceMethod ({ cls := "SpinStrip", name := "pin", desc := "(II)Z" } : Jvm.MethodName)) ∈ lw_all := lw_g (lw_at lw_m4 83 rfl) rfl
theorem q911 : (Jvm.Cond.selects "SpinStrip" ({ cls := "SpinStrip", name := "pin", desc := "(II)Z" } : Jvm.MethodName) ({ cls := "SpinStrip", name := "pin", desc := "(II)Z" } : Jvm.MethodName)) ∈ lw_all := lw_g (lw_at lw_m4 84 rfl) rfl
theorem q912 : (Jvm.Cond.code ({ cls := "SpinStrip", name := "pin", desc := "(II)Z" } : Jvm.MethodName) prog_1_method_15_code (4 : Nat) (Option.some Jvm.ClassFile.FieldType.boolean)) ∈ lw_all := lw_g (lw_at lw_m4 85 rfl) rfl
theorem q913 : (Jvm.Cond.methodLink "SpinStrip" (193 : Nat) ({ cls := "SpinStrip", name := "pinOf", desc := "(I)I" } : Jvm.MethodName)) ∈ lw_all := lw_g (lw_at lw_m4 86 rfl) rfl
theorem q914 : (Jvm.Cond.privateMethod ({ cls := "SpinStrip", name := "pinOf", desc := "(I)I" } : Jvm.MethodName)) ∈ lw_tbl := lw_at lw_m4 87 rfl
theorem q915 : (Jvm.Cond.instanceMethod ({ cls := "SpinStrip", name := "pinOf", desc := "(I)I" } : Jvm.MethodName)) ∈ lw_all := lw_g (lw_at lw_m4 88 rfl) rfl
theorem q916 : (Jvm.Cond.code ({ cls := "SpinStrip", name := "pinOf", desc := "(I)I" } : Jvm.MethodName) prog_1_method_14_code (2 : Nat) (Option.some Jvm.ClassFile.FieldType.int)) ∈ lw_all := lw_g (lw_at lw_m4 89 rfl) rfl
theorem q917 : (Jvm.Cond.methodLink "SpinStrip" (186 : Nat) ({ cls := "SpinStrip", name := "has", desc := "(II)Z" } : Jvm.MethodName)) ∈ lw_all := lw_g (lw_at lw_m4 90 rfl) rfl
theorem q919 : (Jvm.Cond.instanceMethod ({ cls := "SpinStrip", name := "glass", desc := "(I)Z" } : Jvm.MethodName)) ∈ lw_all := lw_g (lw_at lw_m4 92 rfl) rfl
theorem q920 : (Jvm.Cond.selects "SpinStrip" ({ cls := "SpinStrip", name := "glass", desc := "(I)Z" } : Jvm.MethodName) ({ cls := "SpinStrip", name := "glass", desc := "(I)Z" } : Jvm.MethodName)) ∈ lw_all := lw_g (lw_at lw_m4 93 rfl) rfl
theorem q921 : (Jvm.Cond.code ({ cls := "SpinStrip", name := "glass", desc := "(I)Z" } : Jvm.MethodName) prog_1_method_16_code (4 : Nat) (Option.some Jvm.ClassFile.FieldType.boolean)) ∈ lw_all := lw_g (lw_at lw_m4 94 rfl) rfl
theorem q922 : (Jvm.Cond.methodLink "SpinStrip" (199 : Nat) ({ cls := "SpinStrip$Strip", name := "sites", desc := "()I" } : Jvm.MethodName)) ∈ lw_all := lw_g (lw_at lw_m4 95 rfl) rfl
theorem q923 : (Jvm.Cond.methodLink "SpinStrip" (206 : Nat) ({ cls := "SpinStrip", name := "draw", desc := "(I)I" } : Jvm.MethodName)) ∈ lw_all := lw_g (lw_at lw_m4 96 rfl) rfl
theorem q924 : (Jvm.Cond.privateMethod ({ cls := "SpinStrip", name := "draw", desc := "(I)I" } : Jvm.MethodName)) ∈ lw_tbl := lw_at lw_m4 97 rfl
theorem q925 : (Jvm.Cond.instanceMethod ({ cls := "SpinStrip", name := "draw", desc := "(I)I" } : Jvm.MethodName)) ∈ lw_all := lw_g (lw_at lw_m4 98 rfl) rfl
theorem q926 : (Jvm.Cond.code ({ cls := "SpinStrip", name := "draw", desc := "(I)I" } : Jvm.MethodName) prog_1_method_48_code (2 : Nat) (Option.some Jvm.ClassFile.FieldType.int)) ∈ lw_all := lw_g (lw_at lw_m4 99 rfl) rfl
theorem q927 : (Jvm.Cond.constantLong "SpinStrip" (389 : Nat) (1103515245 : Int64)) ∈ lw_all := lw_g (lw_at lw_m4 100 rfl) rfl
theorem q928 : (Jvm.Cond.constantLong "SpinStrip" (391 : Nat) (12345 : Int64)) ∈ lw_all := lw_g (lw_at lw_m4 101 rfl) rfl
theorem q929 : (Jvm.Cond.constantLong "SpinStrip" (393 : Nat) (2147483648 : Int64)) ∈ lw_all := lw_g (lw_at lw_m4 102 rfl) rfl
theorem q930 : (Jvm.Cond.constantLong "SpinStrip" (395 : Nat) (65536 : Int64)) ∈ lw_all := lw_g (lw_at lw_m4 103 rfl) rfl
theorem q932 : (Jvm.Cond.instanceMethod ({ cls := "SpinStrip", name := "turn", desc := "(I)Z" } : Jvm.MethodName)) ∈ lw_all := lw_g (lw_at lw_m4 105 rfl) rfl
theorem q933 : (Jvm.Cond.selects "SpinStrip" ({ cls := "SpinStrip", name := "turn", desc := "(I)Z" } : Jvm.MethodName) ({ cls := "SpinStrip", name := "turn", desc := "(I)Z" } : Jvm.MethodName)) ∈ lw_all := lw_g (lw_at lw_m4 106 rfl) rfl
theorem q934 : (Jvm.Cond.code ({ cls := "SpinStrip", name := "turn", desc := "(I)Z" } : Jvm.MethodName) prog_1_method_17_code (2 : Nat) (Option.some Jvm.ClassFile.FieldType.boolean)) ∈ lw_all := lw_g (lw_at lw_m4 107 rfl) rfl
theorem q935 : (Jvm.Cond.methodLink "SpinStrip" (209 : Nat) ({ cls := "SpinStrip$Strip", name := "isPinned", desc := "(I)Z" } : Jvm.MethodName)) ∈ lw_all := lw_g (lw_at lw_m4 108 rfl) rfl
theorem q940 : (Jvm.Cond.instanceMethod ({ cls := "SpinStrip", name := "fall", desc := "()I" } : Jvm.MethodName)) ∈ lw_all := lw_g (lw_at lw_m4 113 rfl) rfl
theorem q941 : (Jvm.Cond.selects "SpinStrip" ({ cls := "SpinStrip", name := "fall", desc := "()I" } : Jvm.MethodName) ({ cls := "SpinStrip", name := "fall", desc := "()I" } : Jvm.MethodName)) ∈ lw_all := lw_g (lw_at lw_m4 114 rfl) rfl
theorem q942 : (Jvm.Cond.code ({ cls := "SpinStrip", name := "fall", desc := "()I" } : Jvm.MethodName) prog_1_method_19_code (1 : Nat) (Option.some Jvm.ClassFile.FieldType.int)) ∈ lw_all := lw_g (lw_at lw_m4 115 rfl) rfl
theorem q943 : (Jvm.Cond.methodLink "SpinStrip" (224 : Nat) ({ cls := "SpinStrip", name := "falls", desc := "(I)V" } : Jvm.MethodName)) ∈ lw_all := lw_g (lw_at lw_m4 116 rfl) rfl
theorem q944 : (Jvm.Cond.privateMethod ({ cls := "SpinStrip", name := "falls", desc := "(I)V" } : Jvm.MethodName)) ∈ lw_tbl := lw_at lw_m4 117 rfl
theorem q945 : (Jvm.Cond.instanceMethod ({ cls := "SpinStrip", name := "falls", desc := "(I)V" } : Jvm.MethodName)) ∈ lw_all := lw_g (lw_at lw_m4 118 rfl) rfl
theorem q946 : (Jvm.Cond.code ({ cls := "SpinStrip", name := "falls", desc := "(I)V" } : Jvm.MethodName) prog_1_method_18_code (3 : Nat) (Option.none : Option Jvm.ClassFile.FieldType)) ∈ lw_all := lw_g (lw_at lw_m4 119 rfl) rfl
theorem q947 : (Jvm.Cond.methodLink "SpinStrip" (218 : Nat) ({ cls := "SpinStrip", name := "energies", desc := "()LSpinStrip$Energies;" } : Jvm.MethodName)) ∈ lw_all := lw_g (lw_at lw_m4 120 rfl) rfl
theorem q948 : (Jvm.Cond.privateMethod ({ cls := "SpinStrip", name := "energies", desc := "()LSpinStrip$Energies;" } : Jvm.MethodName)) ∈ lw_tbl := lw_at lw_m4 121 rfl
theorem q949 : (Jvm.Cond.instanceMethod ({ cls := "SpinStrip", name := "energies", desc := "()LSpinStrip$Energies;" } : Jvm.MethodName)) ∈ lw_all := lw_g (lw_at lw_m4 122 rfl) rfl
theorem q950 : (Jvm.Cond.code ({ cls := "SpinStrip", name := "energies", desc := "()LSpinStrip$Energies;" } : Jvm.MethodName) prog_1_method_10_code (1 : Nat) (Option.some (Jvm.ClassFile.FieldType.object "SpinStrip$Energies"))) ∈ lw_all := lw_g (lw_at lw_m4 123 rfl) rfl
theorem q951 : (Jvm.Cond.methodLink "SpinStrip" (141 : Nat) ({ cls := "SpinStrip$Energies", name := "lays", desc := "()V" } : Jvm.MethodName)) ∈ lw_all := lw_g (lw_at lw_m4 124 rfl) rfl
theorem q1004 : (Jvm.Cond.fieldLink "SpinStrip" (265 : Nat) "SpinStrip$Level" "energy" "I") ∈ lw_all := lw_g (lw_at lw_m4 177 rfl) rfl
theorem q1008 : (Jvm.Cond.fieldLink "SpinStrip" (280 : Nat) "SpinStrip$Level" "many" "I") ∈ lw_all := lw_g (lw_at lw_m4 181 rfl) rfl
theorem q1265 : (Jvm.Cond.static ({ cls := "SpinStrip", name := "many", desc := "(I)I" } : Jvm.MethodName)) ∈ lw_all := lw_g (lw_at lw_m5 198 rfl) rfl
theorem q1266 : (Jvm.Cond.code ({ cls := "SpinStrip", name := "many", desc := "(I)I" } : Jvm.MethodName) prog_1_method_3_code (1 : Nat) (Option.some Jvm.ClassFile.FieldType.int)) ∈ lw_all := lw_g (lw_at lw_m5 199 rfl) rfl
theorem q1267 : (Jvm.Cond.methodLink "SpinStrip" (3 : Nat) ({ cls := "java/lang/Integer", name := "bitCount", desc := "(I)I" } : Jvm.MethodName)) ∈ lw_all := lw_g (lw_at lw_m5 200 rfl) rfl
theorem q1376 : (Jvm.Cond.methodLink "SpinStrip" (221 : Nat) ({ cls := "SpinStrip$Energies", name := "falls", desc := "(I)I" } : Jvm.MethodName)) ∈ lw_all := lw_g (lw_at lw_m6 69 rfl) rfl
theorem q1383 : (Jvm.Cond.instanceMethod ({ cls := "SpinStrip", name := "undo", desc := "()Z" } : Jvm.MethodName)) ∈ lw_all := lw_g (lw_at lw_m6 76 rfl) rfl
theorem q1384 : (Jvm.Cond.selects "SpinStrip" ({ cls := "SpinStrip", name := "undo", desc := "()Z" } : Jvm.MethodName) ({ cls := "SpinStrip", name := "undo", desc := "()Z" } : Jvm.MethodName)) ∈ lw_all := lw_g (lw_at lw_m6 77 rfl) rfl
theorem q1385 : (Jvm.Cond.code ({ cls := "SpinStrip", name := "undo", desc := "()Z" } : Jvm.MethodName) prog_1_method_20_code (1 : Nat) (Option.some Jvm.ClassFile.FieldType.boolean)) ∈ lw_all := lw_g (lw_at lw_m6 78 rfl) rfl
theorem q1386 : (Jvm.Cond.methodLink "SpinStrip" (226 : Nat) ({ cls := "java/util/ArrayDeque", name := "isEmpty", desc := "()Z" } : Jvm.MethodName)) ∈ lw_all := lw_g (lw_at lw_m6 79 rfl) rfl
theorem q1390 : (Jvm.Cond.methodLink "SpinStrip" (230 : Nat) ({ cls := "java/util/ArrayDeque", name := "pollLast", desc := "()Ljava/lang/Object;" } : Jvm.MethodName)) ∈ lw_all := lw_g (lw_at lw_m6 83 rfl) rfl
theorem q1398 : (Jvm.Cond.instanceMethod ({ cls := "SpinStrip", name := "site", desc := "(II)I" } : Jvm.MethodName)) ∈ lw_all := lw_g (lw_at lw_m6 91 rfl) rfl
theorem q1399 : (Jvm.Cond.selects "SpinStrip" ({ cls := "SpinStrip", name := "site", desc := "(II)I" } : Jvm.MethodName) ({ cls := "SpinStrip", name := "site", desc := "(II)I" } : Jvm.MethodName)) ∈ lw_all := lw_g (lw_at lw_m6 92 rfl) rfl
theorem q1400 : (Jvm.Cond.code ({ cls := "SpinStrip", name := "site", desc := "(II)I" } : Jvm.MethodName) prog_1_method_21_code (3 : Nat) (Option.some Jvm.ClassFile.FieldType.int)) ∈ lw_all := lw_g (lw_at lw_m6 93 rfl) rfl
theorem q1401 : (Jvm.Cond.constant "SpinStrip" (233 : Nat) (-100000 : Int32)) ∈ lw_all := lw_g (lw_at lw_m6 94 rfl) rfl
theorem q1402 : (Jvm.Cond.methodLink "SpinStrip" (237 : Nat) ({ cls := "SpinStrip$Strip", name := "cost", desc := "(II)I" } : Jvm.MethodName)) ∈ lw_all := lw_g (lw_at lw_m6 95 rfl) rfl
theorem q1404 : (Jvm.Cond.instanceMethod ({ cls := "SpinStrip", name := "level", desc := "(II)I" } : Jvm.MethodName)) ∈ lw_all := lw_g (lw_at lw_m6 97 rfl) rfl
theorem q1405 : (Jvm.Cond.selects "SpinStrip" ({ cls := "SpinStrip", name := "level", desc := "(II)I" } : Jvm.MethodName) ({ cls := "SpinStrip", name := "level", desc := "(II)I" } : Jvm.MethodName)) ∈ lw_all := lw_g (lw_at lw_m6 98 rfl) rfl
theorem q1406 : (Jvm.Cond.code ({ cls := "SpinStrip", name := "level", desc := "(II)I" } : Jvm.MethodName) prog_1_method_22_code (4 : Nat) (Option.some Jvm.ClassFile.FieldType.int)) ∈ lw_all := lw_g (lw_at lw_m6 99 rfl) rfl
theorem q1407 : (Jvm.Cond.methodLink "SpinStrip" (241 : Nat) ({ cls := "SpinStrip$Energies", name := "many", desc := "()I" } : Jvm.MethodName)) ∈ lw_all := lw_g (lw_at lw_m6 100 rfl) rfl
theorem q1412 : (Jvm.Cond.methodLink "SpinStrip" (244 : Nat) ({ cls := "SpinStrip$Energies", name := "at", desc := "(I)LSpinStrip$Level;" } : Jvm.MethodName)) ∈ lw_all := lw_g (lw_at lw_m6 105 rfl) rfl
theorem q1440 : (Jvm.Cond.methodLink "SpinStrip" (248 : Nat) ({ cls := "SpinStrip$Level", name := "told", desc := "(I)I" } : Jvm.MethodName)) ∈ lw_all := lw_g (lw_at lw_m6 133 rfl) rfl
theorem q1445 : (Jvm.Cond.instanceMethod ({ cls := "SpinStrip", name := "both", desc := "(II)I" } : Jvm.MethodName)) ∈ lw_all := lw_g (lw_at lw_m6 138 rfl) rfl
theorem q1446 : (Jvm.Cond.selects "SpinStrip" ({ cls := "SpinStrip", name := "both", desc := "(II)I" } : Jvm.MethodName) ({ cls := "SpinStrip", name := "both", desc := "(II)I" } : Jvm.MethodName)) ∈ lw_all := lw_g (lw_at lw_m6 139 rfl) rfl
theorem q1447 : (Jvm.Cond.code ({ cls := "SpinStrip", name := "both", desc := "(II)I" } : Jvm.MethodName) prog_1_method_23_code (3 : Nat) (Option.some Jvm.ClassFile.FieldType.int)) ∈ lw_all := lw_g (lw_at lw_m6 140 rfl) rfl
theorem q1448 : (Jvm.Cond.methodLink "SpinStrip" (253 : Nat) ({ cls := "SpinStrip$Energies", name := "manyOf", desc := "(I)I" } : Jvm.MethodName)) ∈ lw_all := lw_g (lw_at lw_m6 141 rfl) rfl
theorem q1452 : (Jvm.Cond.methodLink "SpinStrip" (256 : Nat) ({ cls := "SpinStrip$Energies", name := "both", desc := "(II)I" } : Jvm.MethodName)) ∈ lw_all := lw_g (lw_at lw_m6 145 rfl) rfl
theorem q1457 : (Jvm.Cond.instanceMethod ({ cls := "SpinStrip", name := "broken", desc := "(I)I" } : Jvm.MethodName)) ∈ lw_all := lw_g (lw_at lw_m6 150 rfl) rfl
theorem q1458 : (Jvm.Cond.selects "SpinStrip" ({ cls := "SpinStrip", name := "broken", desc := "(I)I" } : Jvm.MethodName) ({ cls := "SpinStrip", name := "broken", desc := "(I)I" } : Jvm.MethodName)) ∈ lw_all := lw_g (lw_at lw_m6 151 rfl) rfl
theorem q1459 : (Jvm.Cond.code ({ cls := "SpinStrip", name := "broken", desc := "(I)I" } : Jvm.MethodName) prog_1_method_24_code (2 : Nat) (Option.some Jvm.ClassFile.FieldType.int)) ∈ lw_all := lw_g (lw_at lw_m6 152 rfl) rfl
theorem q1461 : (Jvm.Cond.instanceMethod ({ cls := "SpinStrip", name := "ground", desc := "(I)I" } : Jvm.MethodName)) ∈ lw_all := lw_g (lw_at lw_m6 154 rfl) rfl
theorem q1462 : (Jvm.Cond.selects "SpinStrip" ({ cls := "SpinStrip", name := "ground", desc := "(I)I" } : Jvm.MethodName) ({ cls := "SpinStrip", name := "ground", desc := "(I)I" } : Jvm.MethodName)) ∈ lw_all := lw_g (lw_at lw_m6 155 rfl) rfl
theorem q1463 : (Jvm.Cond.code ({ cls := "SpinStrip", name := "ground", desc := "(I)I" } : Jvm.MethodName) prog_1_method_25_code (3 : Nat) (Option.some Jvm.ClassFile.FieldType.int)) ∈ lw_all := lw_g (lw_at lw_m6 156 rfl) rfl
theorem q1465 : (Jvm.Cond.instanceMethod ({ cls := "SpinStrip", name := "pair", desc := "(IIII)I" } : Jvm.MethodName)) ∈ lw_all := lw_g (lw_at lw_m6 158 rfl) rfl
theorem q1466 : (Jvm.Cond.selects "SpinStrip" ({ cls := "SpinStrip", name := "pair", desc := "(IIII)I" } : Jvm.MethodName) ({ cls := "SpinStrip", name := "pair", desc := "(IIII)I" } : Jvm.MethodName)) ∈ lw_all := lw_g (lw_at lw_m6 159 rfl) rfl
theorem q1467 : (Jvm.Cond.code ({ cls := "SpinStrip", name := "pair", desc := "(IIII)I" } : Jvm.MethodName) prog_1_method_28_code (6 : Nat) (Option.some Jvm.ClassFile.FieldType.int)) ∈ lw_all := lw_g (lw_at lw_m6 160 rfl) rfl
theorem q1468 : (Jvm.Cond.methodLink "SpinStrip" (276 : Nat) ({ cls := "SpinStrip$Energies", name := "together", desc := "(III)I" } : Jvm.MethodName)) ∈ lw_all := lw_g (lw_at lw_m6 161 rfl) rfl
theorem q1473 : (Jvm.Cond.methodLink "SpinStrip" (282 : Nat) ({ cls := "SpinStrip", name := "part", desc := "(III)I" } : Jvm.MethodName)) ∈ lw_all := lw_g (lw_at lw_m6 166 rfl) rfl
theorem q1474 : (Jvm.Cond.static ({ cls := "SpinStrip", name := "part", desc := "(III)I" } : Jvm.MethodName)) ∈ lw_all := lw_g (lw_at lw_m6 167 rfl) rfl
theorem q1475 : (Jvm.Cond.code ({ cls := "SpinStrip", name := "part", desc := "(III)I" } : Jvm.MethodName) prog_1_method_27_code (4 : Nat) (Option.some Jvm.ClassFile.FieldType.int)) ∈ lw_all := lw_g (lw_at lw_m6 168 rfl) rfl
theorem q1476 : (Jvm.Cond.methodLink "SpinStrip" (271 : Nat) ({ cls := "java/lang/Math", name := "abs", desc := "(I)I" } : Jvm.MethodName)) ∈ lw_all := lw_g (lw_at lw_m6 169 rfl) rfl
theorem q1479 : (Jvm.Cond.methodLink "SpinStrip" (268 : Nat) ({ cls := "SpinStrip", name := "divisor", desc := "(II)I" } : Jvm.MethodName)) ∈ lw_all := lw_g (lw_at lw_m6 172 rfl) rfl
theorem q1480 : (Jvm.Cond.static ({ cls := "SpinStrip", name := "divisor", desc := "(II)I" } : Jvm.MethodName)) ∈ lw_all := lw_g (lw_at lw_m6 173 rfl) rfl
theorem q1481 : (Jvm.Cond.code ({ cls := "SpinStrip", name := "divisor", desc := "(II)I" } : Jvm.MethodName) prog_1_method_26_code (2 : Nat) (Option.some Jvm.ClassFile.FieldType.int)) ∈ lw_all := lw_g (lw_at lw_m6 174 rfl) rfl
theorem q1483 : (Jvm.Cond.instanceMethod ({ cls := "SpinStrip", name := "mean", desc := "(II)I" } : Jvm.MethodName)) ∈ lw_all := lw_g (lw_at lw_m6 176 rfl) rfl
theorem q1484 : (Jvm.Cond.selects "SpinStrip" ({ cls := "SpinStrip", name := "mean", desc := "(II)I" } : Jvm.MethodName) ({ cls := "SpinStrip", name := "mean", desc := "(II)I" } : Jvm.MethodName)) ∈ lw_all := lw_g (lw_at lw_m6 177 rfl) rfl
theorem q1485 : (Jvm.Cond.code ({ cls := "SpinStrip", name := "mean", desc := "(II)I" } : Jvm.MethodName) prog_1_method_29_code (4 : Nat) (Option.some Jvm.ClassFile.FieldType.int)) ∈ lw_all := lw_g (lw_at lw_m6 178 rfl) rfl
theorem q1486 : (Jvm.Cond.methodLink "SpinStrip" (285 : Nat) ({ cls := "SpinStrip$Energies", name := "ups", desc := "(I)I" } : Jvm.MethodName)) ∈ lw_all := lw_g (lw_at lw_m6 179 rfl) rfl
theorem q1491 : (Jvm.Cond.instanceMethod ({ cls := "SpinStrip", name := "value", desc := "(I)I" } : Jvm.MethodName)) ∈ lw_all := lw_g (lw_at lw_m6 184 rfl) rfl
theorem q1492 : (Jvm.Cond.selects "SpinStrip" ({ cls := "SpinStrip", name := "value", desc := "(I)I" } : Jvm.MethodName) ({ cls := "SpinStrip", name := "value", desc := "(I)I" } : Jvm.MethodName)) ∈ lw_all := lw_g (lw_at lw_m6 185 rfl) rfl
theorem q1493 : (Jvm.Cond.code ({ cls := "SpinStrip", name := "value", desc := "(I)I" } : Jvm.MethodName) prog_1_method_30_code (7 : Nat) (Option.some Jvm.ClassFile.FieldType.int)) ∈ lw_all := lw_g (lw_at lw_m6 186 rfl) rfl
theorem q1494 : (Jvm.Cond.constant "SpinStrip" (288 : Nat) (1000002 : Int32)) ∈ lw_all := lw_g (lw_at lw_m6 187 rfl) rfl
theorem q1495 : (Jvm.Cond.constantLong "SpinStrip" (292 : Nat) (1000003 : Int64)) ∈ lw_all := lw_g (lw_at lw_m6 188 rfl) rfl
theorem q1497 : (Jvm.Cond.instanceMethod ({ cls := "SpinStrip", name := "joined", desc := "(III)J" } : Jvm.MethodName)) ∈ lw_all := lw_g (lw_at lw_m6 190 rfl) rfl
theorem q1498 : (Jvm.Cond.selects "SpinStrip" ({ cls := "SpinStrip", name := "joined", desc := "(III)J" } : Jvm.MethodName) ({ cls := "SpinStrip", name := "joined", desc := "(III)J" } : Jvm.MethodName)) ∈ lw_all := lw_g (lw_at lw_m6 191 rfl) rfl
theorem q1499 : (Jvm.Cond.code ({ cls := "SpinStrip", name := "joined", desc := "(III)J" } : Jvm.MethodName) prog_1_method_33_code (6 : Nat) (Option.some Jvm.ClassFile.FieldType.long)) ∈ lw_all := lw_g (lw_at lw_m6 192 rfl) rfl
theorem q1500 : (Jvm.Cond.methodLink "SpinStrip" (308 : Nat) ({ cls := "SpinStrip", name := "isHeld", desc := "(I)Z" } : Jvm.MethodName)) ∈ lw_all := lw_g (lw_at lw_m6 193 rfl) rfl
theorem q1501 : (Jvm.Cond.privateMethod ({ cls := "SpinStrip", name := "isHeld", desc := "(I)Z" } : Jvm.MethodName)) ∈ lw_tbl := lw_at lw_m6 194 rfl
theorem q1502 : (Jvm.Cond.instanceMethod ({ cls := "SpinStrip", name := "isHeld", desc := "(I)Z" } : Jvm.MethodName)) ∈ lw_all := lw_g (lw_at lw_m6 195 rfl) rfl
theorem q1503 : (Jvm.Cond.code ({ cls := "SpinStrip", name := "isHeld", desc := "(I)Z" } : Jvm.MethodName) prog_1_method_31_code (2 : Nat) (Option.some Jvm.ClassFile.FieldType.boolean)) ∈ lw_all := lw_g (lw_at lw_m6 196 rfl) rfl
theorem q1504 : (Jvm.Cond.constantLong "SpinStrip" (311 : Nat) (-100000 : Int64)) ∈ lw_all := lw_g (lw_at lw_m6 197 rfl) rfl
theorem q1505 : (Jvm.Cond.methodLink "SpinStrip" (313 : Nat) ({ cls := "SpinStrip", name := "joins", desc := "(I)V" } : Jvm.MethodName)) ∈ lw_all := lw_g (lw_at lw_m6 198 rfl) rfl
theorem q1506 : (Jvm.Cond.privateMethod ({ cls := "SpinStrip", name := "joins", desc := "(I)V" } : Jvm.MethodName)) ∈ lw_tbl := lw_at lw_m6 199 rfl
theorem q1507 : (Jvm.Cond.instanceMethod ({ cls := "SpinStrip", name := "joins", desc := "(I)V" } : Jvm.MethodName)) ∈ lw_all := lw_g (lw_at lw_m6 200 rfl) rfl
theorem q1508 : (Jvm.Cond.code ({ cls := "SpinStrip", name := "joins", desc := "(I)V" } : Jvm.MethodName) prog_1_method_32_code (4 : Nat) (Option.none : Option Jvm.ClassFile.FieldType)) ∈ lw_all := lw_g (lw_at lw_m6 201 rfl) rfl
theorem q1509 : (Jvm.Cond.methodLink "SpinStrip" (294 : Nat) ({ cls := "java/util/TreeMap", name := "clear", desc := "()V" } : Jvm.MethodName)) ∈ lw_all := lw_g (lw_at lw_m6 202 rfl) rfl
theorem q1510 : (Jvm.Cond.methodLink "SpinStrip" (295 : Nat) ({ cls := "java/lang/Integer", name := "valueOf", desc := "(I)Ljava/lang/Integer;" } : Jvm.MethodName)) ∈ lw_all := lw_g (lw_at lw_m6 203 rfl) rfl
theorem q1511 : (Jvm.Cond.methodLink "SpinStrip" (299 : Nat) ({ cls := "java/lang/Long", name := "valueOf", desc := "(J)Ljava/lang/Long;" } : Jvm.MethodName)) ∈ lw_all := lw_g (lw_at lw_m6 204 rfl) rfl
theorem q1527 : (Jvm.Cond.methodLink "SpinStrip" (304 : Nat) ({ cls := "java/util/TreeMap", name := "put", desc := "(Ljava/lang/Object;Ljava/lang/Object;)Ljava/lang/Object;" } : Jvm.MethodName)) ∈ lw_all := lw_g (lw_at lw_m6 220 rfl) rfl
theorem q1528 : (Jvm.Cond.methodLink "SpinStrip" (316 : Nat) ({ cls := "java/util/TreeMap", name := "size", desc := "()I" } : Jvm.MethodName)) ∈ lw_all := lw_g (lw_at lw_m6 221 rfl) rfl
theorem q1529 : (Jvm.Cond.methodLink "SpinStrip" (317 : Nat) ({ cls := "java/util/TreeMap", name := "firstKey", desc := "()Ljava/lang/Object;" } : Jvm.MethodName)) ∈ lw_all := lw_g (lw_at lw_m6 222 rfl) rfl
theorem q1530 : (Jvm.Cond.classLink "SpinStrip" (4 : Nat) "java/lang/Integer") ∈ lw_all := lw_g (lw_at lw_m6 223 rfl) rfl
theorem q1531 : (Jvm.Cond.methodLink "SpinStrip" (320 : Nat) ({ cls := "java/lang/Integer", name := "intValue", desc := "()I" } : Jvm.MethodName)) ∈ lw_all := lw_g (lw_at lw_m6 224 rfl) rfl
theorem q1532 : (Jvm.Cond.methodLink "SpinStrip" (323 : Nat) ({ cls := "java/util/TreeMap", name := "higherKey", desc := "(Ljava/lang/Object;)Ljava/lang/Object;" } : Jvm.MethodName)) ∈ lw_all := lw_g (lw_at lw_m6 225 rfl) rfl
theorem q1533 : (Jvm.Cond.methodLink "SpinStrip" (327 : Nat) ({ cls := "java/util/TreeMap", name := "get", desc := "(Ljava/lang/Object;)Ljava/lang/Object;" } : Jvm.MethodName)) ∈ lw_all := lw_g (lw_at lw_m6 226 rfl) rfl
theorem q1534 : (Jvm.Cond.classLink "SpinStrip" (300 : Nat) "java/lang/Long") ∈ lw_all := lw_g (lw_at lw_m6 227 rfl) rfl
theorem q1535 : (Jvm.Cond.methodLink "SpinStrip" (330 : Nat) ({ cls := "java/lang/Long", name := "longValue", desc := "()J" } : Jvm.MethodName)) ∈ lw_all := lw_g (lw_at lw_m6 228 rfl) rfl
theorem q1540 : (Jvm.Cond.instanceMethod ({ cls := "SpinStrip", name := "state", desc := "(II)I" } : Jvm.MethodName)) ∈ lw_all := lw_g (lw_at lw_m6 233 rfl) rfl
theorem q1541 : (Jvm.Cond.selects "SpinStrip" ({ cls := "SpinStrip", name := "state", desc := "(II)I" } : Jvm.MethodName) ({ cls := "SpinStrip", name := "state", desc := "(II)I" } : Jvm.MethodName)) ∈ lw_all := lw_g (lw_at lw_m6 234 rfl) rfl
theorem q1542 : (Jvm.Cond.code ({ cls := "SpinStrip", name := "state", desc := "(II)I" } : Jvm.MethodName) prog_1_method_34_code (3 : Nat) (Option.some Jvm.ClassFile.FieldType.int)) ∈ lw_all := lw_g (lw_at lw_m6 235 rfl) rfl
theorem q1543 : (Jvm.Cond.methodLink "SpinStrip" (334 : Nat) ({ cls := "SpinStrip$Strip", name := "isLawful", desc := "(I)Z" } : Jvm.MethodName)) ∈ lw_all := lw_g (lw_at lw_m6 236 rfl) rfl
theorem q1544 : (Jvm.Cond.methodLink "SpinStrip" (337 : Nat) ({ cls := "SpinStrip$Energies", name := "of", desc := "(I)I" } : Jvm.MethodName)) ∈ lw_all := lw_g (lw_at lw_m6 237 rfl) rfl
theorem q1548 : (Jvm.Cond.methodLink "SpinStrip" (340 : Nat) ({ cls := "SpinStrip$Strip", name := "broken", desc := "(I)I" } : Jvm.MethodName)) ∈ lw_all := lw_g (lw_at lw_m7 1 rfl) rfl
theorem q1549 : (Jvm.Cond.methodLink "SpinStrip" (342 : Nat) ({ cls := "SpinStrip$Energies", name := "isStuck", desc := "(I)Z" } : Jvm.MethodName)) ∈ lw_all := lw_g (lw_at lw_m7 2 rfl) rfl
theorem q1554 : (Jvm.Cond.methodLink "SpinStrip" (345 : Nat) ({ cls := "SpinStrip$Energies", name := "placeOf", desc := "(I)I" } : Jvm.MethodName)) ∈ lw_all := lw_g (lw_at lw_m7 7 rfl) rfl
theorem q1559 : (Jvm.Cond.instanceMethod ({ cls := "SpinStrip", name := "stuck", desc := "(Z)I" } : Jvm.MethodName)) ∈ lw_all := lw_g (lw_at lw_m7 12 rfl) rfl
theorem q1560 : (Jvm.Cond.selects "SpinStrip" ({ cls := "SpinStrip", name := "stuck", desc := "(Z)I" } : Jvm.MethodName) ({ cls := "SpinStrip", name := "stuck", desc := "(Z)I" } : Jvm.MethodName)) ∈ lw_all := lw_g (lw_at lw_m7 13 rfl) rfl
theorem q1561 : (Jvm.Cond.code ({ cls := "SpinStrip", name := "stuck", desc := "(Z)I" } : Jvm.MethodName) prog_1_method_35_code (4 : Nat) (Option.some Jvm.ClassFile.FieldType.int)) ∈ lw_all := lw_g (lw_at lw_m7 14 rfl) rfl
theorem q1562 : (Jvm.Cond.methodLink "SpinStrip" (348 : Nat) ({ cls := "SpinStrip$Strip", name := "states", desc := "()I" } : Jvm.MethodName)) ∈ lw_all := lw_g (lw_at lw_m7 15 rfl) rfl
theorem q1563 : (Jvm.Cond.methodLink "SpinStrip" (351 : Nat) ({ cls := "SpinStrip$Energies", name := "isGround", desc := "(I)Z" } : Jvm.MethodName)) ∈ lw_all := lw_g (lw_at lw_m7 16 rfl) rfl
theorem q1568 : (Jvm.Cond.instanceMethod ({ cls := "SpinStrip", name := "rows", desc := "(III)I" } : Jvm.MethodName)) ∈ lw_all := lw_g (lw_at lw_m7 21 rfl) rfl
theorem q1569 : (Jvm.Cond.selects "SpinStrip" ({ cls := "SpinStrip", name := "rows", desc := "(III)I" } : Jvm.MethodName) ({ cls := "SpinStrip", name := "rows", desc := "(III)I" } : Jvm.MethodName)) ∈ lw_all := lw_g (lw_at lw_m7 22 rfl) rfl
theorem q1570 : (Jvm.Cond.code ({ cls := "SpinStrip", name := "rows", desc := "(III)I" } : Jvm.MethodName) prog_1_method_36_code (4 : Nat) (Option.some Jvm.ClassFile.FieldType.int)) ∈ lw_all := lw_g (lw_at lw_m7 23 rfl) rfl
theorem q1571 : (Jvm.Cond.methodLink "SpinStrip" (357 : Nat) ({ cls := "SpinStrip$Rows", name := "many", desc := "(III)I" } : Jvm.MethodName)) ∈ lw_all := lw_g (lw_at lw_m7 24 rfl) rfl
theorem q1611 : (Jvm.Cond.instanceMethod ({ cls := "SpinStrip", name := "square", desc := "(I)I" } : Jvm.MethodName)) ∈ lw_all := lw_g (lw_at lw_m7 64 rfl) rfl
theorem q1612 : (Jvm.Cond.selects "SpinStrip" ({ cls := "SpinStrip", name := "square", desc := "(I)I" } : Jvm.MethodName) ({ cls := "SpinStrip", name := "square", desc := "(I)I" } : Jvm.MethodName)) ∈ lw_all := lw_g (lw_at lw_m7 65 rfl) rfl
theorem q1613 : (Jvm.Cond.code ({ cls := "SpinStrip", name := "square", desc := "(I)I" } : Jvm.MethodName) prog_1_method_37_code (2 : Nat) (Option.some Jvm.ClassFile.FieldType.int)) ∈ lw_all := lw_g (lw_at lw_m7 66 rfl) rfl
theorem q1614 : (Jvm.Cond.methodLink "SpinStrip" (359 : Nat) ({ cls := "SpinStrip$Strip", name := "square", desc := "(I)I" } : Jvm.MethodName)) ∈ lw_all := lw_g (lw_at lw_m7 67 rfl) rfl
theorem q1619 : (Jvm.Cond.instanceMethod ({ cls := "SpinStrip", name := "overlap", desc := "(I)I" } : Jvm.MethodName)) ∈ lw_all := lw_g (lw_at lw_m7 72 rfl) rfl
theorem q1620 : (Jvm.Cond.selects "SpinStrip" ({ cls := "SpinStrip", name := "overlap", desc := "(I)I" } : Jvm.MethodName) ({ cls := "SpinStrip", name := "overlap", desc := "(I)I" } : Jvm.MethodName)) ∈ lw_all := lw_g (lw_at lw_m7 73 rfl) rfl
theorem q1621 : (Jvm.Cond.code ({ cls := "SpinStrip", name := "overlap", desc := "(I)I" } : Jvm.MethodName) prog_1_method_38_code (2 : Nat) (Option.some Jvm.ClassFile.FieldType.int)) ∈ lw_all := lw_g (lw_at lw_m7 74 rfl) rfl
theorem q1622 : (Jvm.Cond.methodLink "SpinStrip" (362 : Nat) ({ cls := "SpinStrip$Energies", name := "overlap", desc := "(I)I" } : Jvm.MethodName)) ∈ lw_all := lw_g (lw_at lw_m7 75 rfl) rfl
theorem q1629 : (Jvm.Cond.instanceMethod ({ cls := "SpinStrip", name := "basin", desc := "(I)I" } : Jvm.MethodName)) ∈ lw_all := lw_g (lw_at lw_m7 82 rfl) rfl
theorem q1630 : (Jvm.Cond.selects "SpinStrip" ({ cls := "SpinStrip", name := "basin", desc := "(I)I" } : Jvm.MethodName) ({ cls := "SpinStrip", name := "basin", desc := "(I)I" } : Jvm.MethodName)) ∈ lw_all := lw_g (lw_at lw_m7 83 rfl) rfl
theorem q1631 : (Jvm.Cond.code ({ cls := "SpinStrip", name := "basin", desc := "(I)I" } : Jvm.MethodName) prog_1_method_39_code (2 : Nat) (Option.some Jvm.ClassFile.FieldType.int)) ∈ lw_all := lw_g (lw_at lw_m7 84 rfl) rfl
theorem q1632 : (Jvm.Cond.methodLink "SpinStrip" (365 : Nat) ({ cls := "SpinStrip$Energies", name := "basin", desc := "(I)I" } : Jvm.MethodName)) ∈ lw_all := lw_g (lw_at lw_m7 85 rfl) rfl
theorem q1641 : (Jvm.Cond.instanceMethod ({ cls := "SpinStrip", name := "stiff", desc := "(II)I" } : Jvm.MethodName)) ∈ lw_all := lw_g (lw_at lw_m7 94 rfl) rfl
theorem q1642 : (Jvm.Cond.selects "SpinStrip" ({ cls := "SpinStrip", name := "stiff", desc := "(II)I" } : Jvm.MethodName) ({ cls := "SpinStrip", name := "stiff", desc := "(II)I" } : Jvm.MethodName)) ∈ lw_all := lw_g (lw_at lw_m7 95 rfl) rfl
theorem q1643 : (Jvm.Cond.code ({ cls := "SpinStrip", name := "stiff", desc := "(II)I" } : Jvm.MethodName) prog_1_method_40_code (5 : Nat) (Option.some Jvm.ClassFile.FieldType.int)) ∈ lw_all := lw_g (lw_at lw_m7 96 rfl) rfl
theorem q1644 : (Jvm.Cond.methodLink "SpinStrip" (368 : Nat) ({ cls := "SpinStrip$Energies", name := "leastOf", desc := "(IIZ)I" } : Jvm.MethodName)) ∈ lw_all := lw_g (lw_at lw_m7 97 rfl) rfl
theorem q1650 : (Jvm.Cond.instanceMethod ({ cls := "SpinStrip", name := "hill", desc := "(I)I" } : Jvm.MethodName)) ∈ lw_all := lw_g (lw_at lw_m7 103 rfl) rfl
theorem q1651 : (Jvm.Cond.selects "SpinStrip" ({ cls := "SpinStrip", name := "hill", desc := "(I)I" } : Jvm.MethodName) ({ cls := "SpinStrip", name := "hill", desc := "(I)I" } : Jvm.MethodName)) ∈ lw_all := lw_g (lw_at lw_m7 104 rfl) rfl
theorem q1652 : (Jvm.Cond.code ({ cls := "SpinStrip", name := "hill", desc := "(I)I" } : Jvm.MethodName) prog_1_method_42_code (2 : Nat) (Option.some Jvm.ClassFile.FieldType.int)) ∈ lw_all := lw_g (lw_at lw_m7 105 rfl) rfl
theorem q1653 : (Jvm.Cond.methodLink "SpinStrip" (372 : Nat) ({ cls := "SpinStrip", name := "areFew", desc := "()Z" } : Jvm.MethodName)) ∈ lw_all := lw_g (lw_at lw_m7 106 rfl) rfl
theorem q1654 : (Jvm.Cond.privateMethod ({ cls := "SpinStrip", name := "areFew", desc := "()Z" } : Jvm.MethodName)) ∈ lw_tbl := lw_at lw_m7 107 rfl
theorem q1655 : (Jvm.Cond.instanceMethod ({ cls := "SpinStrip", name := "areFew", desc := "()Z" } : Jvm.MethodName)) ∈ lw_all := lw_g (lw_at lw_m7 108 rfl) rfl
theorem q1656 : (Jvm.Cond.code ({ cls := "SpinStrip", name := "areFew", desc := "()Z" } : Jvm.MethodName) prog_1_method_41_code (1 : Nat) (Option.some Jvm.ClassFile.FieldType.boolean)) ∈ lw_all := lw_g (lw_at lw_m7 109 rfl) rfl
theorem q1657 : (Jvm.Cond.methodLink "SpinStrip" (375 : Nat) ({ cls := "SpinStrip$Hills", name := "of", desc := "(II)I" } : Jvm.MethodName)) ∈ lw_all := lw_g (lw_at lw_m7 110 rfl) rfl
theorem q1754 : (Jvm.Cond.instanceMethod ({ cls := "SpinStrip", name := "pass", desc := "(II)I" } : Jvm.MethodName)) ∈ lw_all := lw_g (lw_at lw_m7 207 rfl) rfl
theorem q1755 : (Jvm.Cond.selects "SpinStrip" ({ cls := "SpinStrip", name := "pass", desc := "(II)I" } : Jvm.MethodName) ({ cls := "SpinStrip", name := "pass", desc := "(II)I" } : Jvm.MethodName)) ∈ lw_all := lw_g (lw_at lw_m7 208 rfl) rfl
theorem q1756 : (Jvm.Cond.code ({ cls := "SpinStrip", name := "pass", desc := "(II)I" } : Jvm.MethodName) prog_1_method_43_code (3 : Nat) (Option.some Jvm.ClassFile.FieldType.int)) ∈ lw_all := lw_g (lw_at lw_m7 209 rfl) rfl
theorem q1758 : (Jvm.Cond.instanceMethod ({ cls := "SpinStrip", name := "lakes", desc := "(I)I" } : Jvm.MethodName)) ∈ lw_all := lw_g (lw_at lw_m7 211 rfl) rfl
theorem q1759 : (Jvm.Cond.selects "SpinStrip" ({ cls := "SpinStrip", name := "lakes", desc := "(I)I" } : Jvm.MethodName) ({ cls := "SpinStrip", name := "lakes", desc := "(I)I" } : Jvm.MethodName)) ∈ lw_all := lw_g (lw_at lw_m7 212 rfl) rfl
theorem q1760 : (Jvm.Cond.code ({ cls := "SpinStrip", name := "lakes", desc := "(I)I" } : Jvm.MethodName) prog_1_method_44_code (2 : Nat) (Option.some Jvm.ClassFile.FieldType.int)) ∈ lw_all := lw_g (lw_at lw_m7 213 rfl) rfl
theorem q1761 : (Jvm.Cond.methodLink "SpinStrip" (377 : Nat) ({ cls := "SpinStrip$Lakes", name := "many", desc := "(I)I" } : Jvm.MethodName)) ∈ lw_all := lw_g (lw_at lw_m7 214 rfl) rfl
theorem q1786 : (Jvm.Cond.instanceMethod ({ cls := "SpinStrip", name := "down", desc := "(I)J" } : Jvm.MethodName)) ∈ lw_all := lw_g (lw_at lw_m7 239 rfl) rfl
theorem q1787 : (Jvm.Cond.selects "SpinStrip" ({ cls := "SpinStrip", name := "down", desc := "(I)J" } : Jvm.MethodName) ({ cls := "SpinStrip", name := "down", desc := "(I)J" } : Jvm.MethodName)) ∈ lw_all := lw_g (lw_at lw_m8 0 rfl) rfl
theorem q1788 : (Jvm.Cond.code ({ cls := "SpinStrip", name := "down", desc := "(I)J" } : Jvm.MethodName) prog_1_method_45_code (2 : Nat) (Option.some Jvm.ClassFile.FieldType.long)) ∈ lw_all := lw_g (lw_at lw_m8 1 rfl) rfl
theorem q1789 : (Jvm.Cond.methodLink "SpinStrip" (379 : Nat) ({ cls := "SpinStrip$Lakes", name := "down", desc := "(I)J" } : Jvm.MethodName)) ∈ lw_all := lw_g (lw_at lw_m8 2 rfl) rfl
theorem q1802 : (Jvm.Cond.instanceMethod ({ cls := "SpinStrip", name := "nearest", desc := "(II)I" } : Jvm.MethodName)) ∈ lw_all := lw_g (lw_at lw_m8 15 rfl) rfl
theorem q1803 : (Jvm.Cond.selects "SpinStrip" ({ cls := "SpinStrip", name := "nearest", desc := "(II)I" } : Jvm.MethodName) ({ cls := "SpinStrip", name := "nearest", desc := "(II)I" } : Jvm.MethodName)) ∈ lw_all := lw_g (lw_at lw_m8 16 rfl) rfl
theorem q1804 : (Jvm.Cond.code ({ cls := "SpinStrip", name := "nearest", desc := "(II)I" } : Jvm.MethodName) prog_1_method_46_code (4 : Nat) (Option.some Jvm.ClassFile.FieldType.int)) ∈ lw_all := lw_g (lw_at lw_m8 17 rfl) rfl
theorem q1805 : (Jvm.Cond.methodLink "SpinStrip" (382 : Nat) ({ cls := "SpinStrip$Energies", name := "nearest", desc := "(I)I" } : Jvm.MethodName)) ∈ lw_all := lw_g (lw_at lw_m8 18 rfl) rfl
theorem q1809 : (Jvm.Cond.methodLink "SpinStrip" (385 : Nat) ({ cls := "SpinStrip", name := "many", desc := "(I)I" } : Jvm.MethodName)) ∈ lw_all := lw_g (lw_at lw_m8 22 rfl) rfl
theorem q1811 : (Jvm.Cond.instanceMethod ({ cls := "SpinStrip", name := "cluster", desc := "(I)I" } : Jvm.MethodName)) ∈ lw_all := lw_g (lw_at lw_m8 24 rfl) rfl
theorem q1812 : (Jvm.Cond.selects "SpinStrip" ({ cls := "SpinStrip", name := "cluster", desc := "(I)I" } : Jvm.MethodName) ({ cls := "SpinStrip", name := "cluster", desc := "(I)I" } : Jvm.MethodName)) ∈ lw_all := lw_g (lw_at lw_m8 25 rfl) rfl
theorem q1813 : (Jvm.Cond.code ({ cls := "SpinStrip", name := "cluster", desc := "(I)I" } : Jvm.MethodName) prog_1_method_47_code (2 : Nat) (Option.some Jvm.ClassFile.FieldType.int)) ∈ lw_all := lw_g (lw_at lw_m8 26 rfl) rfl
theorem q1814 : (Jvm.Cond.methodLink "SpinStrip" (386 : Nat) ({ cls := "SpinStrip$Strip", name := "cluster", desc := "(I)I" } : Jvm.MethodName)) ∈ lw_all := lw_g (lw_at lw_m8 27 rfl) rfl
theorem q1819 : (Jvm.Cond.instanceMethod ({ cls := "SpinStrip", name := "wander", desc := "(III)I" } : Jvm.MethodName)) ∈ lw_all := lw_g (lw_at lw_m8 32 rfl) rfl
theorem q1820 : (Jvm.Cond.selects "SpinStrip" ({ cls := "SpinStrip", name := "wander", desc := "(III)I" } : Jvm.MethodName) ({ cls := "SpinStrip", name := "wander", desc := "(III)I" } : Jvm.MethodName)) ∈ lw_all := lw_g (lw_at lw_m8 33 rfl) rfl
theorem q1821 : (Jvm.Cond.code ({ cls := "SpinStrip", name := "wander", desc := "(III)I" } : Jvm.MethodName) prog_1_method_49_code (10 : Nat) (Option.some Jvm.ClassFile.FieldType.int)) ∈ lw_all := lw_g (lw_at lw_m8 34 rfl) rfl
theorem q1822 : (Jvm.Cond.methodLink "SpinStrip" (400 : Nat) ({ cls := "java/lang/Math", name := "min", desc := "(II)I" } : Jvm.MethodName)) ∈ lw_all := lw_g (lw_at lw_m8 35 rfl) rfl
theorem q1824 : (Jvm.Cond.instanceMethod ({ cls := "SpinStrip", name := "hold", desc := "(I)Z" } : Jvm.MethodName)) ∈ lw_all := lw_g (lw_at lw_m8 37 rfl) rfl
theorem q1825 : (Jvm.Cond.selects "SpinStrip" ({ cls := "SpinStrip", name := "hold", desc := "(I)Z" } : Jvm.MethodName) ({ cls := "SpinStrip", name := "hold", desc := "(I)Z" } : Jvm.MethodName)) ∈ lw_all := lw_g (lw_at lw_m8 38 rfl) rfl
theorem q1826 : (Jvm.Cond.code ({ cls := "SpinStrip", name := "hold", desc := "(I)Z" } : Jvm.MethodName) prog_1_method_50_code (2 : Nat) (Option.some Jvm.ClassFile.FieldType.boolean)) ∈ lw_all := lw_g (lw_at lw_m8 39 rfl) rfl
theorem q1828 : (Jvm.Cond.instanceMethod ({ cls := "SpinStrip", name := "restore", desc := "(I)Z" } : Jvm.MethodName)) ∈ lw_all := lw_g (lw_at lw_m8 41 rfl) rfl
theorem q1829 : (Jvm.Cond.selects "SpinStrip" ({ cls := "SpinStrip", name := "restore", desc := "(I)Z" } : Jvm.MethodName) ({ cls := "SpinStrip", name := "restore", desc := "(I)Z" } : Jvm.MethodName)) ∈ lw_all := lw_g (lw_at lw_m8 42 rfl) rfl
theorem q1830 : (Jvm.Cond.code ({ cls := "SpinStrip", name := "restore", desc := "(I)Z" } : Jvm.MethodName) prog_1_method_51_code (2 : Nat) (Option.some Jvm.ClassFile.FieldType.boolean)) ∈ lw_all := lw_g (lw_at lw_m8 43 rfl) rfl
theorem q1832 : (Jvm.Cond.instanceMethod ({ cls := "SpinStrip", name := "count", desc := "(I)I" } : Jvm.MethodName)) ∈ lw_all := lw_g (lw_at lw_m8 45 rfl) rfl
theorem q1833 : (Jvm.Cond.selects "SpinStrip" ({ cls := "SpinStrip", name := "count", desc := "(I)I" } : Jvm.MethodName) ({ cls := "SpinStrip", name := "count", desc := "(I)I" } : Jvm.MethodName)) ∈ lw_all := lw_g (lw_at lw_m8 46 rfl) rfl
theorem q1834 : (Jvm.Cond.code ({ cls := "SpinStrip", name := "count", desc := "(I)I" } : Jvm.MethodName) prog_1_method_55_code (2 : Nat) (Option.some Jvm.ClassFile.FieldType.int)) ∈ lw_all := lw_g (lw_at lw_m8 47 rfl) rfl
theorem q1835 : (Jvm.Cond.methodLink "SpinStrip" (415 : Nat) ({ cls := "SpinStrip$Strip", name := "tieMany", desc := "()I" } : Jvm.MethodName)) ∈ lw_all := lw_g (lw_at lw_m8 48 rfl) rfl
theorem q1839 : (Jvm.Cond.methodLink "SpinStrip" (418 : Nat) ({ cls := "SpinStrip", name := "clusters", desc := "()Ljava/util/PriorityQueue;" } : Jvm.MethodName)) ∈ lw_all := lw_g (lw_at lw_m8 52 rfl) rfl
theorem q1840 : (Jvm.Cond.privateMethod ({ cls := "SpinStrip", name := "clusters", desc := "()Ljava/util/PriorityQueue;" } : Jvm.MethodName)) ∈ lw_tbl := lw_at lw_m8 53 rfl
theorem q1841 : (Jvm.Cond.instanceMethod ({ cls := "SpinStrip", name := "clusters", desc := "()Ljava/util/PriorityQueue;" } : Jvm.MethodName)) ∈ lw_all := lw_g (lw_at lw_m8 54 rfl) rfl
theorem q1842 : (Jvm.Cond.code ({ cls := "SpinStrip", name := "clusters", desc := "()Ljava/util/PriorityQueue;" } : Jvm.MethodName) prog_1_method_52_code (5 : Nat) (Option.some (Jvm.ClassFile.FieldType.object "java/util/PriorityQueue"))) ∈ lw_all := lw_g (lw_at lw_m8 55 rfl) rfl
theorem q1843 : (Jvm.Cond.classLink "SpinStrip" (403 : Nat) "java/util/PriorityQueue") ∈ lw_all := lw_g (lw_at lw_m8 56 rfl) rfl
theorem q1844 : (Jvm.Cond.classLink "SpinStrip" (405 : Nat) "SpinStrip$Greater") ∈ lw_all := lw_g (lw_at lw_m8 57 rfl) rfl
theorem q1846 : (Jvm.Cond.methodLinkNest "SpinStrip" (407 : Nat) ({ cls := "SpinStrip$Greater", name := "<init>", desc := "()V" } : Jvm.MethodName) "SpinStrip") ∈ lw_tbl := lw_at lw_m8 59 rfl
theorem q1851 : (Jvm.Cond.methodLink "SpinStrip" (408 : Nat) ({ cls := "java/util/PriorityQueue", name := "<init>", desc := "(Ljava/util/Comparator;)V" } : Jvm.MethodName)) ∈ lw_all := lw_g (lw_at lw_m8 64 rfl) rfl
theorem q1854 : (Jvm.Cond.methodLink "SpinStrip" (411 : Nat) ({ cls := "java/util/PriorityQueue", name := "add", desc := "(Ljava/lang/Object;)Z" } : Jvm.MethodName)) ∈ lw_all := lw_g (lw_at lw_m8 67 rfl) rfl
theorem q1855 : (Jvm.Cond.methodLink "SpinStrip" (422 : Nat) ({ cls := "java/util/PriorityQueue", name := "size", desc := "()I" } : Jvm.MethodName)) ∈ lw_all := lw_g (lw_at lw_m8 68 rfl) rfl
theorem q1859 : (Jvm.Cond.methodLink "SpinStrip" (423 : Nat) ({ cls := "java/util/PriorityQueue", name := "peek", desc := "()Ljava/lang/Object;" } : Jvm.MethodName)) ∈ lw_all := lw_g (lw_at lw_m8 72 rfl) rfl
theorem q1863 : (Jvm.Cond.methodLink "SpinStrip" (429 : Nat) ({ cls := "SpinStrip", name := "fewestBroken", desc := "()I" } : Jvm.MethodName)) ∈ lw_all := lw_g (lw_at lw_m8 76 rfl) rfl
theorem q1864 : (Jvm.Cond.privateMethod ({ cls := "SpinStrip", name := "fewestBroken", desc := "()I" } : Jvm.MethodName)) ∈ lw_tbl := lw_at lw_m8 77 rfl
theorem q1865 : (Jvm.Cond.instanceMethod ({ cls := "SpinStrip", name := "fewestBroken", desc := "()I" } : Jvm.MethodName)) ∈ lw_all := lw_g (lw_at lw_m8 78 rfl) rfl
theorem q1866 : (Jvm.Cond.code ({ cls := "SpinStrip", name := "fewestBroken", desc := "()I" } : Jvm.MethodName) prog_1_method_54_code (2 : Nat) (Option.some Jvm.ClassFile.FieldType.int)) ∈ lw_all := lw_g (lw_at lw_m8 79 rfl) rfl
theorem q1867 : (Jvm.Cond.methodLink "SpinStrip" (432 : Nat) ({ cls := "SpinStrip", name := "odd", desc := "()I" } : Jvm.MethodName)) ∈ lw_all := lw_g (lw_at lw_m8 80 rfl) rfl
theorem q1868 : (Jvm.Cond.privateMethod ({ cls := "SpinStrip", name := "odd", desc := "()I" } : Jvm.MethodName)) ∈ lw_tbl := lw_at lw_m8 81 rfl
theorem q1869 : (Jvm.Cond.instanceMethod ({ cls := "SpinStrip", name := "odd", desc := "()I" } : Jvm.MethodName)) ∈ lw_all := lw_g (lw_at lw_m8 82 rfl) rfl
theorem q1870 : (Jvm.Cond.code ({ cls := "SpinStrip", name := "odd", desc := "()I" } : Jvm.MethodName) prog_1_method_53_code (3 : Nat) (Option.some Jvm.ClassFile.FieldType.int)) ∈ lw_all := lw_g (lw_at lw_m8 83 rfl) rfl
theorem q2390 : (Jvm.Cond.castable "SpinStrip" "java/lang/Object") ∈ lw_tbl := lw_at lw_m10 123 rfl
theorem in_X0 : ∀ w ∈ wsX00, w ∈ lw_all := lw_in wsX00 [545, 547, 549, 551, 553, 555, 557, 559, 561, 563, 565, 567, 569, 571, 573, 575, 577, 579, 581, 583] (by decide +kernel) (by decide +kernel)

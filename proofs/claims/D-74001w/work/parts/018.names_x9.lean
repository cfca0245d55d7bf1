/-! SpinStripModel -/
set_option maxRecDepth 100000
def RX9 : String := "SpinStripModel"
def TX9 : u_T := fun k => match k with
  | 0 => ("SpinStripModel", "thrown", "I", false)
  | 1 => ("SpinStripModel", "tape", "[B", true)
  | 2 => ("SpinStripModel", "taped", "I", false)
  | 3 => ("SpinStripModel", "text", "[B", true)
  | 4 => ("SpinStripModel", "size", "I", false)
  | 5 => ("SpinStripModel", "tKind", "[I", true)
  | 6 => ("SpinStripModel", "tPlace", "[I", true)
  | 7 => ("SpinStripModel", "tValue", "[I", true)
  | 8 => ("SpinStripModel", "tName", "[J", true)
  | 9 => ("SpinStripModel", "keys", "[J", true)
  | 10 => ("SpinStripModel", "tokens", "I", false)
  | 11 => ("SpinStripModel", "t", "I", false)
  | 12 => ("SpinStripModel", "fault", "I", false)
  | 13 => ("SpinStripModel", "faultPlace", "I", false)
  | 14 => ("SpinStripModel", "worst", "I", false)
  | 15 => ("SpinStripModel", "worstPlace", "I", false)
  | 16 => ("SpinStripModel", "place", "I", false)
  | 17 => ("SpinStripModel", "wide", "I", false)
  | 18 => ("SpinStripModel", "far", "I", false)
  | 19 => ("SpinStripModel", "ringAcross", "Z", false)
  | 20 => ("SpinStripModel", "ringAlong", "Z", false)
  | 21 => ("SpinStripModel", "now", "[I", true)
  | 22 => ("SpinStripModel", "newWide", "I", false)
  | 23 => ("SpinStripModel", "newFar", "I", false)
  | 24 => ("SpinStripModel", "newRingAcross", "Z", false)
  | 25 => ("SpinStripModel", "newRingAlong", "Z", false)
  | 26 => ("SpinStripModel", "fresh", "[I", true)
  | 27 => ("SpinStripModel", "earlier", "[I", true)
  | 28 => ("SpinStripModel", "earliest", "I", false)
  | 29 => ("SpinStripModel", "undos", "I", false)
  | 30 => ("SpinStripModel", "held", "[I", true)
  | 31 => ("SpinStripModel", "isHeld", "[Z", true)
  | 32 => ("SpinStripModel", "isKnown", "Z", false)
  | 33 => ("SpinStripModel", "energyOf", "[I", true)
  | 34 => ("SpinStripModel", "levelMany", "[I", true)
  | 35 => ("SpinStripModel", "levels", "I", false)
  | 36 => ("SpinStripModel", "levelAt", "[I", true)
  | 37 => ("SpinStripModel", "other", "[I", true)
  | 38 => ("SpinStripModel", "otherMany", "[I", true)
  | 39 => ("SpinStripModel", "both", "[J", true)
  | 40 => ("SpinStripModel", "hillOf", "[I", true)
  | 41 => ("SpinStripModel", "isWet", "[Z", true)
  | 42 => ("SpinStripModel", "waiting", "[I", true)
  | 43 => ("SpinStripModel", "downOf", "[J", true)
  | _ => ("SpinStripModel", "grounds", "[I", true)
def tyX9 : Nat → FieldType := fun k => match k with
  | 0 => .int
  | 1 => .array .byte
  | 2 => .int
  | 3 => .array .byte
  | 4 => .int
  | 5 => .array .int
  | 6 => .array .int
  | 7 => .array .int
  | 8 => .array .long
  | 9 => .array .long
  | 10 => .int
  | 11 => .int
  | 12 => .int
  | 13 => .int
  | 14 => .int
  | 15 => .int
  | 16 => .int
  | 17 => .int
  | 18 => .int
  | 19 => .boolean
  | 20 => .boolean
  | 21 => .array .int
  | 22 => .int
  | 23 => .int
  | 24 => .boolean
  | 25 => .boolean
  | 26 => .array .int
  | 27 => .array .int
  | 28 => .int
  | 29 => .int
  | 30 => .array .int
  | 31 => .array .boolean
  | 32 => .boolean
  | 33 => .array .int
  | 34 => .array .int
  | 35 => .int
  | 36 => .array .int
  | 37 => .array .int
  | 38 => .array .int
  | 39 => .array .long
  | 40 => .array .int
  | 41 => .array .boolean
  | 42 => .array .int
  | 43 => .array .long
  | _ => .array .int
abbrev wsX90 : List Cond := u_ws RX9 TX9 45
set_option maxRecDepth 100000 in
theorem nmX9 : ∀ a, a < 45 → ∀ b, b < 45 → a ≠ b → (TX9 a).2.1 ≠ (TX9 b).2.1 := by decide +kernel
set_option maxRecDepth 100000 in
theorem tyX9_ok : ∀ k, k < 45 → parseFieldDescriptor (TX9 k).2.2.1 = some (tyX9 k) := by decide +kernel
abbrev cX9_init : ByteArray := prog_14_method_2_code
def yX9_init : MethodName := ⟨RX9, "<init>", "()V"⟩
def dkwX9_init_18 : List UInt8 := [16, 115, 16, 101, 16, 101, 16, 100, 3, 3, 3, 184, 0, 90, 80, 177]
abbrev dktX9_init_18 : List UInt8 := dkwX9_init_18 ++ []
def dkwX9_init_17 : List UInt8 := [16, 9, 16, 100, 16, 111, 16, 119, 16, 110, 3, 3, 3, 184, 0, 90, 80, 42, 180, 0, 34, 16, 10]
abbrev dktX9_init_17 : List UInt8 := dkwX9_init_17 ++ dktX9_init_18
def dkwX9_init_16 : List UInt8 := [80, 42, 180, 0, 34, 16, 8, 16, 117, 16, 112, 3, 3, 3, 3, 3, 184, 0, 90, 80, 42, 180, 0, 34]
abbrev dktX9_init_16 : List UInt8 := dkwX9_init_16 ++ dktX9_init_17
def dkwX9_init_15 : List UInt8 := [3, 184, 0, 90, 80, 42, 180, 0, 34, 16, 7, 16, 112, 16, 105, 16, 110, 3, 3, 3, 3, 184, 0, 90]
abbrev dktX9_init_15 : List UInt8 := dkwX9_init_15 ++ dktX9_init_16
def dkwX9_init_14 : List UInt8 := [3, 3, 3, 3, 184, 0, 90, 80, 42, 180, 0, 34, 16, 6, 16, 112, 16, 117, 16, 108, 16, 108, 3, 3]
abbrev dktX9_init_14 : List UInt8 := dkwX9_init_14 ++ dktX9_init_15
def dkwX9_init_13 : List UInt8 := [16, 105, 16, 110, 16, 103, 3, 3, 3, 184, 0, 90, 80, 42, 180, 0, 34, 8, 16, 116, 16, 105, 16, 101]
abbrev dktX9_init_13 : List UInt8 := dkwX9_init_13 ++ dktX9_init_14
def dkwX9_init_12 : List UInt8 := [6, 16, 102, 16, 105, 16, 101, 16, 108, 16, 100, 3, 3, 184, 0, 90, 80, 42, 180, 0, 34, 7, 16, 114]
abbrev dktX9_init_12 : List UInt8 := dkwX9_init_12 ++ dktX9_init_13
def dkwX9_init_11 : List UInt8 := [180, 0, 34, 5, 16, 97, 16, 108, 16, 111, 16, 110, 16, 103, 3, 3, 184, 0, 90, 80, 42, 180, 0, 34]
abbrev dktX9_init_11 : List UInt8 := dkwX9_init_11 ++ dktX9_init_12
def dkwX9_init_10 : List UInt8 := [42, 180, 0, 34, 4, 16, 97, 16, 99, 16, 114, 16, 111, 16, 115, 16, 115, 3, 184, 0, 90, 80, 42]
abbrev dktX9_init_10 : List UInt8 := dkwX9_init_10 ++ dktX9_init_11
def dkwX9_init_9 : List UInt8 := [181, 0, 87, 42, 180, 0, 34, 3, 16, 115, 16, 116, 16, 114, 16, 105, 16, 112, 3, 3, 184, 0, 90, 80]
abbrev dktX9_init_9 : List UInt8 := dkwX9_init_9 ++ dktX9_init_10
def dkwX9_init_8 : List UInt8 := [17, 4, 0, 188, 10, 181, 0, 81, 42, 17, 4, 0, 188, 11, 181, 0, 84, 42, 17, 1, 0, 188, 10]
abbrev dktX9_init_8 : List UInt8 := dkwX9_init_8 ++ dktX9_init_9
def dkwX9_init_7 : List UInt8 := [181, 0, 72, 42, 17, 4, 0, 188, 10, 181, 0, 75, 42, 17, 4, 0, 188, 4, 181, 0, 78, 42]
abbrev dktX9_init_7 : List UInt8 := dkwX9_init_7 ++ dktX9_init_8
def dkwX9_init_6 : List UInt8 := [16, 66, 188, 10, 181, 0, 66, 42, 17, 1, 45, 188, 10, 181, 0, 69, 42, 17, 2, 89, 188, 11]
abbrev dktX9_init_6 : List UInt8 := dkwX9_init_6 ++ dktX9_init_7
def dkwX9_init_5 : List UInt8 := [188, 10, 181, 0, 57, 42, 17, 1, 45, 188, 10, 181, 0, 60, 42, 17, 1, 45, 188, 10, 181, 0, 63, 42]
abbrev dktX9_init_5 : List UInt8 := dkwX9_init_5 ++ dktX9_init_6
def dkwX9_init_4 : List UInt8 := [188, 10, 181, 0, 46, 42, 17, 0, 198, 188, 10, 181, 0, 49, 42, 6, 188, 4, 181, 0, 52, 42, 18, 56]
abbrev dktX9_init_4 : List UInt8 := dkwX9_init_4 ++ dktX9_init_5
def dkwX9_init_3 : List UInt8 := [181, 0, 37, 42, 16, 66, 188, 10, 181, 0, 40, 42, 16, 66, 188, 10, 181, 0, 43, 42, 17, 10, 80]
abbrev dktX9_init_3 : List UInt8 := dkwX9_init_3 ++ dktX9_init_4
def dkwX9_init_2 : List UInt8 := [181, 0, 27, 42, 17, 1, 147, 188, 11, 181, 0, 30, 42, 16, 11, 188, 11, 181, 0, 34, 42, 2]
abbrev dktX9_init_2 : List UInt8 := dkwX9_init_2 ++ dktX9_init_3
def dkwX9_init_1 : List UInt8 := [17, 1, 147, 188, 10, 181, 0, 20, 42, 17, 1, 147, 188, 10, 181, 0, 24, 42, 17, 1, 147, 188, 10]
abbrev dktX9_init_1 : List UInt8 := dkwX9_init_1 ++ dktX9_init_2
def dkwX9_init_0 : List UInt8 := [42, 183, 0, 7, 42, 17, 7, 208, 188, 8, 181, 0, 13, 42, 17, 7, 208, 188, 8, 181, 0, 17, 42]
abbrev dktX9_init_0 : List UInt8 := dkwX9_init_0 ++ dktX9_init_1
theorem dksX9_init_0 : cX9_init.data.toList.drop 0 = dktX9_init_0 := by decide +kernel
theorem dksX9_init_1 : cX9_init.data.toList.drop 23 = dktX9_init_1 := dk_seg dksX9_init_0 23 rfl rfl
theorem dksX9_init_2 : cX9_init.data.toList.drop 46 = dktX9_init_2 := dk_seg dksX9_init_1 23 rfl rfl
theorem dksX9_init_3 : cX9_init.data.toList.drop 68 = dktX9_init_3 := dk_seg dksX9_init_2 22 rfl rfl
theorem dksX9_init_4 : cX9_init.data.toList.drop 91 = dktX9_init_4 := dk_seg dksX9_init_3 23 rfl rfl
theorem dksX9_init_5 : cX9_init.data.toList.drop 115 = dktX9_init_5 := dk_seg dksX9_init_4 24 rfl rfl
theorem dksX9_init_6 : cX9_init.data.toList.drop 139 = dktX9_init_6 := dk_seg dksX9_init_5 24 rfl rfl
theorem dksX9_init_7 : cX9_init.data.toList.drop 161 = dktX9_init_7 := dk_seg dksX9_init_6 22 rfl rfl
theorem dksX9_init_8 : cX9_init.data.toList.drop 183 = dktX9_init_8 := dk_seg dksX9_init_7 22 rfl rfl
theorem dksX9_init_9 : cX9_init.data.toList.drop 206 = dktX9_init_9 := dk_seg dksX9_init_8 23 rfl rfl
theorem dksX9_init_10 : cX9_init.data.toList.drop 230 = dktX9_init_10 := dk_seg dksX9_init_9 24 rfl rfl
theorem dksX9_init_11 : cX9_init.data.toList.drop 253 = dktX9_init_11 := dk_seg dksX9_init_10 23 rfl rfl
theorem dksX9_init_12 : cX9_init.data.toList.drop 277 = dktX9_init_12 := dk_seg dksX9_init_11 24 rfl rfl
theorem dksX9_init_13 : cX9_init.data.toList.drop 301 = dktX9_init_13 := dk_seg dksX9_init_12 24 rfl rfl
theorem dksX9_init_14 : cX9_init.data.toList.drop 325 = dktX9_init_14 := dk_seg dksX9_init_13 24 rfl rfl
theorem dksX9_init_15 : cX9_init.data.toList.drop 349 = dktX9_init_15 := dk_seg dksX9_init_14 24 rfl rfl
theorem dksX9_init_16 : cX9_init.data.toList.drop 373 = dktX9_init_16 := dk_seg dksX9_init_15 24 rfl rfl
theorem dksX9_init_17 : cX9_init.data.toList.drop 397 = dktX9_init_17 := dk_seg dksX9_init_16 24 rfl rfl
theorem dksX9_init_18 : cX9_init.data.toList.drop 420 = dktX9_init_18 := dk_seg dksX9_init_17 23 rfl rfl
theorem dX9_init_0 : decode cX9_init 0 = .ok (.aload_n 0, 1) := dk_42 (dk_at dksX9_init_0 0 rfl rfl)
theorem dX9_init_1 : decode cX9_init 1 = .ok (.invokespecial 7, 3) := dk_183 0 7 (dk_at dksX9_init_0 1 rfl rfl)
theorem dX9_init_4 : decode cX9_init 4 = .ok (.aload_n 0, 1) := dk_42 (dk_at dksX9_init_0 4 rfl rfl)
theorem dX9_init_5 : decode cX9_init 5 = .ok (.sipush 2000, 3) := dk_17 7 208 (dk_at dksX9_init_0 5 rfl rfl)
theorem dX9_init_8 : decode cX9_init 8 = .ok (.newarray .byte, 2) := dk_188_8 (dk_at dksX9_init_0 8 rfl rfl)
theorem dX9_init_10 : decode cX9_init 10 = .ok (.putfield 13, 3) := dk_181 0 13 (dk_at dksX9_init_0 10 rfl rfl)
theorem dX9_init_13 : decode cX9_init 13 = .ok (.aload_n 0, 1) := dk_42 (dk_at dksX9_init_0 13 rfl rfl)
theorem dX9_init_14 : decode cX9_init 14 = .ok (.sipush 2000, 3) := dk_17 7 208 (dk_at dksX9_init_0 14 rfl rfl)
theorem dX9_init_17 : decode cX9_init 17 = .ok (.newarray .byte, 2) := dk_188_8 (dk_at dksX9_init_0 17 rfl rfl)
theorem dX9_init_19 : decode cX9_init 19 = .ok (.putfield 17, 3) := dk_181 0 17 (dk_at dksX9_init_0 19 rfl rfl)
theorem dX9_init_22 : decode cX9_init 22 = .ok (.aload_n 0, 1) := dk_42 (dk_at dksX9_init_0 22 rfl rfl)
theorem dX9_init_23 : decode cX9_init 23 = .ok (.sipush 403, 3) := dk_17 1 147 (dk_at dksX9_init_1 0 rfl rfl)
theorem dX9_init_26 : decode cX9_init 26 = .ok (.newarray .int, 2) := dk_188_10 (dk_at dksX9_init_1 3 rfl rfl)
theorem dX9_init_28 : decode cX9_init 28 = .ok (.putfield 20, 3) := dk_181 0 20 (dk_at dksX9_init_1 5 rfl rfl)
theorem dX9_init_31 : decode cX9_init 31 = .ok (.aload_n 0, 1) := dk_42 (dk_at dksX9_init_1 8 rfl rfl)
theorem dX9_init_32 : decode cX9_init 32 = .ok (.sipush 403, 3) := dk_17 1 147 (dk_at dksX9_init_1 9 rfl rfl)
theorem dX9_init_35 : decode cX9_init 35 = .ok (.newarray .int, 2) := dk_188_10 (dk_at dksX9_init_1 12 rfl rfl)
theorem dX9_init_37 : decode cX9_init 37 = .ok (.putfield 24, 3) := dk_181 0 24 (dk_at dksX9_init_1 14 rfl rfl)
theorem dX9_init_40 : decode cX9_init 40 = .ok (.aload_n 0, 1) := dk_42 (dk_at dksX9_init_1 17 rfl rfl)
theorem dX9_init_41 : decode cX9_init 41 = .ok (.sipush 403, 3) := dk_17 1 147 (dk_at dksX9_init_1 18 rfl rfl)
theorem dX9_init_44 : decode cX9_init 44 = .ok (.newarray .int, 2) := dk_188_10 (dk_at dksX9_init_1 21 rfl rfl)
theorem dX9_init_46 : decode cX9_init 46 = .ok (.putfield 27, 3) := dk_181 0 27 (dk_at dksX9_init_2 0 rfl rfl)
theorem dX9_init_49 : decode cX9_init 49 = .ok (.aload_n 0, 1) := dk_42 (dk_at dksX9_init_2 3 rfl rfl)
theorem dX9_init_50 : decode cX9_init 50 = .ok (.sipush 403, 3) := dk_17 1 147 (dk_at dksX9_init_2 4 rfl rfl)
theorem dX9_init_53 : decode cX9_init 53 = .ok (.newarray .long, 2) := dk_188_11 (dk_at dksX9_init_2 7 rfl rfl)
theorem dX9_init_55 : decode cX9_init 55 = .ok (.putfield 30, 3) := dk_181 0 30 (dk_at dksX9_init_2 9 rfl rfl)
theorem dX9_init_58 : decode cX9_init 58 = .ok (.aload_n 0, 1) := dk_42 (dk_at dksX9_init_2 12 rfl rfl)
theorem dX9_init_59 : decode cX9_init 59 = .ok (.bipush 11, 2) := dk_16 11 (dk_at dksX9_init_2 13 rfl rfl)
theorem dX9_init_61 : decode cX9_init 61 = .ok (.newarray .long, 2) := dk_188_11 (dk_at dksX9_init_2 15 rfl rfl)
theorem dX9_init_63 : decode cX9_init 63 = .ok (.putfield 34, 3) := dk_181 0 34 (dk_at dksX9_init_2 17 rfl rfl)
theorem dX9_init_66 : decode cX9_init 66 = .ok (.aload_n 0, 1) := dk_42 (dk_at dksX9_init_2 20 rfl rfl)
theorem dX9_init_67 : decode cX9_init 67 = .ok (.iconst (-1), 1) := dk_2 (dk_at dksX9_init_2 21 rfl rfl)
theorem dX9_init_68 : decode cX9_init 68 = .ok (.putfield 37, 3) := dk_181 0 37 (dk_at dksX9_init_3 0 rfl rfl)
theorem dX9_init_71 : decode cX9_init 71 = .ok (.aload_n 0, 1) := dk_42 (dk_at dksX9_init_3 3 rfl rfl)
theorem dX9_init_72 : decode cX9_init 72 = .ok (.bipush 66, 2) := dk_16 66 (dk_at dksX9_init_3 4 rfl rfl)
theorem dX9_init_74 : decode cX9_init 74 = .ok (.newarray .int, 2) := dk_188_10 (dk_at dksX9_init_3 6 rfl rfl)
theorem dX9_init_76 : decode cX9_init 76 = .ok (.putfield 40, 3) := dk_181 0 40 (dk_at dksX9_init_3 8 rfl rfl)
theorem dX9_init_79 : decode cX9_init 79 = .ok (.aload_n 0, 1) := dk_42 (dk_at dksX9_init_3 11 rfl rfl)
theorem dX9_init_80 : decode cX9_init 80 = .ok (.bipush 66, 2) := dk_16 66 (dk_at dksX9_init_3 12 rfl rfl)
theorem dX9_init_82 : decode cX9_init 82 = .ok (.newarray .int, 2) := dk_188_10 (dk_at dksX9_init_3 14 rfl rfl)
theorem dX9_init_84 : decode cX9_init 84 = .ok (.putfield 43, 3) := dk_181 0 43 (dk_at dksX9_init_3 16 rfl rfl)
theorem dX9_init_87 : decode cX9_init 87 = .ok (.aload_n 0, 1) := dk_42 (dk_at dksX9_init_3 19 rfl rfl)
theorem dX9_init_88 : decode cX9_init 88 = .ok (.sipush 2640, 3) := dk_17 10 80 (dk_at dksX9_init_3 20 rfl rfl)
theorem dX9_init_91 : decode cX9_init 91 = .ok (.newarray .int, 2) := dk_188_10 (dk_at dksX9_init_4 0 rfl rfl)
theorem dX9_init_93 : decode cX9_init 93 = .ok (.putfield 46, 3) := dk_181 0 46 (dk_at dksX9_init_4 2 rfl rfl)
theorem dX9_init_96 : decode cX9_init 96 = .ok (.aload_n 0, 1) := dk_42 (dk_at dksX9_init_4 5 rfl rfl)
theorem dX9_init_97 : decode cX9_init 97 = .ok (.sipush 198, 3) := dk_17 0 198 (dk_at dksX9_init_4 6 rfl rfl)
theorem dX9_init_100 : decode cX9_init 100 = .ok (.newarray .int, 2) := dk_188_10 (dk_at dksX9_init_4 9 rfl rfl)
theorem dX9_init_102 : decode cX9_init 102 = .ok (.putfield 49, 3) := dk_181 0 49 (dk_at dksX9_init_4 11 rfl rfl)
theorem dX9_init_105 : decode cX9_init 105 = .ok (.aload_n 0, 1) := dk_42 (dk_at dksX9_init_4 14 rfl rfl)
theorem dX9_init_106 : decode cX9_init 106 = .ok (.iconst 3, 1) := dk_6 (dk_at dksX9_init_4 15 rfl rfl)
theorem dX9_init_107 : decode cX9_init 107 = .ok (.newarray .boolean, 2) := dk_188_4 (dk_at dksX9_init_4 16 rfl rfl)
theorem dX9_init_109 : decode cX9_init 109 = .ok (.putfield 52, 3) := dk_181 0 52 (dk_at dksX9_init_4 18 rfl rfl)
theorem dX9_init_112 : decode cX9_init 112 = .ok (.aload_n 0, 1) := dk_42 (dk_at dksX9_init_4 21 rfl rfl)
theorem dX9_init_113 : decode cX9_init 113 = .ok (.ldc 56, 2) := dk_18 56 (dk_at dksX9_init_4 22 rfl rfl)
theorem dX9_init_115 : decode cX9_init 115 = .ok (.newarray .int, 2) := dk_188_10 (dk_at dksX9_init_5 0 rfl rfl)
theorem dX9_init_117 : decode cX9_init 117 = .ok (.putfield 57, 3) := dk_181 0 57 (dk_at dksX9_init_5 2 rfl rfl)
theorem dX9_init_120 : decode cX9_init 120 = .ok (.aload_n 0, 1) := dk_42 (dk_at dksX9_init_5 5 rfl rfl)
theorem dX9_init_121 : decode cX9_init 121 = .ok (.sipush 301, 3) := dk_17 1 45 (dk_at dksX9_init_5 6 rfl rfl)
theorem dX9_init_124 : decode cX9_init 124 = .ok (.newarray .int, 2) := dk_188_10 (dk_at dksX9_init_5 9 rfl rfl)
theorem dX9_init_126 : decode cX9_init 126 = .ok (.putfield 60, 3) := dk_181 0 60 (dk_at dksX9_init_5 11 rfl rfl)
theorem dX9_init_129 : decode cX9_init 129 = .ok (.aload_n 0, 1) := dk_42 (dk_at dksX9_init_5 14 rfl rfl)
theorem dX9_init_130 : decode cX9_init 130 = .ok (.sipush 301, 3) := dk_17 1 45 (dk_at dksX9_init_5 15 rfl rfl)
theorem dX9_init_133 : decode cX9_init 133 = .ok (.newarray .int, 2) := dk_188_10 (dk_at dksX9_init_5 18 rfl rfl)
theorem dX9_init_135 : decode cX9_init 135 = .ok (.putfield 63, 3) := dk_181 0 63 (dk_at dksX9_init_5 20 rfl rfl)
theorem dX9_init_138 : decode cX9_init 138 = .ok (.aload_n 0, 1) := dk_42 (dk_at dksX9_init_5 23 rfl rfl)
theorem dX9_init_139 : decode cX9_init 139 = .ok (.bipush 66, 2) := dk_16 66 (dk_at dksX9_init_6 0 rfl rfl)
theorem dX9_init_141 : decode cX9_init 141 = .ok (.newarray .int, 2) := dk_188_10 (dk_at dksX9_init_6 2 rfl rfl)
theorem dX9_init_143 : decode cX9_init 143 = .ok (.putfield 66, 3) := dk_181 0 66 (dk_at dksX9_init_6 4 rfl rfl)
theorem dX9_init_146 : decode cX9_init 146 = .ok (.aload_n 0, 1) := dk_42 (dk_at dksX9_init_6 7 rfl rfl)
theorem dX9_init_147 : decode cX9_init 147 = .ok (.sipush 301, 3) := dk_17 1 45 (dk_at dksX9_init_6 8 rfl rfl)
theorem dX9_init_150 : decode cX9_init 150 = .ok (.newarray .int, 2) := dk_188_10 (dk_at dksX9_init_6 11 rfl rfl)
theorem dX9_init_152 : decode cX9_init 152 = .ok (.putfield 69, 3) := dk_181 0 69 (dk_at dksX9_init_6 13 rfl rfl)
theorem dX9_init_155 : decode cX9_init 155 = .ok (.aload_n 0, 1) := dk_42 (dk_at dksX9_init_6 16 rfl rfl)
theorem dX9_init_156 : decode cX9_init 156 = .ok (.sipush 601, 3) := dk_17 2 89 (dk_at dksX9_init_6 17 rfl rfl)
theorem dX9_init_159 : decode cX9_init 159 = .ok (.newarray .long, 2) := dk_188_11 (dk_at dksX9_init_6 20 rfl rfl)
theorem dX9_init_161 : decode cX9_init 161 = .ok (.putfield 72, 3) := dk_181 0 72 (dk_at dksX9_init_7 0 rfl rfl)
theorem dX9_init_164 : decode cX9_init 164 = .ok (.aload_n 0, 1) := dk_42 (dk_at dksX9_init_7 3 rfl rfl)
theorem dX9_init_165 : decode cX9_init 165 = .ok (.sipush 1024, 3) := dk_17 4 0 (dk_at dksX9_init_7 4 rfl rfl)
theorem dX9_init_168 : decode cX9_init 168 = .ok (.newarray .int, 2) := dk_188_10 (dk_at dksX9_init_7 7 rfl rfl)
theorem dX9_init_170 : decode cX9_init 170 = .ok (.putfield 75, 3) := dk_181 0 75 (dk_at dksX9_init_7 9 rfl rfl)
theorem dX9_init_173 : decode cX9_init 173 = .ok (.aload_n 0, 1) := dk_42 (dk_at dksX9_init_7 12 rfl rfl)
theorem dX9_init_174 : decode cX9_init 174 = .ok (.sipush 1024, 3) := dk_17 4 0 (dk_at dksX9_init_7 13 rfl rfl)
theorem dX9_init_177 : decode cX9_init 177 = .ok (.newarray .boolean, 2) := dk_188_4 (dk_at dksX9_init_7 16 rfl rfl)
theorem dX9_init_179 : decode cX9_init 179 = .ok (.putfield 78, 3) := dk_181 0 78 (dk_at dksX9_init_7 18 rfl rfl)
theorem dX9_init_182 : decode cX9_init 182 = .ok (.aload_n 0, 1) := dk_42 (dk_at dksX9_init_7 21 rfl rfl)
theorem dX9_init_183 : decode cX9_init 183 = .ok (.sipush 1024, 3) := dk_17 4 0 (dk_at dksX9_init_8 0 rfl rfl)
theorem dX9_init_186 : decode cX9_init 186 = .ok (.newarray .int, 2) := dk_188_10 (dk_at dksX9_init_8 3 rfl rfl)
theorem dX9_init_188 : decode cX9_init 188 = .ok (.putfield 81, 3) := dk_181 0 81 (dk_at dksX9_init_8 5 rfl rfl)
theorem dX9_init_191 : decode cX9_init 191 = .ok (.aload_n 0, 1) := dk_42 (dk_at dksX9_init_8 8 rfl rfl)
theorem dX9_init_192 : decode cX9_init 192 = .ok (.sipush 1024, 3) := dk_17 4 0 (dk_at dksX9_init_8 9 rfl rfl)
theorem dX9_init_195 : decode cX9_init 195 = .ok (.newarray .long, 2) := dk_188_11 (dk_at dksX9_init_8 12 rfl rfl)
theorem dX9_init_197 : decode cX9_init 197 = .ok (.putfield 84, 3) := dk_181 0 84 (dk_at dksX9_init_8 14 rfl rfl)
theorem dX9_init_200 : decode cX9_init 200 = .ok (.aload_n 0, 1) := dk_42 (dk_at dksX9_init_8 17 rfl rfl)
theorem dX9_init_201 : decode cX9_init 201 = .ok (.sipush 256, 3) := dk_17 1 0 (dk_at dksX9_init_8 18 rfl rfl)
theorem dX9_init_204 : decode cX9_init 204 = .ok (.newarray .int, 2) := dk_188_10 (dk_at dksX9_init_8 21 rfl rfl)
theorem dX9_init_206 : decode cX9_init 206 = .ok (.putfield 87, 3) := dk_181 0 87 (dk_at dksX9_init_9 0 rfl rfl)
theorem dX9_init_209 : decode cX9_init 209 = .ok (.aload_n 0, 1) := dk_42 (dk_at dksX9_init_9 3 rfl rfl)
theorem dX9_init_210 : decode cX9_init 210 = .ok (.getfield 34, 3) := dk_180 0 34 (dk_at dksX9_init_9 4 rfl rfl)
theorem dX9_init_213 : decode cX9_init 213 = .ok (.iconst 0, 1) := dk_3 (dk_at dksX9_init_9 7 rfl rfl)
theorem dX9_init_214 : decode cX9_init 214 = .ok (.bipush 115, 2) := dk_16 115 (dk_at dksX9_init_9 8 rfl rfl)
theorem dX9_init_216 : decode cX9_init 216 = .ok (.bipush 116, 2) := dk_16 116 (dk_at dksX9_init_9 10 rfl rfl)
theorem dX9_init_218 : decode cX9_init 218 = .ok (.bipush 114, 2) := dk_16 114 (dk_at dksX9_init_9 12 rfl rfl)
theorem dX9_init_220 : decode cX9_init 220 = .ok (.bipush 105, 2) := dk_16 105 (dk_at dksX9_init_9 14 rfl rfl)
theorem dX9_init_222 : decode cX9_init 222 = .ok (.bipush 112, 2) := dk_16 112 (dk_at dksX9_init_9 16 rfl rfl)
theorem dX9_init_224 : decode cX9_init 224 = .ok (.iconst 0, 1) := dk_3 (dk_at dksX9_init_9 18 rfl rfl)
theorem dX9_init_225 : decode cX9_init 225 = .ok (.iconst 0, 1) := dk_3 (dk_at dksX9_init_9 19 rfl rfl)
theorem dX9_init_226 : decode cX9_init 226 = .ok (.invokestatic 90, 3) := dk_184 0 90 (dk_at dksX9_init_9 20 rfl rfl)
theorem dX9_init_229 : decode cX9_init 229 = .ok (.lastore, 1) := dk_80 (dk_at dksX9_init_9 23 rfl rfl)
theorem dX9_init_230 : decode cX9_init 230 = .ok (.aload_n 0, 1) := dk_42 (dk_at dksX9_init_10 0 rfl rfl)
theorem dX9_init_231 : decode cX9_init 231 = .ok (.getfield 34, 3) := dk_180 0 34 (dk_at dksX9_init_10 1 rfl rfl)
theorem dX9_init_234 : decode cX9_init 234 = .ok (.iconst 1, 1) := dk_4 (dk_at dksX9_init_10 4 rfl rfl)
theorem dX9_init_235 : decode cX9_init 235 = .ok (.bipush 97, 2) := dk_16 97 (dk_at dksX9_init_10 5 rfl rfl)
theorem dX9_init_237 : decode cX9_init 237 = .ok (.bipush 99, 2) := dk_16 99 (dk_at dksX9_init_10 7 rfl rfl)
theorem dX9_init_239 : decode cX9_init 239 = .ok (.bipush 114, 2) := dk_16 114 (dk_at dksX9_init_10 9 rfl rfl)
theorem dX9_init_241 : decode cX9_init 241 = .ok (.bipush 111, 2) := dk_16 111 (dk_at dksX9_init_10 11 rfl rfl)
theorem dX9_init_243 : decode cX9_init 243 = .ok (.bipush 115, 2) := dk_16 115 (dk_at dksX9_init_10 13 rfl rfl)
theorem dX9_init_245 : decode cX9_init 245 = .ok (.bipush 115, 2) := dk_16 115 (dk_at dksX9_init_10 15 rfl rfl)
theorem dX9_init_247 : decode cX9_init 247 = .ok (.iconst 0, 1) := dk_3 (dk_at dksX9_init_10 17 rfl rfl)
theorem dX9_init_248 : decode cX9_init 248 = .ok (.invokestatic 90, 3) := dk_184 0 90 (dk_at dksX9_init_10 18 rfl rfl)
theorem dX9_init_251 : decode cX9_init 251 = .ok (.lastore, 1) := dk_80 (dk_at dksX9_init_10 21 rfl rfl)
theorem dX9_init_252 : decode cX9_init 252 = .ok (.aload_n 0, 1) := dk_42 (dk_at dksX9_init_10 22 rfl rfl)
theorem dX9_init_253 : decode cX9_init 253 = .ok (.getfield 34, 3) := dk_180 0 34 (dk_at dksX9_init_11 0 rfl rfl)
theorem dX9_init_256 : decode cX9_init 256 = .ok (.iconst 2, 1) := dk_5 (dk_at dksX9_init_11 3 rfl rfl)
theorem dX9_init_257 : decode cX9_init 257 = .ok (.bipush 97, 2) := dk_16 97 (dk_at dksX9_init_11 4 rfl rfl)
theorem dX9_init_259 : decode cX9_init 259 = .ok (.bipush 108, 2) := dk_16 108 (dk_at dksX9_init_11 6 rfl rfl)
theorem dX9_init_261 : decode cX9_init 261 = .ok (.bipush 111, 2) := dk_16 111 (dk_at dksX9_init_11 8 rfl rfl)
theorem dX9_init_263 : decode cX9_init 263 = .ok (.bipush 110, 2) := dk_16 110 (dk_at dksX9_init_11 10 rfl rfl)
theorem dX9_init_265 : decode cX9_init 265 = .ok (.bipush 103, 2) := dk_16 103 (dk_at dksX9_init_11 12 rfl rfl)
theorem dX9_init_267 : decode cX9_init 267 = .ok (.iconst 0, 1) := dk_3 (dk_at dksX9_init_11 14 rfl rfl)
theorem dX9_init_268 : decode cX9_init 268 = .ok (.iconst 0, 1) := dk_3 (dk_at dksX9_init_11 15 rfl rfl)
theorem dX9_init_269 : decode cX9_init 269 = .ok (.invokestatic 90, 3) := dk_184 0 90 (dk_at dksX9_init_11 16 rfl rfl)
theorem dX9_init_272 : decode cX9_init 272 = .ok (.lastore, 1) := dk_80 (dk_at dksX9_init_11 19 rfl rfl)
theorem dX9_init_273 : decode cX9_init 273 = .ok (.aload_n 0, 1) := dk_42 (dk_at dksX9_init_11 20 rfl rfl)
theorem dX9_init_274 : decode cX9_init 274 = .ok (.getfield 34, 3) := dk_180 0 34 (dk_at dksX9_init_11 21 rfl rfl)
theorem dX9_init_277 : decode cX9_init 277 = .ok (.iconst 3, 1) := dk_6 (dk_at dksX9_init_12 0 rfl rfl)
theorem dX9_init_278 : decode cX9_init 278 = .ok (.bipush 102, 2) := dk_16 102 (dk_at dksX9_init_12 1 rfl rfl)
theorem dX9_init_280 : decode cX9_init 280 = .ok (.bipush 105, 2) := dk_16 105 (dk_at dksX9_init_12 3 rfl rfl)
theorem dX9_init_282 : decode cX9_init 282 = .ok (.bipush 101, 2) := dk_16 101 (dk_at dksX9_init_12 5 rfl rfl)
theorem dX9_init_284 : decode cX9_init 284 = .ok (.bipush 108, 2) := dk_16 108 (dk_at dksX9_init_12 7 rfl rfl)
theorem dX9_init_286 : decode cX9_init 286 = .ok (.bipush 100, 2) := dk_16 100 (dk_at dksX9_init_12 9 rfl rfl)
theorem dX9_init_288 : decode cX9_init 288 = .ok (.iconst 0, 1) := dk_3 (dk_at dksX9_init_12 11 rfl rfl)
theorem dX9_init_289 : decode cX9_init 289 = .ok (.iconst 0, 1) := dk_3 (dk_at dksX9_init_12 12 rfl rfl)
theorem dX9_init_290 : decode cX9_init 290 = .ok (.invokestatic 90, 3) := dk_184 0 90 (dk_at dksX9_init_12 13 rfl rfl)
theorem dX9_init_293 : decode cX9_init 293 = .ok (.lastore, 1) := dk_80 (dk_at dksX9_init_12 16 rfl rfl)
theorem dX9_init_294 : decode cX9_init 294 = .ok (.aload_n 0, 1) := dk_42 (dk_at dksX9_init_12 17 rfl rfl)
theorem dX9_init_295 : decode cX9_init 295 = .ok (.getfield 34, 3) := dk_180 0 34 (dk_at dksX9_init_12 18 rfl rfl)
theorem dX9_init_298 : decode cX9_init 298 = .ok (.iconst 4, 1) := dk_7 (dk_at dksX9_init_12 21 rfl rfl)
theorem dX9_init_299 : decode cX9_init 299 = .ok (.bipush 114, 2) := dk_16 114 (dk_at dksX9_init_12 22 rfl rfl)
theorem dX9_init_301 : decode cX9_init 301 = .ok (.bipush 105, 2) := dk_16 105 (dk_at dksX9_init_13 0 rfl rfl)
theorem dX9_init_303 : decode cX9_init 303 = .ok (.bipush 110, 2) := dk_16 110 (dk_at dksX9_init_13 2 rfl rfl)
theorem dX9_init_305 : decode cX9_init 305 = .ok (.bipush 103, 2) := dk_16 103 (dk_at dksX9_init_13 4 rfl rfl)
theorem dX9_init_307 : decode cX9_init 307 = .ok (.iconst 0, 1) := dk_3 (dk_at dksX9_init_13 6 rfl rfl)
theorem dX9_init_308 : decode cX9_init 308 = .ok (.iconst 0, 1) := dk_3 (dk_at dksX9_init_13 7 rfl rfl)
theorem dX9_init_309 : decode cX9_init 309 = .ok (.iconst 0, 1) := dk_3 (dk_at dksX9_init_13 8 rfl rfl)
theorem dX9_init_310 : decode cX9_init 310 = .ok (.invokestatic 90, 3) := dk_184 0 90 (dk_at dksX9_init_13 9 rfl rfl)
theorem dX9_init_313 : decode cX9_init 313 = .ok (.lastore, 1) := dk_80 (dk_at dksX9_init_13 12 rfl rfl)
theorem dX9_init_314 : decode cX9_init 314 = .ok (.aload_n 0, 1) := dk_42 (dk_at dksX9_init_13 13 rfl rfl)
theorem dX9_init_315 : decode cX9_init 315 = .ok (.getfield 34, 3) := dk_180 0 34 (dk_at dksX9_init_13 14 rfl rfl)
theorem dX9_init_318 : decode cX9_init 318 = .ok (.iconst 5, 1) := dk_8 (dk_at dksX9_init_13 17 rfl rfl)
theorem dX9_init_319 : decode cX9_init 319 = .ok (.bipush 116, 2) := dk_16 116 (dk_at dksX9_init_13 18 rfl rfl)
theorem dX9_init_321 : decode cX9_init 321 = .ok (.bipush 105, 2) := dk_16 105 (dk_at dksX9_init_13 20 rfl rfl)
theorem dX9_init_323 : decode cX9_init 323 = .ok (.bipush 101, 2) := dk_16 101 (dk_at dksX9_init_13 22 rfl rfl)
theorem dX9_init_325 : decode cX9_init 325 = .ok (.iconst 0, 1) := dk_3 (dk_at dksX9_init_14 0 rfl rfl)
theorem dX9_init_326 : decode cX9_init 326 = .ok (.iconst 0, 1) := dk_3 (dk_at dksX9_init_14 1 rfl rfl)
theorem dX9_init_327 : decode cX9_init 327 = .ok (.iconst 0, 1) := dk_3 (dk_at dksX9_init_14 2 rfl rfl)
theorem dX9_init_328 : decode cX9_init 328 = .ok (.iconst 0, 1) := dk_3 (dk_at dksX9_init_14 3 rfl rfl)
theorem dX9_init_329 : decode cX9_init 329 = .ok (.invokestatic 90, 3) := dk_184 0 90 (dk_at dksX9_init_14 4 rfl rfl)
theorem dX9_init_332 : decode cX9_init 332 = .ok (.lastore, 1) := dk_80 (dk_at dksX9_init_14 7 rfl rfl)
theorem dX9_init_333 : decode cX9_init 333 = .ok (.aload_n 0, 1) := dk_42 (dk_at dksX9_init_14 8 rfl rfl)
theorem dX9_init_334 : decode cX9_init 334 = .ok (.getfield 34, 3) := dk_180 0 34 (dk_at dksX9_init_14 9 rfl rfl)
theorem dX9_init_337 : decode cX9_init 337 = .ok (.bipush 6, 2) := dk_16 6 (dk_at dksX9_init_14 12 rfl rfl)
theorem dX9_init_339 : decode cX9_init 339 = .ok (.bipush 112, 2) := dk_16 112 (dk_at dksX9_init_14 14 rfl rfl)
theorem dX9_init_341 : decode cX9_init 341 = .ok (.bipush 117, 2) := dk_16 117 (dk_at dksX9_init_14 16 rfl rfl)
theorem dX9_init_343 : decode cX9_init 343 = .ok (.bipush 108, 2) := dk_16 108 (dk_at dksX9_init_14 18 rfl rfl)
theorem dX9_init_345 : decode cX9_init 345 = .ok (.bipush 108, 2) := dk_16 108 (dk_at dksX9_init_14 20 rfl rfl)
theorem dX9_init_347 : decode cX9_init 347 = .ok (.iconst 0, 1) := dk_3 (dk_at dksX9_init_14 22 rfl rfl)
theorem dX9_init_348 : decode cX9_init 348 = .ok (.iconst 0, 1) := dk_3 (dk_at dksX9_init_14 23 rfl rfl)
theorem dX9_init_349 : decode cX9_init 349 = .ok (.iconst 0, 1) := dk_3 (dk_at dksX9_init_15 0 rfl rfl)
theorem dX9_init_350 : decode cX9_init 350 = .ok (.invokestatic 90, 3) := dk_184 0 90 (dk_at dksX9_init_15 1 rfl rfl)
theorem dX9_init_353 : decode cX9_init 353 = .ok (.lastore, 1) := dk_80 (dk_at dksX9_init_15 4 rfl rfl)
theorem dX9_init_354 : decode cX9_init 354 = .ok (.aload_n 0, 1) := dk_42 (dk_at dksX9_init_15 5 rfl rfl)
theorem dX9_init_355 : decode cX9_init 355 = .ok (.getfield 34, 3) := dk_180 0 34 (dk_at dksX9_init_15 6 rfl rfl)
theorem dX9_init_358 : decode cX9_init 358 = .ok (.bipush 7, 2) := dk_16 7 (dk_at dksX9_init_15 9 rfl rfl)
theorem dX9_init_360 : decode cX9_init 360 = .ok (.bipush 112, 2) := dk_16 112 (dk_at dksX9_init_15 11 rfl rfl)
theorem dX9_init_362 : decode cX9_init 362 = .ok (.bipush 105, 2) := dk_16 105 (dk_at dksX9_init_15 13 rfl rfl)
theorem dX9_init_364 : decode cX9_init 364 = .ok (.bipush 110, 2) := dk_16 110 (dk_at dksX9_init_15 15 rfl rfl)
theorem dX9_init_366 : decode cX9_init 366 = .ok (.iconst 0, 1) := dk_3 (dk_at dksX9_init_15 17 rfl rfl)
theorem dX9_init_367 : decode cX9_init 367 = .ok (.iconst 0, 1) := dk_3 (dk_at dksX9_init_15 18 rfl rfl)
theorem dX9_init_368 : decode cX9_init 368 = .ok (.iconst 0, 1) := dk_3 (dk_at dksX9_init_15 19 rfl rfl)
theorem dX9_init_369 : decode cX9_init 369 = .ok (.iconst 0, 1) := dk_3 (dk_at dksX9_init_15 20 rfl rfl)
theorem dX9_init_370 : decode cX9_init 370 = .ok (.invokestatic 90, 3) := dk_184 0 90 (dk_at dksX9_init_15 21 rfl rfl)
theorem dX9_init_373 : decode cX9_init 373 = .ok (.lastore, 1) := dk_80 (dk_at dksX9_init_16 0 rfl rfl)
theorem dX9_init_374 : decode cX9_init 374 = .ok (.aload_n 0, 1) := dk_42 (dk_at dksX9_init_16 1 rfl rfl)
theorem dX9_init_375 : decode cX9_init 375 = .ok (.getfield 34, 3) := dk_180 0 34 (dk_at dksX9_init_16 2 rfl rfl)
theorem dX9_init_378 : decode cX9_init 378 = .ok (.bipush 8, 2) := dk_16 8 (dk_at dksX9_init_16 5 rfl rfl)
theorem dX9_init_380 : decode cX9_init 380 = .ok (.bipush 117, 2) := dk_16 117 (dk_at dksX9_init_16 7 rfl rfl)
theorem dX9_init_382 : decode cX9_init 382 = .ok (.bipush 112, 2) := dk_16 112 (dk_at dksX9_init_16 9 rfl rfl)
theorem dX9_init_384 : decode cX9_init 384 = .ok (.iconst 0, 1) := dk_3 (dk_at dksX9_init_16 11 rfl rfl)
theorem dX9_init_385 : decode cX9_init 385 = .ok (.iconst 0, 1) := dk_3 (dk_at dksX9_init_16 12 rfl rfl)
theorem dX9_init_386 : decode cX9_init 386 = .ok (.iconst 0, 1) := dk_3 (dk_at dksX9_init_16 13 rfl rfl)
theorem dX9_init_387 : decode cX9_init 387 = .ok (.iconst 0, 1) := dk_3 (dk_at dksX9_init_16 14 rfl rfl)
theorem dX9_init_388 : decode cX9_init 388 = .ok (.iconst 0, 1) := dk_3 (dk_at dksX9_init_16 15 rfl rfl)
theorem dX9_init_389 : decode cX9_init 389 = .ok (.invokestatic 90, 3) := dk_184 0 90 (dk_at dksX9_init_16 16 rfl rfl)
theorem dX9_init_392 : decode cX9_init 392 = .ok (.lastore, 1) := dk_80 (dk_at dksX9_init_16 19 rfl rfl)
theorem dX9_init_393 : decode cX9_init 393 = .ok (.aload_n 0, 1) := dk_42 (dk_at dksX9_init_16 20 rfl rfl)
theorem dX9_init_394 : decode cX9_init 394 = .ok (.getfield 34, 3) := dk_180 0 34 (dk_at dksX9_init_16 21 rfl rfl)
theorem dX9_init_397 : decode cX9_init 397 = .ok (.bipush 9, 2) := dk_16 9 (dk_at dksX9_init_17 0 rfl rfl)
theorem dX9_init_399 : decode cX9_init 399 = .ok (.bipush 100, 2) := dk_16 100 (dk_at dksX9_init_17 2 rfl rfl)
theorem dX9_init_401 : decode cX9_init 401 = .ok (.bipush 111, 2) := dk_16 111 (dk_at dksX9_init_17 4 rfl rfl)
theorem dX9_init_403 : decode cX9_init 403 = .ok (.bipush 119, 2) := dk_16 119 (dk_at dksX9_init_17 6 rfl rfl)
theorem dX9_init_405 : decode cX9_init 405 = .ok (.bipush 110, 2) := dk_16 110 (dk_at dksX9_init_17 8 rfl rfl)
theorem dX9_init_407 : decode cX9_init 407 = .ok (.iconst 0, 1) := dk_3 (dk_at dksX9_init_17 10 rfl rfl)
theorem dX9_init_408 : decode cX9_init 408 = .ok (.iconst 0, 1) := dk_3 (dk_at dksX9_init_17 11 rfl rfl)
theorem dX9_init_409 : decode cX9_init 409 = .ok (.iconst 0, 1) := dk_3 (dk_at dksX9_init_17 12 rfl rfl)
theorem dX9_init_410 : decode cX9_init 410 = .ok (.invokestatic 90, 3) := dk_184 0 90 (dk_at dksX9_init_17 13 rfl rfl)
theorem dX9_init_413 : decode cX9_init 413 = .ok (.lastore, 1) := dk_80 (dk_at dksX9_init_17 16 rfl rfl)
theorem dX9_init_414 : decode cX9_init 414 = .ok (.aload_n 0, 1) := dk_42 (dk_at dksX9_init_17 17 rfl rfl)
theorem dX9_init_415 : decode cX9_init 415 = .ok (.getfield 34, 3) := dk_180 0 34 (dk_at dksX9_init_17 18 rfl rfl)
theorem dX9_init_418 : decode cX9_init 418 = .ok (.bipush 10, 2) := dk_16 10 (dk_at dksX9_init_17 21 rfl rfl)
theorem dX9_init_420 : decode cX9_init 420 = .ok (.bipush 115, 2) := dk_16 115 (dk_at dksX9_init_18 0 rfl rfl)
theorem dX9_init_422 : decode cX9_init 422 = .ok (.bipush 101, 2) := dk_16 101 (dk_at dksX9_init_18 2 rfl rfl)
theorem dX9_init_424 : decode cX9_init 424 = .ok (.bipush 101, 2) := dk_16 101 (dk_at dksX9_init_18 4 rfl rfl)
theorem dX9_init_426 : decode cX9_init 426 = .ok (.bipush 100, 2) := dk_16 100 (dk_at dksX9_init_18 6 rfl rfl)
theorem dX9_init_428 : decode cX9_init 428 = .ok (.iconst 0, 1) := dk_3 (dk_at dksX9_init_18 8 rfl rfl)
theorem dX9_init_429 : decode cX9_init 429 = .ok (.iconst 0, 1) := dk_3 (dk_at dksX9_init_18 9 rfl rfl)
theorem dX9_init_430 : decode cX9_init 430 = .ok (.iconst 0, 1) := dk_3 (dk_at dksX9_init_18 10 rfl rfl)
theorem dX9_init_431 : decode cX9_init 431 = .ok (.invokestatic 90, 3) := dk_184 0 90 (dk_at dksX9_init_18 11 rfl rfl)
theorem dX9_init_434 : decode cX9_init 434 = .ok (.lastore, 1) := dk_80 (dk_at dksX9_init_18 14 rfl rfl)
theorem dX9_init_435 : decode cX9_init 435 = .ok (.return_, 1) := dk_177 (dk_at dksX9_init_18 15 rfl rfl)
abbrev cX9_letters : ByteArray := prog_14_method_10_code
def yX9_letters : MethodName := ⟨RX9, "letters", "(IIIIIII)J"⟩
def dkwX9_letters_1 : List UInt8 := [184, 0, 106, 21, 6, 184, 0, 106, 173]
abbrev dktX9_letters_1 : List UInt8 := dkwX9_letters_1 ++ []
def dkwX9_letters_0 : List UInt8 := [9, 26, 184, 0, 106, 27, 184, 0, 106, 28, 184, 0, 106, 29, 184, 0, 106, 21, 4, 184, 0, 106, 21, 5]
abbrev dktX9_letters_0 : List UInt8 := dkwX9_letters_0 ++ dktX9_letters_1
theorem dksX9_letters_0 : cX9_letters.data.toList.drop 0 = dktX9_letters_0 := by decide +kernel
theorem dksX9_letters_1 : cX9_letters.data.toList.drop 24 = dktX9_letters_1 := dk_seg dksX9_letters_0 24 rfl rfl
theorem dX9_letters_0 : decode cX9_letters 0 = .ok (.lconst 0, 1) := dk_9 (dk_at dksX9_letters_0 0 rfl rfl)
theorem dX9_letters_1 : decode cX9_letters 1 = .ok (.iload_n 0, 1) := dk_26 (dk_at dksX9_letters_0 1 rfl rfl)
theorem dX9_letters_2 : decode cX9_letters 2 = .ok (.invokestatic 106, 3) := dk_184 0 106 (dk_at dksX9_letters_0 2 rfl rfl)
theorem dX9_letters_5 : decode cX9_letters 5 = .ok (.iload_n 1, 1) := dk_27 (dk_at dksX9_letters_0 5 rfl rfl)
theorem dX9_letters_6 : decode cX9_letters 6 = .ok (.invokestatic 106, 3) := dk_184 0 106 (dk_at dksX9_letters_0 6 rfl rfl)
theorem dX9_letters_9 : decode cX9_letters 9 = .ok (.iload_n 2, 1) := dk_28 (dk_at dksX9_letters_0 9 rfl rfl)
theorem dX9_letters_10 : decode cX9_letters 10 = .ok (.invokestatic 106, 3) := dk_184 0 106 (dk_at dksX9_letters_0 10 rfl rfl)
theorem dX9_letters_13 : decode cX9_letters 13 = .ok (.iload_n 3, 1) := dk_29 (dk_at dksX9_letters_0 13 rfl rfl)
theorem dX9_letters_14 : decode cX9_letters 14 = .ok (.invokestatic 106, 3) := dk_184 0 106 (dk_at dksX9_letters_0 14 rfl rfl)
theorem dX9_letters_17 : decode cX9_letters 17 = .ok (.iload 4, 2) := dk_21 4 (dk_at dksX9_letters_0 17 rfl rfl)
theorem dX9_letters_19 : decode cX9_letters 19 = .ok (.invokestatic 106, 3) := dk_184 0 106 (dk_at dksX9_letters_0 19 rfl rfl)
theorem dX9_letters_22 : decode cX9_letters 22 = .ok (.iload 5, 2) := dk_21 5 (dk_at dksX9_letters_0 22 rfl rfl)
theorem dX9_letters_24 : decode cX9_letters 24 = .ok (.invokestatic 106, 3) := dk_184 0 106 (dk_at dksX9_letters_1 0 rfl rfl)
theorem dX9_letters_27 : decode cX9_letters 27 = .ok (.iload 6, 2) := dk_21 6 (dk_at dksX9_letters_1 3 rfl rfl)
theorem dX9_letters_29 : decode cX9_letters 29 = .ok (.invokestatic 106, 3) := dk_184 0 106 (dk_at dksX9_letters_1 5 rfl rfl)
theorem dX9_letters_32 : decode cX9_letters 32 = .ok (.lreturn, 1) := dk_173 (dk_at dksX9_letters_1 8 rfl rfl)
abbrev cX9_appends : ByteArray := prog_14_method_9_code
def yX9_appends : MethodName := ⟨RX9, "appends", "(JI)J"⟩
def dkwX9_appends_0 : List UInt8 := [28, 154, 0, 7, 30, 167, 0, 16, 20, 0, 104, 30, 105, 28, 16, 97, 100, 4, 96, 133, 97, 173]
abbrev dktX9_appends_0 : List UInt8 := dkwX9_appends_0 ++ []
theorem dksX9_appends_0 : cX9_appends.data.toList.drop 0 = dktX9_appends_0 := by decide +kernel
theorem dX9_appends_0 : decode cX9_appends 0 = .ok (.iload_n 2, 1) := dk_28 (dk_at dksX9_appends_0 0 rfl rfl)
theorem dX9_appends_1 : decode cX9_appends 1 = .ok (.ifCond .ne 7, 3) := dk_154 0 7 (dk_at dksX9_appends_0 1 rfl rfl)
theorem dX9_appends_4 : decode cX9_appends 4 = .ok (.lload_n 0, 1) := dk_30 (dk_at dksX9_appends_0 4 rfl rfl)
theorem dX9_appends_5 : decode cX9_appends 5 = .ok (.goto 16, 3) := dk_167 0 16 (dk_at dksX9_appends_0 5 rfl rfl)
theorem dX9_appends_8 : decode cX9_appends 8 = .ok (.ldc2_w 104, 3) := dk_20 0 104 (dk_at dksX9_appends_0 8 rfl rfl)
theorem dX9_appends_11 : decode cX9_appends 11 = .ok (.lload_n 0, 1) := dk_30 (dk_at dksX9_appends_0 11 rfl rfl)
theorem dX9_appends_12 : decode cX9_appends 12 = .ok (.lmul, 1) := dk_105 (dk_at dksX9_appends_0 12 rfl rfl)
theorem dX9_appends_13 : decode cX9_appends 13 = .ok (.iload_n 2, 1) := dk_28 (dk_at dksX9_appends_0 13 rfl rfl)
theorem dX9_appends_14 : decode cX9_appends 14 = .ok (.bipush 97, 2) := dk_16 97 (dk_at dksX9_appends_0 14 rfl rfl)
theorem dX9_appends_16 : decode cX9_appends 16 = .ok (.isub, 1) := dk_100 (dk_at dksX9_appends_0 16 rfl rfl)
theorem dX9_appends_17 : decode cX9_appends 17 = .ok (.iconst 1, 1) := dk_4 (dk_at dksX9_appends_0 17 rfl rfl)
theorem dX9_appends_18 : decode cX9_appends 18 = .ok (.iadd, 1) := dk_96 (dk_at dksX9_appends_0 18 rfl rfl)
theorem dX9_appends_19 : decode cX9_appends 19 = .ok (.i2l, 1) := dk_133 (dk_at dksX9_appends_0 19 rfl rfl)
theorem dX9_appends_20 : decode cX9_appends 20 = .ok (.ladd, 1) := dk_97 (dk_at dksX9_appends_0 20 rfl rfl)
theorem dX9_appends_21 : decode cX9_appends 21 = .ok (.lreturn, 1) := dk_173 (dk_at dksX9_appends_0 21 rfl rfl)
abbrev cX9_feed : ByteArray := prog_14_method_3_code
def yX9_feed : MethodName := ⟨RX9, "feed", "(IIIII)I"⟩
def dkwX9_feed_2 : List UInt8 := [172]
abbrev dktX9_feed_2 : List UInt8 := dkwX9_feed_2 ++ []
def dkwX9_feed_1 : List UInt8 := [182, 0, 97, 42, 29, 182, 0, 97, 42, 21, 4, 182, 0, 97, 42, 21, 5, 182, 0, 97, 42, 180, 0, 94]
abbrev dktX9_feed_1 : List UInt8 := dkwX9_feed_1 ++ dktX9_feed_2
def dkwX9_feed_0 : List UInt8 := [42, 180, 0, 94, 16, 20, 96, 17, 7, 208, 164, 0, 5, 2, 172, 42, 27, 182, 0, 97, 42, 28]
abbrev dktX9_feed_0 : List UInt8 := dkwX9_feed_0 ++ dktX9_feed_1
theorem dksX9_feed_0 : cX9_feed.data.toList.drop 0 = dktX9_feed_0 := by decide +kernel
theorem dksX9_feed_1 : cX9_feed.data.toList.drop 22 = dktX9_feed_1 := dk_seg dksX9_feed_0 22 rfl rfl
theorem dksX9_feed_2 : cX9_feed.data.toList.drop 46 = dktX9_feed_2 := dk_seg dksX9_feed_1 24 rfl rfl
theorem dX9_feed_0 : decode cX9_feed 0 = .ok (.aload_n 0, 1) := dk_42 (dk_at dksX9_feed_0 0 rfl rfl)
theorem dX9_feed_1 : decode cX9_feed 1 = .ok (.getfield 94, 3) := dk_180 0 94 (dk_at dksX9_feed_0 1 rfl rfl)
theorem dX9_feed_4 : decode cX9_feed 4 = .ok (.bipush 20, 2) := dk_16 20 (dk_at dksX9_feed_0 4 rfl rfl)
theorem dX9_feed_6 : decode cX9_feed 6 = .ok (.iadd, 1) := dk_96 (dk_at dksX9_feed_0 6 rfl rfl)
theorem dX9_feed_7 : decode cX9_feed 7 = .ok (.sipush 2000, 3) := dk_17 7 208 (dk_at dksX9_feed_0 7 rfl rfl)
theorem dX9_feed_10 : decode cX9_feed 10 = .ok (.if_icmp .le 5, 3) := dk_164 0 5 (dk_at dksX9_feed_0 10 rfl rfl)
theorem dX9_feed_13 : decode cX9_feed 13 = .ok (.iconst (-1), 1) := dk_2 (dk_at dksX9_feed_0 13 rfl rfl)
theorem dX9_feed_14 : decode cX9_feed 14 = .ok (.ireturn, 1) := dk_172 (dk_at dksX9_feed_0 14 rfl rfl)
theorem dX9_feed_15 : decode cX9_feed 15 = .ok (.aload_n 0, 1) := dk_42 (dk_at dksX9_feed_0 15 rfl rfl)
theorem dX9_feed_16 : decode cX9_feed 16 = .ok (.iload_n 1, 1) := dk_27 (dk_at dksX9_feed_0 16 rfl rfl)
theorem dX9_feed_17 : decode cX9_feed 17 = .ok (.invokevirtual 97, 3) := dk_182 0 97 (dk_at dksX9_feed_0 17 rfl rfl)
theorem dX9_feed_20 : decode cX9_feed 20 = .ok (.aload_n 0, 1) := dk_42 (dk_at dksX9_feed_0 20 rfl rfl)
theorem dX9_feed_21 : decode cX9_feed 21 = .ok (.iload_n 2, 1) := dk_28 (dk_at dksX9_feed_0 21 rfl rfl)
theorem dX9_feed_22 : decode cX9_feed 22 = .ok (.invokevirtual 97, 3) := dk_182 0 97 (dk_at dksX9_feed_1 0 rfl rfl)
theorem dX9_feed_25 : decode cX9_feed 25 = .ok (.aload_n 0, 1) := dk_42 (dk_at dksX9_feed_1 3 rfl rfl)
theorem dX9_feed_26 : decode cX9_feed 26 = .ok (.iload_n 3, 1) := dk_29 (dk_at dksX9_feed_1 4 rfl rfl)
theorem dX9_feed_27 : decode cX9_feed 27 = .ok (.invokevirtual 97, 3) := dk_182 0 97 (dk_at dksX9_feed_1 5 rfl rfl)
theorem dX9_feed_30 : decode cX9_feed 30 = .ok (.aload_n 0, 1) := dk_42 (dk_at dksX9_feed_1 8 rfl rfl)
theorem dX9_feed_31 : decode cX9_feed 31 = .ok (.iload 4, 2) := dk_21 4 (dk_at dksX9_feed_1 9 rfl rfl)
theorem dX9_feed_33 : decode cX9_feed 33 = .ok (.invokevirtual 97, 3) := dk_182 0 97 (dk_at dksX9_feed_1 11 rfl rfl)
theorem dX9_feed_36 : decode cX9_feed 36 = .ok (.aload_n 0, 1) := dk_42 (dk_at dksX9_feed_1 14 rfl rfl)
theorem dX9_feed_37 : decode cX9_feed 37 = .ok (.iload 5, 2) := dk_21 5 (dk_at dksX9_feed_1 15 rfl rfl)
theorem dX9_feed_39 : decode cX9_feed 39 = .ok (.invokevirtual 97, 3) := dk_182 0 97 (dk_at dksX9_feed_1 17 rfl rfl)
theorem dX9_feed_42 : decode cX9_feed 42 = .ok (.aload_n 0, 1) := dk_42 (dk_at dksX9_feed_1 20 rfl rfl)
theorem dX9_feed_43 : decode cX9_feed 43 = .ok (.getfield 94, 3) := dk_180 0 94 (dk_at dksX9_feed_1 21 rfl rfl)
theorem dX9_feed_46 : decode cX9_feed 46 = .ok (.ireturn, 1) := dk_172 (dk_at dksX9_feed_2 0 rfl rfl)
abbrev cX9_lays : ByteArray := prog_14_method_4_code
def yX9_lays : MethodName := ⟨RX9, "lays", "(I)V"⟩
def dkwX9_lays_1 : List UInt8 := [180, 0, 94, 4, 96, 181, 0, 94, 132, 2, 248, 167, 255, 226, 177]
abbrev dktX9_lays_1 : List UInt8 := dkwX9_lays_1 ++ []
def dkwX9_lays_0 : List UInt8 := [16, 24, 61, 28, 155, 0, 32, 42, 180, 0, 13, 42, 180, 0, 94, 27, 28, 122, 145, 84, 42, 89]
abbrev dktX9_lays_0 : List UInt8 := dkwX9_lays_0 ++ dktX9_lays_1
theorem dksX9_lays_0 : cX9_lays.data.toList.drop 0 = dktX9_lays_0 := by decide +kernel
theorem dksX9_lays_1 : cX9_lays.data.toList.drop 22 = dktX9_lays_1 := dk_seg dksX9_lays_0 22 rfl rfl
theorem dX9_lays_0 : decode cX9_lays 0 = .ok (.bipush 24, 2) := dk_16 24 (dk_at dksX9_lays_0 0 rfl rfl)
theorem dX9_lays_2 : decode cX9_lays 2 = .ok (.istore_n 2, 1) := dk_61 (dk_at dksX9_lays_0 2 rfl rfl)
theorem dX9_lays_3 : decode cX9_lays 3 = .ok (.iload_n 2, 1) := dk_28 (dk_at dksX9_lays_0 3 rfl rfl)
theorem dX9_lays_4 : decode cX9_lays 4 = .ok (.ifCond .lt 32, 3) := dk_155 0 32 (dk_at dksX9_lays_0 4 rfl rfl)
theorem dX9_lays_7 : decode cX9_lays 7 = .ok (.aload_n 0, 1) := dk_42 (dk_at dksX9_lays_0 7 rfl rfl)
theorem dX9_lays_8 : decode cX9_lays 8 = .ok (.getfield 13, 3) := dk_180 0 13 (dk_at dksX9_lays_0 8 rfl rfl)
theorem dX9_lays_11 : decode cX9_lays 11 = .ok (.aload_n 0, 1) := dk_42 (dk_at dksX9_lays_0 11 rfl rfl)
theorem dX9_lays_12 : decode cX9_lays 12 = .ok (.getfield 94, 3) := dk_180 0 94 (dk_at dksX9_lays_0 12 rfl rfl)
theorem dX9_lays_15 : decode cX9_lays 15 = .ok (.iload_n 1, 1) := dk_27 (dk_at dksX9_lays_0 15 rfl rfl)
theorem dX9_lays_16 : decode cX9_lays 16 = .ok (.iload_n 2, 1) := dk_28 (dk_at dksX9_lays_0 16 rfl rfl)
theorem dX9_lays_17 : decode cX9_lays 17 = .ok (.ishr, 1) := dk_122 (dk_at dksX9_lays_0 17 rfl rfl)
theorem dX9_lays_18 : decode cX9_lays 18 = .ok (.i2b, 1) := dk_145 (dk_at dksX9_lays_0 18 rfl rfl)
theorem dX9_lays_19 : decode cX9_lays 19 = .ok (.bastore, 1) := dk_84 (dk_at dksX9_lays_0 19 rfl rfl)
theorem dX9_lays_20 : decode cX9_lays 20 = .ok (.aload_n 0, 1) := dk_42 (dk_at dksX9_lays_0 20 rfl rfl)
theorem dX9_lays_21 : decode cX9_lays 21 = .ok (.dup, 1) := dk_89 (dk_at dksX9_lays_0 21 rfl rfl)
theorem dX9_lays_22 : decode cX9_lays 22 = .ok (.getfield 94, 3) := dk_180 0 94 (dk_at dksX9_lays_1 0 rfl rfl)
theorem dX9_lays_25 : decode cX9_lays 25 = .ok (.iconst 1, 1) := dk_4 (dk_at dksX9_lays_1 3 rfl rfl)
theorem dX9_lays_26 : decode cX9_lays 26 = .ok (.iadd, 1) := dk_96 (dk_at dksX9_lays_1 4 rfl rfl)
theorem dX9_lays_27 : decode cX9_lays 27 = .ok (.putfield 94, 3) := dk_181 0 94 (dk_at dksX9_lays_1 5 rfl rfl)
theorem dX9_lays_30 : decode cX9_lays 30 = .ok (.iinc 2 (-8), 3) := dk_132 2 248 (dk_at dksX9_lays_1 8 rfl rfl)
theorem dX9_lays_33 : decode cX9_lays 33 = .ok (.goto (-30), 3) := dk_167 255 226 (dk_at dksX9_lays_1 11 rfl rfl)
theorem dX9_lays_36 : decode cX9_lays 36 = .ok (.return_, 1) := dk_177 (dk_at dksX9_lays_1 14 rfl rfl)
abbrev cX9_back : ByteArray := prog_14_method_5_code
def yX9_back : MethodName := ⟨RX9, "back", "(I)I"⟩
def dkwX9_back_1 : List UInt8 := [42, 180, 0, 94, 172]
abbrev dktX9_back_1 : List UInt8 := dkwX9_back_1 ++ []
def dkwX9_back_0 : List UInt8 := [27, 155, 0, 11, 27, 42, 180, 0, 94, 164, 0, 5, 2, 172, 42, 89, 180, 0, 94, 27, 100, 181, 0, 94]
abbrev dktX9_back_0 : List UInt8 := dkwX9_back_0 ++ dktX9_back_1
theorem dksX9_back_0 : cX9_back.data.toList.drop 0 = dktX9_back_0 := by decide +kernel
theorem dksX9_back_1 : cX9_back.data.toList.drop 24 = dktX9_back_1 := dk_seg dksX9_back_0 24 rfl rfl
theorem dX9_back_0 : decode cX9_back 0 = .ok (.iload_n 1, 1) := dk_27 (dk_at dksX9_back_0 0 rfl rfl)
theorem dX9_back_1 : decode cX9_back 1 = .ok (.ifCond .lt 11, 3) := dk_155 0 11 (dk_at dksX9_back_0 1 rfl rfl)
theorem dX9_back_4 : decode cX9_back 4 = .ok (.iload_n 1, 1) := dk_27 (dk_at dksX9_back_0 4 rfl rfl)
theorem dX9_back_5 : decode cX9_back 5 = .ok (.aload_n 0, 1) := dk_42 (dk_at dksX9_back_0 5 rfl rfl)
theorem dX9_back_6 : decode cX9_back 6 = .ok (.getfield 94, 3) := dk_180 0 94 (dk_at dksX9_back_0 6 rfl rfl)
theorem dX9_back_9 : decode cX9_back 9 = .ok (.if_icmp .le 5, 3) := dk_164 0 5 (dk_at dksX9_back_0 9 rfl rfl)
theorem dX9_back_12 : decode cX9_back 12 = .ok (.iconst (-1), 1) := dk_2 (dk_at dksX9_back_0 12 rfl rfl)
theorem dX9_back_13 : decode cX9_back 13 = .ok (.ireturn, 1) := dk_172 (dk_at dksX9_back_0 13 rfl rfl)
theorem dX9_back_14 : decode cX9_back 14 = .ok (.aload_n 0, 1) := dk_42 (dk_at dksX9_back_0 14 rfl rfl)
theorem dX9_back_15 : decode cX9_back 15 = .ok (.dup, 1) := dk_89 (dk_at dksX9_back_0 15 rfl rfl)
theorem dX9_back_16 : decode cX9_back 16 = .ok (.getfield 94, 3) := dk_180 0 94 (dk_at dksX9_back_0 16 rfl rfl)
theorem dX9_back_19 : decode cX9_back 19 = .ok (.iload_n 1, 1) := dk_27 (dk_at dksX9_back_0 19 rfl rfl)
theorem dX9_back_20 : decode cX9_back 20 = .ok (.isub, 1) := dk_100 (dk_at dksX9_back_0 20 rfl rfl)
theorem dX9_back_21 : decode cX9_back 21 = .ok (.putfield 94, 3) := dk_181 0 94 (dk_at dksX9_back_0 21 rfl rfl)
theorem dX9_back_24 : decode cX9_back 24 = .ok (.aload_n 0, 1) := dk_42 (dk_at dksX9_back_1 0 rfl rfl)
theorem dX9_back_25 : decode cX9_back 25 = .ok (.getfield 94, 3) := dk_180 0 94 (dk_at dksX9_back_1 1 rfl rfl)
theorem dX9_back_28 : decode cX9_back 28 = .ok (.ireturn, 1) := dk_172 (dk_at dksX9_back_1 4 rfl rfl)
abbrev cX9_read : ByteArray := prog_14_method_19_code
def yX9_read : MethodName := ⟨RX9, "read", "()I"⟩
def dkwX9_read_13 : List UInt8 := [3, 181, 0, 200, 3, 172]
abbrev dktX9_read_13 : List UInt8 := dkwX9_read_13 ++ []
def dkwX9_read_12 : List UInt8 := [181, 0, 197, 3, 60, 27, 6, 162, 0, 16, 42, 180, 0, 52, 27, 3, 84, 132, 1, 1, 167, 255, 241, 42]
abbrev dktX9_read_12 : List UInt8 := dkwX9_read_12 ++ dktX9_read_13
def dkwX9_read_11 : List UInt8 := [160, 0, 16, 42, 180, 0, 40, 16, 64, 92, 46, 4, 27, 120, 128, 79, 132, 1, 1, 167, 255, 219, 42, 3]
abbrev dktX9_read_11 : List UInt8 := dkwX9_read_11 ++ dktX9_read_12
def dkwX9_read_10 : List UInt8 := [3, 79, 3, 60, 27, 42, 182, 0, 193, 162, 0, 35, 42, 180, 0, 40, 16, 48, 27, 96, 46, 4]
abbrev dktX9_read_10 : List UInt8 := dkwX9_read_10 ++ dktX9_read_11
def dkwX9_read_9 : List UInt8 := [42, 180, 0, 40, 27, 42, 180, 0, 43, 27, 46, 79, 132, 1, 1, 167, 255, 235, 42, 180, 0, 40, 16, 64]
abbrev dktX9_read_9 : List UInt8 := dkwX9_read_9 ++ dktX9_read_10
def dkwX9_read_8 : List UInt8 := [42, 42, 180, 0, 180, 181, 0, 184, 42, 42, 180, 0, 187, 181, 0, 190, 3, 60, 27, 16, 66, 162, 0, 21]
abbrev dktX9_read_8 : List UInt8 := dkwX9_read_8 ++ dktX9_read_9
def dkwX9_read_7 : List UInt8 := [158, 0, 8, 42, 180, 0, 141, 172, 42, 42, 180, 0, 168, 181, 0, 171, 42, 42, 180, 0, 174, 181, 0, 177]
abbrev dktX9_read_7 : List UInt8 := dkwX9_read_7 ++ dktX9_read_8
def dkwX9_read_6 : List UInt8 := [167, 0, 4, 2, 181, 0, 37, 42, 180, 0, 132, 158, 0, 8, 42, 180, 0, 132, 172, 42, 180, 0, 141]
abbrev dktX9_read_6 : List UInt8 := dkwX9_read_6 ++ dktX9_read_7
def dkwX9_read_5 : List UInt8 := [180, 0, 132, 158, 0, 10, 42, 180, 0, 138, 167, 0, 18, 42, 180, 0, 141, 158, 0, 10, 42, 180, 0, 144]
abbrev dktX9_read_5 : List UInt8 := dkwX9_read_5 ++ dktX9_read_6
def dkwX9_read_4 : List UInt8 := [154, 0, 10, 42, 182, 0, 162, 167, 255, 237, 42, 180, 0, 132, 154, 0, 7, 42, 182, 0, 165, 42, 42]
abbrev dktX9_read_4 : List UInt8 := dkwX9_read_4 ++ dktX9_read_5
def dkwX9_read_3 : List UInt8 := [42, 5, 182, 0, 159, 42, 7, 182, 0, 159, 42, 180, 0, 132, 154, 0, 18, 42, 3, 182, 0, 150]
abbrev dktX9_read_3 : List UInt8 := dkwX9_read_3 ++ dktX9_read_4
def dkwX9_read_2 : List UInt8 := [181, 0, 135, 42, 3, 181, 0, 132, 42, 3, 181, 0, 141, 42, 16, 20, 182, 0, 159, 42, 5, 182, 0, 159]
abbrev dktX9_read_2 : List UInt8 := dkwX9_read_2 ++ dktX9_read_3
def dkwX9_read_1 : List UInt8 := [180, 0, 13, 27, 51, 84, 132, 1, 1, 167, 255, 233, 42, 3, 181, 0, 94, 42, 182, 0, 156, 42, 3]
abbrev dktX9_read_1 : List UInt8 := dkwX9_read_1 ++ dktX9_read_2
def dkwX9_read_0 : List UInt8 := [42, 42, 180, 0, 94, 181, 0, 101, 3, 60, 27, 42, 180, 0, 101, 162, 0, 21, 42, 180, 0, 17, 27, 42]
abbrev dktX9_read_0 : List UInt8 := dkwX9_read_0 ++ dktX9_read_1
theorem dksX9_read_0 : cX9_read.data.toList.drop 0 = dktX9_read_0 := by decide +kernel
theorem dksX9_read_1 : cX9_read.data.toList.drop 24 = dktX9_read_1 := dk_seg dksX9_read_0 24 rfl rfl
theorem dksX9_read_2 : cX9_read.data.toList.drop 47 = dktX9_read_2 := dk_seg dksX9_read_1 23 rfl rfl
theorem dksX9_read_3 : cX9_read.data.toList.drop 71 = dktX9_read_3 := dk_seg dksX9_read_2 24 rfl rfl
theorem dksX9_read_4 : cX9_read.data.toList.drop 93 = dktX9_read_4 := dk_seg dksX9_read_3 22 rfl rfl
theorem dksX9_read_5 : cX9_read.data.toList.drop 116 = dktX9_read_5 := dk_seg dksX9_read_4 23 rfl rfl
theorem dksX9_read_6 : cX9_read.data.toList.drop 140 = dktX9_read_6 := dk_seg dksX9_read_5 24 rfl rfl
theorem dksX9_read_7 : cX9_read.data.toList.drop 163 = dktX9_read_7 := dk_seg dksX9_read_6 23 rfl rfl
theorem dksX9_read_8 : cX9_read.data.toList.drop 187 = dktX9_read_8 := dk_seg dksX9_read_7 24 rfl rfl
theorem dksX9_read_9 : cX9_read.data.toList.drop 211 = dktX9_read_9 := dk_seg dksX9_read_8 24 rfl rfl
theorem dksX9_read_10 : cX9_read.data.toList.drop 235 = dktX9_read_10 := dk_seg dksX9_read_9 24 rfl rfl
theorem dksX9_read_11 : cX9_read.data.toList.drop 257 = dktX9_read_11 := dk_seg dksX9_read_10 22 rfl rfl
theorem dksX9_read_12 : cX9_read.data.toList.drop 281 = dktX9_read_12 := dk_seg dksX9_read_11 24 rfl rfl
theorem dksX9_read_13 : cX9_read.data.toList.drop 305 = dktX9_read_13 := dk_seg dksX9_read_12 24 rfl rfl
theorem dX9_read_0 : decode cX9_read 0 = .ok (.aload_n 0, 1) := dk_42 (dk_at dksX9_read_0 0 rfl rfl)
theorem dX9_read_1 : decode cX9_read 1 = .ok (.aload_n 0, 1) := dk_42 (dk_at dksX9_read_0 1 rfl rfl)
theorem dX9_read_2 : decode cX9_read 2 = .ok (.getfield 94, 3) := dk_180 0 94 (dk_at dksX9_read_0 2 rfl rfl)
theorem dX9_read_5 : decode cX9_read 5 = .ok (.putfield 101, 3) := dk_181 0 101 (dk_at dksX9_read_0 5 rfl rfl)
theorem dX9_read_8 : decode cX9_read 8 = .ok (.iconst 0, 1) := dk_3 (dk_at dksX9_read_0 8 rfl rfl)
theorem dX9_read_9 : decode cX9_read 9 = .ok (.istore_n 1, 1) := dk_60 (dk_at dksX9_read_0 9 rfl rfl)
theorem dX9_read_10 : decode cX9_read 10 = .ok (.iload_n 1, 1) := dk_27 (dk_at dksX9_read_0 10 rfl rfl)
theorem dX9_read_11 : decode cX9_read 11 = .ok (.aload_n 0, 1) := dk_42 (dk_at dksX9_read_0 11 rfl rfl)
theorem dX9_read_12 : decode cX9_read 12 = .ok (.getfield 101, 3) := dk_180 0 101 (dk_at dksX9_read_0 12 rfl rfl)
theorem dX9_read_15 : decode cX9_read 15 = .ok (.if_icmp .ge 21, 3) := dk_162 0 21 (dk_at dksX9_read_0 15 rfl rfl)
theorem dX9_read_18 : decode cX9_read 18 = .ok (.aload_n 0, 1) := dk_42 (dk_at dksX9_read_0 18 rfl rfl)
theorem dX9_read_19 : decode cX9_read 19 = .ok (.getfield 17, 3) := dk_180 0 17 (dk_at dksX9_read_0 19 rfl rfl)
theorem dX9_read_22 : decode cX9_read 22 = .ok (.iload_n 1, 1) := dk_27 (dk_at dksX9_read_0 22 rfl rfl)
theorem dX9_read_23 : decode cX9_read 23 = .ok (.aload_n 0, 1) := dk_42 (dk_at dksX9_read_0 23 rfl rfl)
theorem dX9_read_24 : decode cX9_read 24 = .ok (.getfield 13, 3) := dk_180 0 13 (dk_at dksX9_read_1 0 rfl rfl)
theorem dX9_read_27 : decode cX9_read 27 = .ok (.iload_n 1, 1) := dk_27 (dk_at dksX9_read_1 3 rfl rfl)
theorem dX9_read_28 : decode cX9_read 28 = .ok (.baload, 1) := dk_51 (dk_at dksX9_read_1 4 rfl rfl)
theorem dX9_read_29 : decode cX9_read 29 = .ok (.bastore, 1) := dk_84 (dk_at dksX9_read_1 5 rfl rfl)
theorem dX9_read_30 : decode cX9_read 30 = .ok (.iinc 1 1, 3) := dk_132 1 1 (dk_at dksX9_read_1 6 rfl rfl)
theorem dX9_read_33 : decode cX9_read 33 = .ok (.goto (-23), 3) := dk_167 255 233 (dk_at dksX9_read_1 9 rfl rfl)
theorem dX9_read_36 : decode cX9_read 36 = .ok (.aload_n 0, 1) := dk_42 (dk_at dksX9_read_1 12 rfl rfl)
theorem dX9_read_37 : decode cX9_read 37 = .ok (.iconst 0, 1) := dk_3 (dk_at dksX9_read_1 13 rfl rfl)
theorem dX9_read_38 : decode cX9_read 38 = .ok (.putfield 94, 3) := dk_181 0 94 (dk_at dksX9_read_1 14 rfl rfl)
theorem dX9_read_41 : decode cX9_read 41 = .ok (.aload_n 0, 1) := dk_42 (dk_at dksX9_read_1 17 rfl rfl)
theorem dX9_read_42 : decode cX9_read 42 = .ok (.invokevirtual 156, 3) := dk_182 0 156 (dk_at dksX9_read_1 18 rfl rfl)
theorem dX9_read_45 : decode cX9_read 45 = .ok (.aload_n 0, 1) := dk_42 (dk_at dksX9_read_1 21 rfl rfl)
theorem dX9_read_46 : decode cX9_read 46 = .ok (.iconst 0, 1) := dk_3 (dk_at dksX9_read_1 22 rfl rfl)
theorem dX9_read_47 : decode cX9_read 47 = .ok (.putfield 135, 3) := dk_181 0 135 (dk_at dksX9_read_2 0 rfl rfl)
theorem dX9_read_50 : decode cX9_read 50 = .ok (.aload_n 0, 1) := dk_42 (dk_at dksX9_read_2 3 rfl rfl)
theorem dX9_read_51 : decode cX9_read 51 = .ok (.iconst 0, 1) := dk_3 (dk_at dksX9_read_2 4 rfl rfl)
theorem dX9_read_52 : decode cX9_read 52 = .ok (.putfield 132, 3) := dk_181 0 132 (dk_at dksX9_read_2 5 rfl rfl)
theorem dX9_read_55 : decode cX9_read 55 = .ok (.aload_n 0, 1) := dk_42 (dk_at dksX9_read_2 8 rfl rfl)
theorem dX9_read_56 : decode cX9_read 56 = .ok (.iconst 0, 1) := dk_3 (dk_at dksX9_read_2 9 rfl rfl)
theorem dX9_read_57 : decode cX9_read 57 = .ok (.putfield 141, 3) := dk_181 0 141 (dk_at dksX9_read_2 10 rfl rfl)
theorem dX9_read_60 : decode cX9_read 60 = .ok (.aload_n 0, 1) := dk_42 (dk_at dksX9_read_2 13 rfl rfl)
theorem dX9_read_61 : decode cX9_read 61 = .ok (.bipush 20, 2) := dk_16 20 (dk_at dksX9_read_2 14 rfl rfl)
theorem dX9_read_63 : decode cX9_read 63 = .ok (.invokevirtual 159, 3) := dk_182 0 159 (dk_at dksX9_read_2 16 rfl rfl)
theorem dX9_read_66 : decode cX9_read 66 = .ok (.aload_n 0, 1) := dk_42 (dk_at dksX9_read_2 19 rfl rfl)
theorem dX9_read_67 : decode cX9_read 67 = .ok (.iconst 2, 1) := dk_5 (dk_at dksX9_read_2 20 rfl rfl)
theorem dX9_read_68 : decode cX9_read 68 = .ok (.invokevirtual 159, 3) := dk_182 0 159 (dk_at dksX9_read_2 21 rfl rfl)
theorem dX9_read_71 : decode cX9_read 71 = .ok (.aload_n 0, 1) := dk_42 (dk_at dksX9_read_3 0 rfl rfl)
theorem dX9_read_72 : decode cX9_read 72 = .ok (.iconst 2, 1) := dk_5 (dk_at dksX9_read_3 1 rfl rfl)
theorem dX9_read_73 : decode cX9_read 73 = .ok (.invokevirtual 159, 3) := dk_182 0 159 (dk_at dksX9_read_3 2 rfl rfl)
theorem dX9_read_76 : decode cX9_read 76 = .ok (.aload_n 0, 1) := dk_42 (dk_at dksX9_read_3 5 rfl rfl)
theorem dX9_read_77 : decode cX9_read 77 = .ok (.iconst 4, 1) := dk_7 (dk_at dksX9_read_3 6 rfl rfl)
theorem dX9_read_78 : decode cX9_read 78 = .ok (.invokevirtual 159, 3) := dk_182 0 159 (dk_at dksX9_read_3 7 rfl rfl)
theorem dX9_read_81 : decode cX9_read 81 = .ok (.aload_n 0, 1) := dk_42 (dk_at dksX9_read_3 10 rfl rfl)
theorem dX9_read_82 : decode cX9_read 82 = .ok (.getfield 132, 3) := dk_180 0 132 (dk_at dksX9_read_3 11 rfl rfl)
theorem dX9_read_85 : decode cX9_read 85 = .ok (.ifCond .ne 18, 3) := dk_154 0 18 (dk_at dksX9_read_3 14 rfl rfl)
theorem dX9_read_88 : decode cX9_read 88 = .ok (.aload_n 0, 1) := dk_42 (dk_at dksX9_read_3 17 rfl rfl)
theorem dX9_read_89 : decode cX9_read 89 = .ok (.iconst 0, 1) := dk_3 (dk_at dksX9_read_3 18 rfl rfl)
theorem dX9_read_90 : decode cX9_read 90 = .ok (.invokevirtual 150, 3) := dk_182 0 150 (dk_at dksX9_read_3 19 rfl rfl)
theorem dX9_read_93 : decode cX9_read 93 = .ok (.ifCond .ne 10, 3) := dk_154 0 10 (dk_at dksX9_read_4 0 rfl rfl)
theorem dX9_read_96 : decode cX9_read 96 = .ok (.aload_n 0, 1) := dk_42 (dk_at dksX9_read_4 3 rfl rfl)
theorem dX9_read_97 : decode cX9_read 97 = .ok (.invokevirtual 162, 3) := dk_182 0 162 (dk_at dksX9_read_4 4 rfl rfl)
theorem dX9_read_100 : decode cX9_read 100 = .ok (.goto (-19), 3) := dk_167 255 237 (dk_at dksX9_read_4 7 rfl rfl)
theorem dX9_read_103 : decode cX9_read 103 = .ok (.aload_n 0, 1) := dk_42 (dk_at dksX9_read_4 10 rfl rfl)
theorem dX9_read_104 : decode cX9_read 104 = .ok (.getfield 132, 3) := dk_180 0 132 (dk_at dksX9_read_4 11 rfl rfl)
theorem dX9_read_107 : decode cX9_read 107 = .ok (.ifCond .ne 7, 3) := dk_154 0 7 (dk_at dksX9_read_4 14 rfl rfl)
theorem dX9_read_110 : decode cX9_read 110 = .ok (.aload_n 0, 1) := dk_42 (dk_at dksX9_read_4 17 rfl rfl)
theorem dX9_read_111 : decode cX9_read 111 = .ok (.invokevirtual 165, 3) := dk_182 0 165 (dk_at dksX9_read_4 18 rfl rfl)
theorem dX9_read_114 : decode cX9_read 114 = .ok (.aload_n 0, 1) := dk_42 (dk_at dksX9_read_4 21 rfl rfl)
theorem dX9_read_115 : decode cX9_read 115 = .ok (.aload_n 0, 1) := dk_42 (dk_at dksX9_read_4 22 rfl rfl)
theorem dX9_read_116 : decode cX9_read 116 = .ok (.getfield 132, 3) := dk_180 0 132 (dk_at dksX9_read_5 0 rfl rfl)
theorem dX9_read_119 : decode cX9_read 119 = .ok (.ifCond .le 10, 3) := dk_158 0 10 (dk_at dksX9_read_5 3 rfl rfl)
theorem dX9_read_122 : decode cX9_read 122 = .ok (.aload_n 0, 1) := dk_42 (dk_at dksX9_read_5 6 rfl rfl)
theorem dX9_read_123 : decode cX9_read 123 = .ok (.getfield 138, 3) := dk_180 0 138 (dk_at dksX9_read_5 7 rfl rfl)
theorem dX9_read_126 : decode cX9_read 126 = .ok (.goto 18, 3) := dk_167 0 18 (dk_at dksX9_read_5 10 rfl rfl)
theorem dX9_read_129 : decode cX9_read 129 = .ok (.aload_n 0, 1) := dk_42 (dk_at dksX9_read_5 13 rfl rfl)
theorem dX9_read_130 : decode cX9_read 130 = .ok (.getfield 141, 3) := dk_180 0 141 (dk_at dksX9_read_5 14 rfl rfl)
theorem dX9_read_133 : decode cX9_read 133 = .ok (.ifCond .le 10, 3) := dk_158 0 10 (dk_at dksX9_read_5 17 rfl rfl)
theorem dX9_read_136 : decode cX9_read 136 = .ok (.aload_n 0, 1) := dk_42 (dk_at dksX9_read_5 20 rfl rfl)
theorem dX9_read_137 : decode cX9_read 137 = .ok (.getfield 144, 3) := dk_180 0 144 (dk_at dksX9_read_5 21 rfl rfl)
theorem dX9_read_140 : decode cX9_read 140 = .ok (.goto 4, 3) := dk_167 0 4 (dk_at dksX9_read_6 0 rfl rfl)
theorem dX9_read_143 : decode cX9_read 143 = .ok (.iconst (-1), 1) := dk_2 (dk_at dksX9_read_6 3 rfl rfl)
theorem dX9_read_144 : decode cX9_read 144 = .ok (.putfield 37, 3) := dk_181 0 37 (dk_at dksX9_read_6 4 rfl rfl)
theorem dX9_read_147 : decode cX9_read 147 = .ok (.aload_n 0, 1) := dk_42 (dk_at dksX9_read_6 7 rfl rfl)
theorem dX9_read_148 : decode cX9_read 148 = .ok (.getfield 132, 3) := dk_180 0 132 (dk_at dksX9_read_6 8 rfl rfl)
theorem dX9_read_151 : decode cX9_read 151 = .ok (.ifCond .le 8, 3) := dk_158 0 8 (dk_at dksX9_read_6 11 rfl rfl)
theorem dX9_read_154 : decode cX9_read 154 = .ok (.aload_n 0, 1) := dk_42 (dk_at dksX9_read_6 14 rfl rfl)
theorem dX9_read_155 : decode cX9_read 155 = .ok (.getfield 132, 3) := dk_180 0 132 (dk_at dksX9_read_6 15 rfl rfl)
theorem dX9_read_158 : decode cX9_read 158 = .ok (.ireturn, 1) := dk_172 (dk_at dksX9_read_6 18 rfl rfl)
theorem dX9_read_159 : decode cX9_read 159 = .ok (.aload_n 0, 1) := dk_42 (dk_at dksX9_read_6 19 rfl rfl)
theorem dX9_read_160 : decode cX9_read 160 = .ok (.getfield 141, 3) := dk_180 0 141 (dk_at dksX9_read_6 20 rfl rfl)
theorem dX9_read_163 : decode cX9_read 163 = .ok (.ifCond .le 8, 3) := dk_158 0 8 (dk_at dksX9_read_7 0 rfl rfl)
theorem dX9_read_166 : decode cX9_read 166 = .ok (.aload_n 0, 1) := dk_42 (dk_at dksX9_read_7 3 rfl rfl)
theorem dX9_read_167 : decode cX9_read 167 = .ok (.getfield 141, 3) := dk_180 0 141 (dk_at dksX9_read_7 4 rfl rfl)
theorem dX9_read_170 : decode cX9_read 170 = .ok (.ireturn, 1) := dk_172 (dk_at dksX9_read_7 7 rfl rfl)
theorem dX9_read_171 : decode cX9_read 171 = .ok (.aload_n 0, 1) := dk_42 (dk_at dksX9_read_7 8 rfl rfl)
theorem dX9_read_172 : decode cX9_read 172 = .ok (.aload_n 0, 1) := dk_42 (dk_at dksX9_read_7 9 rfl rfl)
theorem dX9_read_173 : decode cX9_read 173 = .ok (.getfield 168, 3) := dk_180 0 168 (dk_at dksX9_read_7 10 rfl rfl)
theorem dX9_read_176 : decode cX9_read 176 = .ok (.putfield 171, 3) := dk_181 0 171 (dk_at dksX9_read_7 13 rfl rfl)
theorem dX9_read_179 : decode cX9_read 179 = .ok (.aload_n 0, 1) := dk_42 (dk_at dksX9_read_7 16 rfl rfl)
theorem dX9_read_180 : decode cX9_read 180 = .ok (.aload_n 0, 1) := dk_42 (dk_at dksX9_read_7 17 rfl rfl)
theorem dX9_read_181 : decode cX9_read 181 = .ok (.getfield 174, 3) := dk_180 0 174 (dk_at dksX9_read_7 18 rfl rfl)
theorem dX9_read_184 : decode cX9_read 184 = .ok (.putfield 177, 3) := dk_181 0 177 (dk_at dksX9_read_7 21 rfl rfl)
theorem dX9_read_187 : decode cX9_read 187 = .ok (.aload_n 0, 1) := dk_42 (dk_at dksX9_read_8 0 rfl rfl)
theorem dX9_read_188 : decode cX9_read 188 = .ok (.aload_n 0, 1) := dk_42 (dk_at dksX9_read_8 1 rfl rfl)
theorem dX9_read_189 : decode cX9_read 189 = .ok (.getfield 180, 3) := dk_180 0 180 (dk_at dksX9_read_8 2 rfl rfl)
theorem dX9_read_192 : decode cX9_read 192 = .ok (.putfield 184, 3) := dk_181 0 184 (dk_at dksX9_read_8 5 rfl rfl)
theorem dX9_read_195 : decode cX9_read 195 = .ok (.aload_n 0, 1) := dk_42 (dk_at dksX9_read_8 8 rfl rfl)
theorem dX9_read_196 : decode cX9_read 196 = .ok (.aload_n 0, 1) := dk_42 (dk_at dksX9_read_8 9 rfl rfl)
theorem dX9_read_197 : decode cX9_read 197 = .ok (.getfield 187, 3) := dk_180 0 187 (dk_at dksX9_read_8 10 rfl rfl)
theorem dX9_read_200 : decode cX9_read 200 = .ok (.putfield 190, 3) := dk_181 0 190 (dk_at dksX9_read_8 13 rfl rfl)
theorem dX9_read_203 : decode cX9_read 203 = .ok (.iconst 0, 1) := dk_3 (dk_at dksX9_read_8 16 rfl rfl)
theorem dX9_read_204 : decode cX9_read 204 = .ok (.istore_n 1, 1) := dk_60 (dk_at dksX9_read_8 17 rfl rfl)
theorem dX9_read_205 : decode cX9_read 205 = .ok (.iload_n 1, 1) := dk_27 (dk_at dksX9_read_8 18 rfl rfl)
theorem dX9_read_206 : decode cX9_read 206 = .ok (.bipush 66, 2) := dk_16 66 (dk_at dksX9_read_8 19 rfl rfl)
theorem dX9_read_208 : decode cX9_read 208 = .ok (.if_icmp .ge 21, 3) := dk_162 0 21 (dk_at dksX9_read_8 21 rfl rfl)
theorem dX9_read_211 : decode cX9_read 211 = .ok (.aload_n 0, 1) := dk_42 (dk_at dksX9_read_9 0 rfl rfl)
theorem dX9_read_212 : decode cX9_read 212 = .ok (.getfield 40, 3) := dk_180 0 40 (dk_at dksX9_read_9 1 rfl rfl)
theorem dX9_read_215 : decode cX9_read 215 = .ok (.iload_n 1, 1) := dk_27 (dk_at dksX9_read_9 4 rfl rfl)
theorem dX9_read_216 : decode cX9_read 216 = .ok (.aload_n 0, 1) := dk_42 (dk_at dksX9_read_9 5 rfl rfl)
theorem dX9_read_217 : decode cX9_read 217 = .ok (.getfield 43, 3) := dk_180 0 43 (dk_at dksX9_read_9 6 rfl rfl)
theorem dX9_read_220 : decode cX9_read 220 = .ok (.iload_n 1, 1) := dk_27 (dk_at dksX9_read_9 9 rfl rfl)
theorem dX9_read_221 : decode cX9_read 221 = .ok (.iaload, 1) := dk_46 (dk_at dksX9_read_9 10 rfl rfl)
theorem dX9_read_222 : decode cX9_read 222 = .ok (.iastore, 1) := dk_79 (dk_at dksX9_read_9 11 rfl rfl)
theorem dX9_read_223 : decode cX9_read 223 = .ok (.iinc 1 1, 3) := dk_132 1 1 (dk_at dksX9_read_9 12 rfl rfl)
theorem dX9_read_226 : decode cX9_read 226 = .ok (.goto (-21), 3) := dk_167 255 235 (dk_at dksX9_read_9 15 rfl rfl)
theorem dX9_read_229 : decode cX9_read 229 = .ok (.aload_n 0, 1) := dk_42 (dk_at dksX9_read_9 18 rfl rfl)
theorem dX9_read_230 : decode cX9_read 230 = .ok (.getfield 40, 3) := dk_180 0 40 (dk_at dksX9_read_9 19 rfl rfl)
theorem dX9_read_233 : decode cX9_read 233 = .ok (.bipush 64, 2) := dk_16 64 (dk_at dksX9_read_9 22 rfl rfl)
theorem dX9_read_235 : decode cX9_read 235 = .ok (.iconst 0, 1) := dk_3 (dk_at dksX9_read_10 0 rfl rfl)
theorem dX9_read_236 : decode cX9_read 236 = .ok (.iastore, 1) := dk_79 (dk_at dksX9_read_10 1 rfl rfl)
theorem dX9_read_237 : decode cX9_read 237 = .ok (.iconst 0, 1) := dk_3 (dk_at dksX9_read_10 2 rfl rfl)
theorem dX9_read_238 : decode cX9_read 238 = .ok (.istore_n 1, 1) := dk_60 (dk_at dksX9_read_10 3 rfl rfl)
theorem dX9_read_239 : decode cX9_read 239 = .ok (.iload_n 1, 1) := dk_27 (dk_at dksX9_read_10 4 rfl rfl)
theorem dX9_read_240 : decode cX9_read 240 = .ok (.aload_n 0, 1) := dk_42 (dk_at dksX9_read_10 5 rfl rfl)
theorem dX9_read_241 : decode cX9_read 241 = .ok (.invokevirtual 193, 3) := dk_182 0 193 (dk_at dksX9_read_10 6 rfl rfl)
theorem dX9_read_244 : decode cX9_read 244 = .ok (.if_icmp .ge 35, 3) := dk_162 0 35 (dk_at dksX9_read_10 9 rfl rfl)
theorem dX9_read_247 : decode cX9_read 247 = .ok (.aload_n 0, 1) := dk_42 (dk_at dksX9_read_10 12 rfl rfl)
theorem dX9_read_248 : decode cX9_read 248 = .ok (.getfield 40, 3) := dk_180 0 40 (dk_at dksX9_read_10 13 rfl rfl)
theorem dX9_read_251 : decode cX9_read 251 = .ok (.bipush 48, 2) := dk_16 48 (dk_at dksX9_read_10 16 rfl rfl)
theorem dX9_read_253 : decode cX9_read 253 = .ok (.iload_n 1, 1) := dk_27 (dk_at dksX9_read_10 18 rfl rfl)
theorem dX9_read_254 : decode cX9_read 254 = .ok (.iadd, 1) := dk_96 (dk_at dksX9_read_10 19 rfl rfl)
theorem dX9_read_255 : decode cX9_read 255 = .ok (.iaload, 1) := dk_46 (dk_at dksX9_read_10 20 rfl rfl)
theorem dX9_read_256 : decode cX9_read 256 = .ok (.iconst 1, 1) := dk_4 (dk_at dksX9_read_10 21 rfl rfl)
theorem dX9_read_257 : decode cX9_read 257 = .ok (.if_icmp .ne 16, 3) := dk_160 0 16 (dk_at dksX9_read_11 0 rfl rfl)
theorem dX9_read_260 : decode cX9_read 260 = .ok (.aload_n 0, 1) := dk_42 (dk_at dksX9_read_11 3 rfl rfl)
theorem dX9_read_261 : decode cX9_read 261 = .ok (.getfield 40, 3) := dk_180 0 40 (dk_at dksX9_read_11 4 rfl rfl)
theorem dX9_read_264 : decode cX9_read 264 = .ok (.bipush 64, 2) := dk_16 64 (dk_at dksX9_read_11 7 rfl rfl)
theorem dX9_read_266 : decode cX9_read 266 = .ok (.dup2, 1) := dk_92 (dk_at dksX9_read_11 9 rfl rfl)
theorem dX9_read_267 : decode cX9_read 267 = .ok (.iaload, 1) := dk_46 (dk_at dksX9_read_11 10 rfl rfl)
theorem dX9_read_268 : decode cX9_read 268 = .ok (.iconst 1, 1) := dk_4 (dk_at dksX9_read_11 11 rfl rfl)
theorem dX9_read_269 : decode cX9_read 269 = .ok (.iload_n 1, 1) := dk_27 (dk_at dksX9_read_11 12 rfl rfl)
theorem dX9_read_270 : decode cX9_read 270 = .ok (.ishl, 1) := dk_120 (dk_at dksX9_read_11 13 rfl rfl)
theorem dX9_read_271 : decode cX9_read 271 = .ok (.ior, 1) := dk_128 (dk_at dksX9_read_11 14 rfl rfl)
theorem dX9_read_272 : decode cX9_read 272 = .ok (.iastore, 1) := dk_79 (dk_at dksX9_read_11 15 rfl rfl)
theorem dX9_read_273 : decode cX9_read 273 = .ok (.iinc 1 1, 3) := dk_132 1 1 (dk_at dksX9_read_11 16 rfl rfl)
theorem dX9_read_276 : decode cX9_read 276 = .ok (.goto (-37), 3) := dk_167 255 219 (dk_at dksX9_read_11 19 rfl rfl)
theorem dX9_read_279 : decode cX9_read 279 = .ok (.aload_n 0, 1) := dk_42 (dk_at dksX9_read_11 22 rfl rfl)
theorem dX9_read_280 : decode cX9_read 280 = .ok (.iconst 0, 1) := dk_3 (dk_at dksX9_read_11 23 rfl rfl)
theorem dX9_read_281 : decode cX9_read 281 = .ok (.putfield 197, 3) := dk_181 0 197 (dk_at dksX9_read_12 0 rfl rfl)
theorem dX9_read_284 : decode cX9_read 284 = .ok (.iconst 0, 1) := dk_3 (dk_at dksX9_read_12 3 rfl rfl)
theorem dX9_read_285 : decode cX9_read 285 = .ok (.istore_n 1, 1) := dk_60 (dk_at dksX9_read_12 4 rfl rfl)
theorem dX9_read_286 : decode cX9_read 286 = .ok (.iload_n 1, 1) := dk_27 (dk_at dksX9_read_12 5 rfl rfl)
theorem dX9_read_287 : decode cX9_read 287 = .ok (.iconst 3, 1) := dk_6 (dk_at dksX9_read_12 6 rfl rfl)
theorem dX9_read_288 : decode cX9_read 288 = .ok (.if_icmp .ge 16, 3) := dk_162 0 16 (dk_at dksX9_read_12 7 rfl rfl)
theorem dX9_read_291 : decode cX9_read 291 = .ok (.aload_n 0, 1) := dk_42 (dk_at dksX9_read_12 10 rfl rfl)
theorem dX9_read_292 : decode cX9_read 292 = .ok (.getfield 52, 3) := dk_180 0 52 (dk_at dksX9_read_12 11 rfl rfl)
theorem dX9_read_295 : decode cX9_read 295 = .ok (.iload_n 1, 1) := dk_27 (dk_at dksX9_read_12 14 rfl rfl)
theorem dX9_read_296 : decode cX9_read 296 = .ok (.iconst 0, 1) := dk_3 (dk_at dksX9_read_12 15 rfl rfl)
theorem dX9_read_297 : decode cX9_read 297 = .ok (.bastore, 1) := dk_84 (dk_at dksX9_read_12 16 rfl rfl)
theorem dX9_read_298 : decode cX9_read 298 = .ok (.iinc 1 1, 3) := dk_132 1 1 (dk_at dksX9_read_12 17 rfl rfl)
theorem dX9_read_301 : decode cX9_read 301 = .ok (.goto (-15), 3) := dk_167 255 241 (dk_at dksX9_read_12 20 rfl rfl)
theorem dX9_read_304 : decode cX9_read 304 = .ok (.aload_n 0, 1) := dk_42 (dk_at dksX9_read_12 23 rfl rfl)
theorem dX9_read_305 : decode cX9_read 305 = .ok (.iconst 0, 1) := dk_3 (dk_at dksX9_read_13 0 rfl rfl)
theorem dX9_read_306 : decode cX9_read 306 = .ok (.putfield 200, 3) := dk_181 0 200 (dk_at dksX9_read_13 1 rfl rfl)
theorem dX9_read_309 : decode cX9_read 309 = .ok (.iconst 0, 1) := dk_3 (dk_at dksX9_read_13 4 rfl rfl)
theorem dX9_read_310 : decode cX9_read 310 = .ok (.ireturn, 1) := dk_172 (dk_at dksX9_read_13 5 rfl rfl)
abbrev cX9_cutsText : ByteArray := prog_14_method_12_code
def yX9_cutsText : MethodName := ⟨RX9, "cutsText", "()V"⟩
def dkwX9_cutsText_12 : List UInt8 := [182, 0, 128, 96, 60, 167, 254, 235, 177]
abbrev dktX9_cutsText_12 : List UInt8 := dkwX9_cutsText_12 ++ []
def dkwX9_cutsText_11 : List UInt8 := [167, 0, 4, 5, 27, 21, 4, 9, 182, 0, 117, 27, 29, 96, 60, 167, 0, 12, 27, 42, 27, 28]
abbrev dktX9_cutsText_11 : List UInt8 := dkwX9_cutsText_11 ++ dktX9_cutsText_12
def dkwX9_cutsText_10 : List UInt8 := [96, 182, 0, 113, 96, 16, 48, 100, 54, 4, 132, 3, 1, 167, 255, 217, 42, 29, 7, 164, 0, 7, 6]
abbrev dktX9_cutsText_10 : List UInt8 := dkwX9_cutsText_10 ++ dktX9_cutsText_11
def dkwX9_cutsText_9 : List UInt8 := [29, 96, 182, 0, 113, 184, 0, 125, 153, 0, 32, 29, 7, 162, 0, 21, 16, 10, 21, 4, 104, 42, 27, 29]
abbrev dktX9_cutsText_9 : List UInt8 := dkwX9_cutsText_9 ++ dktX9_cutsText_10
def dkwX9_cutsText_8 : List UInt8 := [182, 0, 117, 27, 29, 96, 60, 167, 0, 91, 28, 184, 0, 125, 153, 0, 75, 3, 62, 3, 54, 4, 42, 27]
abbrev dktX9_cutsText_8 : List UInt8 := dkwX9_cutsText_8 ++ dktX9_cutsText_9
def dkwX9_cutsText_7 : List UInt8 := [154, 0, 10, 16, 20, 21, 7, 96, 54, 6, 132, 7, 1, 167, 255, 226, 42, 21, 6, 27, 3, 22, 4]
abbrev dktX9_cutsText_7 : List UInt8 := dkwX9_cutsText_7 ++ dktX9_cutsText_8
def dkwX9_cutsText_6 : List UInt8 := [163, 0, 39, 3, 54, 7, 21, 7, 16, 11, 162, 0, 29, 42, 180, 0, 34, 21, 7, 47, 22, 4, 148]
abbrev dktX9_cutsText_6 : List UInt8 := dkwX9_cutsText_6 ++ dktX9_cutsText_7
def dkwX9_cutsText_5 : List UInt8 := [55, 4, 132, 3, 1, 167, 255, 220, 29, 16, 8, 164, 0, 7, 6, 167, 0, 4, 4, 54, 6, 29, 16, 8]
abbrev dktX9_cutsText_5 : List UInt8 := dkwX9_cutsText_5 ++ dktX9_cutsText_6
def dkwX9_cutsText_4 : List UInt8 := [184, 0, 121, 153, 0, 29, 29, 16, 8, 162, 0, 17, 22, 4, 42, 27, 29, 96, 182, 0, 113, 184, 0, 106]
abbrev dktX9_cutsText_4 : List UInt8 := dkwX9_cutsText_4 ++ dktX9_cutsText_5
def dkwX9_cutsText_3 : List UInt8 := [167, 0, 214, 28, 184, 0, 121, 153, 0, 119, 3, 62, 9, 55, 4, 42, 27, 29, 96, 182, 0, 113]
abbrev dktX9_cutsText_3 : List UInt8 := dkwX9_cutsText_3 ++ dktX9_cutsText_4
def dkwX9_cutsText_2 : List UInt8 := [159, 0, 21, 28, 16, 10, 159, 0, 15, 28, 16, 13, 159, 0, 9, 28, 16, 32, 160, 0, 9, 132, 1, 1]
abbrev dktX9_cutsText_2 : List UInt8 := dkwX9_cutsText_2 ++ dktX9_cutsText_3
def dkwX9_cutsText_1 : List UInt8 := [42, 180, 0, 101, 161, 0, 15, 42, 3, 42, 180, 0, 101, 3, 9, 182, 0, 117, 177, 28, 16, 9]
abbrev dktX9_cutsText_1 : List UInt8 := dkwX9_cutsText_1 ++ dktX9_cutsText_2
def dkwX9_cutsText_0 : List UInt8 := [42, 3, 181, 0, 110, 3, 60, 42, 180, 0, 110, 17, 1, 144, 163, 1, 17, 42, 27, 182, 0, 113, 61, 27]
abbrev dktX9_cutsText_0 : List UInt8 := dkwX9_cutsText_0 ++ dktX9_cutsText_1
theorem dksX9_cutsText_0 : cX9_cutsText.data.toList.drop 0 = dktX9_cutsText_0 := by decide +kernel
theorem dksX9_cutsText_1 : cX9_cutsText.data.toList.drop 24 = dktX9_cutsText_1 := dk_seg dksX9_cutsText_0 24 rfl rfl
theorem dksX9_cutsText_2 : cX9_cutsText.data.toList.drop 46 = dktX9_cutsText_2 := dk_seg dksX9_cutsText_1 22 rfl rfl
theorem dksX9_cutsText_3 : cX9_cutsText.data.toList.drop 70 = dktX9_cutsText_3 := dk_seg dksX9_cutsText_2 24 rfl rfl
theorem dksX9_cutsText_4 : cX9_cutsText.data.toList.drop 92 = dktX9_cutsText_4 := dk_seg dksX9_cutsText_3 22 rfl rfl
theorem dksX9_cutsText_5 : cX9_cutsText.data.toList.drop 116 = dktX9_cutsText_5 := dk_seg dksX9_cutsText_4 24 rfl rfl
theorem dksX9_cutsText_6 : cX9_cutsText.data.toList.drop 140 = dktX9_cutsText_6 := dk_seg dksX9_cutsText_5 24 rfl rfl
theorem dksX9_cutsText_7 : cX9_cutsText.data.toList.drop 163 = dktX9_cutsText_7 := dk_seg dksX9_cutsText_6 23 rfl rfl
theorem dksX9_cutsText_8 : cX9_cutsText.data.toList.drop 186 = dktX9_cutsText_8 := dk_seg dksX9_cutsText_7 23 rfl rfl
theorem dksX9_cutsText_9 : cX9_cutsText.data.toList.drop 210 = dktX9_cutsText_9 := dk_seg dksX9_cutsText_8 24 rfl rfl
theorem dksX9_cutsText_10 : cX9_cutsText.data.toList.drop 234 = dktX9_cutsText_10 := dk_seg dksX9_cutsText_9 24 rfl rfl
theorem dksX9_cutsText_11 : cX9_cutsText.data.toList.drop 257 = dktX9_cutsText_11 := dk_seg dksX9_cutsText_10 23 rfl rfl
theorem dksX9_cutsText_12 : cX9_cutsText.data.toList.drop 279 = dktX9_cutsText_12 := dk_seg dksX9_cutsText_11 22 rfl rfl
theorem dX9_cutsText_0 : decode cX9_cutsText 0 = .ok (.aload_n 0, 1) := dk_42 (dk_at dksX9_cutsText_0 0 rfl rfl)
theorem dX9_cutsText_1 : decode cX9_cutsText 1 = .ok (.iconst 0, 1) := dk_3 (dk_at dksX9_cutsText_0 1 rfl rfl)
theorem dX9_cutsText_2 : decode cX9_cutsText 2 = .ok (.putfield 110, 3) := dk_181 0 110 (dk_at dksX9_cutsText_0 2 rfl rfl)
theorem dX9_cutsText_5 : decode cX9_cutsText 5 = .ok (.iconst 0, 1) := dk_3 (dk_at dksX9_cutsText_0 5 rfl rfl)
theorem dX9_cutsText_6 : decode cX9_cutsText 6 = .ok (.istore_n 1, 1) := dk_60 (dk_at dksX9_cutsText_0 6 rfl rfl)
theorem dX9_cutsText_7 : decode cX9_cutsText 7 = .ok (.aload_n 0, 1) := dk_42 (dk_at dksX9_cutsText_0 7 rfl rfl)
theorem dX9_cutsText_8 : decode cX9_cutsText 8 = .ok (.getfield 110, 3) := dk_180 0 110 (dk_at dksX9_cutsText_0 8 rfl rfl)
theorem dX9_cutsText_11 : decode cX9_cutsText 11 = .ok (.sipush 400, 3) := dk_17 1 144 (dk_at dksX9_cutsText_0 11 rfl rfl)
theorem dX9_cutsText_14 : decode cX9_cutsText 14 = .ok (.if_icmp .gt 273, 3) := dk_163 1 17 (dk_at dksX9_cutsText_0 14 rfl rfl)
theorem dX9_cutsText_17 : decode cX9_cutsText 17 = .ok (.aload_n 0, 1) := dk_42 (dk_at dksX9_cutsText_0 17 rfl rfl)
theorem dX9_cutsText_18 : decode cX9_cutsText 18 = .ok (.iload_n 1, 1) := dk_27 (dk_at dksX9_cutsText_0 18 rfl rfl)
theorem dX9_cutsText_19 : decode cX9_cutsText 19 = .ok (.invokevirtual 113, 3) := dk_182 0 113 (dk_at dksX9_cutsText_0 19 rfl rfl)
theorem dX9_cutsText_22 : decode cX9_cutsText 22 = .ok (.istore_n 2, 1) := dk_61 (dk_at dksX9_cutsText_0 22 rfl rfl)
theorem dX9_cutsText_23 : decode cX9_cutsText 23 = .ok (.iload_n 1, 1) := dk_27 (dk_at dksX9_cutsText_0 23 rfl rfl)
theorem dX9_cutsText_24 : decode cX9_cutsText 24 = .ok (.aload_n 0, 1) := dk_42 (dk_at dksX9_cutsText_1 0 rfl rfl)
theorem dX9_cutsText_25 : decode cX9_cutsText 25 = .ok (.getfield 101, 3) := dk_180 0 101 (dk_at dksX9_cutsText_1 1 rfl rfl)
theorem dX9_cutsText_28 : decode cX9_cutsText 28 = .ok (.if_icmp .lt 15, 3) := dk_161 0 15 (dk_at dksX9_cutsText_1 4 rfl rfl)
theorem dX9_cutsText_31 : decode cX9_cutsText 31 = .ok (.aload_n 0, 1) := dk_42 (dk_at dksX9_cutsText_1 7 rfl rfl)
theorem dX9_cutsText_32 : decode cX9_cutsText 32 = .ok (.iconst 0, 1) := dk_3 (dk_at dksX9_cutsText_1 8 rfl rfl)
theorem dX9_cutsText_33 : decode cX9_cutsText 33 = .ok (.aload_n 0, 1) := dk_42 (dk_at dksX9_cutsText_1 9 rfl rfl)
theorem dX9_cutsText_34 : decode cX9_cutsText 34 = .ok (.getfield 101, 3) := dk_180 0 101 (dk_at dksX9_cutsText_1 10 rfl rfl)
theorem dX9_cutsText_37 : decode cX9_cutsText 37 = .ok (.iconst 0, 1) := dk_3 (dk_at dksX9_cutsText_1 13 rfl rfl)
theorem dX9_cutsText_38 : decode cX9_cutsText 38 = .ok (.lconst 0, 1) := dk_9 (dk_at dksX9_cutsText_1 14 rfl rfl)
theorem dX9_cutsText_39 : decode cX9_cutsText 39 = .ok (.invokevirtual 117, 3) := dk_182 0 117 (dk_at dksX9_cutsText_1 15 rfl rfl)
theorem dX9_cutsText_42 : decode cX9_cutsText 42 = .ok (.return_, 1) := dk_177 (dk_at dksX9_cutsText_1 18 rfl rfl)
theorem dX9_cutsText_43 : decode cX9_cutsText 43 = .ok (.iload_n 2, 1) := dk_28 (dk_at dksX9_cutsText_1 19 rfl rfl)
theorem dX9_cutsText_44 : decode cX9_cutsText 44 = .ok (.bipush 9, 2) := dk_16 9 (dk_at dksX9_cutsText_1 20 rfl rfl)
theorem dX9_cutsText_46 : decode cX9_cutsText 46 = .ok (.if_icmp .eq 21, 3) := dk_159 0 21 (dk_at dksX9_cutsText_2 0 rfl rfl)
theorem dX9_cutsText_49 : decode cX9_cutsText 49 = .ok (.iload_n 2, 1) := dk_28 (dk_at dksX9_cutsText_2 3 rfl rfl)
theorem dX9_cutsText_50 : decode cX9_cutsText 50 = .ok (.bipush 10, 2) := dk_16 10 (dk_at dksX9_cutsText_2 4 rfl rfl)
theorem dX9_cutsText_52 : decode cX9_cutsText 52 = .ok (.if_icmp .eq 15, 3) := dk_159 0 15 (dk_at dksX9_cutsText_2 6 rfl rfl)
theorem dX9_cutsText_55 : decode cX9_cutsText 55 = .ok (.iload_n 2, 1) := dk_28 (dk_at dksX9_cutsText_2 9 rfl rfl)
theorem dX9_cutsText_56 : decode cX9_cutsText 56 = .ok (.bipush 13, 2) := dk_16 13 (dk_at dksX9_cutsText_2 10 rfl rfl)
theorem dX9_cutsText_58 : decode cX9_cutsText 58 = .ok (.if_icmp .eq 9, 3) := dk_159 0 9 (dk_at dksX9_cutsText_2 12 rfl rfl)
theorem dX9_cutsText_61 : decode cX9_cutsText 61 = .ok (.iload_n 2, 1) := dk_28 (dk_at dksX9_cutsText_2 15 rfl rfl)
theorem dX9_cutsText_62 : decode cX9_cutsText 62 = .ok (.bipush 32, 2) := dk_16 32 (dk_at dksX9_cutsText_2 16 rfl rfl)
theorem dX9_cutsText_64 : decode cX9_cutsText 64 = .ok (.if_icmp .ne 9, 3) := dk_160 0 9 (dk_at dksX9_cutsText_2 18 rfl rfl)
theorem dX9_cutsText_67 : decode cX9_cutsText 67 = .ok (.iinc 1 1, 3) := dk_132 1 1 (dk_at dksX9_cutsText_2 21 rfl rfl)
theorem dX9_cutsText_70 : decode cX9_cutsText 70 = .ok (.goto 214, 3) := dk_167 0 214 (dk_at dksX9_cutsText_3 0 rfl rfl)
theorem dX9_cutsText_73 : decode cX9_cutsText 73 = .ok (.iload_n 2, 1) := dk_28 (dk_at dksX9_cutsText_3 3 rfl rfl)
theorem dX9_cutsText_74 : decode cX9_cutsText 74 = .ok (.invokestatic 121, 3) := dk_184 0 121 (dk_at dksX9_cutsText_3 4 rfl rfl)
theorem dX9_cutsText_77 : decode cX9_cutsText 77 = .ok (.ifCond .eq 119, 3) := dk_153 0 119 (dk_at dksX9_cutsText_3 7 rfl rfl)
theorem dX9_cutsText_80 : decode cX9_cutsText 80 = .ok (.iconst 0, 1) := dk_3 (dk_at dksX9_cutsText_3 10 rfl rfl)
theorem dX9_cutsText_81 : decode cX9_cutsText 81 = .ok (.istore_n 3, 1) := dk_62 (dk_at dksX9_cutsText_3 11 rfl rfl)
theorem dX9_cutsText_82 : decode cX9_cutsText 82 = .ok (.lconst 0, 1) := dk_9 (dk_at dksX9_cutsText_3 12 rfl rfl)
theorem dX9_cutsText_83 : decode cX9_cutsText 83 = .ok (.lstore 4, 2) := dk_55 4 (dk_at dksX9_cutsText_3 13 rfl rfl)
theorem dX9_cutsText_85 : decode cX9_cutsText 85 = .ok (.aload_n 0, 1) := dk_42 (dk_at dksX9_cutsText_3 15 rfl rfl)
theorem dX9_cutsText_86 : decode cX9_cutsText 86 = .ok (.iload_n 1, 1) := dk_27 (dk_at dksX9_cutsText_3 16 rfl rfl)
theorem dX9_cutsText_87 : decode cX9_cutsText 87 = .ok (.iload_n 3, 1) := dk_29 (dk_at dksX9_cutsText_3 17 rfl rfl)
theorem dX9_cutsText_88 : decode cX9_cutsText 88 = .ok (.iadd, 1) := dk_96 (dk_at dksX9_cutsText_3 18 rfl rfl)
theorem dX9_cutsText_89 : decode cX9_cutsText 89 = .ok (.invokevirtual 113, 3) := dk_182 0 113 (dk_at dksX9_cutsText_3 19 rfl rfl)
theorem dX9_cutsText_92 : decode cX9_cutsText 92 = .ok (.invokestatic 121, 3) := dk_184 0 121 (dk_at dksX9_cutsText_4 0 rfl rfl)
theorem dX9_cutsText_95 : decode cX9_cutsText 95 = .ok (.ifCond .eq 29, 3) := dk_153 0 29 (dk_at dksX9_cutsText_4 3 rfl rfl)
theorem dX9_cutsText_98 : decode cX9_cutsText 98 = .ok (.iload_n 3, 1) := dk_29 (dk_at dksX9_cutsText_4 6 rfl rfl)
theorem dX9_cutsText_99 : decode cX9_cutsText 99 = .ok (.bipush 8, 2) := dk_16 8 (dk_at dksX9_cutsText_4 7 rfl rfl)
theorem dX9_cutsText_101 : decode cX9_cutsText 101 = .ok (.if_icmp .ge 17, 3) := dk_162 0 17 (dk_at dksX9_cutsText_4 9 rfl rfl)
theorem dX9_cutsText_104 : decode cX9_cutsText 104 = .ok (.lload 4, 2) := dk_22 4 (dk_at dksX9_cutsText_4 12 rfl rfl)
theorem dX9_cutsText_106 : decode cX9_cutsText 106 = .ok (.aload_n 0, 1) := dk_42 (dk_at dksX9_cutsText_4 14 rfl rfl)
theorem dX9_cutsText_107 : decode cX9_cutsText 107 = .ok (.iload_n 1, 1) := dk_27 (dk_at dksX9_cutsText_4 15 rfl rfl)
theorem dX9_cutsText_108 : decode cX9_cutsText 108 = .ok (.iload_n 3, 1) := dk_29 (dk_at dksX9_cutsText_4 16 rfl rfl)
theorem dX9_cutsText_109 : decode cX9_cutsText 109 = .ok (.iadd, 1) := dk_96 (dk_at dksX9_cutsText_4 17 rfl rfl)
theorem dX9_cutsText_110 : decode cX9_cutsText 110 = .ok (.invokevirtual 113, 3) := dk_182 0 113 (dk_at dksX9_cutsText_4 18 rfl rfl)
theorem dX9_cutsText_113 : decode cX9_cutsText 113 = .ok (.invokestatic 106, 3) := dk_184 0 106 (dk_at dksX9_cutsText_4 21 rfl rfl)
theorem dX9_cutsText_116 : decode cX9_cutsText 116 = .ok (.lstore 4, 2) := dk_55 4 (dk_at dksX9_cutsText_5 0 rfl rfl)
theorem dX9_cutsText_118 : decode cX9_cutsText 118 = .ok (.iinc 3 1, 3) := dk_132 3 1 (dk_at dksX9_cutsText_5 2 rfl rfl)
theorem dX9_cutsText_121 : decode cX9_cutsText 121 = .ok (.goto (-36), 3) := dk_167 255 220 (dk_at dksX9_cutsText_5 5 rfl rfl)
theorem dX9_cutsText_124 : decode cX9_cutsText 124 = .ok (.iload_n 3, 1) := dk_29 (dk_at dksX9_cutsText_5 8 rfl rfl)
theorem dX9_cutsText_125 : decode cX9_cutsText 125 = .ok (.bipush 8, 2) := dk_16 8 (dk_at dksX9_cutsText_5 9 rfl rfl)
theorem dX9_cutsText_127 : decode cX9_cutsText 127 = .ok (.if_icmp .le 7, 3) := dk_164 0 7 (dk_at dksX9_cutsText_5 11 rfl rfl)
theorem dX9_cutsText_130 : decode cX9_cutsText 130 = .ok (.iconst 3, 1) := dk_6 (dk_at dksX9_cutsText_5 14 rfl rfl)
theorem dX9_cutsText_131 : decode cX9_cutsText 131 = .ok (.goto 4, 3) := dk_167 0 4 (dk_at dksX9_cutsText_5 15 rfl rfl)
theorem dX9_cutsText_134 : decode cX9_cutsText 134 = .ok (.iconst 1, 1) := dk_4 (dk_at dksX9_cutsText_5 18 rfl rfl)
theorem dX9_cutsText_135 : decode cX9_cutsText 135 = .ok (.istore 6, 2) := dk_54 6 (dk_at dksX9_cutsText_5 19 rfl rfl)
theorem dX9_cutsText_137 : decode cX9_cutsText 137 = .ok (.iload_n 3, 1) := dk_29 (dk_at dksX9_cutsText_5 21 rfl rfl)
theorem dX9_cutsText_138 : decode cX9_cutsText 138 = .ok (.bipush 8, 2) := dk_16 8 (dk_at dksX9_cutsText_5 22 rfl rfl)
theorem dX9_cutsText_140 : decode cX9_cutsText 140 = .ok (.if_icmp .gt 39, 3) := dk_163 0 39 (dk_at dksX9_cutsText_6 0 rfl rfl)
theorem dX9_cutsText_143 : decode cX9_cutsText 143 = .ok (.iconst 0, 1) := dk_3 (dk_at dksX9_cutsText_6 3 rfl rfl)
theorem dX9_cutsText_144 : decode cX9_cutsText 144 = .ok (.istore 7, 2) := dk_54 7 (dk_at dksX9_cutsText_6 4 rfl rfl)
theorem dX9_cutsText_146 : decode cX9_cutsText 146 = .ok (.iload 7, 2) := dk_21 7 (dk_at dksX9_cutsText_6 6 rfl rfl)
theorem dX9_cutsText_148 : decode cX9_cutsText 148 = .ok (.bipush 11, 2) := dk_16 11 (dk_at dksX9_cutsText_6 8 rfl rfl)
theorem dX9_cutsText_150 : decode cX9_cutsText 150 = .ok (.if_icmp .ge 29, 3) := dk_162 0 29 (dk_at dksX9_cutsText_6 10 rfl rfl)
theorem dX9_cutsText_153 : decode cX9_cutsText 153 = .ok (.aload_n 0, 1) := dk_42 (dk_at dksX9_cutsText_6 13 rfl rfl)
theorem dX9_cutsText_154 : decode cX9_cutsText 154 = .ok (.getfield 34, 3) := dk_180 0 34 (dk_at dksX9_cutsText_6 14 rfl rfl)
theorem dX9_cutsText_157 : decode cX9_cutsText 157 = .ok (.iload 7, 2) := dk_21 7 (dk_at dksX9_cutsText_6 17 rfl rfl)
theorem dX9_cutsText_159 : decode cX9_cutsText 159 = .ok (.laload, 1) := dk_47 (dk_at dksX9_cutsText_6 19 rfl rfl)
theorem dX9_cutsText_160 : decode cX9_cutsText 160 = .ok (.lload 4, 2) := dk_22 4 (dk_at dksX9_cutsText_6 20 rfl rfl)
theorem dX9_cutsText_162 : decode cX9_cutsText 162 = .ok (.lcmp, 1) := dk_148 (dk_at dksX9_cutsText_6 22 rfl rfl)
theorem dX9_cutsText_163 : decode cX9_cutsText 163 = .ok (.ifCond .ne 10, 3) := dk_154 0 10 (dk_at dksX9_cutsText_7 0 rfl rfl)
theorem dX9_cutsText_166 : decode cX9_cutsText 166 = .ok (.bipush 20, 2) := dk_16 20 (dk_at dksX9_cutsText_7 3 rfl rfl)
theorem dX9_cutsText_168 : decode cX9_cutsText 168 = .ok (.iload 7, 2) := dk_21 7 (dk_at dksX9_cutsText_7 5 rfl rfl)
theorem dX9_cutsText_170 : decode cX9_cutsText 170 = .ok (.iadd, 1) := dk_96 (dk_at dksX9_cutsText_7 7 rfl rfl)
theorem dX9_cutsText_171 : decode cX9_cutsText 171 = .ok (.istore 6, 2) := dk_54 6 (dk_at dksX9_cutsText_7 8 rfl rfl)
theorem dX9_cutsText_173 : decode cX9_cutsText 173 = .ok (.iinc 7 1, 3) := dk_132 7 1 (dk_at dksX9_cutsText_7 10 rfl rfl)
theorem dX9_cutsText_176 : decode cX9_cutsText 176 = .ok (.goto (-30), 3) := dk_167 255 226 (dk_at dksX9_cutsText_7 13 rfl rfl)
theorem dX9_cutsText_179 : decode cX9_cutsText 179 = .ok (.aload_n 0, 1) := dk_42 (dk_at dksX9_cutsText_7 16 rfl rfl)
theorem dX9_cutsText_180 : decode cX9_cutsText 180 = .ok (.iload 6, 2) := dk_21 6 (dk_at dksX9_cutsText_7 17 rfl rfl)
theorem dX9_cutsText_182 : decode cX9_cutsText 182 = .ok (.iload_n 1, 1) := dk_27 (dk_at dksX9_cutsText_7 19 rfl rfl)
theorem dX9_cutsText_183 : decode cX9_cutsText 183 = .ok (.iconst 0, 1) := dk_3 (dk_at dksX9_cutsText_7 20 rfl rfl)
theorem dX9_cutsText_184 : decode cX9_cutsText 184 = .ok (.lload 4, 2) := dk_22 4 (dk_at dksX9_cutsText_7 21 rfl rfl)
theorem dX9_cutsText_186 : decode cX9_cutsText 186 = .ok (.invokevirtual 117, 3) := dk_182 0 117 (dk_at dksX9_cutsText_8 0 rfl rfl)
theorem dX9_cutsText_189 : decode cX9_cutsText 189 = .ok (.iload_n 1, 1) := dk_27 (dk_at dksX9_cutsText_8 3 rfl rfl)
theorem dX9_cutsText_190 : decode cX9_cutsText 190 = .ok (.iload_n 3, 1) := dk_29 (dk_at dksX9_cutsText_8 4 rfl rfl)
theorem dX9_cutsText_191 : decode cX9_cutsText 191 = .ok (.iadd, 1) := dk_96 (dk_at dksX9_cutsText_8 5 rfl rfl)
theorem dX9_cutsText_192 : decode cX9_cutsText 192 = .ok (.istore_n 1, 1) := dk_60 (dk_at dksX9_cutsText_8 6 rfl rfl)
theorem dX9_cutsText_193 : decode cX9_cutsText 193 = .ok (.goto 91, 3) := dk_167 0 91 (dk_at dksX9_cutsText_8 7 rfl rfl)
theorem dX9_cutsText_196 : decode cX9_cutsText 196 = .ok (.iload_n 2, 1) := dk_28 (dk_at dksX9_cutsText_8 10 rfl rfl)
theorem dX9_cutsText_197 : decode cX9_cutsText 197 = .ok (.invokestatic 125, 3) := dk_184 0 125 (dk_at dksX9_cutsText_8 11 rfl rfl)
theorem dX9_cutsText_200 : decode cX9_cutsText 200 = .ok (.ifCond .eq 75, 3) := dk_153 0 75 (dk_at dksX9_cutsText_8 14 rfl rfl)
theorem dX9_cutsText_203 : decode cX9_cutsText 203 = .ok (.iconst 0, 1) := dk_3 (dk_at dksX9_cutsText_8 17 rfl rfl)
theorem dX9_cutsText_204 : decode cX9_cutsText 204 = .ok (.istore_n 3, 1) := dk_62 (dk_at dksX9_cutsText_8 18 rfl rfl)
theorem dX9_cutsText_205 : decode cX9_cutsText 205 = .ok (.iconst 0, 1) := dk_3 (dk_at dksX9_cutsText_8 19 rfl rfl)
theorem dX9_cutsText_206 : decode cX9_cutsText 206 = .ok (.istore 4, 2) := dk_54 4 (dk_at dksX9_cutsText_8 20 rfl rfl)
theorem dX9_cutsText_208 : decode cX9_cutsText 208 = .ok (.aload_n 0, 1) := dk_42 (dk_at dksX9_cutsText_8 22 rfl rfl)
theorem dX9_cutsText_209 : decode cX9_cutsText 209 = .ok (.iload_n 1, 1) := dk_27 (dk_at dksX9_cutsText_8 23 rfl rfl)
theorem dX9_cutsText_210 : decode cX9_cutsText 210 = .ok (.iload_n 3, 1) := dk_29 (dk_at dksX9_cutsText_9 0 rfl rfl)
theorem dX9_cutsText_211 : decode cX9_cutsText 211 = .ok (.iadd, 1) := dk_96 (dk_at dksX9_cutsText_9 1 rfl rfl)
theorem dX9_cutsText_212 : decode cX9_cutsText 212 = .ok (.invokevirtual 113, 3) := dk_182 0 113 (dk_at dksX9_cutsText_9 2 rfl rfl)
theorem dX9_cutsText_215 : decode cX9_cutsText 215 = .ok (.invokestatic 125, 3) := dk_184 0 125 (dk_at dksX9_cutsText_9 5 rfl rfl)
theorem dX9_cutsText_218 : decode cX9_cutsText 218 = .ok (.ifCond .eq 32, 3) := dk_153 0 32 (dk_at dksX9_cutsText_9 8 rfl rfl)
theorem dX9_cutsText_221 : decode cX9_cutsText 221 = .ok (.iload_n 3, 1) := dk_29 (dk_at dksX9_cutsText_9 11 rfl rfl)
theorem dX9_cutsText_222 : decode cX9_cutsText 222 = .ok (.iconst 4, 1) := dk_7 (dk_at dksX9_cutsText_9 12 rfl rfl)
theorem dX9_cutsText_223 : decode cX9_cutsText 223 = .ok (.if_icmp .ge 21, 3) := dk_162 0 21 (dk_at dksX9_cutsText_9 13 rfl rfl)
theorem dX9_cutsText_226 : decode cX9_cutsText 226 = .ok (.bipush 10, 2) := dk_16 10 (dk_at dksX9_cutsText_9 16 rfl rfl)
theorem dX9_cutsText_228 : decode cX9_cutsText 228 = .ok (.iload 4, 2) := dk_21 4 (dk_at dksX9_cutsText_9 18 rfl rfl)
theorem dX9_cutsText_230 : decode cX9_cutsText 230 = .ok (.imul, 1) := dk_104 (dk_at dksX9_cutsText_9 20 rfl rfl)
theorem dX9_cutsText_231 : decode cX9_cutsText 231 = .ok (.aload_n 0, 1) := dk_42 (dk_at dksX9_cutsText_9 21 rfl rfl)
theorem dX9_cutsText_232 : decode cX9_cutsText 232 = .ok (.iload_n 1, 1) := dk_27 (dk_at dksX9_cutsText_9 22 rfl rfl)
theorem dX9_cutsText_233 : decode cX9_cutsText 233 = .ok (.iload_n 3, 1) := dk_29 (dk_at dksX9_cutsText_9 23 rfl rfl)
theorem dX9_cutsText_234 : decode cX9_cutsText 234 = .ok (.iadd, 1) := dk_96 (dk_at dksX9_cutsText_10 0 rfl rfl)
theorem dX9_cutsText_235 : decode cX9_cutsText 235 = .ok (.invokevirtual 113, 3) := dk_182 0 113 (dk_at dksX9_cutsText_10 1 rfl rfl)
theorem dX9_cutsText_238 : decode cX9_cutsText 238 = .ok (.iadd, 1) := dk_96 (dk_at dksX9_cutsText_10 4 rfl rfl)
theorem dX9_cutsText_239 : decode cX9_cutsText 239 = .ok (.bipush 48, 2) := dk_16 48 (dk_at dksX9_cutsText_10 5 rfl rfl)
theorem dX9_cutsText_241 : decode cX9_cutsText 241 = .ok (.isub, 1) := dk_100 (dk_at dksX9_cutsText_10 7 rfl rfl)
theorem dX9_cutsText_242 : decode cX9_cutsText 242 = .ok (.istore 4, 2) := dk_54 4 (dk_at dksX9_cutsText_10 8 rfl rfl)
theorem dX9_cutsText_244 : decode cX9_cutsText 244 = .ok (.iinc 3 1, 3) := dk_132 3 1 (dk_at dksX9_cutsText_10 10 rfl rfl)
theorem dX9_cutsText_247 : decode cX9_cutsText 247 = .ok (.goto (-39), 3) := dk_167 255 217 (dk_at dksX9_cutsText_10 13 rfl rfl)
theorem dX9_cutsText_250 : decode cX9_cutsText 250 = .ok (.aload_n 0, 1) := dk_42 (dk_at dksX9_cutsText_10 16 rfl rfl)
theorem dX9_cutsText_251 : decode cX9_cutsText 251 = .ok (.iload_n 3, 1) := dk_29 (dk_at dksX9_cutsText_10 17 rfl rfl)
theorem dX9_cutsText_252 : decode cX9_cutsText 252 = .ok (.iconst 4, 1) := dk_7 (dk_at dksX9_cutsText_10 18 rfl rfl)
theorem dX9_cutsText_253 : decode cX9_cutsText 253 = .ok (.if_icmp .le 7, 3) := dk_164 0 7 (dk_at dksX9_cutsText_10 19 rfl rfl)
theorem dX9_cutsText_256 : decode cX9_cutsText 256 = .ok (.iconst 3, 1) := dk_6 (dk_at dksX9_cutsText_10 22 rfl rfl)
theorem dX9_cutsText_257 : decode cX9_cutsText 257 = .ok (.goto 4, 3) := dk_167 0 4 (dk_at dksX9_cutsText_11 0 rfl rfl)
theorem dX9_cutsText_260 : decode cX9_cutsText 260 = .ok (.iconst 2, 1) := dk_5 (dk_at dksX9_cutsText_11 3 rfl rfl)
theorem dX9_cutsText_261 : decode cX9_cutsText 261 = .ok (.iload_n 1, 1) := dk_27 (dk_at dksX9_cutsText_11 4 rfl rfl)
theorem dX9_cutsText_262 : decode cX9_cutsText 262 = .ok (.iload 4, 2) := dk_21 4 (dk_at dksX9_cutsText_11 5 rfl rfl)
theorem dX9_cutsText_264 : decode cX9_cutsText 264 = .ok (.lconst 0, 1) := dk_9 (dk_at dksX9_cutsText_11 7 rfl rfl)
theorem dX9_cutsText_265 : decode cX9_cutsText 265 = .ok (.invokevirtual 117, 3) := dk_182 0 117 (dk_at dksX9_cutsText_11 8 rfl rfl)
theorem dX9_cutsText_268 : decode cX9_cutsText 268 = .ok (.iload_n 1, 1) := dk_27 (dk_at dksX9_cutsText_11 11 rfl rfl)
theorem dX9_cutsText_269 : decode cX9_cutsText 269 = .ok (.iload_n 3, 1) := dk_29 (dk_at dksX9_cutsText_11 12 rfl rfl)
theorem dX9_cutsText_270 : decode cX9_cutsText 270 = .ok (.iadd, 1) := dk_96 (dk_at dksX9_cutsText_11 13 rfl rfl)
theorem dX9_cutsText_271 : decode cX9_cutsText 271 = .ok (.istore_n 1, 1) := dk_60 (dk_at dksX9_cutsText_11 14 rfl rfl)
theorem dX9_cutsText_272 : decode cX9_cutsText 272 = .ok (.goto 12, 3) := dk_167 0 12 (dk_at dksX9_cutsText_11 15 rfl rfl)
theorem dX9_cutsText_275 : decode cX9_cutsText 275 = .ok (.iload_n 1, 1) := dk_27 (dk_at dksX9_cutsText_11 18 rfl rfl)
theorem dX9_cutsText_276 : decode cX9_cutsText 276 = .ok (.aload_n 0, 1) := dk_42 (dk_at dksX9_cutsText_11 19 rfl rfl)
theorem dX9_cutsText_277 : decode cX9_cutsText 277 = .ok (.iload_n 1, 1) := dk_27 (dk_at dksX9_cutsText_11 20 rfl rfl)
theorem dX9_cutsText_278 : decode cX9_cutsText 278 = .ok (.iload_n 2, 1) := dk_28 (dk_at dksX9_cutsText_11 21 rfl rfl)
theorem dX9_cutsText_279 : decode cX9_cutsText 279 = .ok (.invokevirtual 128, 3) := dk_182 0 128 (dk_at dksX9_cutsText_12 0 rfl rfl)
theorem dX9_cutsText_282 : decode cX9_cutsText 282 = .ok (.iadd, 1) := dk_96 (dk_at dksX9_cutsText_12 3 rfl rfl)
theorem dX9_cutsText_283 : decode cX9_cutsText 283 = .ok (.istore_n 1, 1) := dk_60 (dk_at dksX9_cutsText_12 4 rfl rfl)
theorem dX9_cutsText_284 : decode cX9_cutsText 284 = .ok (.goto (-277), 3) := dk_167 254 235 (dk_at dksX9_cutsText_12 5 rfl rfl)
theorem dX9_cutsText_287 : decode cX9_cutsText 287 = .ok (.return_, 1) := dk_177 (dk_at dksX9_cutsText_12 8 rfl rfl)
abbrev cX9_byteAt : ByteArray := prog_14_method_6_code
def yX9_byteAt : MethodName := ⟨RX9, "byteAt", "(I)I"⟩
def dkwX9_byteAt_0 : List UInt8 := [27, 42, 180, 0, 101, 162, 0, 16, 42, 180, 0, 17, 27, 51, 17, 0, 255, 126, 167, 0, 4, 3, 172]
abbrev dktX9_byteAt_0 : List UInt8 := dkwX9_byteAt_0 ++ []
theorem dksX9_byteAt_0 : cX9_byteAt.data.toList.drop 0 = dktX9_byteAt_0 := by decide +kernel
theorem dX9_byteAt_0 : decode cX9_byteAt 0 = .ok (.iload_n 1, 1) := dk_27 (dk_at dksX9_byteAt_0 0 rfl rfl)
theorem dX9_byteAt_1 : decode cX9_byteAt 1 = .ok (.aload_n 0, 1) := dk_42 (dk_at dksX9_byteAt_0 1 rfl rfl)
theorem dX9_byteAt_2 : decode cX9_byteAt 2 = .ok (.getfield 101, 3) := dk_180 0 101 (dk_at dksX9_byteAt_0 2 rfl rfl)
theorem dX9_byteAt_5 : decode cX9_byteAt 5 = .ok (.if_icmp .ge 16, 3) := dk_162 0 16 (dk_at dksX9_byteAt_0 5 rfl rfl)
theorem dX9_byteAt_8 : decode cX9_byteAt 8 = .ok (.aload_n 0, 1) := dk_42 (dk_at dksX9_byteAt_0 8 rfl rfl)
theorem dX9_byteAt_9 : decode cX9_byteAt 9 = .ok (.getfield 17, 3) := dk_180 0 17 (dk_at dksX9_byteAt_0 9 rfl rfl)
theorem dX9_byteAt_12 : decode cX9_byteAt 12 = .ok (.iload_n 1, 1) := dk_27 (dk_at dksX9_byteAt_0 12 rfl rfl)
theorem dX9_byteAt_13 : decode cX9_byteAt 13 = .ok (.baload, 1) := dk_51 (dk_at dksX9_byteAt_0 13 rfl rfl)
theorem dX9_byteAt_14 : decode cX9_byteAt 14 = .ok (.sipush 255, 3) := dk_17 0 255 (dk_at dksX9_byteAt_0 14 rfl rfl)
theorem dX9_byteAt_17 : decode cX9_byteAt 17 = .ok (.iand, 1) := dk_126 (dk_at dksX9_byteAt_0 17 rfl rfl)
theorem dX9_byteAt_18 : decode cX9_byteAt 18 = .ok (.goto 4, 3) := dk_167 0 4 (dk_at dksX9_byteAt_0 18 rfl rfl)
theorem dX9_byteAt_21 : decode cX9_byteAt 21 = .ok (.iconst 0, 1) := dk_3 (dk_at dksX9_byteAt_0 21 rfl rfl)
theorem dX9_byteAt_22 : decode cX9_byteAt 22 = .ok (.ireturn, 1) := dk_172 (dk_at dksX9_byteAt_0 22 rfl rfl)
abbrev cX9_token : ByteArray := prog_14_method_11_code
def yX9_token : MethodName := ⟨RX9, "token", "(IIIJ)V"⟩
def dkwX9_token_2 : List UInt8 := [181, 0, 110, 177]
abbrev dktX9_token_2 : List UInt8 := dkwX9_token_2 ++ []
def dkwX9_token_1 : List UInt8 := [42, 180, 0, 110, 29, 79, 42, 180, 0, 30, 42, 180, 0, 110, 22, 4, 80, 42, 89, 180, 0, 110, 4, 96]
abbrev dktX9_token_1 : List UInt8 := dkwX9_token_1 ++ dktX9_token_2
def dkwX9_token_0 : List UInt8 := [42, 180, 0, 20, 42, 180, 0, 110, 27, 79, 42, 180, 0, 24, 42, 180, 0, 110, 28, 79, 42, 180, 0, 27]
abbrev dktX9_token_0 : List UInt8 := dkwX9_token_0 ++ dktX9_token_1
theorem dksX9_token_0 : cX9_token.data.toList.drop 0 = dktX9_token_0 := by decide +kernel
theorem dksX9_token_1 : cX9_token.data.toList.drop 24 = dktX9_token_1 := dk_seg dksX9_token_0 24 rfl rfl
theorem dksX9_token_2 : cX9_token.data.toList.drop 48 = dktX9_token_2 := dk_seg dksX9_token_1 24 rfl rfl
theorem dX9_token_0 : decode cX9_token 0 = .ok (.aload_n 0, 1) := dk_42 (dk_at dksX9_token_0 0 rfl rfl)
theorem dX9_token_1 : decode cX9_token 1 = .ok (.getfield 20, 3) := dk_180 0 20 (dk_at dksX9_token_0 1 rfl rfl)
theorem dX9_token_4 : decode cX9_token 4 = .ok (.aload_n 0, 1) := dk_42 (dk_at dksX9_token_0 4 rfl rfl)
theorem dX9_token_5 : decode cX9_token 5 = .ok (.getfield 110, 3) := dk_180 0 110 (dk_at dksX9_token_0 5 rfl rfl)
theorem dX9_token_8 : decode cX9_token 8 = .ok (.iload_n 1, 1) := dk_27 (dk_at dksX9_token_0 8 rfl rfl)
theorem dX9_token_9 : decode cX9_token 9 = .ok (.iastore, 1) := dk_79 (dk_at dksX9_token_0 9 rfl rfl)
theorem dX9_token_10 : decode cX9_token 10 = .ok (.aload_n 0, 1) := dk_42 (dk_at dksX9_token_0 10 rfl rfl)
theorem dX9_token_11 : decode cX9_token 11 = .ok (.getfield 24, 3) := dk_180 0 24 (dk_at dksX9_token_0 11 rfl rfl)
theorem dX9_token_14 : decode cX9_token 14 = .ok (.aload_n 0, 1) := dk_42 (dk_at dksX9_token_0 14 rfl rfl)
theorem dX9_token_15 : decode cX9_token 15 = .ok (.getfield 110, 3) := dk_180 0 110 (dk_at dksX9_token_0 15 rfl rfl)
theorem dX9_token_18 : decode cX9_token 18 = .ok (.iload_n 2, 1) := dk_28 (dk_at dksX9_token_0 18 rfl rfl)
theorem dX9_token_19 : decode cX9_token 19 = .ok (.iastore, 1) := dk_79 (dk_at dksX9_token_0 19 rfl rfl)
theorem dX9_token_20 : decode cX9_token 20 = .ok (.aload_n 0, 1) := dk_42 (dk_at dksX9_token_0 20 rfl rfl)
theorem dX9_token_21 : decode cX9_token 21 = .ok (.getfield 27, 3) := dk_180 0 27 (dk_at dksX9_token_0 21 rfl rfl)
theorem dX9_token_24 : decode cX9_token 24 = .ok (.aload_n 0, 1) := dk_42 (dk_at dksX9_token_1 0 rfl rfl)
theorem dX9_token_25 : decode cX9_token 25 = .ok (.getfield 110, 3) := dk_180 0 110 (dk_at dksX9_token_1 1 rfl rfl)
theorem dX9_token_28 : decode cX9_token 28 = .ok (.iload_n 3, 1) := dk_29 (dk_at dksX9_token_1 4 rfl rfl)
theorem dX9_token_29 : decode cX9_token 29 = .ok (.iastore, 1) := dk_79 (dk_at dksX9_token_1 5 rfl rfl)
theorem dX9_token_30 : decode cX9_token 30 = .ok (.aload_n 0, 1) := dk_42 (dk_at dksX9_token_1 6 rfl rfl)
theorem dX9_token_31 : decode cX9_token 31 = .ok (.getfield 30, 3) := dk_180 0 30 (dk_at dksX9_token_1 7 rfl rfl)
theorem dX9_token_34 : decode cX9_token 34 = .ok (.aload_n 0, 1) := dk_42 (dk_at dksX9_token_1 10 rfl rfl)
theorem dX9_token_35 : decode cX9_token 35 = .ok (.getfield 110, 3) := dk_180 0 110 (dk_at dksX9_token_1 11 rfl rfl)
theorem dX9_token_38 : decode cX9_token 38 = .ok (.lload 4, 2) := dk_22 4 (dk_at dksX9_token_1 14 rfl rfl)
theorem dX9_token_40 : decode cX9_token 40 = .ok (.lastore, 1) := dk_80 (dk_at dksX9_token_1 16 rfl rfl)
theorem dX9_token_41 : decode cX9_token 41 = .ok (.aload_n 0, 1) := dk_42 (dk_at dksX9_token_1 17 rfl rfl)
theorem dX9_token_42 : decode cX9_token 42 = .ok (.dup, 1) := dk_89 (dk_at dksX9_token_1 18 rfl rfl)
theorem dX9_token_43 : decode cX9_token 43 = .ok (.getfield 110, 3) := dk_180 0 110 (dk_at dksX9_token_1 19 rfl rfl)
theorem dX9_token_46 : decode cX9_token 46 = .ok (.iconst 1, 1) := dk_4 (dk_at dksX9_token_1 22 rfl rfl)
theorem dX9_token_47 : decode cX9_token 47 = .ok (.iadd, 1) := dk_96 (dk_at dksX9_token_1 23 rfl rfl)
theorem dX9_token_48 : decode cX9_token 48 = .ok (.putfield 110, 3) := dk_181 0 110 (dk_at dksX9_token_2 0 rfl rfl)
theorem dX9_token_51 : decode cX9_token 51 = .ok (.return_, 1) := dk_177 (dk_at dksX9_token_2 3 rfl rfl)
abbrev cX9_isLetter : ByteArray := prog_14_method_8_code
def yX9_isLetter : MethodName := ⟨RX9, "isLetter", "(I)Z"⟩
def dkwX9_isLetter_0 : List UInt8 := [26, 16, 97, 161, 0, 13, 26, 16, 122, 163, 0, 7, 4, 167, 0, 4, 3, 172]
abbrev dktX9_isLetter_0 : List UInt8 := dkwX9_isLetter_0 ++ []
theorem dksX9_isLetter_0 : cX9_isLetter.data.toList.drop 0 = dktX9_isLetter_0 := by decide +kernel
theorem dX9_isLetter_0 : decode cX9_isLetter 0 = .ok (.iload_n 0, 1) := dk_26 (dk_at dksX9_isLetter_0 0 rfl rfl)
theorem dX9_isLetter_1 : decode cX9_isLetter 1 = .ok (.bipush 97, 2) := dk_16 97 (dk_at dksX9_isLetter_0 1 rfl rfl)
theorem dX9_isLetter_3 : decode cX9_isLetter 3 = .ok (.if_icmp .lt 13, 3) := dk_161 0 13 (dk_at dksX9_isLetter_0 3 rfl rfl)
theorem dX9_isLetter_6 : decode cX9_isLetter 6 = .ok (.iload_n 0, 1) := dk_26 (dk_at dksX9_isLetter_0 6 rfl rfl)
theorem dX9_isLetter_7 : decode cX9_isLetter 7 = .ok (.bipush 122, 2) := dk_16 122 (dk_at dksX9_isLetter_0 7 rfl rfl)
theorem dX9_isLetter_9 : decode cX9_isLetter 9 = .ok (.if_icmp .gt 7, 3) := dk_163 0 7 (dk_at dksX9_isLetter_0 9 rfl rfl)
theorem dX9_isLetter_12 : decode cX9_isLetter 12 = .ok (.iconst 1, 1) := dk_4 (dk_at dksX9_isLetter_0 12 rfl rfl)
theorem dX9_isLetter_13 : decode cX9_isLetter 13 = .ok (.goto 4, 3) := dk_167 0 4 (dk_at dksX9_isLetter_0 13 rfl rfl)
theorem dX9_isLetter_16 : decode cX9_isLetter 16 = .ok (.iconst 0, 1) := dk_3 (dk_at dksX9_isLetter_0 16 rfl rfl)
theorem dX9_isLetter_17 : decode cX9_isLetter 17 = .ok (.ireturn, 1) := dk_172 (dk_at dksX9_isLetter_0 17 rfl rfl)
abbrev cX9_isDigit : ByteArray := prog_14_method_7_code
def yX9_isDigit : MethodName := ⟨RX9, "isDigit", "(I)Z"⟩
def dkwX9_isDigit_0 : List UInt8 := [26, 16, 48, 161, 0, 13, 26, 16, 57, 163, 0, 7, 4, 167, 0, 4, 3, 172]
abbrev dktX9_isDigit_0 : List UInt8 := dkwX9_isDigit_0 ++ []
theorem dksX9_isDigit_0 : cX9_isDigit.data.toList.drop 0 = dktX9_isDigit_0 := by decide +kernel
theorem dX9_isDigit_0 : decode cX9_isDigit 0 = .ok (.iload_n 0, 1) := dk_26 (dk_at dksX9_isDigit_0 0 rfl rfl)
theorem dX9_isDigit_1 : decode cX9_isDigit 1 = .ok (.bipush 48, 2) := dk_16 48 (dk_at dksX9_isDigit_0 1 rfl rfl)
theorem dX9_isDigit_3 : decode cX9_isDigit 3 = .ok (.if_icmp .lt 13, 3) := dk_161 0 13 (dk_at dksX9_isDigit_0 3 rfl rfl)
theorem dX9_isDigit_6 : decode cX9_isDigit 6 = .ok (.iload_n 0, 1) := dk_26 (dk_at dksX9_isDigit_0 6 rfl rfl)
theorem dX9_isDigit_7 : decode cX9_isDigit 7 = .ok (.bipush 57, 2) := dk_16 57 (dk_at dksX9_isDigit_0 7 rfl rfl)
theorem dX9_isDigit_9 : decode cX9_isDigit 9 = .ok (.if_icmp .gt 7, 3) := dk_163 0 7 (dk_at dksX9_isDigit_0 9 rfl rfl)
theorem dX9_isDigit_12 : decode cX9_isDigit 12 = .ok (.iconst 1, 1) := dk_4 (dk_at dksX9_isDigit_0 12 rfl rfl)
theorem dX9_isDigit_13 : decode cX9_isDigit 13 = .ok (.goto 4, 3) := dk_167 0 4 (dk_at dksX9_isDigit_0 13 rfl rfl)
theorem dX9_isDigit_16 : decode cX9_isDigit 16 = .ok (.iconst 0, 1) := dk_3 (dk_at dksX9_isDigit_0 16 rfl rfl)
theorem dX9_isDigit_17 : decode cX9_isDigit 17 = .ok (.ireturn, 1) := dk_172 (dk_at dksX9_isDigit_0 17 rfl rfl)
abbrev cX9_sign : ByteArray := prog_14_method_13_code
def yX9_sign : MethodName := ⟨RX9, "sign", "(II)I"⟩
def dkwX9_sign_1 : List UInt8 := [9, 182, 0, 117, 4, 172]
abbrev dktX9_sign_1 : List UInt8 := dkwX9_sign_1 ++ []
def dkwX9_sign_0 : List UInt8 := [42, 28, 16, 59, 160, 0, 7, 7, 167, 0, 14, 28, 16, 45, 160, 0, 7, 8, 167, 0, 4, 6, 27, 3]
abbrev dktX9_sign_0 : List UInt8 := dkwX9_sign_0 ++ dktX9_sign_1
theorem dksX9_sign_0 : cX9_sign.data.toList.drop 0 = dktX9_sign_0 := by decide +kernel
theorem dksX9_sign_1 : cX9_sign.data.toList.drop 24 = dktX9_sign_1 := dk_seg dksX9_sign_0 24 rfl rfl
theorem dX9_sign_0 : decode cX9_sign 0 = .ok (.aload_n 0, 1) := dk_42 (dk_at dksX9_sign_0 0 rfl rfl)
theorem dX9_sign_1 : decode cX9_sign 1 = .ok (.iload_n 2, 1) := dk_28 (dk_at dksX9_sign_0 1 rfl rfl)
theorem dX9_sign_2 : decode cX9_sign 2 = .ok (.bipush 59, 2) := dk_16 59 (dk_at dksX9_sign_0 2 rfl rfl)
theorem dX9_sign_4 : decode cX9_sign 4 = .ok (.if_icmp .ne 7, 3) := dk_160 0 7 (dk_at dksX9_sign_0 4 rfl rfl)
theorem dX9_sign_7 : decode cX9_sign 7 = .ok (.iconst 4, 1) := dk_7 (dk_at dksX9_sign_0 7 rfl rfl)
theorem dX9_sign_8 : decode cX9_sign 8 = .ok (.goto 14, 3) := dk_167 0 14 (dk_at dksX9_sign_0 8 rfl rfl)
theorem dX9_sign_11 : decode cX9_sign 11 = .ok (.iload_n 2, 1) := dk_28 (dk_at dksX9_sign_0 11 rfl rfl)
theorem dX9_sign_12 : decode cX9_sign 12 = .ok (.bipush 45, 2) := dk_16 45 (dk_at dksX9_sign_0 12 rfl rfl)
theorem dX9_sign_14 : decode cX9_sign 14 = .ok (.if_icmp .ne 7, 3) := dk_160 0 7 (dk_at dksX9_sign_0 14 rfl rfl)
theorem dX9_sign_17 : decode cX9_sign 17 = .ok (.iconst 5, 1) := dk_8 (dk_at dksX9_sign_0 17 rfl rfl)
theorem dX9_sign_18 : decode cX9_sign 18 = .ok (.goto 4, 3) := dk_167 0 4 (dk_at dksX9_sign_0 18 rfl rfl)
theorem dX9_sign_21 : decode cX9_sign 21 = .ok (.iconst 3, 1) := dk_6 (dk_at dksX9_sign_0 21 rfl rfl)
theorem dX9_sign_22 : decode cX9_sign 22 = .ok (.iload_n 1, 1) := dk_27 (dk_at dksX9_sign_0 22 rfl rfl)
theorem dX9_sign_23 : decode cX9_sign 23 = .ok (.iconst 0, 1) := dk_3 (dk_at dksX9_sign_0 23 rfl rfl)
theorem dX9_sign_24 : decode cX9_sign 24 = .ok (.lconst 0, 1) := dk_9 (dk_at dksX9_sign_1 0 rfl rfl)
theorem dX9_sign_25 : decode cX9_sign 25 = .ok (.invokevirtual 117, 3) := dk_182 0 117 (dk_at dksX9_sign_1 1 rfl rfl)
theorem dX9_sign_28 : decode cX9_sign 28 = .ok (.iconst 1, 1) := dk_4 (dk_at dksX9_sign_1 4 rfl rfl)
theorem dX9_sign_29 : decode cX9_sign 29 = .ok (.ireturn, 1) := dk_172 (dk_at dksX9_sign_1 5 rfl rfl)
abbrev cX9_must : ByteArray := prog_14_method_18_code
def yX9_must : MethodName := ⟨RX9, "must", "(I)V"⟩
def dkwX9_must_0 : List UInt8 := [42, 27, 182, 0, 150, 153, 0, 10, 42, 182, 0, 153, 167, 0, 8, 42, 4, 182, 0, 147, 177]
abbrev dktX9_must_0 : List UInt8 := dkwX9_must_0 ++ []
theorem dksX9_must_0 : cX9_must.data.toList.drop 0 = dktX9_must_0 := by decide +kernel
theorem dX9_must_0 : decode cX9_must 0 = .ok (.aload_n 0, 1) := dk_42 (dk_at dksX9_must_0 0 rfl rfl)
theorem dX9_must_1 : decode cX9_must 1 = .ok (.iload_n 1, 1) := dk_27 (dk_at dksX9_must_0 1 rfl rfl)
theorem dX9_must_2 : decode cX9_must 2 = .ok (.invokevirtual 150, 3) := dk_182 0 150 (dk_at dksX9_must_0 2 rfl rfl)
theorem dX9_must_5 : decode cX9_must 5 = .ok (.ifCond .eq 10, 3) := dk_153 0 10 (dk_at dksX9_must_0 5 rfl rfl)
theorem dX9_must_8 : decode cX9_must 8 = .ok (.aload_n 0, 1) := dk_42 (dk_at dksX9_must_0 8 rfl rfl)
theorem dX9_must_9 : decode cX9_must 9 = .ok (.invokevirtual 153, 3) := dk_182 0 153 (dk_at dksX9_must_0 9 rfl rfl)
theorem dX9_must_12 : decode cX9_must 12 = .ok (.goto 8, 3) := dk_167 0 8 (dk_at dksX9_must_0 12 rfl rfl)
theorem dX9_must_15 : decode cX9_must 15 = .ok (.aload_n 0, 1) := dk_42 (dk_at dksX9_must_0 15 rfl rfl)
theorem dX9_must_16 : decode cX9_must 16 = .ok (.iconst 1, 1) := dk_4 (dk_at dksX9_must_0 16 rfl rfl)
theorem dX9_must_17 : decode cX9_must 17 = .ok (.invokevirtual 147, 3) := dk_182 0 147 (dk_at dksX9_must_0 17 rfl rfl)
theorem dX9_must_20 : decode cX9_must 20 = .ok (.return_, 1) := dk_177 (dk_at dksX9_must_0 20 rfl rfl)
abbrev cX9_is : ByteArray := prog_14_method_14_code
def yX9_is : MethodName := ⟨RX9, "is", "(I)Z"⟩
def dkwX9_is_1 : List UInt8 := [3, 172]
abbrev dktX9_is_1 : List UInt8 := dkwX9_is_1 ++ []
def dkwX9_is_0 : List UInt8 := [42, 180, 0, 132, 154, 0, 20, 42, 180, 0, 20, 42, 180, 0, 135, 46, 27, 160, 0, 7, 4, 167, 0, 4]
abbrev dktX9_is_0 : List UInt8 := dkwX9_is_0 ++ dktX9_is_1
theorem dksX9_is_0 : cX9_is.data.toList.drop 0 = dktX9_is_0 := by decide +kernel
theorem dksX9_is_1 : cX9_is.data.toList.drop 24 = dktX9_is_1 := dk_seg dksX9_is_0 24 rfl rfl
theorem dX9_is_0 : decode cX9_is 0 = .ok (.aload_n 0, 1) := dk_42 (dk_at dksX9_is_0 0 rfl rfl)
theorem dX9_is_1 : decode cX9_is 1 = .ok (.getfield 132, 3) := dk_180 0 132 (dk_at dksX9_is_0 1 rfl rfl)
theorem dX9_is_4 : decode cX9_is 4 = .ok (.ifCond .ne 20, 3) := dk_154 0 20 (dk_at dksX9_is_0 4 rfl rfl)
theorem dX9_is_7 : decode cX9_is 7 = .ok (.aload_n 0, 1) := dk_42 (dk_at dksX9_is_0 7 rfl rfl)
theorem dX9_is_8 : decode cX9_is 8 = .ok (.getfield 20, 3) := dk_180 0 20 (dk_at dksX9_is_0 8 rfl rfl)
theorem dX9_is_11 : decode cX9_is 11 = .ok (.aload_n 0, 1) := dk_42 (dk_at dksX9_is_0 11 rfl rfl)
theorem dX9_is_12 : decode cX9_is 12 = .ok (.getfield 135, 3) := dk_180 0 135 (dk_at dksX9_is_0 12 rfl rfl)
theorem dX9_is_15 : decode cX9_is 15 = .ok (.iaload, 1) := dk_46 (dk_at dksX9_is_0 15 rfl rfl)
theorem dX9_is_16 : decode cX9_is 16 = .ok (.iload_n 1, 1) := dk_27 (dk_at dksX9_is_0 16 rfl rfl)
theorem dX9_is_17 : decode cX9_is 17 = .ok (.if_icmp .ne 7, 3) := dk_160 0 7 (dk_at dksX9_is_0 17 rfl rfl)
theorem dX9_is_20 : decode cX9_is 20 = .ok (.iconst 1, 1) := dk_4 (dk_at dksX9_is_0 20 rfl rfl)
theorem dX9_is_21 : decode cX9_is 21 = .ok (.goto 4, 3) := dk_167 0 4 (dk_at dksX9_is_0 21 rfl rfl)
theorem dX9_is_24 : decode cX9_is 24 = .ok (.iconst 0, 1) := dk_3 (dk_at dksX9_is_1 0 rfl rfl)
theorem dX9_is_25 : decode cX9_is 25 = .ok (.ireturn, 1) := dk_172 (dk_at dksX9_is_1 1 rfl rfl)
abbrev cX9_passes : ByteArray := prog_14_method_17_code
def yX9_passes : MethodName := ⟨RX9, "passes", "()V"⟩
def dkwX9_passes_1 : List UInt8 := [96, 181, 0, 135, 177]
abbrev dktX9_passes_1 : List UInt8 := dkwX9_passes_1 ++ []
def dkwX9_passes_0 : List UInt8 := [42, 180, 0, 135, 17, 1, 144, 160, 0, 11, 42, 5, 182, 0, 147, 167, 0, 13, 42, 89, 180, 0, 135, 4]
abbrev dktX9_passes_0 : List UInt8 := dkwX9_passes_0 ++ dktX9_passes_1
theorem dksX9_passes_0 : cX9_passes.data.toList.drop 0 = dktX9_passes_0 := by decide +kernel
theorem dksX9_passes_1 : cX9_passes.data.toList.drop 24 = dktX9_passes_1 := dk_seg dksX9_passes_0 24 rfl rfl
theorem dX9_passes_0 : decode cX9_passes 0 = .ok (.aload_n 0, 1) := dk_42 (dk_at dksX9_passes_0 0 rfl rfl)
theorem dX9_passes_1 : decode cX9_passes 1 = .ok (.getfield 135, 3) := dk_180 0 135 (dk_at dksX9_passes_0 1 rfl rfl)
theorem dX9_passes_4 : decode cX9_passes 4 = .ok (.sipush 400, 3) := dk_17 1 144 (dk_at dksX9_passes_0 4 rfl rfl)
theorem dX9_passes_7 : decode cX9_passes 7 = .ok (.if_icmp .ne 11, 3) := dk_160 0 11 (dk_at dksX9_passes_0 7 rfl rfl)
theorem dX9_passes_10 : decode cX9_passes 10 = .ok (.aload_n 0, 1) := dk_42 (dk_at dksX9_passes_0 10 rfl rfl)
theorem dX9_passes_11 : decode cX9_passes 11 = .ok (.iconst 2, 1) := dk_5 (dk_at dksX9_passes_0 11 rfl rfl)
theorem dX9_passes_12 : decode cX9_passes 12 = .ok (.invokevirtual 147, 3) := dk_182 0 147 (dk_at dksX9_passes_0 12 rfl rfl)
theorem dX9_passes_15 : decode cX9_passes 15 = .ok (.goto 13, 3) := dk_167 0 13 (dk_at dksX9_passes_0 15 rfl rfl)
theorem dX9_passes_18 : decode cX9_passes 18 = .ok (.aload_n 0, 1) := dk_42 (dk_at dksX9_passes_0 18 rfl rfl)
theorem dX9_passes_19 : decode cX9_passes 19 = .ok (.dup, 1) := dk_89 (dk_at dksX9_passes_0 19 rfl rfl)
theorem dX9_passes_20 : decode cX9_passes 20 = .ok (.getfield 135, 3) := dk_180 0 135 (dk_at dksX9_passes_0 20 rfl rfl)
theorem dX9_passes_23 : decode cX9_passes 23 = .ok (.iconst 1, 1) := dk_4 (dk_at dksX9_passes_0 23 rfl rfl)
theorem dX9_passes_24 : decode cX9_passes 24 = .ok (.iadd, 1) := dk_96 (dk_at dksX9_passes_1 0 rfl rfl)
theorem dX9_passes_25 : decode cX9_passes 25 = .ok (.putfield 135, 3) := dk_181 0 135 (dk_at dksX9_passes_1 1 rfl rfl)
theorem dX9_passes_28 : decode cX9_passes 28 = .ok (.return_, 1) := dk_177 (dk_at dksX9_passes_1 4 rfl rfl)
abbrev cX9_fail : ByteArray := prog_14_method_15_code
def yX9_fail : MethodName := ⟨RX9, "fail", "(I)V"⟩
def dkwX9_fail_1 : List UInt8 := [181, 0, 138, 177]
abbrev dktX9_fail_1 : List UInt8 := dkwX9_fail_1 ++ []
def dkwX9_fail_0 : List UInt8 := [42, 180, 0, 132, 158, 0, 4, 177, 42, 27, 181, 0, 132, 42, 42, 180, 0, 24, 42, 180, 0, 135, 46]
abbrev dktX9_fail_0 : List UInt8 := dkwX9_fail_0 ++ dktX9_fail_1
theorem dksX9_fail_0 : cX9_fail.data.toList.drop 0 = dktX9_fail_0 := by decide +kernel
theorem dksX9_fail_1 : cX9_fail.data.toList.drop 23 = dktX9_fail_1 := dk_seg dksX9_fail_0 23 rfl rfl
theorem dX9_fail_0 : decode cX9_fail 0 = .ok (.aload_n 0, 1) := dk_42 (dk_at dksX9_fail_0 0 rfl rfl)
theorem dX9_fail_1 : decode cX9_fail 1 = .ok (.getfield 132, 3) := dk_180 0 132 (dk_at dksX9_fail_0 1 rfl rfl)
theorem dX9_fail_4 : decode cX9_fail 4 = .ok (.ifCond .le 4, 3) := dk_158 0 4 (dk_at dksX9_fail_0 4 rfl rfl)
theorem dX9_fail_7 : decode cX9_fail 7 = .ok (.return_, 1) := dk_177 (dk_at dksX9_fail_0 7 rfl rfl)
theorem dX9_fail_8 : decode cX9_fail 8 = .ok (.aload_n 0, 1) := dk_42 (dk_at dksX9_fail_0 8 rfl rfl)
theorem dX9_fail_9 : decode cX9_fail 9 = .ok (.iload_n 1, 1) := dk_27 (dk_at dksX9_fail_0 9 rfl rfl)
theorem dX9_fail_10 : decode cX9_fail 10 = .ok (.putfield 132, 3) := dk_181 0 132 (dk_at dksX9_fail_0 10 rfl rfl)
theorem dX9_fail_13 : decode cX9_fail 13 = .ok (.aload_n 0, 1) := dk_42 (dk_at dksX9_fail_0 13 rfl rfl)
theorem dX9_fail_14 : decode cX9_fail 14 = .ok (.aload_n 0, 1) := dk_42 (dk_at dksX9_fail_0 14 rfl rfl)
theorem dX9_fail_15 : decode cX9_fail 15 = .ok (.getfield 24, 3) := dk_180 0 24 (dk_at dksX9_fail_0 15 rfl rfl)
theorem dX9_fail_18 : decode cX9_fail 18 = .ok (.aload_n 0, 1) := dk_42 (dk_at dksX9_fail_0 18 rfl rfl)
theorem dX9_fail_19 : decode cX9_fail 19 = .ok (.getfield 135, 3) := dk_180 0 135 (dk_at dksX9_fail_0 19 rfl rfl)
theorem dX9_fail_22 : decode cX9_fail 22 = .ok (.iaload, 1) := dk_46 (dk_at dksX9_fail_0 22 rfl rfl)
theorem dX9_fail_23 : decode cX9_fail 23 = .ok (.putfield 138, 3) := dk_181 0 138 (dk_at dksX9_fail_1 0 rfl rfl)
theorem dX9_fail_26 : decode cX9_fail 26 = .ok (.return_, 1) := dk_177 (dk_at dksX9_fail_1 3 rfl rfl)
abbrev cX9_line : ByteArray := prog_14_method_23_code
def yX9_line : MethodName := ⟨RX9, "line", "()V"⟩
def dkwX9_line_6 : List UInt8 := [182, 0, 153, 42, 5, 182, 0, 159, 167, 0, 9, 42, 4, 182, 0, 147, 177, 42, 7, 182, 0, 159, 177]
abbrev dktX9_line_6 : List UInt8 := dkwX9_line_6 ++ []
def dkwX9_line_5 : List UInt8 := [182, 0, 150, 153, 0, 10, 42, 182, 0, 153, 167, 0, 30, 42, 16, 29, 182, 0, 159, 167, 0, 21, 42]
abbrev dktX9_line_5 : List UInt8 := dkwX9_line_5 ++ dktX9_line_6
def dkwX9_line_4 : List UInt8 := [5, 182, 0, 159, 42, 182, 0, 203, 167, 0, 55, 42, 182, 0, 153, 42, 5, 182, 0, 159, 42, 16, 28]
abbrev dktX9_line_4 : List UInt8 := dkwX9_line_4 ++ dktX9_line_5
def dkwX9_line_3 : List UInt8 := [182, 0, 153, 42, 5, 182, 0, 159, 42, 182, 0, 206, 42, 182, 0, 203, 167, 0, 71, 42, 182, 0, 153, 42]
abbrev dktX9_line_3 : List UInt8 := dkwX9_line_3 ++ dktX9_line_4
def dkwX9_line_2 : List UInt8 := [42, 182, 0, 153, 42, 182, 0, 203, 167, 0, 102, 42, 182, 0, 153, 42, 182, 0, 206, 167, 0, 91, 42]
abbrev dktX9_line_2 : List UInt8 := dkwX9_line_2 ++ dktX9_line_3
def dkwX9_line_1 : List UInt8 := [170, 0, 0, 0, 157, 0, 0, 0, 21, 0, 0, 0, 30, 0, 0, 0, 53, 0, 0, 0, 53, 0, 0, 0, 53, 0, 0, 0, 64, 0, 0, 0, 75, 0, 0, 0, 95, 0, 0, 0, 111, 0, 0, 0, 157, 0, 0, 0, 157, 0, 0, 0, 145]
abbrev dktX9_line_1 : List UInt8 := dkwX9_line_1 ++ dktX9_line_2
def dkwX9_line_0 : List UInt8 := [42, 180, 0, 20, 42, 180, 0, 135, 46, 60, 27]
abbrev dktX9_line_0 : List UInt8 := dkwX9_line_0 ++ dktX9_line_1
theorem dksX9_line_0 : cX9_line.data.toList.drop 0 = dktX9_line_0 := by decide +kernel
theorem dksX9_line_1 : cX9_line.data.toList.drop 11 = dktX9_line_1 := dk_seg dksX9_line_0 11 rfl rfl
theorem dksX9_line_2 : cX9_line.data.toList.drop 64 = dktX9_line_2 := dk_seg dksX9_line_1 53 rfl rfl
theorem dksX9_line_3 : cX9_line.data.toList.drop 87 = dktX9_line_3 := dk_seg dksX9_line_2 23 rfl rfl
theorem dksX9_line_4 : cX9_line.data.toList.drop 111 = dktX9_line_4 := dk_seg dksX9_line_3 24 rfl rfl
theorem dksX9_line_5 : cX9_line.data.toList.drop 134 = dktX9_line_5 := dk_seg dksX9_line_4 23 rfl rfl
theorem dksX9_line_6 : cX9_line.data.toList.drop 157 = dktX9_line_6 := dk_seg dksX9_line_5 23 rfl rfl
theorem dX9_line_0 : decode cX9_line 0 = .ok (.aload_n 0, 1) := dk_42 (dk_at dksX9_line_0 0 rfl rfl)
theorem dX9_line_1 : decode cX9_line 1 = .ok (.getfield 20, 3) := dk_180 0 20 (dk_at dksX9_line_0 1 rfl rfl)
theorem dX9_line_4 : decode cX9_line 4 = .ok (.aload_n 0, 1) := dk_42 (dk_at dksX9_line_0 4 rfl rfl)
theorem dX9_line_5 : decode cX9_line 5 = .ok (.getfield 135, 3) := dk_180 0 135 (dk_at dksX9_line_0 5 rfl rfl)
theorem dX9_line_8 : decode cX9_line 8 = .ok (.iaload, 1) := dk_46 (dk_at dksX9_line_0 8 rfl rfl)
theorem dX9_line_9 : decode cX9_line 9 = .ok (.istore_n 1, 1) := dk_60 (dk_at dksX9_line_0 9 rfl rfl)
theorem dX9_line_10 : decode cX9_line 10 = .ok (.iload_n 1, 1) := dk_27 (dk_at dksX9_line_0 10 rfl rfl)
theorem dX9_line_11 : decode cX9_line 11 = .ok (.tableswitch 157 21 30 #[53, 53, 53, 64, 75, 95, 111, 157, 157, 145], 53) := by decide +kernel
theorem dX9_line_64 : decode cX9_line 64 = .ok (.aload_n 0, 1) := dk_42 (dk_at dksX9_line_2 0 rfl rfl)
theorem dX9_line_65 : decode cX9_line 65 = .ok (.invokevirtual 153, 3) := dk_182 0 153 (dk_at dksX9_line_2 1 rfl rfl)
theorem dX9_line_68 : decode cX9_line 68 = .ok (.aload_n 0, 1) := dk_42 (dk_at dksX9_line_2 4 rfl rfl)
theorem dX9_line_69 : decode cX9_line 69 = .ok (.invokevirtual 203, 3) := dk_182 0 203 (dk_at dksX9_line_2 5 rfl rfl)
theorem dX9_line_72 : decode cX9_line 72 = .ok (.goto 102, 3) := dk_167 0 102 (dk_at dksX9_line_2 8 rfl rfl)
theorem dX9_line_75 : decode cX9_line 75 = .ok (.aload_n 0, 1) := dk_42 (dk_at dksX9_line_2 11 rfl rfl)
theorem dX9_line_76 : decode cX9_line 76 = .ok (.invokevirtual 153, 3) := dk_182 0 153 (dk_at dksX9_line_2 12 rfl rfl)
theorem dX9_line_79 : decode cX9_line 79 = .ok (.aload_n 0, 1) := dk_42 (dk_at dksX9_line_2 15 rfl rfl)
theorem dX9_line_80 : decode cX9_line 80 = .ok (.invokevirtual 206, 3) := dk_182 0 206 (dk_at dksX9_line_2 16 rfl rfl)
theorem dX9_line_83 : decode cX9_line 83 = .ok (.goto 91, 3) := dk_167 0 91 (dk_at dksX9_line_2 19 rfl rfl)
theorem dX9_line_86 : decode cX9_line 86 = .ok (.aload_n 0, 1) := dk_42 (dk_at dksX9_line_2 22 rfl rfl)
theorem dX9_line_87 : decode cX9_line 87 = .ok (.invokevirtual 153, 3) := dk_182 0 153 (dk_at dksX9_line_3 0 rfl rfl)
theorem dX9_line_90 : decode cX9_line 90 = .ok (.aload_n 0, 1) := dk_42 (dk_at dksX9_line_3 3 rfl rfl)
theorem dX9_line_91 : decode cX9_line 91 = .ok (.iconst 2, 1) := dk_5 (dk_at dksX9_line_3 4 rfl rfl)
theorem dX9_line_92 : decode cX9_line 92 = .ok (.invokevirtual 159, 3) := dk_182 0 159 (dk_at dksX9_line_3 5 rfl rfl)
theorem dX9_line_95 : decode cX9_line 95 = .ok (.aload_n 0, 1) := dk_42 (dk_at dksX9_line_3 8 rfl rfl)
theorem dX9_line_96 : decode cX9_line 96 = .ok (.invokevirtual 206, 3) := dk_182 0 206 (dk_at dksX9_line_3 9 rfl rfl)
theorem dX9_line_99 : decode cX9_line 99 = .ok (.aload_n 0, 1) := dk_42 (dk_at dksX9_line_3 12 rfl rfl)
theorem dX9_line_100 : decode cX9_line 100 = .ok (.invokevirtual 203, 3) := dk_182 0 203 (dk_at dksX9_line_3 13 rfl rfl)
theorem dX9_line_103 : decode cX9_line 103 = .ok (.goto 71, 3) := dk_167 0 71 (dk_at dksX9_line_3 16 rfl rfl)
theorem dX9_line_106 : decode cX9_line 106 = .ok (.aload_n 0, 1) := dk_42 (dk_at dksX9_line_3 19 rfl rfl)
theorem dX9_line_107 : decode cX9_line 107 = .ok (.invokevirtual 153, 3) := dk_182 0 153 (dk_at dksX9_line_3 20 rfl rfl)
theorem dX9_line_110 : decode cX9_line 110 = .ok (.aload_n 0, 1) := dk_42 (dk_at dksX9_line_3 23 rfl rfl)
theorem dX9_line_111 : decode cX9_line 111 = .ok (.iconst 2, 1) := dk_5 (dk_at dksX9_line_4 0 rfl rfl)
theorem dX9_line_112 : decode cX9_line 112 = .ok (.invokevirtual 159, 3) := dk_182 0 159 (dk_at dksX9_line_4 1 rfl rfl)
theorem dX9_line_115 : decode cX9_line 115 = .ok (.aload_n 0, 1) := dk_42 (dk_at dksX9_line_4 4 rfl rfl)
theorem dX9_line_116 : decode cX9_line 116 = .ok (.invokevirtual 203, 3) := dk_182 0 203 (dk_at dksX9_line_4 5 rfl rfl)
theorem dX9_line_119 : decode cX9_line 119 = .ok (.goto 55, 3) := dk_167 0 55 (dk_at dksX9_line_4 8 rfl rfl)
theorem dX9_line_122 : decode cX9_line 122 = .ok (.aload_n 0, 1) := dk_42 (dk_at dksX9_line_4 11 rfl rfl)
theorem dX9_line_123 : decode cX9_line 123 = .ok (.invokevirtual 153, 3) := dk_182 0 153 (dk_at dksX9_line_4 12 rfl rfl)
theorem dX9_line_126 : decode cX9_line 126 = .ok (.aload_n 0, 1) := dk_42 (dk_at dksX9_line_4 15 rfl rfl)
theorem dX9_line_127 : decode cX9_line 127 = .ok (.iconst 2, 1) := dk_5 (dk_at dksX9_line_4 16 rfl rfl)
theorem dX9_line_128 : decode cX9_line 128 = .ok (.invokevirtual 159, 3) := dk_182 0 159 (dk_at dksX9_line_4 17 rfl rfl)
theorem dX9_line_131 : decode cX9_line 131 = .ok (.aload_n 0, 1) := dk_42 (dk_at dksX9_line_4 20 rfl rfl)
theorem dX9_line_132 : decode cX9_line 132 = .ok (.bipush 28, 2) := dk_16 28 (dk_at dksX9_line_4 21 rfl rfl)
theorem dX9_line_134 : decode cX9_line 134 = .ok (.invokevirtual 150, 3) := dk_182 0 150 (dk_at dksX9_line_5 0 rfl rfl)
theorem dX9_line_137 : decode cX9_line 137 = .ok (.ifCond .eq 10, 3) := dk_153 0 10 (dk_at dksX9_line_5 3 rfl rfl)
theorem dX9_line_140 : decode cX9_line 140 = .ok (.aload_n 0, 1) := dk_42 (dk_at dksX9_line_5 6 rfl rfl)
theorem dX9_line_141 : decode cX9_line 141 = .ok (.invokevirtual 153, 3) := dk_182 0 153 (dk_at dksX9_line_5 7 rfl rfl)
theorem dX9_line_144 : decode cX9_line 144 = .ok (.goto 30, 3) := dk_167 0 30 (dk_at dksX9_line_5 10 rfl rfl)
theorem dX9_line_147 : decode cX9_line 147 = .ok (.aload_n 0, 1) := dk_42 (dk_at dksX9_line_5 13 rfl rfl)
theorem dX9_line_148 : decode cX9_line 148 = .ok (.bipush 29, 2) := dk_16 29 (dk_at dksX9_line_5 14 rfl rfl)
theorem dX9_line_150 : decode cX9_line 150 = .ok (.invokevirtual 159, 3) := dk_182 0 159 (dk_at dksX9_line_5 16 rfl rfl)
theorem dX9_line_153 : decode cX9_line 153 = .ok (.goto 21, 3) := dk_167 0 21 (dk_at dksX9_line_5 19 rfl rfl)
theorem dX9_line_156 : decode cX9_line 156 = .ok (.aload_n 0, 1) := dk_42 (dk_at dksX9_line_5 22 rfl rfl)
theorem dX9_line_157 : decode cX9_line 157 = .ok (.invokevirtual 153, 3) := dk_182 0 153 (dk_at dksX9_line_6 0 rfl rfl)
theorem dX9_line_160 : decode cX9_line 160 = .ok (.aload_n 0, 1) := dk_42 (dk_at dksX9_line_6 3 rfl rfl)
theorem dX9_line_161 : decode cX9_line 161 = .ok (.iconst 2, 1) := dk_5 (dk_at dksX9_line_6 4 rfl rfl)
theorem dX9_line_162 : decode cX9_line 162 = .ok (.invokevirtual 159, 3) := dk_182 0 159 (dk_at dksX9_line_6 5 rfl rfl)
theorem dX9_line_165 : decode cX9_line 165 = .ok (.goto 9, 3) := dk_167 0 9 (dk_at dksX9_line_6 8 rfl rfl)
theorem dX9_line_168 : decode cX9_line 168 = .ok (.aload_n 0, 1) := dk_42 (dk_at dksX9_line_6 11 rfl rfl)
theorem dX9_line_169 : decode cX9_line 169 = .ok (.iconst 1, 1) := dk_4 (dk_at dksX9_line_6 12 rfl rfl)
theorem dX9_line_170 : decode cX9_line 170 = .ok (.invokevirtual 147, 3) := dk_182 0 147 (dk_at dksX9_line_6 13 rfl rfl)
theorem dX9_line_173 : decode cX9_line 173 = .ok (.return_, 1) := dk_177 (dk_at dksX9_line_6 16 rfl rfl)
theorem dX9_line_174 : decode cX9_line 174 = .ok (.aload_n 0, 1) := dk_42 (dk_at dksX9_line_6 17 rfl rfl)
theorem dX9_line_175 : decode cX9_line 175 = .ok (.iconst 4, 1) := dk_7 (dk_at dksX9_line_6 18 rfl rfl)
theorem dX9_line_176 : decode cX9_line 176 = .ok (.invokevirtual 159, 3) := dk_182 0 159 (dk_at dksX9_line_6 19 rfl rfl)
theorem dX9_line_179 : decode cX9_line 179 = .ok (.return_, 1) := dk_177 (dk_at dksX9_line_6 22 rfl rfl)
abbrev cX9_mustJ : ByteArray := prog_14_method_22_code
def yX9_mustJ : MethodName := ⟨RX9, "mustJ", "()V"⟩
def dkwX9_mustJ_0 : List UInt8 := [42, 8, 182, 0, 150, 153, 0, 7, 42, 182, 0, 153, 42, 5, 182, 0, 159, 177]
abbrev dktX9_mustJ_0 : List UInt8 := dkwX9_mustJ_0 ++ []
theorem dksX9_mustJ_0 : cX9_mustJ.data.toList.drop 0 = dktX9_mustJ_0 := by decide +kernel
theorem dX9_mustJ_0 : decode cX9_mustJ 0 = .ok (.aload_n 0, 1) := dk_42 (dk_at dksX9_mustJ_0 0 rfl rfl)
theorem dX9_mustJ_1 : decode cX9_mustJ 1 = .ok (.iconst 5, 1) := dk_8 (dk_at dksX9_mustJ_0 1 rfl rfl)
theorem dX9_mustJ_2 : decode cX9_mustJ 2 = .ok (.invokevirtual 150, 3) := dk_182 0 150 (dk_at dksX9_mustJ_0 2 rfl rfl)
theorem dX9_mustJ_5 : decode cX9_mustJ 5 = .ok (.ifCond .eq 7, 3) := dk_153 0 7 (dk_at dksX9_mustJ_0 5 rfl rfl)
theorem dX9_mustJ_8 : decode cX9_mustJ 8 = .ok (.aload_n 0, 1) := dk_42 (dk_at dksX9_mustJ_0 8 rfl rfl)
theorem dX9_mustJ_9 : decode cX9_mustJ 9 = .ok (.invokevirtual 153, 3) := dk_182 0 153 (dk_at dksX9_mustJ_0 9 rfl rfl)
theorem dX9_mustJ_12 : decode cX9_mustJ 12 = .ok (.aload_n 0, 1) := dk_42 (dk_at dksX9_mustJ_0 12 rfl rfl)
theorem dX9_mustJ_13 : decode cX9_mustJ 13 = .ok (.iconst 2, 1) := dk_5 (dk_at dksX9_mustJ_0 13 rfl rfl)
theorem dX9_mustJ_14 : decode cX9_mustJ 14 = .ok (.invokevirtual 159, 3) := dk_182 0 159 (dk_at dksX9_mustJ_0 14 rfl rfl)
theorem dX9_mustJ_17 : decode cX9_mustJ 17 = .ok (.return_, 1) := dk_177 (dk_at dksX9_mustJ_0 17 rfl rfl)
abbrev cX9_mustWay : ByteArray := prog_14_method_21_code
def yX9_mustWay : MethodName := ⟨RX9, "mustWay", "()V"⟩
def dkwX9_mustWay_0 : List UInt8 := [42, 16, 21, 182, 0, 150, 153, 0, 10, 42, 182, 0, 153, 167, 0, 9, 42, 16, 22, 182, 0, 159, 177]
abbrev dktX9_mustWay_0 : List UInt8 := dkwX9_mustWay_0 ++ []
theorem dksX9_mustWay_0 : cX9_mustWay.data.toList.drop 0 = dktX9_mustWay_0 := by decide +kernel
theorem dX9_mustWay_0 : decode cX9_mustWay 0 = .ok (.aload_n 0, 1) := dk_42 (dk_at dksX9_mustWay_0 0 rfl rfl)
theorem dX9_mustWay_1 : decode cX9_mustWay 1 = .ok (.bipush 21, 2) := dk_16 21 (dk_at dksX9_mustWay_0 1 rfl rfl)
theorem dX9_mustWay_3 : decode cX9_mustWay 3 = .ok (.invokevirtual 150, 3) := dk_182 0 150 (dk_at dksX9_mustWay_0 3 rfl rfl)
theorem dX9_mustWay_6 : decode cX9_mustWay 6 = .ok (.ifCond .eq 10, 3) := dk_153 0 10 (dk_at dksX9_mustWay_0 6 rfl rfl)
theorem dX9_mustWay_9 : decode cX9_mustWay 9 = .ok (.aload_n 0, 1) := dk_42 (dk_at dksX9_mustWay_0 9 rfl rfl)
theorem dX9_mustWay_10 : decode cX9_mustWay 10 = .ok (.invokevirtual 153, 3) := dk_182 0 153 (dk_at dksX9_mustWay_0 10 rfl rfl)
theorem dX9_mustWay_13 : decode cX9_mustWay 13 = .ok (.goto 9, 3) := dk_167 0 9 (dk_at dksX9_mustWay_0 13 rfl rfl)
theorem dX9_mustWay_16 : decode cX9_mustWay 16 = .ok (.aload_n 0, 1) := dk_42 (dk_at dksX9_mustWay_0 16 rfl rfl)
theorem dX9_mustWay_17 : decode cX9_mustWay 17 = .ok (.bipush 22, 2) := dk_16 22 (dk_at dksX9_mustWay_0 17 rfl rfl)
theorem dX9_mustWay_19 : decode cX9_mustWay 19 = .ok (.invokevirtual 159, 3) := dk_182 0 159 (dk_at dksX9_mustWay_0 19 rfl rfl)
theorem dX9_mustWay_22 : decode cX9_mustWay 22 = .ok (.return_, 1) := dk_177 (dk_at dksX9_mustWay_0 22 rfl rfl)
abbrev cX9_means : ByteArray := prog_14_method_25_code
def yX9_means : MethodName := ⟨RX9, "means", "()V"⟩
def dkwX9_means_10 : List UInt8 := [182, 0, 220, 132, 1, 1, 167, 255, 228, 177]
abbrev dktX9_means_10 : List UInt8 := dkwX9_means_10 ++ []
def dkwX9_means_9 : List UInt8 := [27, 42, 180, 0, 110, 162, 0, 26, 42, 180, 0, 20, 27, 4, 100, 46, 7, 160, 0, 8, 42, 27]
abbrev dktX9_means_9 : List UInt8 := dkwX9_means_9 ++ dktX9_means_10
def dkwX9_means_8 : List UInt8 := [180, 0, 20, 27, 4, 100, 46, 7, 160, 0, 8, 42, 27, 182, 0, 217, 132, 1, 1, 167, 255, 228, 7, 60]
abbrev dktX9_means_8 : List UInt8 := dkwX9_means_8 ++ dktX9_means_9
def dkwX9_means_7 : List UInt8 := [42, 4, 181, 0, 187, 132, 1, 1, 167, 255, 187, 7, 60, 27, 42, 180, 0, 110, 162, 0, 26, 42]
abbrev dktX9_means_7 : List UInt8 := dkwX9_means_7 ++ dktX9_means_8
def dkwX9_means_6 : List UInt8 := [42, 180, 0, 20, 27, 46, 16, 24, 160, 0, 21, 42, 180, 0, 20, 27, 4, 96, 46, 16, 22, 160, 0, 8]
abbrev dktX9_means_6 : List UInt8 := dkwX9_means_6 ++ dktX9_means_7
def dkwX9_means_5 : List UInt8 := [46, 16, 24, 160, 0, 21, 42, 180, 0, 20, 27, 4, 96, 46, 16, 21, 160, 0, 8, 42, 4, 181, 0, 180]
abbrev dktX9_means_5 : List UInt8 := dkwX9_means_5 ++ dktX9_means_6
def dkwX9_means_4 : List UInt8 := [27, 3, 79, 132, 1, 1, 167, 255, 240, 3, 60, 27, 42, 180, 0, 110, 162, 0, 67, 42, 180, 0, 20, 27]
abbrev dktX9_means_4 : List UInt8 := dkwX9_means_4 ++ dktX9_means_5
def dkwX9_means_3 : List UInt8 := [104, 16, 16, 164, 0, 9, 42, 6, 5, 182, 0, 209, 3, 60, 27, 16, 66, 162, 0, 16, 42, 180, 0, 43]
abbrev dktX9_means_3 : List UInt8 := dkwX9_means_3 ++ dktX9_means_4
def dkwX9_means_2 : List UInt8 := [182, 0, 209, 42, 180, 0, 174, 4, 16, 16, 184, 0, 213, 153, 0, 17, 42, 180, 0, 168, 42, 180, 0, 174]
abbrev dktX9_means_2 : List UInt8 := dkwX9_means_2 ++ dktX9_means_3
def dkwX9_means_1 : List UInt8 := [181, 0, 180, 42, 3, 181, 0, 187, 42, 180, 0, 168, 4, 7, 184, 0, 213, 154, 0, 9, 42, 6, 4]
abbrev dktX9_means_1 : List UInt8 := dkwX9_means_1 ++ dktX9_means_2
def dkwX9_means_0 : List UInt8 := [42, 42, 180, 0, 27, 4, 46, 181, 0, 168, 42, 42, 180, 0, 27, 5, 46, 181, 0, 174, 42, 3]
abbrev dktX9_means_0 : List UInt8 := dkwX9_means_0 ++ dktX9_means_1
theorem dksX9_means_0 : cX9_means.data.toList.drop 0 = dktX9_means_0 := by decide +kernel
theorem dksX9_means_1 : cX9_means.data.toList.drop 22 = dktX9_means_1 := dk_seg dksX9_means_0 22 rfl rfl
theorem dksX9_means_2 : cX9_means.data.toList.drop 45 = dktX9_means_2 := dk_seg dksX9_means_1 23 rfl rfl
theorem dksX9_means_3 : cX9_means.data.toList.drop 69 = dktX9_means_3 := dk_seg dksX9_means_2 24 rfl rfl
theorem dksX9_means_4 : cX9_means.data.toList.drop 93 = dktX9_means_4 := dk_seg dksX9_means_3 24 rfl rfl
theorem dksX9_means_5 : cX9_means.data.toList.drop 117 = dktX9_means_5 := dk_seg dksX9_means_4 24 rfl rfl
theorem dksX9_means_6 : cX9_means.data.toList.drop 141 = dktX9_means_6 := dk_seg dksX9_means_5 24 rfl rfl
theorem dksX9_means_7 : cX9_means.data.toList.drop 165 = dktX9_means_7 := dk_seg dksX9_means_6 24 rfl rfl
theorem dksX9_means_8 : cX9_means.data.toList.drop 187 = dktX9_means_8 := dk_seg dksX9_means_7 22 rfl rfl
theorem dksX9_means_9 : cX9_means.data.toList.drop 211 = dktX9_means_9 := dk_seg dksX9_means_8 24 rfl rfl
theorem dksX9_means_10 : cX9_means.data.toList.drop 233 = dktX9_means_10 := dk_seg dksX9_means_9 22 rfl rfl
theorem dX9_means_0 : decode cX9_means 0 = .ok (.aload_n 0, 1) := dk_42 (dk_at dksX9_means_0 0 rfl rfl)
theorem dX9_means_1 : decode cX9_means 1 = .ok (.aload_n 0, 1) := dk_42 (dk_at dksX9_means_0 1 rfl rfl)
theorem dX9_means_2 : decode cX9_means 2 = .ok (.getfield 27, 3) := dk_180 0 27 (dk_at dksX9_means_0 2 rfl rfl)
theorem dX9_means_5 : decode cX9_means 5 = .ok (.iconst 1, 1) := dk_4 (dk_at dksX9_means_0 5 rfl rfl)
theorem dX9_means_6 : decode cX9_means 6 = .ok (.iaload, 1) := dk_46 (dk_at dksX9_means_0 6 rfl rfl)
theorem dX9_means_7 : decode cX9_means 7 = .ok (.putfield 168, 3) := dk_181 0 168 (dk_at dksX9_means_0 7 rfl rfl)
theorem dX9_means_10 : decode cX9_means 10 = .ok (.aload_n 0, 1) := dk_42 (dk_at dksX9_means_0 10 rfl rfl)
theorem dX9_means_11 : decode cX9_means 11 = .ok (.aload_n 0, 1) := dk_42 (dk_at dksX9_means_0 11 rfl rfl)
theorem dX9_means_12 : decode cX9_means 12 = .ok (.getfield 27, 3) := dk_180 0 27 (dk_at dksX9_means_0 12 rfl rfl)
theorem dX9_means_15 : decode cX9_means 15 = .ok (.iconst 2, 1) := dk_5 (dk_at dksX9_means_0 15 rfl rfl)
theorem dX9_means_16 : decode cX9_means 16 = .ok (.iaload, 1) := dk_46 (dk_at dksX9_means_0 16 rfl rfl)
theorem dX9_means_17 : decode cX9_means 17 = .ok (.putfield 174, 3) := dk_181 0 174 (dk_at dksX9_means_0 17 rfl rfl)
theorem dX9_means_20 : decode cX9_means 20 = .ok (.aload_n 0, 1) := dk_42 (dk_at dksX9_means_0 20 rfl rfl)
theorem dX9_means_21 : decode cX9_means 21 = .ok (.iconst 0, 1) := dk_3 (dk_at dksX9_means_0 21 rfl rfl)
theorem dX9_means_22 : decode cX9_means 22 = .ok (.putfield 180, 3) := dk_181 0 180 (dk_at dksX9_means_1 0 rfl rfl)
theorem dX9_means_25 : decode cX9_means 25 = .ok (.aload_n 0, 1) := dk_42 (dk_at dksX9_means_1 3 rfl rfl)
theorem dX9_means_26 : decode cX9_means 26 = .ok (.iconst 0, 1) := dk_3 (dk_at dksX9_means_1 4 rfl rfl)
theorem dX9_means_27 : decode cX9_means 27 = .ok (.putfield 187, 3) := dk_181 0 187 (dk_at dksX9_means_1 5 rfl rfl)
theorem dX9_means_30 : decode cX9_means 30 = .ok (.aload_n 0, 1) := dk_42 (dk_at dksX9_means_1 8 rfl rfl)
theorem dX9_means_31 : decode cX9_means 31 = .ok (.getfield 168, 3) := dk_180 0 168 (dk_at dksX9_means_1 9 rfl rfl)
theorem dX9_means_34 : decode cX9_means 34 = .ok (.iconst 1, 1) := dk_4 (dk_at dksX9_means_1 12 rfl rfl)
theorem dX9_means_35 : decode cX9_means 35 = .ok (.iconst 4, 1) := dk_7 (dk_at dksX9_means_1 13 rfl rfl)
theorem dX9_means_36 : decode cX9_means 36 = .ok (.invokestatic 213, 3) := dk_184 0 213 (dk_at dksX9_means_1 14 rfl rfl)
theorem dX9_means_39 : decode cX9_means 39 = .ok (.ifCond .ne 9, 3) := dk_154 0 9 (dk_at dksX9_means_1 17 rfl rfl)
theorem dX9_means_42 : decode cX9_means 42 = .ok (.aload_n 0, 1) := dk_42 (dk_at dksX9_means_1 20 rfl rfl)
theorem dX9_means_43 : decode cX9_means 43 = .ok (.iconst 3, 1) := dk_6 (dk_at dksX9_means_1 21 rfl rfl)
theorem dX9_means_44 : decode cX9_means 44 = .ok (.iconst 1, 1) := dk_4 (dk_at dksX9_means_1 22 rfl rfl)
theorem dX9_means_45 : decode cX9_means 45 = .ok (.invokevirtual 209, 3) := dk_182 0 209 (dk_at dksX9_means_2 0 rfl rfl)
theorem dX9_means_48 : decode cX9_means 48 = .ok (.aload_n 0, 1) := dk_42 (dk_at dksX9_means_2 3 rfl rfl)
theorem dX9_means_49 : decode cX9_means 49 = .ok (.getfield 174, 3) := dk_180 0 174 (dk_at dksX9_means_2 4 rfl rfl)
theorem dX9_means_52 : decode cX9_means 52 = .ok (.iconst 1, 1) := dk_4 (dk_at dksX9_means_2 7 rfl rfl)
theorem dX9_means_53 : decode cX9_means 53 = .ok (.bipush 16, 2) := dk_16 16 (dk_at dksX9_means_2 8 rfl rfl)
theorem dX9_means_55 : decode cX9_means 55 = .ok (.invokestatic 213, 3) := dk_184 0 213 (dk_at dksX9_means_2 10 rfl rfl)
theorem dX9_means_58 : decode cX9_means 58 = .ok (.ifCond .eq 17, 3) := dk_153 0 17 (dk_at dksX9_means_2 13 rfl rfl)
theorem dX9_means_61 : decode cX9_means 61 = .ok (.aload_n 0, 1) := dk_42 (dk_at dksX9_means_2 16 rfl rfl)
theorem dX9_means_62 : decode cX9_means 62 = .ok (.getfield 168, 3) := dk_180 0 168 (dk_at dksX9_means_2 17 rfl rfl)
theorem dX9_means_65 : decode cX9_means 65 = .ok (.aload_n 0, 1) := dk_42 (dk_at dksX9_means_2 20 rfl rfl)
theorem dX9_means_66 : decode cX9_means 66 = .ok (.getfield 174, 3) := dk_180 0 174 (dk_at dksX9_means_2 21 rfl rfl)
theorem dX9_means_69 : decode cX9_means 69 = .ok (.imul, 1) := dk_104 (dk_at dksX9_means_3 0 rfl rfl)
theorem dX9_means_70 : decode cX9_means 70 = .ok (.bipush 16, 2) := dk_16 16 (dk_at dksX9_means_3 1 rfl rfl)
theorem dX9_means_72 : decode cX9_means 72 = .ok (.if_icmp .le 9, 3) := dk_164 0 9 (dk_at dksX9_means_3 3 rfl rfl)
theorem dX9_means_75 : decode cX9_means 75 = .ok (.aload_n 0, 1) := dk_42 (dk_at dksX9_means_3 6 rfl rfl)
theorem dX9_means_76 : decode cX9_means 76 = .ok (.iconst 3, 1) := dk_6 (dk_at dksX9_means_3 7 rfl rfl)
theorem dX9_means_77 : decode cX9_means 77 = .ok (.iconst 2, 1) := dk_5 (dk_at dksX9_means_3 8 rfl rfl)
theorem dX9_means_78 : decode cX9_means 78 = .ok (.invokevirtual 209, 3) := dk_182 0 209 (dk_at dksX9_means_3 9 rfl rfl)
theorem dX9_means_81 : decode cX9_means 81 = .ok (.iconst 0, 1) := dk_3 (dk_at dksX9_means_3 12 rfl rfl)
theorem dX9_means_82 : decode cX9_means 82 = .ok (.istore_n 1, 1) := dk_60 (dk_at dksX9_means_3 13 rfl rfl)
theorem dX9_means_83 : decode cX9_means 83 = .ok (.iload_n 1, 1) := dk_27 (dk_at dksX9_means_3 14 rfl rfl)
theorem dX9_means_84 : decode cX9_means 84 = .ok (.bipush 66, 2) := dk_16 66 (dk_at dksX9_means_3 15 rfl rfl)
theorem dX9_means_86 : decode cX9_means 86 = .ok (.if_icmp .ge 16, 3) := dk_162 0 16 (dk_at dksX9_means_3 17 rfl rfl)
theorem dX9_means_89 : decode cX9_means 89 = .ok (.aload_n 0, 1) := dk_42 (dk_at dksX9_means_3 20 rfl rfl)
theorem dX9_means_90 : decode cX9_means 90 = .ok (.getfield 43, 3) := dk_180 0 43 (dk_at dksX9_means_3 21 rfl rfl)
theorem dX9_means_93 : decode cX9_means 93 = .ok (.iload_n 1, 1) := dk_27 (dk_at dksX9_means_4 0 rfl rfl)
theorem dX9_means_94 : decode cX9_means 94 = .ok (.iconst 0, 1) := dk_3 (dk_at dksX9_means_4 1 rfl rfl)
theorem dX9_means_95 : decode cX9_means 95 = .ok (.iastore, 1) := dk_79 (dk_at dksX9_means_4 2 rfl rfl)
theorem dX9_means_96 : decode cX9_means 96 = .ok (.iinc 1 1, 3) := dk_132 1 1 (dk_at dksX9_means_4 3 rfl rfl)
theorem dX9_means_99 : decode cX9_means 99 = .ok (.goto (-16), 3) := dk_167 255 240 (dk_at dksX9_means_4 6 rfl rfl)
theorem dX9_means_102 : decode cX9_means 102 = .ok (.iconst 0, 1) := dk_3 (dk_at dksX9_means_4 9 rfl rfl)
theorem dX9_means_103 : decode cX9_means 103 = .ok (.istore_n 1, 1) := dk_60 (dk_at dksX9_means_4 10 rfl rfl)
theorem dX9_means_104 : decode cX9_means 104 = .ok (.iload_n 1, 1) := dk_27 (dk_at dksX9_means_4 11 rfl rfl)
theorem dX9_means_105 : decode cX9_means 105 = .ok (.aload_n 0, 1) := dk_42 (dk_at dksX9_means_4 12 rfl rfl)
theorem dX9_means_106 : decode cX9_means 106 = .ok (.getfield 110, 3) := dk_180 0 110 (dk_at dksX9_means_4 13 rfl rfl)
theorem dX9_means_109 : decode cX9_means 109 = .ok (.if_icmp .ge 67, 3) := dk_162 0 67 (dk_at dksX9_means_4 16 rfl rfl)
theorem dX9_means_112 : decode cX9_means 112 = .ok (.aload_n 0, 1) := dk_42 (dk_at dksX9_means_4 19 rfl rfl)
theorem dX9_means_113 : decode cX9_means 113 = .ok (.getfield 20, 3) := dk_180 0 20 (dk_at dksX9_means_4 20 rfl rfl)
theorem dX9_means_116 : decode cX9_means 116 = .ok (.iload_n 1, 1) := dk_27 (dk_at dksX9_means_4 23 rfl rfl)
theorem dX9_means_117 : decode cX9_means 117 = .ok (.iaload, 1) := dk_46 (dk_at dksX9_means_5 0 rfl rfl)
theorem dX9_means_118 : decode cX9_means 118 = .ok (.bipush 24, 2) := dk_16 24 (dk_at dksX9_means_5 1 rfl rfl)
theorem dX9_means_120 : decode cX9_means 120 = .ok (.if_icmp .ne 21, 3) := dk_160 0 21 (dk_at dksX9_means_5 3 rfl rfl)
theorem dX9_means_123 : decode cX9_means 123 = .ok (.aload_n 0, 1) := dk_42 (dk_at dksX9_means_5 6 rfl rfl)
theorem dX9_means_124 : decode cX9_means 124 = .ok (.getfield 20, 3) := dk_180 0 20 (dk_at dksX9_means_5 7 rfl rfl)
theorem dX9_means_127 : decode cX9_means 127 = .ok (.iload_n 1, 1) := dk_27 (dk_at dksX9_means_5 10 rfl rfl)
theorem dX9_means_128 : decode cX9_means 128 = .ok (.iconst 1, 1) := dk_4 (dk_at dksX9_means_5 11 rfl rfl)
theorem dX9_means_129 : decode cX9_means 129 = .ok (.iadd, 1) := dk_96 (dk_at dksX9_means_5 12 rfl rfl)
theorem dX9_means_130 : decode cX9_means 130 = .ok (.iaload, 1) := dk_46 (dk_at dksX9_means_5 13 rfl rfl)
theorem dX9_means_131 : decode cX9_means 131 = .ok (.bipush 21, 2) := dk_16 21 (dk_at dksX9_means_5 14 rfl rfl)
theorem dX9_means_133 : decode cX9_means 133 = .ok (.if_icmp .ne 8, 3) := dk_160 0 8 (dk_at dksX9_means_5 16 rfl rfl)
theorem dX9_means_136 : decode cX9_means 136 = .ok (.aload_n 0, 1) := dk_42 (dk_at dksX9_means_5 19 rfl rfl)
theorem dX9_means_137 : decode cX9_means 137 = .ok (.iconst 1, 1) := dk_4 (dk_at dksX9_means_5 20 rfl rfl)
theorem dX9_means_138 : decode cX9_means 138 = .ok (.putfield 180, 3) := dk_181 0 180 (dk_at dksX9_means_5 21 rfl rfl)
theorem dX9_means_141 : decode cX9_means 141 = .ok (.aload_n 0, 1) := dk_42 (dk_at dksX9_means_6 0 rfl rfl)
theorem dX9_means_142 : decode cX9_means 142 = .ok (.getfield 20, 3) := dk_180 0 20 (dk_at dksX9_means_6 1 rfl rfl)
theorem dX9_means_145 : decode cX9_means 145 = .ok (.iload_n 1, 1) := dk_27 (dk_at dksX9_means_6 4 rfl rfl)
theorem dX9_means_146 : decode cX9_means 146 = .ok (.iaload, 1) := dk_46 (dk_at dksX9_means_6 5 rfl rfl)
theorem dX9_means_147 : decode cX9_means 147 = .ok (.bipush 24, 2) := dk_16 24 (dk_at dksX9_means_6 6 rfl rfl)
theorem dX9_means_149 : decode cX9_means 149 = .ok (.if_icmp .ne 21, 3) := dk_160 0 21 (dk_at dksX9_means_6 8 rfl rfl)
theorem dX9_means_152 : decode cX9_means 152 = .ok (.aload_n 0, 1) := dk_42 (dk_at dksX9_means_6 11 rfl rfl)
theorem dX9_means_153 : decode cX9_means 153 = .ok (.getfield 20, 3) := dk_180 0 20 (dk_at dksX9_means_6 12 rfl rfl)
theorem dX9_means_156 : decode cX9_means 156 = .ok (.iload_n 1, 1) := dk_27 (dk_at dksX9_means_6 15 rfl rfl)
theorem dX9_means_157 : decode cX9_means 157 = .ok (.iconst 1, 1) := dk_4 (dk_at dksX9_means_6 16 rfl rfl)
theorem dX9_means_158 : decode cX9_means 158 = .ok (.iadd, 1) := dk_96 (dk_at dksX9_means_6 17 rfl rfl)
theorem dX9_means_159 : decode cX9_means 159 = .ok (.iaload, 1) := dk_46 (dk_at dksX9_means_6 18 rfl rfl)
theorem dX9_means_160 : decode cX9_means 160 = .ok (.bipush 22, 2) := dk_16 22 (dk_at dksX9_means_6 19 rfl rfl)
theorem dX9_means_162 : decode cX9_means 162 = .ok (.if_icmp .ne 8, 3) := dk_160 0 8 (dk_at dksX9_means_6 21 rfl rfl)
theorem dX9_means_165 : decode cX9_means 165 = .ok (.aload_n 0, 1) := dk_42 (dk_at dksX9_means_7 0 rfl rfl)
theorem dX9_means_166 : decode cX9_means 166 = .ok (.iconst 1, 1) := dk_4 (dk_at dksX9_means_7 1 rfl rfl)
theorem dX9_means_167 : decode cX9_means 167 = .ok (.putfield 187, 3) := dk_181 0 187 (dk_at dksX9_means_7 2 rfl rfl)
theorem dX9_means_170 : decode cX9_means 170 = .ok (.iinc 1 1, 3) := dk_132 1 1 (dk_at dksX9_means_7 5 rfl rfl)
theorem dX9_means_173 : decode cX9_means 173 = .ok (.goto (-69), 3) := dk_167 255 187 (dk_at dksX9_means_7 8 rfl rfl)
theorem dX9_means_176 : decode cX9_means 176 = .ok (.iconst 4, 1) := dk_7 (dk_at dksX9_means_7 11 rfl rfl)
theorem dX9_means_177 : decode cX9_means 177 = .ok (.istore_n 1, 1) := dk_60 (dk_at dksX9_means_7 12 rfl rfl)
theorem dX9_means_178 : decode cX9_means 178 = .ok (.iload_n 1, 1) := dk_27 (dk_at dksX9_means_7 13 rfl rfl)
theorem dX9_means_179 : decode cX9_means 179 = .ok (.aload_n 0, 1) := dk_42 (dk_at dksX9_means_7 14 rfl rfl)
theorem dX9_means_180 : decode cX9_means 180 = .ok (.getfield 110, 3) := dk_180 0 110 (dk_at dksX9_means_7 15 rfl rfl)
theorem dX9_means_183 : decode cX9_means 183 = .ok (.if_icmp .ge 26, 3) := dk_162 0 26 (dk_at dksX9_means_7 18 rfl rfl)
theorem dX9_means_186 : decode cX9_means 186 = .ok (.aload_n 0, 1) := dk_42 (dk_at dksX9_means_7 21 rfl rfl)
theorem dX9_means_187 : decode cX9_means 187 = .ok (.getfield 20, 3) := dk_180 0 20 (dk_at dksX9_means_8 0 rfl rfl)
theorem dX9_means_190 : decode cX9_means 190 = .ok (.iload_n 1, 1) := dk_27 (dk_at dksX9_means_8 3 rfl rfl)
theorem dX9_means_191 : decode cX9_means 191 = .ok (.iconst 1, 1) := dk_4 (dk_at dksX9_means_8 4 rfl rfl)
theorem dX9_means_192 : decode cX9_means 192 = .ok (.isub, 1) := dk_100 (dk_at dksX9_means_8 5 rfl rfl)
theorem dX9_means_193 : decode cX9_means 193 = .ok (.iaload, 1) := dk_46 (dk_at dksX9_means_8 6 rfl rfl)
theorem dX9_means_194 : decode cX9_means 194 = .ok (.iconst 4, 1) := dk_7 (dk_at dksX9_means_8 7 rfl rfl)
theorem dX9_means_195 : decode cX9_means 195 = .ok (.if_icmp .ne 8, 3) := dk_160 0 8 (dk_at dksX9_means_8 8 rfl rfl)
theorem dX9_means_198 : decode cX9_means 198 = .ok (.aload_n 0, 1) := dk_42 (dk_at dksX9_means_8 11 rfl rfl)
theorem dX9_means_199 : decode cX9_means 199 = .ok (.iload_n 1, 1) := dk_27 (dk_at dksX9_means_8 12 rfl rfl)
theorem dX9_means_200 : decode cX9_means 200 = .ok (.invokevirtual 217, 3) := dk_182 0 217 (dk_at dksX9_means_8 13 rfl rfl)
theorem dX9_means_203 : decode cX9_means 203 = .ok (.iinc 1 1, 3) := dk_132 1 1 (dk_at dksX9_means_8 16 rfl rfl)
theorem dX9_means_206 : decode cX9_means 206 = .ok (.goto (-28), 3) := dk_167 255 228 (dk_at dksX9_means_8 19 rfl rfl)
theorem dX9_means_209 : decode cX9_means 209 = .ok (.iconst 4, 1) := dk_7 (dk_at dksX9_means_8 22 rfl rfl)
theorem dX9_means_210 : decode cX9_means 210 = .ok (.istore_n 1, 1) := dk_60 (dk_at dksX9_means_8 23 rfl rfl)
theorem dX9_means_211 : decode cX9_means 211 = .ok (.iload_n 1, 1) := dk_27 (dk_at dksX9_means_9 0 rfl rfl)
theorem dX9_means_212 : decode cX9_means 212 = .ok (.aload_n 0, 1) := dk_42 (dk_at dksX9_means_9 1 rfl rfl)
theorem dX9_means_213 : decode cX9_means 213 = .ok (.getfield 110, 3) := dk_180 0 110 (dk_at dksX9_means_9 2 rfl rfl)
theorem dX9_means_216 : decode cX9_means 216 = .ok (.if_icmp .ge 26, 3) := dk_162 0 26 (dk_at dksX9_means_9 5 rfl rfl)
theorem dX9_means_219 : decode cX9_means 219 = .ok (.aload_n 0, 1) := dk_42 (dk_at dksX9_means_9 8 rfl rfl)
theorem dX9_means_220 : decode cX9_means 220 = .ok (.getfield 20, 3) := dk_180 0 20 (dk_at dksX9_means_9 9 rfl rfl)
theorem dX9_means_223 : decode cX9_means 223 = .ok (.iload_n 1, 1) := dk_27 (dk_at dksX9_means_9 12 rfl rfl)
theorem dX9_means_224 : decode cX9_means 224 = .ok (.iconst 1, 1) := dk_4 (dk_at dksX9_means_9 13 rfl rfl)
theorem dX9_means_225 : decode cX9_means 225 = .ok (.isub, 1) := dk_100 (dk_at dksX9_means_9 14 rfl rfl)
theorem dX9_means_226 : decode cX9_means 226 = .ok (.iaload, 1) := dk_46 (dk_at dksX9_means_9 15 rfl rfl)
theorem dX9_means_227 : decode cX9_means 227 = .ok (.iconst 4, 1) := dk_7 (dk_at dksX9_means_9 16 rfl rfl)
theorem dX9_means_228 : decode cX9_means 228 = .ok (.if_icmp .ne 8, 3) := dk_160 0 8 (dk_at dksX9_means_9 17 rfl rfl)
theorem dX9_means_231 : decode cX9_means 231 = .ok (.aload_n 0, 1) := dk_42 (dk_at dksX9_means_9 20 rfl rfl)
theorem dX9_means_232 : decode cX9_means 232 = .ok (.iload_n 1, 1) := dk_27 (dk_at dksX9_means_9 21 rfl rfl)
theorem dX9_means_233 : decode cX9_means 233 = .ok (.invokevirtual 220, 3) := dk_182 0 220 (dk_at dksX9_means_10 0 rfl rfl)
theorem dX9_means_236 : decode cX9_means 236 = .ok (.iinc 1 1, 3) := dk_132 1 1 (dk_at dksX9_means_10 3 rfl rfl)
theorem dX9_means_239 : decode cX9_means 239 = .ok (.goto (-28), 3) := dk_167 255 228 (dk_at dksX9_means_10 6 rfl rfl)
theorem dX9_means_242 : decode cX9_means 242 = .ok (.return_, 1) := dk_177 (dk_at dksX9_means_10 9 rfl rfl)
abbrev cX9_in : ByteArray := prog_14_method_28_code
def yX9_in : MethodName := ⟨RX9, "in", "(III)Z"⟩
def dkwX9_in_0 : List UInt8 := [26, 27, 161, 0, 12, 26, 28, 163, 0, 7, 4, 167, 0, 4, 3, 172]
abbrev dktX9_in_0 : List UInt8 := dkwX9_in_0 ++ []
theorem dksX9_in_0 : cX9_in.data.toList.drop 0 = dktX9_in_0 := by decide +kernel
theorem dX9_in_0 : decode cX9_in 0 = .ok (.iload_n 0, 1) := dk_26 (dk_at dksX9_in_0 0 rfl rfl)
theorem dX9_in_1 : decode cX9_in 1 = .ok (.iload_n 1, 1) := dk_27 (dk_at dksX9_in_0 1 rfl rfl)
theorem dX9_in_2 : decode cX9_in 2 = .ok (.if_icmp .lt 12, 3) := dk_161 0 12 (dk_at dksX9_in_0 2 rfl rfl)
theorem dX9_in_5 : decode cX9_in 5 = .ok (.iload_n 0, 1) := dk_26 (dk_at dksX9_in_0 5 rfl rfl)
theorem dX9_in_6 : decode cX9_in 6 = .ok (.iload_n 2, 1) := dk_28 (dk_at dksX9_in_0 6 rfl rfl)
theorem dX9_in_7 : decode cX9_in 7 = .ok (.if_icmp .gt 7, 3) := dk_163 0 7 (dk_at dksX9_in_0 7 rfl rfl)
theorem dX9_in_10 : decode cX9_in 10 = .ok (.iconst 1, 1) := dk_4 (dk_at dksX9_in_0 10 rfl rfl)
theorem dX9_in_11 : decode cX9_in 11 = .ok (.goto 4, 3) := dk_167 0 4 (dk_at dksX9_in_0 11 rfl rfl)
theorem dX9_in_14 : decode cX9_in 14 = .ok (.iconst 0, 1) := dk_3 (dk_at dksX9_in_0 14 rfl rfl)
theorem dX9_in_15 : decode cX9_in 15 = .ok (.ireturn, 1) := dk_172 (dk_at dksX9_in_0 15 rfl rfl)
abbrev cX9_wrong : ByteArray := prog_14_method_16_code
def yX9_wrong : MethodName := ⟨RX9, "wrong", "(II)V"⟩
def dkwX9_wrong_2 : List UInt8 := [27, 181, 0, 141, 42, 29, 181, 0, 144, 177]
abbrev dktX9_wrong_2 : List UInt8 := dkwX9_wrong_2 ++ []
def dkwX9_wrong_1 : List UInt8 := [180, 0, 144, 163, 0, 19, 29, 42, 180, 0, 144, 160, 0, 12, 27, 42, 180, 0, 141, 161, 0, 4, 177, 42]
abbrev dktX9_wrong_1 : List UInt8 := dkwX9_wrong_1 ++ dktX9_wrong_2
def dkwX9_wrong_0 : List UInt8 := [42, 180, 0, 24, 28, 46, 62, 42, 180, 0, 132, 157, 0, 34, 42, 180, 0, 141, 153, 0, 28, 29, 42]
abbrev dktX9_wrong_0 : List UInt8 := dkwX9_wrong_0 ++ dktX9_wrong_1
theorem dksX9_wrong_0 : cX9_wrong.data.toList.drop 0 = dktX9_wrong_0 := by decide +kernel
theorem dksX9_wrong_1 : cX9_wrong.data.toList.drop 23 = dktX9_wrong_1 := dk_seg dksX9_wrong_0 23 rfl rfl
theorem dksX9_wrong_2 : cX9_wrong.data.toList.drop 47 = dktX9_wrong_2 := dk_seg dksX9_wrong_1 24 rfl rfl
theorem dX9_wrong_0 : decode cX9_wrong 0 = .ok (.aload_n 0, 1) := dk_42 (dk_at dksX9_wrong_0 0 rfl rfl)
theorem dX9_wrong_1 : decode cX9_wrong 1 = .ok (.getfield 24, 3) := dk_180 0 24 (dk_at dksX9_wrong_0 1 rfl rfl)
theorem dX9_wrong_4 : decode cX9_wrong 4 = .ok (.iload_n 2, 1) := dk_28 (dk_at dksX9_wrong_0 4 rfl rfl)
theorem dX9_wrong_5 : decode cX9_wrong 5 = .ok (.iaload, 1) := dk_46 (dk_at dksX9_wrong_0 5 rfl rfl)
theorem dX9_wrong_6 : decode cX9_wrong 6 = .ok (.istore_n 3, 1) := dk_62 (dk_at dksX9_wrong_0 6 rfl rfl)
theorem dX9_wrong_7 : decode cX9_wrong 7 = .ok (.aload_n 0, 1) := dk_42 (dk_at dksX9_wrong_0 7 rfl rfl)
theorem dX9_wrong_8 : decode cX9_wrong 8 = .ok (.getfield 132, 3) := dk_180 0 132 (dk_at dksX9_wrong_0 8 rfl rfl)
theorem dX9_wrong_11 : decode cX9_wrong 11 = .ok (.ifCond .gt 34, 3) := dk_157 0 34 (dk_at dksX9_wrong_0 11 rfl rfl)
theorem dX9_wrong_14 : decode cX9_wrong 14 = .ok (.aload_n 0, 1) := dk_42 (dk_at dksX9_wrong_0 14 rfl rfl)
theorem dX9_wrong_15 : decode cX9_wrong 15 = .ok (.getfield 141, 3) := dk_180 0 141 (dk_at dksX9_wrong_0 15 rfl rfl)
theorem dX9_wrong_18 : decode cX9_wrong 18 = .ok (.ifCond .eq 28, 3) := dk_153 0 28 (dk_at dksX9_wrong_0 18 rfl rfl)
theorem dX9_wrong_21 : decode cX9_wrong 21 = .ok (.iload_n 3, 1) := dk_29 (dk_at dksX9_wrong_0 21 rfl rfl)
theorem dX9_wrong_22 : decode cX9_wrong 22 = .ok (.aload_n 0, 1) := dk_42 (dk_at dksX9_wrong_0 22 rfl rfl)
theorem dX9_wrong_23 : decode cX9_wrong 23 = .ok (.getfield 144, 3) := dk_180 0 144 (dk_at dksX9_wrong_1 0 rfl rfl)
theorem dX9_wrong_26 : decode cX9_wrong 26 = .ok (.if_icmp .gt 19, 3) := dk_163 0 19 (dk_at dksX9_wrong_1 3 rfl rfl)
theorem dX9_wrong_29 : decode cX9_wrong 29 = .ok (.iload_n 3, 1) := dk_29 (dk_at dksX9_wrong_1 6 rfl rfl)
theorem dX9_wrong_30 : decode cX9_wrong 30 = .ok (.aload_n 0, 1) := dk_42 (dk_at dksX9_wrong_1 7 rfl rfl)
theorem dX9_wrong_31 : decode cX9_wrong 31 = .ok (.getfield 144, 3) := dk_180 0 144 (dk_at dksX9_wrong_1 8 rfl rfl)
theorem dX9_wrong_34 : decode cX9_wrong 34 = .ok (.if_icmp .ne 12, 3) := dk_160 0 12 (dk_at dksX9_wrong_1 11 rfl rfl)
theorem dX9_wrong_37 : decode cX9_wrong 37 = .ok (.iload_n 1, 1) := dk_27 (dk_at dksX9_wrong_1 14 rfl rfl)
theorem dX9_wrong_38 : decode cX9_wrong 38 = .ok (.aload_n 0, 1) := dk_42 (dk_at dksX9_wrong_1 15 rfl rfl)
theorem dX9_wrong_39 : decode cX9_wrong 39 = .ok (.getfield 141, 3) := dk_180 0 141 (dk_at dksX9_wrong_1 16 rfl rfl)
theorem dX9_wrong_42 : decode cX9_wrong 42 = .ok (.if_icmp .lt 4, 3) := dk_161 0 4 (dk_at dksX9_wrong_1 19 rfl rfl)
theorem dX9_wrong_45 : decode cX9_wrong 45 = .ok (.return_, 1) := dk_177 (dk_at dksX9_wrong_1 22 rfl rfl)
theorem dX9_wrong_46 : decode cX9_wrong 46 = .ok (.aload_n 0, 1) := dk_42 (dk_at dksX9_wrong_1 23 rfl rfl)
theorem dX9_wrong_47 : decode cX9_wrong 47 = .ok (.iload_n 1, 1) := dk_27 (dk_at dksX9_wrong_2 0 rfl rfl)
theorem dX9_wrong_48 : decode cX9_wrong 48 = .ok (.putfield 141, 3) := dk_181 0 141 (dk_at dksX9_wrong_2 1 rfl rfl)
theorem dX9_wrong_51 : decode cX9_wrong 51 = .ok (.aload_n 0, 1) := dk_42 (dk_at dksX9_wrong_2 4 rfl rfl)
theorem dX9_wrong_52 : decode cX9_wrong 52 = .ok (.iload_n 3, 1) := dk_29 (dk_at dksX9_wrong_2 5 rfl rfl)
theorem dX9_wrong_53 : decode cX9_wrong 53 = .ok (.putfield 144, 3) := dk_181 0 144 (dk_at dksX9_wrong_2 6 rfl rfl)
theorem dX9_wrong_56 : decode cX9_wrong 56 = .ok (.return_, 1) := dk_177 (dk_at dksX9_wrong_2 9 rfl rfl)
abbrev cX9_meansAll : ByteArray := prog_14_method_26_code
def yX9_meansAll : MethodName := ⟨RX9, "meansAll", "(I)V"⟩
def dkwX9_meansAll_5 : List UInt8 := [29, 79, 132, 4, 1, 167, 255, 236, 177]
abbrev dktX9_meansAll_5 : List UInt8 := dkwX9_meansAll_5 ++ []
def dkwX9_meansAll_4 : List UInt8 := [4, 96, 182, 0, 223, 62, 3, 54, 4, 21, 4, 16, 16, 162, 0, 19, 42, 180, 0, 43, 28, 21, 4, 96]
abbrev dktX9_meansAll_4 : List UInt8 := dkwX9_meansAll_4 ++ dktX9_meansAll_5
def dkwX9_meansAll_3 : List UInt8 := [167, 0, 21, 42, 180, 0, 20, 27, 46, 16, 22, 160, 0, 8, 16, 16, 167, 0, 5, 16, 32, 61, 42, 27]
abbrev dktX9_meansAll_3 : List UInt8 := dkwX9_meansAll_3 ++ dktX9_meansAll_4
def dkwX9_meansAll_2 : List UInt8 := [42, 180, 0, 20, 27, 46, 16, 23, 159, 0, 4, 177, 42, 180, 0, 20, 27, 46, 16, 21, 160, 0, 7, 3]
abbrev dktX9_meansAll_2 : List UInt8 := dkwX9_meansAll_2 ++ dktX9_meansAll_3
def dkwX9_meansAll_1 : List UInt8 := [46, 79, 42, 180, 0, 20, 27, 46, 16, 21, 159, 0, 26, 42, 180, 0, 20, 27, 46, 16, 22, 159, 0, 15]
abbrev dktX9_meansAll_1 : List UInt8 := dkwX9_meansAll_1 ++ dktX9_meansAll_2
def dkwX9_meansAll_0 : List UInt8 := [42, 180, 0, 20, 27, 46, 16, 30, 160, 0, 18, 42, 180, 0, 43, 16, 65, 42, 180, 0, 27, 27, 4, 96]
abbrev dktX9_meansAll_0 : List UInt8 := dkwX9_meansAll_0 ++ dktX9_meansAll_1
theorem dksX9_meansAll_0 : cX9_meansAll.data.toList.drop 0 = dktX9_meansAll_0 := by decide +kernel
theorem dksX9_meansAll_1 : cX9_meansAll.data.toList.drop 24 = dktX9_meansAll_1 := dk_seg dksX9_meansAll_0 24 rfl rfl
theorem dksX9_meansAll_2 : cX9_meansAll.data.toList.drop 48 = dktX9_meansAll_2 := dk_seg dksX9_meansAll_1 24 rfl rfl
theorem dksX9_meansAll_3 : cX9_meansAll.data.toList.drop 72 = dktX9_meansAll_3 := dk_seg dksX9_meansAll_2 24 rfl rfl
theorem dksX9_meansAll_4 : cX9_meansAll.data.toList.drop 96 = dktX9_meansAll_4 := dk_seg dksX9_meansAll_3 24 rfl rfl
theorem dksX9_meansAll_5 : cX9_meansAll.data.toList.drop 120 = dktX9_meansAll_5 := dk_seg dksX9_meansAll_4 24 rfl rfl
theorem dX9_meansAll_0 : decode cX9_meansAll 0 = .ok (.aload_n 0, 1) := dk_42 (dk_at dksX9_meansAll_0 0 rfl rfl)
theorem dX9_meansAll_1 : decode cX9_meansAll 1 = .ok (.getfield 20, 3) := dk_180 0 20 (dk_at dksX9_meansAll_0 1 rfl rfl)
theorem dX9_meansAll_4 : decode cX9_meansAll 4 = .ok (.iload_n 1, 1) := dk_27 (dk_at dksX9_meansAll_0 4 rfl rfl)
theorem dX9_meansAll_5 : decode cX9_meansAll 5 = .ok (.iaload, 1) := dk_46 (dk_at dksX9_meansAll_0 5 rfl rfl)
theorem dX9_meansAll_6 : decode cX9_meansAll 6 = .ok (.bipush 30, 2) := dk_16 30 (dk_at dksX9_meansAll_0 6 rfl rfl)
theorem dX9_meansAll_8 : decode cX9_meansAll 8 = .ok (.if_icmp .ne 18, 3) := dk_160 0 18 (dk_at dksX9_meansAll_0 8 rfl rfl)
theorem dX9_meansAll_11 : decode cX9_meansAll 11 = .ok (.aload_n 0, 1) := dk_42 (dk_at dksX9_meansAll_0 11 rfl rfl)
theorem dX9_meansAll_12 : decode cX9_meansAll 12 = .ok (.getfield 43, 3) := dk_180 0 43 (dk_at dksX9_meansAll_0 12 rfl rfl)
theorem dX9_meansAll_15 : decode cX9_meansAll 15 = .ok (.bipush 65, 2) := dk_16 65 (dk_at dksX9_meansAll_0 15 rfl rfl)
theorem dX9_meansAll_17 : decode cX9_meansAll 17 = .ok (.aload_n 0, 1) := dk_42 (dk_at dksX9_meansAll_0 17 rfl rfl)
theorem dX9_meansAll_18 : decode cX9_meansAll 18 = .ok (.getfield 27, 3) := dk_180 0 27 (dk_at dksX9_meansAll_0 18 rfl rfl)
theorem dX9_meansAll_21 : decode cX9_meansAll 21 = .ok (.iload_n 1, 1) := dk_27 (dk_at dksX9_meansAll_0 21 rfl rfl)
theorem dX9_meansAll_22 : decode cX9_meansAll 22 = .ok (.iconst 1, 1) := dk_4 (dk_at dksX9_meansAll_0 22 rfl rfl)
theorem dX9_meansAll_23 : decode cX9_meansAll 23 = .ok (.iadd, 1) := dk_96 (dk_at dksX9_meansAll_0 23 rfl rfl)
theorem dX9_meansAll_24 : decode cX9_meansAll 24 = .ok (.iaload, 1) := dk_46 (dk_at dksX9_meansAll_1 0 rfl rfl)
theorem dX9_meansAll_25 : decode cX9_meansAll 25 = .ok (.iastore, 1) := dk_79 (dk_at dksX9_meansAll_1 1 rfl rfl)
theorem dX9_meansAll_26 : decode cX9_meansAll 26 = .ok (.aload_n 0, 1) := dk_42 (dk_at dksX9_meansAll_1 2 rfl rfl)
theorem dX9_meansAll_27 : decode cX9_meansAll 27 = .ok (.getfield 20, 3) := dk_180 0 20 (dk_at dksX9_meansAll_1 3 rfl rfl)
theorem dX9_meansAll_30 : decode cX9_meansAll 30 = .ok (.iload_n 1, 1) := dk_27 (dk_at dksX9_meansAll_1 6 rfl rfl)
theorem dX9_meansAll_31 : decode cX9_meansAll 31 = .ok (.iaload, 1) := dk_46 (dk_at dksX9_meansAll_1 7 rfl rfl)
theorem dX9_meansAll_32 : decode cX9_meansAll 32 = .ok (.bipush 21, 2) := dk_16 21 (dk_at dksX9_meansAll_1 8 rfl rfl)
theorem dX9_meansAll_34 : decode cX9_meansAll 34 = .ok (.if_icmp .eq 26, 3) := dk_159 0 26 (dk_at dksX9_meansAll_1 10 rfl rfl)
theorem dX9_meansAll_37 : decode cX9_meansAll 37 = .ok (.aload_n 0, 1) := dk_42 (dk_at dksX9_meansAll_1 13 rfl rfl)
theorem dX9_meansAll_38 : decode cX9_meansAll 38 = .ok (.getfield 20, 3) := dk_180 0 20 (dk_at dksX9_meansAll_1 14 rfl rfl)
theorem dX9_meansAll_41 : decode cX9_meansAll 41 = .ok (.iload_n 1, 1) := dk_27 (dk_at dksX9_meansAll_1 17 rfl rfl)
theorem dX9_meansAll_42 : decode cX9_meansAll 42 = .ok (.iaload, 1) := dk_46 (dk_at dksX9_meansAll_1 18 rfl rfl)
theorem dX9_meansAll_43 : decode cX9_meansAll 43 = .ok (.bipush 22, 2) := dk_16 22 (dk_at dksX9_meansAll_1 19 rfl rfl)
theorem dX9_meansAll_45 : decode cX9_meansAll 45 = .ok (.if_icmp .eq 15, 3) := dk_159 0 15 (dk_at dksX9_meansAll_1 21 rfl rfl)
theorem dX9_meansAll_48 : decode cX9_meansAll 48 = .ok (.aload_n 0, 1) := dk_42 (dk_at dksX9_meansAll_2 0 rfl rfl)
theorem dX9_meansAll_49 : decode cX9_meansAll 49 = .ok (.getfield 20, 3) := dk_180 0 20 (dk_at dksX9_meansAll_2 1 rfl rfl)
theorem dX9_meansAll_52 : decode cX9_meansAll 52 = .ok (.iload_n 1, 1) := dk_27 (dk_at dksX9_meansAll_2 4 rfl rfl)
theorem dX9_meansAll_53 : decode cX9_meansAll 53 = .ok (.iaload, 1) := dk_46 (dk_at dksX9_meansAll_2 5 rfl rfl)
theorem dX9_meansAll_54 : decode cX9_meansAll 54 = .ok (.bipush 23, 2) := dk_16 23 (dk_at dksX9_meansAll_2 6 rfl rfl)
theorem dX9_meansAll_56 : decode cX9_meansAll 56 = .ok (.if_icmp .eq 4, 3) := dk_159 0 4 (dk_at dksX9_meansAll_2 8 rfl rfl)
theorem dX9_meansAll_59 : decode cX9_meansAll 59 = .ok (.return_, 1) := dk_177 (dk_at dksX9_meansAll_2 11 rfl rfl)
theorem dX9_meansAll_60 : decode cX9_meansAll 60 = .ok (.aload_n 0, 1) := dk_42 (dk_at dksX9_meansAll_2 12 rfl rfl)
theorem dX9_meansAll_61 : decode cX9_meansAll 61 = .ok (.getfield 20, 3) := dk_180 0 20 (dk_at dksX9_meansAll_2 13 rfl rfl)
theorem dX9_meansAll_64 : decode cX9_meansAll 64 = .ok (.iload_n 1, 1) := dk_27 (dk_at dksX9_meansAll_2 16 rfl rfl)
theorem dX9_meansAll_65 : decode cX9_meansAll 65 = .ok (.iaload, 1) := dk_46 (dk_at dksX9_meansAll_2 17 rfl rfl)
theorem dX9_meansAll_66 : decode cX9_meansAll 66 = .ok (.bipush 21, 2) := dk_16 21 (dk_at dksX9_meansAll_2 18 rfl rfl)
theorem dX9_meansAll_68 : decode cX9_meansAll 68 = .ok (.if_icmp .ne 7, 3) := dk_160 0 7 (dk_at dksX9_meansAll_2 20 rfl rfl)
theorem dX9_meansAll_71 : decode cX9_meansAll 71 = .ok (.iconst 0, 1) := dk_3 (dk_at dksX9_meansAll_2 23 rfl rfl)
theorem dX9_meansAll_72 : decode cX9_meansAll 72 = .ok (.goto 21, 3) := dk_167 0 21 (dk_at dksX9_meansAll_3 0 rfl rfl)
theorem dX9_meansAll_75 : decode cX9_meansAll 75 = .ok (.aload_n 0, 1) := dk_42 (dk_at dksX9_meansAll_3 3 rfl rfl)
theorem dX9_meansAll_76 : decode cX9_meansAll 76 = .ok (.getfield 20, 3) := dk_180 0 20 (dk_at dksX9_meansAll_3 4 rfl rfl)
theorem dX9_meansAll_79 : decode cX9_meansAll 79 = .ok (.iload_n 1, 1) := dk_27 (dk_at dksX9_meansAll_3 7 rfl rfl)
theorem dX9_meansAll_80 : decode cX9_meansAll 80 = .ok (.iaload, 1) := dk_46 (dk_at dksX9_meansAll_3 8 rfl rfl)
theorem dX9_meansAll_81 : decode cX9_meansAll 81 = .ok (.bipush 22, 2) := dk_16 22 (dk_at dksX9_meansAll_3 9 rfl rfl)
theorem dX9_meansAll_83 : decode cX9_meansAll 83 = .ok (.if_icmp .ne 8, 3) := dk_160 0 8 (dk_at dksX9_meansAll_3 11 rfl rfl)
theorem dX9_meansAll_86 : decode cX9_meansAll 86 = .ok (.bipush 16, 2) := dk_16 16 (dk_at dksX9_meansAll_3 14 rfl rfl)
theorem dX9_meansAll_88 : decode cX9_meansAll 88 = .ok (.goto 5, 3) := dk_167 0 5 (dk_at dksX9_meansAll_3 16 rfl rfl)
theorem dX9_meansAll_91 : decode cX9_meansAll 91 = .ok (.bipush 32, 2) := dk_16 32 (dk_at dksX9_meansAll_3 19 rfl rfl)
theorem dX9_meansAll_93 : decode cX9_meansAll 93 = .ok (.istore_n 2, 1) := dk_61 (dk_at dksX9_meansAll_3 21 rfl rfl)
theorem dX9_meansAll_94 : decode cX9_meansAll 94 = .ok (.aload_n 0, 1) := dk_42 (dk_at dksX9_meansAll_3 22 rfl rfl)
theorem dX9_meansAll_95 : decode cX9_meansAll 95 = .ok (.iload_n 1, 1) := dk_27 (dk_at dksX9_meansAll_3 23 rfl rfl)
theorem dX9_meansAll_96 : decode cX9_meansAll 96 = .ok (.iconst 1, 1) := dk_4 (dk_at dksX9_meansAll_4 0 rfl rfl)
theorem dX9_meansAll_97 : decode cX9_meansAll 97 = .ok (.iadd, 1) := dk_96 (dk_at dksX9_meansAll_4 1 rfl rfl)
theorem dX9_meansAll_98 : decode cX9_meansAll 98 = .ok (.invokevirtual 223, 3) := dk_182 0 223 (dk_at dksX9_meansAll_4 2 rfl rfl)
theorem dX9_meansAll_101 : decode cX9_meansAll 101 = .ok (.istore_n 3, 1) := dk_62 (dk_at dksX9_meansAll_4 5 rfl rfl)
theorem dX9_meansAll_102 : decode cX9_meansAll 102 = .ok (.iconst 0, 1) := dk_3 (dk_at dksX9_meansAll_4 6 rfl rfl)
theorem dX9_meansAll_103 : decode cX9_meansAll 103 = .ok (.istore 4, 2) := dk_54 4 (dk_at dksX9_meansAll_4 7 rfl rfl)
theorem dX9_meansAll_105 : decode cX9_meansAll 105 = .ok (.iload 4, 2) := dk_21 4 (dk_at dksX9_meansAll_4 9 rfl rfl)
theorem dX9_meansAll_107 : decode cX9_meansAll 107 = .ok (.bipush 16, 2) := dk_16 16 (dk_at dksX9_meansAll_4 11 rfl rfl)
theorem dX9_meansAll_109 : decode cX9_meansAll 109 = .ok (.if_icmp .ge 19, 3) := dk_162 0 19 (dk_at dksX9_meansAll_4 13 rfl rfl)
theorem dX9_meansAll_112 : decode cX9_meansAll 112 = .ok (.aload_n 0, 1) := dk_42 (dk_at dksX9_meansAll_4 16 rfl rfl)
theorem dX9_meansAll_113 : decode cX9_meansAll 113 = .ok (.getfield 43, 3) := dk_180 0 43 (dk_at dksX9_meansAll_4 17 rfl rfl)
theorem dX9_meansAll_116 : decode cX9_meansAll 116 = .ok (.iload_n 2, 1) := dk_28 (dk_at dksX9_meansAll_4 20 rfl rfl)
theorem dX9_meansAll_117 : decode cX9_meansAll 117 = .ok (.iload 4, 2) := dk_21 4 (dk_at dksX9_meansAll_4 21 rfl rfl)
theorem dX9_meansAll_119 : decode cX9_meansAll 119 = .ok (.iadd, 1) := dk_96 (dk_at dksX9_meansAll_4 23 rfl rfl)
theorem dX9_meansAll_120 : decode cX9_meansAll 120 = .ok (.iload_n 3, 1) := dk_29 (dk_at dksX9_meansAll_5 0 rfl rfl)
theorem dX9_meansAll_121 : decode cX9_meansAll 121 = .ok (.iastore, 1) := dk_79 (dk_at dksX9_meansAll_5 1 rfl rfl)
theorem dX9_meansAll_122 : decode cX9_meansAll 122 = .ok (.iinc 4 1, 3) := dk_132 4 1 (dk_at dksX9_meansAll_5 2 rfl rfl)
theorem dX9_meansAll_125 : decode cX9_meansAll 125 = .ok (.goto (-20), 3) := dk_167 255 236 (dk_at dksX9_meansAll_5 5 rfl rfl)
theorem dX9_meansAll_128 : decode cX9_meansAll 128 = .ok (.return_, 1) := dk_177 (dk_at dksX9_meansAll_5 8 rfl rfl)
abbrev cX9_jAt : ByteArray := prog_14_method_24_code
def yX9_jAt : MethodName := ⟨RX9, "jAt", "(I)I"⟩
def dkwX9_jAt_2 : List UInt8 := [28, 46, 116, 167, 0, 9, 42, 180, 0, 27, 28, 46, 172]
abbrev dktX9_jAt_2 : List UInt8 := dkwX9_jAt_2 ++ []
def dkwX9_jAt_1 : List UInt8 := [6, 164, 0, 9, 42, 6, 28, 182, 0, 209, 42, 180, 0, 20, 27, 46, 8, 160, 0, 13, 42, 180, 0, 27]
abbrev dktX9_jAt_1 : List UInt8 := dkwX9_jAt_1 ++ dktX9_jAt_2
def dkwX9_jAt_0 : List UInt8 := [42, 180, 0, 20, 27, 46, 8, 160, 0, 9, 27, 4, 96, 167, 0, 4, 27, 61, 42, 180, 0, 27, 28, 46]
abbrev dktX9_jAt_0 : List UInt8 := dkwX9_jAt_0 ++ dktX9_jAt_1
theorem dksX9_jAt_0 : cX9_jAt.data.toList.drop 0 = dktX9_jAt_0 := by decide +kernel
theorem dksX9_jAt_1 : cX9_jAt.data.toList.drop 24 = dktX9_jAt_1 := dk_seg dksX9_jAt_0 24 rfl rfl
theorem dksX9_jAt_2 : cX9_jAt.data.toList.drop 48 = dktX9_jAt_2 := dk_seg dksX9_jAt_1 24 rfl rfl
theorem dX9_jAt_0 : decode cX9_jAt 0 = .ok (.aload_n 0, 1) := dk_42 (dk_at dksX9_jAt_0 0 rfl rfl)
theorem dX9_jAt_1 : decode cX9_jAt 1 = .ok (.getfield 20, 3) := dk_180 0 20 (dk_at dksX9_jAt_0 1 rfl rfl)
theorem dX9_jAt_4 : decode cX9_jAt 4 = .ok (.iload_n 1, 1) := dk_27 (dk_at dksX9_jAt_0 4 rfl rfl)
theorem dX9_jAt_5 : decode cX9_jAt 5 = .ok (.iaload, 1) := dk_46 (dk_at dksX9_jAt_0 5 rfl rfl)
theorem dX9_jAt_6 : decode cX9_jAt 6 = .ok (.iconst 5, 1) := dk_8 (dk_at dksX9_jAt_0 6 rfl rfl)
theorem dX9_jAt_7 : decode cX9_jAt 7 = .ok (.if_icmp .ne 9, 3) := dk_160 0 9 (dk_at dksX9_jAt_0 7 rfl rfl)
theorem dX9_jAt_10 : decode cX9_jAt 10 = .ok (.iload_n 1, 1) := dk_27 (dk_at dksX9_jAt_0 10 rfl rfl)
theorem dX9_jAt_11 : decode cX9_jAt 11 = .ok (.iconst 1, 1) := dk_4 (dk_at dksX9_jAt_0 11 rfl rfl)
theorem dX9_jAt_12 : decode cX9_jAt 12 = .ok (.iadd, 1) := dk_96 (dk_at dksX9_jAt_0 12 rfl rfl)
theorem dX9_jAt_13 : decode cX9_jAt 13 = .ok (.goto 4, 3) := dk_167 0 4 (dk_at dksX9_jAt_0 13 rfl rfl)
theorem dX9_jAt_16 : decode cX9_jAt 16 = .ok (.iload_n 1, 1) := dk_27 (dk_at dksX9_jAt_0 16 rfl rfl)
theorem dX9_jAt_17 : decode cX9_jAt 17 = .ok (.istore_n 2, 1) := dk_61 (dk_at dksX9_jAt_0 17 rfl rfl)
theorem dX9_jAt_18 : decode cX9_jAt 18 = .ok (.aload_n 0, 1) := dk_42 (dk_at dksX9_jAt_0 18 rfl rfl)
theorem dX9_jAt_19 : decode cX9_jAt 19 = .ok (.getfield 27, 3) := dk_180 0 27 (dk_at dksX9_jAt_0 19 rfl rfl)
theorem dX9_jAt_22 : decode cX9_jAt 22 = .ok (.iload_n 2, 1) := dk_28 (dk_at dksX9_jAt_0 22 rfl rfl)
theorem dX9_jAt_23 : decode cX9_jAt 23 = .ok (.iaload, 1) := dk_46 (dk_at dksX9_jAt_0 23 rfl rfl)
theorem dX9_jAt_24 : decode cX9_jAt 24 = .ok (.iconst 3, 1) := dk_6 (dk_at dksX9_jAt_1 0 rfl rfl)
theorem dX9_jAt_25 : decode cX9_jAt 25 = .ok (.if_icmp .le 9, 3) := dk_164 0 9 (dk_at dksX9_jAt_1 1 rfl rfl)
theorem dX9_jAt_28 : decode cX9_jAt 28 = .ok (.aload_n 0, 1) := dk_42 (dk_at dksX9_jAt_1 4 rfl rfl)
theorem dX9_jAt_29 : decode cX9_jAt 29 = .ok (.iconst 3, 1) := dk_6 (dk_at dksX9_jAt_1 5 rfl rfl)
theorem dX9_jAt_30 : decode cX9_jAt 30 = .ok (.iload_n 2, 1) := dk_28 (dk_at dksX9_jAt_1 6 rfl rfl)
theorem dX9_jAt_31 : decode cX9_jAt 31 = .ok (.invokevirtual 209, 3) := dk_182 0 209 (dk_at dksX9_jAt_1 7 rfl rfl)
theorem dX9_jAt_34 : decode cX9_jAt 34 = .ok (.aload_n 0, 1) := dk_42 (dk_at dksX9_jAt_1 10 rfl rfl)
theorem dX9_jAt_35 : decode cX9_jAt 35 = .ok (.getfield 20, 3) := dk_180 0 20 (dk_at dksX9_jAt_1 11 rfl rfl)
theorem dX9_jAt_38 : decode cX9_jAt 38 = .ok (.iload_n 1, 1) := dk_27 (dk_at dksX9_jAt_1 14 rfl rfl)
theorem dX9_jAt_39 : decode cX9_jAt 39 = .ok (.iaload, 1) := dk_46 (dk_at dksX9_jAt_1 15 rfl rfl)
theorem dX9_jAt_40 : decode cX9_jAt 40 = .ok (.iconst 5, 1) := dk_8 (dk_at dksX9_jAt_1 16 rfl rfl)
theorem dX9_jAt_41 : decode cX9_jAt 41 = .ok (.if_icmp .ne 13, 3) := dk_160 0 13 (dk_at dksX9_jAt_1 17 rfl rfl)
theorem dX9_jAt_44 : decode cX9_jAt 44 = .ok (.aload_n 0, 1) := dk_42 (dk_at dksX9_jAt_1 20 rfl rfl)
theorem dX9_jAt_45 : decode cX9_jAt 45 = .ok (.getfield 27, 3) := dk_180 0 27 (dk_at dksX9_jAt_1 21 rfl rfl)
theorem dX9_jAt_48 : decode cX9_jAt 48 = .ok (.iload_n 2, 1) := dk_28 (dk_at dksX9_jAt_2 0 rfl rfl)
theorem dX9_jAt_49 : decode cX9_jAt 49 = .ok (.iaload, 1) := dk_46 (dk_at dksX9_jAt_2 1 rfl rfl)
theorem dX9_jAt_50 : decode cX9_jAt 50 = .ok (.ineg, 1) := dk_116 (dk_at dksX9_jAt_2 2 rfl rfl)
theorem dX9_jAt_51 : decode cX9_jAt 51 = .ok (.goto 9, 3) := dk_167 0 9 (dk_at dksX9_jAt_2 3 rfl rfl)
theorem dX9_jAt_54 : decode cX9_jAt 54 = .ok (.aload_n 0, 1) := dk_42 (dk_at dksX9_jAt_2 6 rfl rfl)
theorem dX9_jAt_55 : decode cX9_jAt 55 = .ok (.getfield 27, 3) := dk_180 0 27 (dk_at dksX9_jAt_2 7 rfl rfl)
theorem dX9_jAt_58 : decode cX9_jAt 58 = .ok (.iload_n 2, 1) := dk_28 (dk_at dksX9_jAt_2 10 rfl rfl)
theorem dX9_jAt_59 : decode cX9_jAt 59 = .ok (.iaload, 1) := dk_46 (dk_at dksX9_jAt_2 11 rfl rfl)
theorem dX9_jAt_60 : decode cX9_jAt 60 = .ok (.ireturn, 1) := dk_172 (dk_at dksX9_jAt_2 12 rfl rfl)
abbrev cX9_meansOne : ByteArray := prog_14_method_27_code
def yX9_meansOne : MethodName := ⟨RX9, "meansOne", "(I)V"⟩
def dkwX9_meansOne_10 : List UInt8 := [167, 0, 4, 3, 29, 96, 21, 6, 79, 177]
abbrev dktX9_meansOne_10 : List UInt8 := dkwX9_meansOne_10 ++ []
def dkwX9_meansOne_9 : List UInt8 := [42, 180, 0, 43, 28, 16, 26, 160, 0, 8, 16, 32, 167, 0, 14, 21, 5, 153, 0, 8, 16, 16]
abbrev dktX9_meansOne_9 : List UInt8 := dkwX9_meansOne_9 ++ dktX9_meansOne_10
def dkwX9_meansOne_8 : List UInt8 := [16, 25, 160, 0, 9, 27, 6, 96, 167, 0, 6, 27, 5, 96, 182, 0, 223, 54, 6, 21, 4, 153, 0, 34]
abbrev dktX9_meansOne_8 : List UInt8 := dkwX9_meansOne_8 ++ dktX9_meansOne_9
def dkwX9_meansOne_7 : List UInt8 := [29, 96, 42, 180, 0, 20, 27, 5, 96, 46, 16, 28, 160, 0, 7, 4, 167, 0, 4, 5, 79, 177, 42, 28]
abbrev dktX9_meansOne_7 : List UInt8 := dkwX9_meansOne_7 ++ dktX9_meansOne_8
def dkwX9_meansOne_6 : List UInt8 := [96, 182, 0, 209, 3, 54, 4, 28, 16, 27, 160, 0, 36, 21, 4, 153, 0, 30, 42, 180, 0, 43, 16, 48]
abbrev dktX9_meansOne_6 : List UInt8 := dkwX9_meansOne_6 ++ dktX9_meansOne_7
def dkwX9_meansOne_5 : List UInt8 := [153, 0, 10, 42, 180, 0, 187, 167, 0, 7, 42, 180, 0, 180, 184, 0, 226, 156, 0, 14, 42, 7, 27, 4]
abbrev dktX9_meansOne_5 : List UInt8 := dkwX9_meansOne_5 ++ dktX9_meansOne_6
def dkwX9_meansOne_4 : List UInt8 := [162, 0, 42, 28, 16, 25, 160, 0, 47, 29, 21, 5, 42, 180, 0, 168, 42, 180, 0, 174, 21, 5]
abbrev dktX9_meansOne_4 : List UInt8 := dkwX9_meansOne_4 ++ dktX9_meansOne_5
def dkwX9_meansOne_3 : List UInt8 := [46, 16, 22, 160, 0, 7, 4, 167, 0, 4, 3, 54, 5, 29, 42, 180, 0, 168, 42, 180, 0, 174, 104]
abbrev dktX9_meansOne_3 : List UInt8 := dkwX9_meansOne_3 ++ dktX9_meansOne_4
def dkwX9_meansOne_2 : List UInt8 := [162, 0, 14, 42, 180, 0, 141, 154, 0, 7, 4, 167, 0, 4, 3, 54, 4, 42, 180, 0, 20, 27, 5, 96]
abbrev dktX9_meansOne_2 : List UInt8 := dkwX9_meansOne_2 ++ dktX9_meansOne_3
def dkwX9_meansOne_1 : List UInt8 := [159, 0, 4, 177, 42, 180, 0, 27, 27, 4, 96, 46, 62, 29, 42, 180, 0, 168, 42, 180, 0, 174, 104]
abbrev dktX9_meansOne_1 : List UInt8 := dkwX9_meansOne_1 ++ dktX9_meansOne_2
def dkwX9_meansOne_0 : List UInt8 := [42, 180, 0, 20, 27, 46, 61, 28, 16, 25, 159, 0, 16, 28, 16, 26, 159, 0, 10, 28, 16, 27]
abbrev dktX9_meansOne_0 : List UInt8 := dkwX9_meansOne_0 ++ dktX9_meansOne_1
theorem dksX9_meansOne_0 : cX9_meansOne.data.toList.drop 0 = dktX9_meansOne_0 := by decide +kernel
theorem dksX9_meansOne_1 : cX9_meansOne.data.toList.drop 22 = dktX9_meansOne_1 := dk_seg dksX9_meansOne_0 22 rfl rfl
theorem dksX9_meansOne_2 : cX9_meansOne.data.toList.drop 45 = dktX9_meansOne_2 := dk_seg dksX9_meansOne_1 23 rfl rfl
theorem dksX9_meansOne_3 : cX9_meansOne.data.toList.drop 69 = dktX9_meansOne_3 := dk_seg dksX9_meansOne_2 24 rfl rfl
theorem dksX9_meansOne_4 : cX9_meansOne.data.toList.drop 92 = dktX9_meansOne_4 := dk_seg dksX9_meansOne_3 23 rfl rfl
theorem dksX9_meansOne_5 : cX9_meansOne.data.toList.drop 114 = dktX9_meansOne_5 := dk_seg dksX9_meansOne_4 22 rfl rfl
theorem dksX9_meansOne_6 : cX9_meansOne.data.toList.drop 138 = dktX9_meansOne_6 := dk_seg dksX9_meansOne_5 24 rfl rfl
theorem dksX9_meansOne_7 : cX9_meansOne.data.toList.drop 162 = dktX9_meansOne_7 := dk_seg dksX9_meansOne_6 24 rfl rfl
theorem dksX9_meansOne_8 : cX9_meansOne.data.toList.drop 186 = dktX9_meansOne_8 := dk_seg dksX9_meansOne_7 24 rfl rfl
theorem dksX9_meansOne_9 : cX9_meansOne.data.toList.drop 210 = dktX9_meansOne_9 := dk_seg dksX9_meansOne_8 24 rfl rfl
theorem dksX9_meansOne_10 : cX9_meansOne.data.toList.drop 232 = dktX9_meansOne_10 := dk_seg dksX9_meansOne_9 22 rfl rfl
theorem dX9_meansOne_0 : decode cX9_meansOne 0 = .ok (.aload_n 0, 1) := dk_42 (dk_at dksX9_meansOne_0 0 rfl rfl)
theorem dX9_meansOne_1 : decode cX9_meansOne 1 = .ok (.getfield 20, 3) := dk_180 0 20 (dk_at dksX9_meansOne_0 1 rfl rfl)
theorem dX9_meansOne_4 : decode cX9_meansOne 4 = .ok (.iload_n 1, 1) := dk_27 (dk_at dksX9_meansOne_0 4 rfl rfl)
theorem dX9_meansOne_5 : decode cX9_meansOne 5 = .ok (.iaload, 1) := dk_46 (dk_at dksX9_meansOne_0 5 rfl rfl)
theorem dX9_meansOne_6 : decode cX9_meansOne 6 = .ok (.istore_n 2, 1) := dk_61 (dk_at dksX9_meansOne_0 6 rfl rfl)
theorem dX9_meansOne_7 : decode cX9_meansOne 7 = .ok (.iload_n 2, 1) := dk_28 (dk_at dksX9_meansOne_0 7 rfl rfl)
theorem dX9_meansOne_8 : decode cX9_meansOne 8 = .ok (.bipush 25, 2) := dk_16 25 (dk_at dksX9_meansOne_0 8 rfl rfl)
theorem dX9_meansOne_10 : decode cX9_meansOne 10 = .ok (.if_icmp .eq 16, 3) := dk_159 0 16 (dk_at dksX9_meansOne_0 10 rfl rfl)
theorem dX9_meansOne_13 : decode cX9_meansOne 13 = .ok (.iload_n 2, 1) := dk_28 (dk_at dksX9_meansOne_0 13 rfl rfl)
theorem dX9_meansOne_14 : decode cX9_meansOne 14 = .ok (.bipush 26, 2) := dk_16 26 (dk_at dksX9_meansOne_0 14 rfl rfl)
theorem dX9_meansOne_16 : decode cX9_meansOne 16 = .ok (.if_icmp .eq 10, 3) := dk_159 0 10 (dk_at dksX9_meansOne_0 16 rfl rfl)
theorem dX9_meansOne_19 : decode cX9_meansOne 19 = .ok (.iload_n 2, 1) := dk_28 (dk_at dksX9_meansOne_0 19 rfl rfl)
theorem dX9_meansOne_20 : decode cX9_meansOne 20 = .ok (.bipush 27, 2) := dk_16 27 (dk_at dksX9_meansOne_0 20 rfl rfl)
theorem dX9_meansOne_22 : decode cX9_meansOne 22 = .ok (.if_icmp .eq 4, 3) := dk_159 0 4 (dk_at dksX9_meansOne_1 0 rfl rfl)
theorem dX9_meansOne_25 : decode cX9_meansOne 25 = .ok (.return_, 1) := dk_177 (dk_at dksX9_meansOne_1 3 rfl rfl)
theorem dX9_meansOne_26 : decode cX9_meansOne 26 = .ok (.aload_n 0, 1) := dk_42 (dk_at dksX9_meansOne_1 4 rfl rfl)
theorem dX9_meansOne_27 : decode cX9_meansOne 27 = .ok (.getfield 27, 3) := dk_180 0 27 (dk_at dksX9_meansOne_1 5 rfl rfl)
theorem dX9_meansOne_30 : decode cX9_meansOne 30 = .ok (.iload_n 1, 1) := dk_27 (dk_at dksX9_meansOne_1 8 rfl rfl)
theorem dX9_meansOne_31 : decode cX9_meansOne 31 = .ok (.iconst 1, 1) := dk_4 (dk_at dksX9_meansOne_1 9 rfl rfl)
theorem dX9_meansOne_32 : decode cX9_meansOne 32 = .ok (.iadd, 1) := dk_96 (dk_at dksX9_meansOne_1 10 rfl rfl)
theorem dX9_meansOne_33 : decode cX9_meansOne 33 = .ok (.iaload, 1) := dk_46 (dk_at dksX9_meansOne_1 11 rfl rfl)
theorem dX9_meansOne_34 : decode cX9_meansOne 34 = .ok (.istore_n 3, 1) := dk_62 (dk_at dksX9_meansOne_1 12 rfl rfl)
theorem dX9_meansOne_35 : decode cX9_meansOne 35 = .ok (.iload_n 3, 1) := dk_29 (dk_at dksX9_meansOne_1 13 rfl rfl)
theorem dX9_meansOne_36 : decode cX9_meansOne 36 = .ok (.aload_n 0, 1) := dk_42 (dk_at dksX9_meansOne_1 14 rfl rfl)
theorem dX9_meansOne_37 : decode cX9_meansOne 37 = .ok (.getfield 168, 3) := dk_180 0 168 (dk_at dksX9_meansOne_1 15 rfl rfl)
theorem dX9_meansOne_40 : decode cX9_meansOne 40 = .ok (.aload_n 0, 1) := dk_42 (dk_at dksX9_meansOne_1 18 rfl rfl)
theorem dX9_meansOne_41 : decode cX9_meansOne 41 = .ok (.getfield 174, 3) := dk_180 0 174 (dk_at dksX9_meansOne_1 19 rfl rfl)
theorem dX9_meansOne_44 : decode cX9_meansOne 44 = .ok (.imul, 1) := dk_104 (dk_at dksX9_meansOne_1 22 rfl rfl)
theorem dX9_meansOne_45 : decode cX9_meansOne 45 = .ok (.if_icmp .ge 14, 3) := dk_162 0 14 (dk_at dksX9_meansOne_2 0 rfl rfl)
theorem dX9_meansOne_48 : decode cX9_meansOne 48 = .ok (.aload_n 0, 1) := dk_42 (dk_at dksX9_meansOne_2 3 rfl rfl)
theorem dX9_meansOne_49 : decode cX9_meansOne 49 = .ok (.getfield 141, 3) := dk_180 0 141 (dk_at dksX9_meansOne_2 4 rfl rfl)
theorem dX9_meansOne_52 : decode cX9_meansOne 52 = .ok (.ifCond .ne 7, 3) := dk_154 0 7 (dk_at dksX9_meansOne_2 7 rfl rfl)
theorem dX9_meansOne_55 : decode cX9_meansOne 55 = .ok (.iconst 1, 1) := dk_4 (dk_at dksX9_meansOne_2 10 rfl rfl)
theorem dX9_meansOne_56 : decode cX9_meansOne 56 = .ok (.goto 4, 3) := dk_167 0 4 (dk_at dksX9_meansOne_2 11 rfl rfl)
theorem dX9_meansOne_59 : decode cX9_meansOne 59 = .ok (.iconst 0, 1) := dk_3 (dk_at dksX9_meansOne_2 14 rfl rfl)
theorem dX9_meansOne_60 : decode cX9_meansOne 60 = .ok (.istore 4, 2) := dk_54 4 (dk_at dksX9_meansOne_2 15 rfl rfl)
theorem dX9_meansOne_62 : decode cX9_meansOne 62 = .ok (.aload_n 0, 1) := dk_42 (dk_at dksX9_meansOne_2 17 rfl rfl)
theorem dX9_meansOne_63 : decode cX9_meansOne 63 = .ok (.getfield 20, 3) := dk_180 0 20 (dk_at dksX9_meansOne_2 18 rfl rfl)
theorem dX9_meansOne_66 : decode cX9_meansOne 66 = .ok (.iload_n 1, 1) := dk_27 (dk_at dksX9_meansOne_2 21 rfl rfl)
theorem dX9_meansOne_67 : decode cX9_meansOne 67 = .ok (.iconst 2, 1) := dk_5 (dk_at dksX9_meansOne_2 22 rfl rfl)
theorem dX9_meansOne_68 : decode cX9_meansOne 68 = .ok (.iadd, 1) := dk_96 (dk_at dksX9_meansOne_2 23 rfl rfl)
theorem dX9_meansOne_69 : decode cX9_meansOne 69 = .ok (.iaload, 1) := dk_46 (dk_at dksX9_meansOne_3 0 rfl rfl)
theorem dX9_meansOne_70 : decode cX9_meansOne 70 = .ok (.bipush 22, 2) := dk_16 22 (dk_at dksX9_meansOne_3 1 rfl rfl)
theorem dX9_meansOne_72 : decode cX9_meansOne 72 = .ok (.if_icmp .ne 7, 3) := dk_160 0 7 (dk_at dksX9_meansOne_3 3 rfl rfl)
theorem dX9_meansOne_75 : decode cX9_meansOne 75 = .ok (.iconst 1, 1) := dk_4 (dk_at dksX9_meansOne_3 6 rfl rfl)
theorem dX9_meansOne_76 : decode cX9_meansOne 76 = .ok (.goto 4, 3) := dk_167 0 4 (dk_at dksX9_meansOne_3 7 rfl rfl)
theorem dX9_meansOne_79 : decode cX9_meansOne 79 = .ok (.iconst 0, 1) := dk_3 (dk_at dksX9_meansOne_3 10 rfl rfl)
theorem dX9_meansOne_80 : decode cX9_meansOne 80 = .ok (.istore 5, 2) := dk_54 5 (dk_at dksX9_meansOne_3 11 rfl rfl)
theorem dX9_meansOne_82 : decode cX9_meansOne 82 = .ok (.iload_n 3, 1) := dk_29 (dk_at dksX9_meansOne_3 13 rfl rfl)
theorem dX9_meansOne_83 : decode cX9_meansOne 83 = .ok (.aload_n 0, 1) := dk_42 (dk_at dksX9_meansOne_3 14 rfl rfl)
theorem dX9_meansOne_84 : decode cX9_meansOne 84 = .ok (.getfield 168, 3) := dk_180 0 168 (dk_at dksX9_meansOne_3 15 rfl rfl)
theorem dX9_meansOne_87 : decode cX9_meansOne 87 = .ok (.aload_n 0, 1) := dk_42 (dk_at dksX9_meansOne_3 18 rfl rfl)
theorem dX9_meansOne_88 : decode cX9_meansOne 88 = .ok (.getfield 174, 3) := dk_180 0 174 (dk_at dksX9_meansOne_3 19 rfl rfl)
theorem dX9_meansOne_91 : decode cX9_meansOne 91 = .ok (.imul, 1) := dk_104 (dk_at dksX9_meansOne_3 22 rfl rfl)
theorem dX9_meansOne_92 : decode cX9_meansOne 92 = .ok (.if_icmp .ge 42, 3) := dk_162 0 42 (dk_at dksX9_meansOne_4 0 rfl rfl)
theorem dX9_meansOne_95 : decode cX9_meansOne 95 = .ok (.iload_n 2, 1) := dk_28 (dk_at dksX9_meansOne_4 3 rfl rfl)
theorem dX9_meansOne_96 : decode cX9_meansOne 96 = .ok (.bipush 25, 2) := dk_16 25 (dk_at dksX9_meansOne_4 4 rfl rfl)
theorem dX9_meansOne_98 : decode cX9_meansOne 98 = .ok (.if_icmp .ne 47, 3) := dk_160 0 47 (dk_at dksX9_meansOne_4 6 rfl rfl)
theorem dX9_meansOne_101 : decode cX9_meansOne 101 = .ok (.iload_n 3, 1) := dk_29 (dk_at dksX9_meansOne_4 9 rfl rfl)
theorem dX9_meansOne_102 : decode cX9_meansOne 102 = .ok (.iload 5, 2) := dk_21 5 (dk_at dksX9_meansOne_4 10 rfl rfl)
theorem dX9_meansOne_104 : decode cX9_meansOne 104 = .ok (.aload_n 0, 1) := dk_42 (dk_at dksX9_meansOne_4 12 rfl rfl)
theorem dX9_meansOne_105 : decode cX9_meansOne 105 = .ok (.getfield 168, 3) := dk_180 0 168 (dk_at dksX9_meansOne_4 13 rfl rfl)
theorem dX9_meansOne_108 : decode cX9_meansOne 108 = .ok (.aload_n 0, 1) := dk_42 (dk_at dksX9_meansOne_4 16 rfl rfl)
theorem dX9_meansOne_109 : decode cX9_meansOne 109 = .ok (.getfield 174, 3) := dk_180 0 174 (dk_at dksX9_meansOne_4 17 rfl rfl)
theorem dX9_meansOne_112 : decode cX9_meansOne 112 = .ok (.iload 5, 2) := dk_21 5 (dk_at dksX9_meansOne_4 20 rfl rfl)
theorem dX9_meansOne_114 : decode cX9_meansOne 114 = .ok (.ifCond .eq 10, 3) := dk_153 0 10 (dk_at dksX9_meansOne_5 0 rfl rfl)
theorem dX9_meansOne_117 : decode cX9_meansOne 117 = .ok (.aload_n 0, 1) := dk_42 (dk_at dksX9_meansOne_5 3 rfl rfl)
theorem dX9_meansOne_118 : decode cX9_meansOne 118 = .ok (.getfield 187, 3) := dk_180 0 187 (dk_at dksX9_meansOne_5 4 rfl rfl)
theorem dX9_meansOne_121 : decode cX9_meansOne 121 = .ok (.goto 7, 3) := dk_167 0 7 (dk_at dksX9_meansOne_5 7 rfl rfl)
theorem dX9_meansOne_124 : decode cX9_meansOne 124 = .ok (.aload_n 0, 1) := dk_42 (dk_at dksX9_meansOne_5 10 rfl rfl)
theorem dX9_meansOne_125 : decode cX9_meansOne 125 = .ok (.getfield 180, 3) := dk_180 0 180 (dk_at dksX9_meansOne_5 11 rfl rfl)
theorem dX9_meansOne_128 : decode cX9_meansOne 128 = .ok (.invokestatic 226, 3) := dk_184 0 226 (dk_at dksX9_meansOne_5 14 rfl rfl)
theorem dX9_meansOne_131 : decode cX9_meansOne 131 = .ok (.ifCond .ge 14, 3) := dk_156 0 14 (dk_at dksX9_meansOne_5 17 rfl rfl)
theorem dX9_meansOne_134 : decode cX9_meansOne 134 = .ok (.aload_n 0, 1) := dk_42 (dk_at dksX9_meansOne_5 20 rfl rfl)
theorem dX9_meansOne_135 : decode cX9_meansOne 135 = .ok (.iconst 4, 1) := dk_7 (dk_at dksX9_meansOne_5 21 rfl rfl)
theorem dX9_meansOne_136 : decode cX9_meansOne 136 = .ok (.iload_n 1, 1) := dk_27 (dk_at dksX9_meansOne_5 22 rfl rfl)
theorem dX9_meansOne_137 : decode cX9_meansOne 137 = .ok (.iconst 1, 1) := dk_4 (dk_at dksX9_meansOne_5 23 rfl rfl)
theorem dX9_meansOne_138 : decode cX9_meansOne 138 = .ok (.iadd, 1) := dk_96 (dk_at dksX9_meansOne_6 0 rfl rfl)
theorem dX9_meansOne_139 : decode cX9_meansOne 139 = .ok (.invokevirtual 209, 3) := dk_182 0 209 (dk_at dksX9_meansOne_6 1 rfl rfl)
theorem dX9_meansOne_142 : decode cX9_meansOne 142 = .ok (.iconst 0, 1) := dk_3 (dk_at dksX9_meansOne_6 4 rfl rfl)
theorem dX9_meansOne_143 : decode cX9_meansOne 143 = .ok (.istore 4, 2) := dk_54 4 (dk_at dksX9_meansOne_6 5 rfl rfl)
theorem dX9_meansOne_145 : decode cX9_meansOne 145 = .ok (.iload_n 2, 1) := dk_28 (dk_at dksX9_meansOne_6 7 rfl rfl)
theorem dX9_meansOne_146 : decode cX9_meansOne 146 = .ok (.bipush 27, 2) := dk_16 27 (dk_at dksX9_meansOne_6 8 rfl rfl)
theorem dX9_meansOne_148 : decode cX9_meansOne 148 = .ok (.if_icmp .ne 36, 3) := dk_160 0 36 (dk_at dksX9_meansOne_6 10 rfl rfl)
theorem dX9_meansOne_151 : decode cX9_meansOne 151 = .ok (.iload 4, 2) := dk_21 4 (dk_at dksX9_meansOne_6 13 rfl rfl)
theorem dX9_meansOne_153 : decode cX9_meansOne 153 = .ok (.ifCond .eq 30, 3) := dk_153 0 30 (dk_at dksX9_meansOne_6 15 rfl rfl)
theorem dX9_meansOne_156 : decode cX9_meansOne 156 = .ok (.aload_n 0, 1) := dk_42 (dk_at dksX9_meansOne_6 18 rfl rfl)
theorem dX9_meansOne_157 : decode cX9_meansOne 157 = .ok (.getfield 43, 3) := dk_180 0 43 (dk_at dksX9_meansOne_6 19 rfl rfl)
theorem dX9_meansOne_160 : decode cX9_meansOne 160 = .ok (.bipush 48, 2) := dk_16 48 (dk_at dksX9_meansOne_6 22 rfl rfl)
theorem dX9_meansOne_162 : decode cX9_meansOne 162 = .ok (.iload_n 3, 1) := dk_29 (dk_at dksX9_meansOne_7 0 rfl rfl)
theorem dX9_meansOne_163 : decode cX9_meansOne 163 = .ok (.iadd, 1) := dk_96 (dk_at dksX9_meansOne_7 1 rfl rfl)
theorem dX9_meansOne_164 : decode cX9_meansOne 164 = .ok (.aload_n 0, 1) := dk_42 (dk_at dksX9_meansOne_7 2 rfl rfl)
theorem dX9_meansOne_165 : decode cX9_meansOne 165 = .ok (.getfield 20, 3) := dk_180 0 20 (dk_at dksX9_meansOne_7 3 rfl rfl)
theorem dX9_meansOne_168 : decode cX9_meansOne 168 = .ok (.iload_n 1, 1) := dk_27 (dk_at dksX9_meansOne_7 6 rfl rfl)
theorem dX9_meansOne_169 : decode cX9_meansOne 169 = .ok (.iconst 2, 1) := dk_5 (dk_at dksX9_meansOne_7 7 rfl rfl)
theorem dX9_meansOne_170 : decode cX9_meansOne 170 = .ok (.iadd, 1) := dk_96 (dk_at dksX9_meansOne_7 8 rfl rfl)
theorem dX9_meansOne_171 : decode cX9_meansOne 171 = .ok (.iaload, 1) := dk_46 (dk_at dksX9_meansOne_7 9 rfl rfl)
theorem dX9_meansOne_172 : decode cX9_meansOne 172 = .ok (.bipush 28, 2) := dk_16 28 (dk_at dksX9_meansOne_7 10 rfl rfl)
theorem dX9_meansOne_174 : decode cX9_meansOne 174 = .ok (.if_icmp .ne 7, 3) := dk_160 0 7 (dk_at dksX9_meansOne_7 12 rfl rfl)
theorem dX9_meansOne_177 : decode cX9_meansOne 177 = .ok (.iconst 1, 1) := dk_4 (dk_at dksX9_meansOne_7 15 rfl rfl)
theorem dX9_meansOne_178 : decode cX9_meansOne 178 = .ok (.goto 4, 3) := dk_167 0 4 (dk_at dksX9_meansOne_7 16 rfl rfl)
theorem dX9_meansOne_181 : decode cX9_meansOne 181 = .ok (.iconst 2, 1) := dk_5 (dk_at dksX9_meansOne_7 19 rfl rfl)
theorem dX9_meansOne_182 : decode cX9_meansOne 182 = .ok (.iastore, 1) := dk_79 (dk_at dksX9_meansOne_7 20 rfl rfl)
theorem dX9_meansOne_183 : decode cX9_meansOne 183 = .ok (.return_, 1) := dk_177 (dk_at dksX9_meansOne_7 21 rfl rfl)
theorem dX9_meansOne_184 : decode cX9_meansOne 184 = .ok (.aload_n 0, 1) := dk_42 (dk_at dksX9_meansOne_7 22 rfl rfl)
theorem dX9_meansOne_185 : decode cX9_meansOne 185 = .ok (.iload_n 2, 1) := dk_28 (dk_at dksX9_meansOne_7 23 rfl rfl)
theorem dX9_meansOne_186 : decode cX9_meansOne 186 = .ok (.bipush 25, 2) := dk_16 25 (dk_at dksX9_meansOne_8 0 rfl rfl)
theorem dX9_meansOne_188 : decode cX9_meansOne 188 = .ok (.if_icmp .ne 9, 3) := dk_160 0 9 (dk_at dksX9_meansOne_8 2 rfl rfl)
theorem dX9_meansOne_191 : decode cX9_meansOne 191 = .ok (.iload_n 1, 1) := dk_27 (dk_at dksX9_meansOne_8 5 rfl rfl)
theorem dX9_meansOne_192 : decode cX9_meansOne 192 = .ok (.iconst 3, 1) := dk_6 (dk_at dksX9_meansOne_8 6 rfl rfl)
theorem dX9_meansOne_193 : decode cX9_meansOne 193 = .ok (.iadd, 1) := dk_96 (dk_at dksX9_meansOne_8 7 rfl rfl)
theorem dX9_meansOne_194 : decode cX9_meansOne 194 = .ok (.goto 6, 3) := dk_167 0 6 (dk_at dksX9_meansOne_8 8 rfl rfl)
theorem dX9_meansOne_197 : decode cX9_meansOne 197 = .ok (.iload_n 1, 1) := dk_27 (dk_at dksX9_meansOne_8 11 rfl rfl)
theorem dX9_meansOne_198 : decode cX9_meansOne 198 = .ok (.iconst 2, 1) := dk_5 (dk_at dksX9_meansOne_8 12 rfl rfl)
theorem dX9_meansOne_199 : decode cX9_meansOne 199 = .ok (.iadd, 1) := dk_96 (dk_at dksX9_meansOne_8 13 rfl rfl)
theorem dX9_meansOne_200 : decode cX9_meansOne 200 = .ok (.invokevirtual 223, 3) := dk_182 0 223 (dk_at dksX9_meansOne_8 14 rfl rfl)
theorem dX9_meansOne_203 : decode cX9_meansOne 203 = .ok (.istore 6, 2) := dk_54 6 (dk_at dksX9_meansOne_8 17 rfl rfl)
theorem dX9_meansOne_205 : decode cX9_meansOne 205 = .ok (.iload 4, 2) := dk_21 4 (dk_at dksX9_meansOne_8 19 rfl rfl)
theorem dX9_meansOne_207 : decode cX9_meansOne 207 = .ok (.ifCond .eq 34, 3) := dk_153 0 34 (dk_at dksX9_meansOne_8 21 rfl rfl)
theorem dX9_meansOne_210 : decode cX9_meansOne 210 = .ok (.aload_n 0, 1) := dk_42 (dk_at dksX9_meansOne_9 0 rfl rfl)
theorem dX9_meansOne_211 : decode cX9_meansOne 211 = .ok (.getfield 43, 3) := dk_180 0 43 (dk_at dksX9_meansOne_9 1 rfl rfl)
theorem dX9_meansOne_214 : decode cX9_meansOne 214 = .ok (.iload_n 2, 1) := dk_28 (dk_at dksX9_meansOne_9 4 rfl rfl)
theorem dX9_meansOne_215 : decode cX9_meansOne 215 = .ok (.bipush 26, 2) := dk_16 26 (dk_at dksX9_meansOne_9 5 rfl rfl)
theorem dX9_meansOne_217 : decode cX9_meansOne 217 = .ok (.if_icmp .ne 8, 3) := dk_160 0 8 (dk_at dksX9_meansOne_9 7 rfl rfl)
theorem dX9_meansOne_220 : decode cX9_meansOne 220 = .ok (.bipush 32, 2) := dk_16 32 (dk_at dksX9_meansOne_9 10 rfl rfl)
theorem dX9_meansOne_222 : decode cX9_meansOne 222 = .ok (.goto 14, 3) := dk_167 0 14 (dk_at dksX9_meansOne_9 12 rfl rfl)
theorem dX9_meansOne_225 : decode cX9_meansOne 225 = .ok (.iload 5, 2) := dk_21 5 (dk_at dksX9_meansOne_9 15 rfl rfl)
theorem dX9_meansOne_227 : decode cX9_meansOne 227 = .ok (.ifCond .eq 8, 3) := dk_153 0 8 (dk_at dksX9_meansOne_9 17 rfl rfl)
theorem dX9_meansOne_230 : decode cX9_meansOne 230 = .ok (.bipush 16, 2) := dk_16 16 (dk_at dksX9_meansOne_9 20 rfl rfl)
theorem dX9_meansOne_232 : decode cX9_meansOne 232 = .ok (.goto 4, 3) := dk_167 0 4 (dk_at dksX9_meansOne_10 0 rfl rfl)
theorem dX9_meansOne_235 : decode cX9_meansOne 235 = .ok (.iconst 0, 1) := dk_3 (dk_at dksX9_meansOne_10 3 rfl rfl)
theorem dX9_meansOne_236 : decode cX9_meansOne 236 = .ok (.iload_n 3, 1) := dk_29 (dk_at dksX9_meansOne_10 4 rfl rfl)
theorem dX9_meansOne_237 : decode cX9_meansOne 237 = .ok (.iadd, 1) := dk_96 (dk_at dksX9_meansOne_10 5 rfl rfl)
theorem dX9_meansOne_238 : decode cX9_meansOne 238 = .ok (.iload 6, 2) := dk_21 6 (dk_at dksX9_meansOne_10 6 rfl rfl)
theorem dX9_meansOne_240 : decode cX9_meansOne 240 = .ok (.iastore, 1) := dk_79 (dk_at dksX9_meansOne_10 8 rfl rfl)
theorem dX9_meansOne_241 : decode cX9_meansOne 241 = .ok (.return_, 1) := dk_177 (dk_at dksX9_meansOne_10 9 rfl rfl)
abbrev cX9_leads : ByteArray := prog_14_method_31_code
def yX9_leads : MethodName := ⟨RX9, "leads", "(IZIIZ)I"⟩
def dkwX9_leads_3 : List UInt8 := [104, 167, 0, 4, 2, 172]
abbrev dktX9_leads_3 : List UInt8 := dkwX9_leads_3 ++ []
def dkwX9_leads_2 : List UInt8 := [96, 28, 162, 0, 9, 26, 4, 96, 167, 0, 21, 21, 4, 153, 0, 15, 28, 5, 164, 0, 10, 28, 21, 5]
abbrev dktX9_leads_2 : List UInt8 := dkwX9_leads_2 ++ dktX9_leads_3
def dkwX9_leads_1 : List UInt8 := [96, 167, 0, 19, 21, 4, 153, 0, 13, 29, 5, 164, 0, 8, 21, 6, 167, 0, 4, 2, 172, 21, 6, 4]
abbrev dktX9_leads_1 : List UInt8 := dkwX9_leads_1 ++ dktX9_leads_2
def dkwX9_leads_0 : List UInt8 := [26, 28, 108, 54, 5, 26, 28, 112, 54, 6, 27, 153, 0, 34, 21, 5, 4, 96, 29, 162, 0, 9, 26, 28]
abbrev dktX9_leads_0 : List UInt8 := dkwX9_leads_0 ++ dktX9_leads_1
theorem dksX9_leads_0 : cX9_leads.data.toList.drop 0 = dktX9_leads_0 := by decide +kernel
theorem dksX9_leads_1 : cX9_leads.data.toList.drop 24 = dktX9_leads_1 := dk_seg dksX9_leads_0 24 rfl rfl
theorem dksX9_leads_2 : cX9_leads.data.toList.drop 48 = dktX9_leads_2 := dk_seg dksX9_leads_1 24 rfl rfl
theorem dksX9_leads_3 : cX9_leads.data.toList.drop 72 = dktX9_leads_3 := dk_seg dksX9_leads_2 24 rfl rfl
theorem dX9_leads_0 : decode cX9_leads 0 = .ok (.iload_n 0, 1) := dk_26 (dk_at dksX9_leads_0 0 rfl rfl)
theorem dX9_leads_1 : decode cX9_leads 1 = .ok (.iload_n 2, 1) := dk_28 (dk_at dksX9_leads_0 1 rfl rfl)
theorem dX9_leads_2 : decode cX9_leads 2 = .ok (.idiv, 1) := dk_108 (dk_at dksX9_leads_0 2 rfl rfl)
theorem dX9_leads_3 : decode cX9_leads 3 = .ok (.istore 5, 2) := dk_54 5 (dk_at dksX9_leads_0 3 rfl rfl)
theorem dX9_leads_5 : decode cX9_leads 5 = .ok (.iload_n 0, 1) := dk_26 (dk_at dksX9_leads_0 5 rfl rfl)
theorem dX9_leads_6 : decode cX9_leads 6 = .ok (.iload_n 2, 1) := dk_28 (dk_at dksX9_leads_0 6 rfl rfl)
theorem dX9_leads_7 : decode cX9_leads 7 = .ok (.irem, 1) := dk_112 (dk_at dksX9_leads_0 7 rfl rfl)
theorem dX9_leads_8 : decode cX9_leads 8 = .ok (.istore 6, 2) := dk_54 6 (dk_at dksX9_leads_0 8 rfl rfl)
theorem dX9_leads_10 : decode cX9_leads 10 = .ok (.iload_n 1, 1) := dk_27 (dk_at dksX9_leads_0 10 rfl rfl)
theorem dX9_leads_11 : decode cX9_leads 11 = .ok (.ifCond .eq 34, 3) := dk_153 0 34 (dk_at dksX9_leads_0 11 rfl rfl)
theorem dX9_leads_14 : decode cX9_leads 14 = .ok (.iload 5, 2) := dk_21 5 (dk_at dksX9_leads_0 14 rfl rfl)
theorem dX9_leads_16 : decode cX9_leads 16 = .ok (.iconst 1, 1) := dk_4 (dk_at dksX9_leads_0 16 rfl rfl)
theorem dX9_leads_17 : decode cX9_leads 17 = .ok (.iadd, 1) := dk_96 (dk_at dksX9_leads_0 17 rfl rfl)
theorem dX9_leads_18 : decode cX9_leads 18 = .ok (.iload_n 3, 1) := dk_29 (dk_at dksX9_leads_0 18 rfl rfl)
theorem dX9_leads_19 : decode cX9_leads 19 = .ok (.if_icmp .ge 9, 3) := dk_162 0 9 (dk_at dksX9_leads_0 19 rfl rfl)
theorem dX9_leads_22 : decode cX9_leads 22 = .ok (.iload_n 0, 1) := dk_26 (dk_at dksX9_leads_0 22 rfl rfl)
theorem dX9_leads_23 : decode cX9_leads 23 = .ok (.iload_n 2, 1) := dk_28 (dk_at dksX9_leads_0 23 rfl rfl)
theorem dX9_leads_24 : decode cX9_leads 24 = .ok (.iadd, 1) := dk_96 (dk_at dksX9_leads_1 0 rfl rfl)
theorem dX9_leads_25 : decode cX9_leads 25 = .ok (.goto 19, 3) := dk_167 0 19 (dk_at dksX9_leads_1 1 rfl rfl)
theorem dX9_leads_28 : decode cX9_leads 28 = .ok (.iload 4, 2) := dk_21 4 (dk_at dksX9_leads_1 4 rfl rfl)
theorem dX9_leads_30 : decode cX9_leads 30 = .ok (.ifCond .eq 13, 3) := dk_153 0 13 (dk_at dksX9_leads_1 6 rfl rfl)
theorem dX9_leads_33 : decode cX9_leads 33 = .ok (.iload_n 3, 1) := dk_29 (dk_at dksX9_leads_1 9 rfl rfl)
theorem dX9_leads_34 : decode cX9_leads 34 = .ok (.iconst 2, 1) := dk_5 (dk_at dksX9_leads_1 10 rfl rfl)
theorem dX9_leads_35 : decode cX9_leads 35 = .ok (.if_icmp .le 8, 3) := dk_164 0 8 (dk_at dksX9_leads_1 11 rfl rfl)
theorem dX9_leads_38 : decode cX9_leads 38 = .ok (.iload 6, 2) := dk_21 6 (dk_at dksX9_leads_1 14 rfl rfl)
theorem dX9_leads_40 : decode cX9_leads 40 = .ok (.goto 4, 3) := dk_167 0 4 (dk_at dksX9_leads_1 16 rfl rfl)
theorem dX9_leads_43 : decode cX9_leads 43 = .ok (.iconst (-1), 1) := dk_2 (dk_at dksX9_leads_1 19 rfl rfl)
theorem dX9_leads_44 : decode cX9_leads 44 = .ok (.ireturn, 1) := dk_172 (dk_at dksX9_leads_1 20 rfl rfl)
theorem dX9_leads_45 : decode cX9_leads 45 = .ok (.iload 6, 2) := dk_21 6 (dk_at dksX9_leads_1 21 rfl rfl)
theorem dX9_leads_47 : decode cX9_leads 47 = .ok (.iconst 1, 1) := dk_4 (dk_at dksX9_leads_1 23 rfl rfl)
theorem dX9_leads_48 : decode cX9_leads 48 = .ok (.iadd, 1) := dk_96 (dk_at dksX9_leads_2 0 rfl rfl)
theorem dX9_leads_49 : decode cX9_leads 49 = .ok (.iload_n 2, 1) := dk_28 (dk_at dksX9_leads_2 1 rfl rfl)
theorem dX9_leads_50 : decode cX9_leads 50 = .ok (.if_icmp .ge 9, 3) := dk_162 0 9 (dk_at dksX9_leads_2 2 rfl rfl)
theorem dX9_leads_53 : decode cX9_leads 53 = .ok (.iload_n 0, 1) := dk_26 (dk_at dksX9_leads_2 5 rfl rfl)
theorem dX9_leads_54 : decode cX9_leads 54 = .ok (.iconst 1, 1) := dk_4 (dk_at dksX9_leads_2 6 rfl rfl)
theorem dX9_leads_55 : decode cX9_leads 55 = .ok (.iadd, 1) := dk_96 (dk_at dksX9_leads_2 7 rfl rfl)
theorem dX9_leads_56 : decode cX9_leads 56 = .ok (.goto 21, 3) := dk_167 0 21 (dk_at dksX9_leads_2 8 rfl rfl)
theorem dX9_leads_59 : decode cX9_leads 59 = .ok (.iload 4, 2) := dk_21 4 (dk_at dksX9_leads_2 11 rfl rfl)
theorem dX9_leads_61 : decode cX9_leads 61 = .ok (.ifCond .eq 15, 3) := dk_153 0 15 (dk_at dksX9_leads_2 13 rfl rfl)
theorem dX9_leads_64 : decode cX9_leads 64 = .ok (.iload_n 2, 1) := dk_28 (dk_at dksX9_leads_2 16 rfl rfl)
theorem dX9_leads_65 : decode cX9_leads 65 = .ok (.iconst 2, 1) := dk_5 (dk_at dksX9_leads_2 17 rfl rfl)
theorem dX9_leads_66 : decode cX9_leads 66 = .ok (.if_icmp .le 10, 3) := dk_164 0 10 (dk_at dksX9_leads_2 18 rfl rfl)
theorem dX9_leads_69 : decode cX9_leads 69 = .ok (.iload_n 2, 1) := dk_28 (dk_at dksX9_leads_2 21 rfl rfl)
theorem dX9_leads_70 : decode cX9_leads 70 = .ok (.iload 5, 2) := dk_21 5 (dk_at dksX9_leads_2 22 rfl rfl)
theorem dX9_leads_72 : decode cX9_leads 72 = .ok (.imul, 1) := dk_104 (dk_at dksX9_leads_3 0 rfl rfl)
theorem dX9_leads_73 : decode cX9_leads 73 = .ok (.goto 4, 3) := dk_167 0 4 (dk_at dksX9_leads_3 1 rfl rfl)
theorem dX9_leads_76 : decode cX9_leads 76 = .ok (.iconst (-1), 1) := dk_2 (dk_at dksX9_leads_3 4 rfl rfl)
theorem dX9_leads_77 : decode cX9_leads 77 = .ok (.ireturn, 1) := dk_172 (dk_at dksX9_leads_3 5 rfl rfl)
abbrev cX9_sites : ByteArray := prog_14_method_32_code
def yX9_sites : MethodName := ⟨RX9, "sites", "()I"⟩
def dkwX9_sites_0 : List UInt8 := [42, 180, 0, 171, 42, 180, 0, 177, 104, 172]
abbrev dktX9_sites_0 : List UInt8 := dkwX9_sites_0 ++ []
theorem dksX9_sites_0 : cX9_sites.data.toList.drop 0 = dktX9_sites_0 := by decide +kernel
theorem dX9_sites_0 : decode cX9_sites 0 = .ok (.aload_n 0, 1) := dk_42 (dk_at dksX9_sites_0 0 rfl rfl)
theorem dX9_sites_1 : decode cX9_sites 1 = .ok (.getfield 171, 3) := dk_180 0 171 (dk_at dksX9_sites_0 1 rfl rfl)
theorem dX9_sites_4 : decode cX9_sites 4 = .ok (.aload_n 0, 1) := dk_42 (dk_at dksX9_sites_0 4 rfl rfl)
theorem dX9_sites_5 : decode cX9_sites 5 = .ok (.getfield 177, 3) := dk_180 0 177 (dk_at dksX9_sites_0 5 rfl rfl)
theorem dX9_sites_8 : decode cX9_sites 8 = .ok (.imul, 1) := dk_104 (dk_at dksX9_sites_0 8 rfl rfl)
theorem dX9_sites_9 : decode cX9_sites 9 = .ok (.ireturn, 1) := dk_172 (dk_at dksX9_sites_0 9 rfl rfl)
abbrev cX9_place : ByteArray := prog_14_method_20_code
def yX9_place : MethodName := ⟨RX9, "place", "()I"⟩
theorem dX9_place_0 : decode cX9_place 0 = .ok (.aload_n 0, 1) := by decide +kernel
theorem dX9_place_1 : decode cX9_place 1 = .ok (.getfield 37, 3) := by decide +kernel
theorem dX9_place_4 : decode cX9_place 4 = .ok (.ireturn, 1) := by decide +kernel
abbrev cX9_tie : ByteArray := prog_14_method_37_code
def yX9_tie : MethodName := ⟨RX9, "tie", "(IZI)Z"⟩
def dkwX9_tie_2 : List UInt8 := [180, 0, 40, 28, 153, 0, 8, 16, 16, 167, 0, 4, 3, 27, 96, 29, 79, 42, 3, 181, 0, 200, 4, 172]
abbrev dktX9_tie_2 : List UInt8 := dkwX9_tie_2 ++ []
def dkwX9_tie_1 : List UInt8 := [155, 0, 16, 42, 180, 0, 40, 27, 28, 184, 0, 240, 29, 160, 0, 5, 3, 172, 42, 182, 0, 244, 42]
abbrev dktX9_tie_1 : List UInt8 := dkwX9_tie_1 ++ dktX9_tie_2
def dkwX9_tie_0 : List UInt8 := [42, 27, 182, 0, 233, 153, 0, 35, 29, 16, 253, 6, 184, 0, 213, 153, 0, 25, 42, 27, 28, 182, 0, 236]
abbrev dktX9_tie_0 : List UInt8 := dkwX9_tie_0 ++ dktX9_tie_1
theorem dksX9_tie_0 : cX9_tie.data.toList.drop 0 = dktX9_tie_0 := by decide +kernel
theorem dksX9_tie_1 : cX9_tie.data.toList.drop 24 = dktX9_tie_1 := dk_seg dksX9_tie_0 24 rfl rfl
theorem dksX9_tie_2 : cX9_tie.data.toList.drop 47 = dktX9_tie_2 := dk_seg dksX9_tie_1 23 rfl rfl
theorem dX9_tie_0 : decode cX9_tie 0 = .ok (.aload_n 0, 1) := dk_42 (dk_at dksX9_tie_0 0 rfl rfl)
theorem dX9_tie_1 : decode cX9_tie 1 = .ok (.iload_n 1, 1) := dk_27 (dk_at dksX9_tie_0 1 rfl rfl)
theorem dX9_tie_2 : decode cX9_tie 2 = .ok (.invokevirtual 233, 3) := dk_182 0 233 (dk_at dksX9_tie_0 2 rfl rfl)
theorem dX9_tie_5 : decode cX9_tie 5 = .ok (.ifCond .eq 35, 3) := dk_153 0 35 (dk_at dksX9_tie_0 5 rfl rfl)
theorem dX9_tie_8 : decode cX9_tie 8 = .ok (.iload_n 3, 1) := dk_29 (dk_at dksX9_tie_0 8 rfl rfl)
theorem dX9_tie_9 : decode cX9_tie 9 = .ok (.bipush (-3), 2) := dk_16 253 (dk_at dksX9_tie_0 9 rfl rfl)
theorem dX9_tie_11 : decode cX9_tie 11 = .ok (.iconst 3, 1) := dk_6 (dk_at dksX9_tie_0 11 rfl rfl)
theorem dX9_tie_12 : decode cX9_tie 12 = .ok (.invokestatic 213, 3) := dk_184 0 213 (dk_at dksX9_tie_0 12 rfl rfl)
theorem dX9_tie_15 : decode cX9_tie 15 = .ok (.ifCond .eq 25, 3) := dk_153 0 25 (dk_at dksX9_tie_0 15 rfl rfl)
theorem dX9_tie_18 : decode cX9_tie 18 = .ok (.aload_n 0, 1) := dk_42 (dk_at dksX9_tie_0 18 rfl rfl)
theorem dX9_tie_19 : decode cX9_tie 19 = .ok (.iload_n 1, 1) := dk_27 (dk_at dksX9_tie_0 19 rfl rfl)
theorem dX9_tie_20 : decode cX9_tie 20 = .ok (.iload_n 2, 1) := dk_28 (dk_at dksX9_tie_0 20 rfl rfl)
theorem dX9_tie_21 : decode cX9_tie 21 = .ok (.invokevirtual 236, 3) := dk_182 0 236 (dk_at dksX9_tie_0 21 rfl rfl)
theorem dX9_tie_24 : decode cX9_tie 24 = .ok (.ifCond .lt 16, 3) := dk_155 0 16 (dk_at dksX9_tie_1 0 rfl rfl)
theorem dX9_tie_27 : decode cX9_tie 27 = .ok (.aload_n 0, 1) := dk_42 (dk_at dksX9_tie_1 3 rfl rfl)
theorem dX9_tie_28 : decode cX9_tie 28 = .ok (.getfield 40, 3) := dk_180 0 40 (dk_at dksX9_tie_1 4 rfl rfl)
theorem dX9_tie_31 : decode cX9_tie 31 = .ok (.iload_n 1, 1) := dk_27 (dk_at dksX9_tie_1 7 rfl rfl)
theorem dX9_tie_32 : decode cX9_tie 32 = .ok (.iload_n 2, 1) := dk_28 (dk_at dksX9_tie_1 8 rfl rfl)
theorem dX9_tie_33 : decode cX9_tie 33 = .ok (.invokestatic 240, 3) := dk_184 0 240 (dk_at dksX9_tie_1 9 rfl rfl)
theorem dX9_tie_36 : decode cX9_tie 36 = .ok (.iload_n 3, 1) := dk_29 (dk_at dksX9_tie_1 12 rfl rfl)
theorem dX9_tie_37 : decode cX9_tie 37 = .ok (.if_icmp .ne 5, 3) := dk_160 0 5 (dk_at dksX9_tie_1 13 rfl rfl)
theorem dX9_tie_40 : decode cX9_tie 40 = .ok (.iconst 0, 1) := dk_3 (dk_at dksX9_tie_1 16 rfl rfl)
theorem dX9_tie_41 : decode cX9_tie 41 = .ok (.ireturn, 1) := dk_172 (dk_at dksX9_tie_1 17 rfl rfl)
theorem dX9_tie_42 : decode cX9_tie 42 = .ok (.aload_n 0, 1) := dk_42 (dk_at dksX9_tie_1 18 rfl rfl)
theorem dX9_tie_43 : decode cX9_tie 43 = .ok (.invokevirtual 244, 3) := dk_182 0 244 (dk_at dksX9_tie_1 19 rfl rfl)
theorem dX9_tie_46 : decode cX9_tie 46 = .ok (.aload_n 0, 1) := dk_42 (dk_at dksX9_tie_1 22 rfl rfl)
theorem dX9_tie_47 : decode cX9_tie 47 = .ok (.getfield 40, 3) := dk_180 0 40 (dk_at dksX9_tie_2 0 rfl rfl)
theorem dX9_tie_50 : decode cX9_tie 50 = .ok (.iload_n 2, 1) := dk_28 (dk_at dksX9_tie_2 3 rfl rfl)
theorem dX9_tie_51 : decode cX9_tie 51 = .ok (.ifCond .eq 8, 3) := dk_153 0 8 (dk_at dksX9_tie_2 4 rfl rfl)
theorem dX9_tie_54 : decode cX9_tie 54 = .ok (.bipush 16, 2) := dk_16 16 (dk_at dksX9_tie_2 7 rfl rfl)
theorem dX9_tie_56 : decode cX9_tie 56 = .ok (.goto 4, 3) := dk_167 0 4 (dk_at dksX9_tie_2 9 rfl rfl)
theorem dX9_tie_59 : decode cX9_tie 59 = .ok (.iconst 0, 1) := dk_3 (dk_at dksX9_tie_2 12 rfl rfl)
theorem dX9_tie_60 : decode cX9_tie 60 = .ok (.iload_n 1, 1) := dk_27 (dk_at dksX9_tie_2 13 rfl rfl)
theorem dX9_tie_61 : decode cX9_tie 61 = .ok (.iadd, 1) := dk_96 (dk_at dksX9_tie_2 14 rfl rfl)
theorem dX9_tie_62 : decode cX9_tie 62 = .ok (.iload_n 3, 1) := dk_29 (dk_at dksX9_tie_2 15 rfl rfl)
theorem dX9_tie_63 : decode cX9_tie 63 = .ok (.iastore, 1) := dk_79 (dk_at dksX9_tie_2 16 rfl rfl)
theorem dX9_tie_64 : decode cX9_tie 64 = .ok (.aload_n 0, 1) := dk_42 (dk_at dksX9_tie_2 17 rfl rfl)
theorem dX9_tie_65 : decode cX9_tie 65 = .ok (.iconst 0, 1) := dk_3 (dk_at dksX9_tie_2 18 rfl rfl)
theorem dX9_tie_66 : decode cX9_tie 66 = .ok (.putfield 200, 3) := dk_181 0 200 (dk_at dksX9_tie_2 19 rfl rfl)
theorem dX9_tie_69 : decode cX9_tie 69 = .ok (.iconst 1, 1) := dk_4 (dk_at dksX9_tie_2 22 rfl rfl)
theorem dX9_tie_70 : decode cX9_tie 70 = .ok (.ireturn, 1) := dk_172 (dk_at dksX9_tie_2 23 rfl rfl)
abbrev cX9_isSite : ByteArray := prog_14_method_33_code
def yX9_isSite : MethodName := ⟨RX9, "isSite", "(I)Z"⟩
def dkwX9_isSite_0 : List UInt8 := [27, 3, 42, 182, 0, 193, 4, 100, 184, 0, 213, 172]
abbrev dktX9_isSite_0 : List UInt8 := dkwX9_isSite_0 ++ []
theorem dksX9_isSite_0 : cX9_isSite.data.toList.drop 0 = dktX9_isSite_0 := by decide +kernel
theorem dX9_isSite_0 : decode cX9_isSite 0 = .ok (.iload_n 1, 1) := dk_27 (dk_at dksX9_isSite_0 0 rfl rfl)
theorem dX9_isSite_1 : decode cX9_isSite 1 = .ok (.iconst 0, 1) := dk_3 (dk_at dksX9_isSite_0 1 rfl rfl)
theorem dX9_isSite_2 : decode cX9_isSite 2 = .ok (.aload_n 0, 1) := dk_42 (dk_at dksX9_isSite_0 2 rfl rfl)
theorem dX9_isSite_3 : decode cX9_isSite 3 = .ok (.invokevirtual 193, 3) := dk_182 0 193 (dk_at dksX9_isSite_0 3 rfl rfl)
theorem dX9_isSite_6 : decode cX9_isSite 6 = .ok (.iconst 1, 1) := dk_4 (dk_at dksX9_isSite_0 6 rfl rfl)
theorem dX9_isSite_7 : decode cX9_isSite 7 = .ok (.isub, 1) := dk_100 (dk_at dksX9_isSite_0 7 rfl rfl)
theorem dX9_isSite_8 : decode cX9_isSite 8 = .ok (.invokestatic 213, 3) := dk_184 0 213 (dk_at dksX9_isSite_0 8 rfl rfl)
theorem dX9_isSite_11 : decode cX9_isSite 11 = .ok (.ireturn, 1) := dk_172 (dk_at dksX9_isSite_0 11 rfl rfl)
abbrev cX9_tieTo : ByteArray := prog_14_method_34_code
def yX9_tieTo : MethodName := ⟨RX9, "tieTo", "(IZ)I"⟩
def dkwX9_tieTo_1 : List UInt8 := [180, 0, 184, 184, 0, 226, 172]
abbrev dktX9_tieTo_1 : List UInt8 := dkwX9_tieTo_1 ++ []
def dkwX9_tieTo_0 : List UInt8 := [27, 28, 42, 180, 0, 171, 42, 180, 0, 177, 28, 153, 0, 10, 42, 180, 0, 190, 167, 0, 7, 42]
abbrev dktX9_tieTo_0 : List UInt8 := dkwX9_tieTo_0 ++ dktX9_tieTo_1
theorem dksX9_tieTo_0 : cX9_tieTo.data.toList.drop 0 = dktX9_tieTo_0 := by decide +kernel
theorem dksX9_tieTo_1 : cX9_tieTo.data.toList.drop 22 = dktX9_tieTo_1 := dk_seg dksX9_tieTo_0 22 rfl rfl
theorem dX9_tieTo_0 : decode cX9_tieTo 0 = .ok (.iload_n 1, 1) := dk_27 (dk_at dksX9_tieTo_0 0 rfl rfl)
theorem dX9_tieTo_1 : decode cX9_tieTo 1 = .ok (.iload_n 2, 1) := dk_28 (dk_at dksX9_tieTo_0 1 rfl rfl)
theorem dX9_tieTo_2 : decode cX9_tieTo 2 = .ok (.aload_n 0, 1) := dk_42 (dk_at dksX9_tieTo_0 2 rfl rfl)
theorem dX9_tieTo_3 : decode cX9_tieTo 3 = .ok (.getfield 171, 3) := dk_180 0 171 (dk_at dksX9_tieTo_0 3 rfl rfl)
theorem dX9_tieTo_6 : decode cX9_tieTo 6 = .ok (.aload_n 0, 1) := dk_42 (dk_at dksX9_tieTo_0 6 rfl rfl)
theorem dX9_tieTo_7 : decode cX9_tieTo 7 = .ok (.getfield 177, 3) := dk_180 0 177 (dk_at dksX9_tieTo_0 7 rfl rfl)
theorem dX9_tieTo_10 : decode cX9_tieTo 10 = .ok (.iload_n 2, 1) := dk_28 (dk_at dksX9_tieTo_0 10 rfl rfl)
theorem dX9_tieTo_11 : decode cX9_tieTo 11 = .ok (.ifCond .eq 10, 3) := dk_153 0 10 (dk_at dksX9_tieTo_0 11 rfl rfl)
theorem dX9_tieTo_14 : decode cX9_tieTo 14 = .ok (.aload_n 0, 1) := dk_42 (dk_at dksX9_tieTo_0 14 rfl rfl)
theorem dX9_tieTo_15 : decode cX9_tieTo 15 = .ok (.getfield 190, 3) := dk_180 0 190 (dk_at dksX9_tieTo_0 15 rfl rfl)
theorem dX9_tieTo_18 : decode cX9_tieTo 18 = .ok (.goto 7, 3) := dk_167 0 7 (dk_at dksX9_tieTo_0 18 rfl rfl)
theorem dX9_tieTo_21 : decode cX9_tieTo 21 = .ok (.aload_n 0, 1) := dk_42 (dk_at dksX9_tieTo_0 21 rfl rfl)
theorem dX9_tieTo_22 : decode cX9_tieTo 22 = .ok (.getfield 184, 3) := dk_180 0 184 (dk_at dksX9_tieTo_1 0 rfl rfl)
theorem dX9_tieTo_25 : decode cX9_tieTo 25 = .ok (.invokestatic 226, 3) := dk_184 0 226 (dk_at dksX9_tieTo_1 3 rfl rfl)
theorem dX9_tieTo_28 : decode cX9_tieTo 28 = .ok (.ireturn, 1) := dk_172 (dk_at dksX9_tieTo_1 6 rfl rfl)
abbrev cX9_jOf : ByteArray := prog_14_method_35_code
def yX9_jOf : MethodName := ⟨RX9, "jOf", "([IIZ)I"⟩
def dkwX9_jOf_0 : List UInt8 := [42, 28, 153, 0, 8, 16, 16, 167, 0, 4, 3, 27, 96, 46, 172]
abbrev dktX9_jOf_0 : List UInt8 := dkwX9_jOf_0 ++ []
theorem dksX9_jOf_0 : cX9_jOf.data.toList.drop 0 = dktX9_jOf_0 := by decide +kernel
theorem dX9_jOf_0 : decode cX9_jOf 0 = .ok (.aload_n 0, 1) := dk_42 (dk_at dksX9_jOf_0 0 rfl rfl)
theorem dX9_jOf_1 : decode cX9_jOf 1 = .ok (.iload_n 2, 1) := dk_28 (dk_at dksX9_jOf_0 1 rfl rfl)
theorem dX9_jOf_2 : decode cX9_jOf 2 = .ok (.ifCond .eq 8, 3) := dk_153 0 8 (dk_at dksX9_jOf_0 2 rfl rfl)
theorem dX9_jOf_5 : decode cX9_jOf 5 = .ok (.bipush 16, 2) := dk_16 16 (dk_at dksX9_jOf_0 5 rfl rfl)
theorem dX9_jOf_7 : decode cX9_jOf 7 = .ok (.goto 4, 3) := dk_167 0 4 (dk_at dksX9_jOf_0 7 rfl rfl)
theorem dX9_jOf_10 : decode cX9_jOf 10 = .ok (.iconst 0, 1) := dk_3 (dk_at dksX9_jOf_0 10 rfl rfl)
theorem dX9_jOf_11 : decode cX9_jOf 11 = .ok (.iload_n 1, 1) := dk_27 (dk_at dksX9_jOf_0 11 rfl rfl)
theorem dX9_jOf_12 : decode cX9_jOf 12 = .ok (.iadd, 1) := dk_96 (dk_at dksX9_jOf_0 12 rfl rfl)
theorem dX9_jOf_13 : decode cX9_jOf 13 = .ok (.iaload, 1) := dk_46 (dk_at dksX9_jOf_0 13 rfl rfl)
theorem dX9_jOf_14 : decode cX9_jOf 14 = .ok (.ireturn, 1) := dk_172 (dk_at dksX9_jOf_0 14 rfl rfl)
abbrev cX9_marks : ByteArray := prog_14_method_36_code
def yX9_marks : MethodName := ⟨RX9, "marks", "()V"⟩
def dkwX9_marks_3 : List UInt8 := [132, 2, 1, 167, 255, 233, 42, 89, 180, 0, 197, 4, 96, 181, 0, 197, 177]
abbrev dktX9_marks_3 : List UInt8 := dkwX9_marks_3 ++ []
def dkwX9_marks_2 : List UInt8 := [3, 61, 28, 16, 66, 162, 0, 23, 42, 180, 0, 46, 27, 28, 96, 42, 180, 0, 40, 28, 46, 79]
abbrev dktX9_marks_2 : List UInt8 := dkwX9_marks_2 ++ dktX9_marks_3
def dkwX9_marks_1 : List UInt8 := [180, 0, 197, 4, 100, 181, 0, 197, 16, 66, 42, 180, 0, 230, 42, 180, 0, 197, 96, 16, 40, 112, 104, 60]
abbrev dktX9_marks_1 : List UInt8 := dkwX9_marks_1 ++ dktX9_marks_2
def dkwX9_marks_0 : List UInt8 := [42, 180, 0, 197, 16, 40, 160, 0, 26, 42, 42, 180, 0, 230, 4, 96, 16, 40, 112, 181, 0, 230, 42, 89]
abbrev dktX9_marks_0 : List UInt8 := dkwX9_marks_0 ++ dktX9_marks_1
theorem dksX9_marks_0 : cX9_marks.data.toList.drop 0 = dktX9_marks_0 := by decide +kernel
theorem dksX9_marks_1 : cX9_marks.data.toList.drop 24 = dktX9_marks_1 := dk_seg dksX9_marks_0 24 rfl rfl
theorem dksX9_marks_2 : cX9_marks.data.toList.drop 48 = dktX9_marks_2 := dk_seg dksX9_marks_1 24 rfl rfl
theorem dksX9_marks_3 : cX9_marks.data.toList.drop 70 = dktX9_marks_3 := dk_seg dksX9_marks_2 22 rfl rfl
theorem dX9_marks_0 : decode cX9_marks 0 = .ok (.aload_n 0, 1) := dk_42 (dk_at dksX9_marks_0 0 rfl rfl)
theorem dX9_marks_1 : decode cX9_marks 1 = .ok (.getfield 197, 3) := dk_180 0 197 (dk_at dksX9_marks_0 1 rfl rfl)
theorem dX9_marks_4 : decode cX9_marks 4 = .ok (.bipush 40, 2) := dk_16 40 (dk_at dksX9_marks_0 4 rfl rfl)
theorem dX9_marks_6 : decode cX9_marks 6 = .ok (.if_icmp .ne 26, 3) := dk_160 0 26 (dk_at dksX9_marks_0 6 rfl rfl)
theorem dX9_marks_9 : decode cX9_marks 9 = .ok (.aload_n 0, 1) := dk_42 (dk_at dksX9_marks_0 9 rfl rfl)
theorem dX9_marks_10 : decode cX9_marks 10 = .ok (.aload_n 0, 1) := dk_42 (dk_at dksX9_marks_0 10 rfl rfl)
theorem dX9_marks_11 : decode cX9_marks 11 = .ok (.getfield 230, 3) := dk_180 0 230 (dk_at dksX9_marks_0 11 rfl rfl)
theorem dX9_marks_14 : decode cX9_marks 14 = .ok (.iconst 1, 1) := dk_4 (dk_at dksX9_marks_0 14 rfl rfl)
theorem dX9_marks_15 : decode cX9_marks 15 = .ok (.iadd, 1) := dk_96 (dk_at dksX9_marks_0 15 rfl rfl)
theorem dX9_marks_16 : decode cX9_marks 16 = .ok (.bipush 40, 2) := dk_16 40 (dk_at dksX9_marks_0 16 rfl rfl)
theorem dX9_marks_18 : decode cX9_marks 18 = .ok (.irem, 1) := dk_112 (dk_at dksX9_marks_0 18 rfl rfl)
theorem dX9_marks_19 : decode cX9_marks 19 = .ok (.putfield 230, 3) := dk_181 0 230 (dk_at dksX9_marks_0 19 rfl rfl)
theorem dX9_marks_22 : decode cX9_marks 22 = .ok (.aload_n 0, 1) := dk_42 (dk_at dksX9_marks_0 22 rfl rfl)
theorem dX9_marks_23 : decode cX9_marks 23 = .ok (.dup, 1) := dk_89 (dk_at dksX9_marks_0 23 rfl rfl)
theorem dX9_marks_24 : decode cX9_marks 24 = .ok (.getfield 197, 3) := dk_180 0 197 (dk_at dksX9_marks_1 0 rfl rfl)
theorem dX9_marks_27 : decode cX9_marks 27 = .ok (.iconst 1, 1) := dk_4 (dk_at dksX9_marks_1 3 rfl rfl)
theorem dX9_marks_28 : decode cX9_marks 28 = .ok (.isub, 1) := dk_100 (dk_at dksX9_marks_1 4 rfl rfl)
theorem dX9_marks_29 : decode cX9_marks 29 = .ok (.putfield 197, 3) := dk_181 0 197 (dk_at dksX9_marks_1 5 rfl rfl)
theorem dX9_marks_32 : decode cX9_marks 32 = .ok (.bipush 66, 2) := dk_16 66 (dk_at dksX9_marks_1 8 rfl rfl)
theorem dX9_marks_34 : decode cX9_marks 34 = .ok (.aload_n 0, 1) := dk_42 (dk_at dksX9_marks_1 10 rfl rfl)
theorem dX9_marks_35 : decode cX9_marks 35 = .ok (.getfield 230, 3) := dk_180 0 230 (dk_at dksX9_marks_1 11 rfl rfl)
theorem dX9_marks_38 : decode cX9_marks 38 = .ok (.aload_n 0, 1) := dk_42 (dk_at dksX9_marks_1 14 rfl rfl)
theorem dX9_marks_39 : decode cX9_marks 39 = .ok (.getfield 197, 3) := dk_180 0 197 (dk_at dksX9_marks_1 15 rfl rfl)
theorem dX9_marks_42 : decode cX9_marks 42 = .ok (.iadd, 1) := dk_96 (dk_at dksX9_marks_1 18 rfl rfl)
theorem dX9_marks_43 : decode cX9_marks 43 = .ok (.bipush 40, 2) := dk_16 40 (dk_at dksX9_marks_1 19 rfl rfl)
theorem dX9_marks_45 : decode cX9_marks 45 = .ok (.irem, 1) := dk_112 (dk_at dksX9_marks_1 21 rfl rfl)
theorem dX9_marks_46 : decode cX9_marks 46 = .ok (.imul, 1) := dk_104 (dk_at dksX9_marks_1 22 rfl rfl)
theorem dX9_marks_47 : decode cX9_marks 47 = .ok (.istore_n 1, 1) := dk_60 (dk_at dksX9_marks_1 23 rfl rfl)
theorem dX9_marks_48 : decode cX9_marks 48 = .ok (.iconst 0, 1) := dk_3 (dk_at dksX9_marks_2 0 rfl rfl)
theorem dX9_marks_49 : decode cX9_marks 49 = .ok (.istore_n 2, 1) := dk_61 (dk_at dksX9_marks_2 1 rfl rfl)
theorem dX9_marks_50 : decode cX9_marks 50 = .ok (.iload_n 2, 1) := dk_28 (dk_at dksX9_marks_2 2 rfl rfl)
theorem dX9_marks_51 : decode cX9_marks 51 = .ok (.bipush 66, 2) := dk_16 66 (dk_at dksX9_marks_2 3 rfl rfl)
theorem dX9_marks_53 : decode cX9_marks 53 = .ok (.if_icmp .ge 23, 3) := dk_162 0 23 (dk_at dksX9_marks_2 5 rfl rfl)
theorem dX9_marks_56 : decode cX9_marks 56 = .ok (.aload_n 0, 1) := dk_42 (dk_at dksX9_marks_2 8 rfl rfl)
theorem dX9_marks_57 : decode cX9_marks 57 = .ok (.getfield 46, 3) := dk_180 0 46 (dk_at dksX9_marks_2 9 rfl rfl)
theorem dX9_marks_60 : decode cX9_marks 60 = .ok (.iload_n 1, 1) := dk_27 (dk_at dksX9_marks_2 12 rfl rfl)
theorem dX9_marks_61 : decode cX9_marks 61 = .ok (.iload_n 2, 1) := dk_28 (dk_at dksX9_marks_2 13 rfl rfl)
theorem dX9_marks_62 : decode cX9_marks 62 = .ok (.iadd, 1) := dk_96 (dk_at dksX9_marks_2 14 rfl rfl)
theorem dX9_marks_63 : decode cX9_marks 63 = .ok (.aload_n 0, 1) := dk_42 (dk_at dksX9_marks_2 15 rfl rfl)
theorem dX9_marks_64 : decode cX9_marks 64 = .ok (.getfield 40, 3) := dk_180 0 40 (dk_at dksX9_marks_2 16 rfl rfl)
theorem dX9_marks_67 : decode cX9_marks 67 = .ok (.iload_n 2, 1) := dk_28 (dk_at dksX9_marks_2 19 rfl rfl)
theorem dX9_marks_68 : decode cX9_marks 68 = .ok (.iaload, 1) := dk_46 (dk_at dksX9_marks_2 20 rfl rfl)
theorem dX9_marks_69 : decode cX9_marks 69 = .ok (.iastore, 1) := dk_79 (dk_at dksX9_marks_2 21 rfl rfl)
theorem dX9_marks_70 : decode cX9_marks 70 = .ok (.iinc 2 1, 3) := dk_132 2 1 (dk_at dksX9_marks_3 0 rfl rfl)
theorem dX9_marks_73 : decode cX9_marks 73 = .ok (.goto (-23), 3) := dk_167 255 233 (dk_at dksX9_marks_3 3 rfl rfl)
theorem dX9_marks_76 : decode cX9_marks 76 = .ok (.aload_n 0, 1) := dk_42 (dk_at dksX9_marks_3 6 rfl rfl)
theorem dX9_marks_77 : decode cX9_marks 77 = .ok (.dup, 1) := dk_89 (dk_at dksX9_marks_3 7 rfl rfl)
theorem dX9_marks_78 : decode cX9_marks 78 = .ok (.getfield 197, 3) := dk_180 0 197 (dk_at dksX9_marks_3 8 rfl rfl)
theorem dX9_marks_81 : decode cX9_marks 81 = .ok (.iconst 1, 1) := dk_4 (dk_at dksX9_marks_3 11 rfl rfl)
theorem dX9_marks_82 : decode cX9_marks 82 = .ok (.iadd, 1) := dk_96 (dk_at dksX9_marks_3 12 rfl rfl)
theorem dX9_marks_83 : decode cX9_marks 83 = .ok (.putfield 197, 3) := dk_181 0 197 (dk_at dksX9_marks_3 13 rfl rfl)
theorem dX9_marks_86 : decode cX9_marks 86 = .ok (.return_, 1) := dk_177 (dk_at dksX9_marks_3 16 rfl rfl)
abbrev cX9_pull : ByteArray := prog_14_method_38_code
def yX9_pull : MethodName := ⟨RX9, "pull", "(II)Z"⟩
def dkwX9_pull_2 : List UInt8 := [3, 181, 0, 200, 4, 172]
abbrev dktX9_pull_2 : List UInt8 := dkwX9_pull_2 ++ []
def dkwX9_pull_1 : List UInt8 := [27, 96, 46, 28, 160, 0, 5, 3, 172, 42, 182, 0, 244, 42, 180, 0, 40, 16, 32, 27, 96, 28, 79, 42]
abbrev dktX9_pull_1 : List UInt8 := dkwX9_pull_1 ++ dktX9_pull_2
def dkwX9_pull_0 : List UInt8 := [42, 27, 182, 0, 233, 153, 0, 26, 28, 16, 253, 6, 184, 0, 213, 153, 0, 16, 42, 180, 0, 40, 16, 32]
abbrev dktX9_pull_0 : List UInt8 := dkwX9_pull_0 ++ dktX9_pull_1
theorem dksX9_pull_0 : cX9_pull.data.toList.drop 0 = dktX9_pull_0 := by decide +kernel
theorem dksX9_pull_1 : cX9_pull.data.toList.drop 24 = dktX9_pull_1 := dk_seg dksX9_pull_0 24 rfl rfl
theorem dksX9_pull_2 : cX9_pull.data.toList.drop 48 = dktX9_pull_2 := dk_seg dksX9_pull_1 24 rfl rfl
theorem dX9_pull_0 : decode cX9_pull 0 = .ok (.aload_n 0, 1) := dk_42 (dk_at dksX9_pull_0 0 rfl rfl)
theorem dX9_pull_1 : decode cX9_pull 1 = .ok (.iload_n 1, 1) := dk_27 (dk_at dksX9_pull_0 1 rfl rfl)
theorem dX9_pull_2 : decode cX9_pull 2 = .ok (.invokevirtual 233, 3) := dk_182 0 233 (dk_at dksX9_pull_0 2 rfl rfl)
theorem dX9_pull_5 : decode cX9_pull 5 = .ok (.ifCond .eq 26, 3) := dk_153 0 26 (dk_at dksX9_pull_0 5 rfl rfl)
theorem dX9_pull_8 : decode cX9_pull 8 = .ok (.iload_n 2, 1) := dk_28 (dk_at dksX9_pull_0 8 rfl rfl)
theorem dX9_pull_9 : decode cX9_pull 9 = .ok (.bipush (-3), 2) := dk_16 253 (dk_at dksX9_pull_0 9 rfl rfl)
theorem dX9_pull_11 : decode cX9_pull 11 = .ok (.iconst 3, 1) := dk_6 (dk_at dksX9_pull_0 11 rfl rfl)
theorem dX9_pull_12 : decode cX9_pull 12 = .ok (.invokestatic 213, 3) := dk_184 0 213 (dk_at dksX9_pull_0 12 rfl rfl)
theorem dX9_pull_15 : decode cX9_pull 15 = .ok (.ifCond .eq 16, 3) := dk_153 0 16 (dk_at dksX9_pull_0 15 rfl rfl)
theorem dX9_pull_18 : decode cX9_pull 18 = .ok (.aload_n 0, 1) := dk_42 (dk_at dksX9_pull_0 18 rfl rfl)
theorem dX9_pull_19 : decode cX9_pull 19 = .ok (.getfield 40, 3) := dk_180 0 40 (dk_at dksX9_pull_0 19 rfl rfl)
theorem dX9_pull_22 : decode cX9_pull 22 = .ok (.bipush 32, 2) := dk_16 32 (dk_at dksX9_pull_0 22 rfl rfl)
theorem dX9_pull_24 : decode cX9_pull 24 = .ok (.iload_n 1, 1) := dk_27 (dk_at dksX9_pull_1 0 rfl rfl)
theorem dX9_pull_25 : decode cX9_pull 25 = .ok (.iadd, 1) := dk_96 (dk_at dksX9_pull_1 1 rfl rfl)
theorem dX9_pull_26 : decode cX9_pull 26 = .ok (.iaload, 1) := dk_46 (dk_at dksX9_pull_1 2 rfl rfl)
theorem dX9_pull_27 : decode cX9_pull 27 = .ok (.iload_n 2, 1) := dk_28 (dk_at dksX9_pull_1 3 rfl rfl)
theorem dX9_pull_28 : decode cX9_pull 28 = .ok (.if_icmp .ne 5, 3) := dk_160 0 5 (dk_at dksX9_pull_1 4 rfl rfl)
theorem dX9_pull_31 : decode cX9_pull 31 = .ok (.iconst 0, 1) := dk_3 (dk_at dksX9_pull_1 7 rfl rfl)
theorem dX9_pull_32 : decode cX9_pull 32 = .ok (.ireturn, 1) := dk_172 (dk_at dksX9_pull_1 8 rfl rfl)
theorem dX9_pull_33 : decode cX9_pull 33 = .ok (.aload_n 0, 1) := dk_42 (dk_at dksX9_pull_1 9 rfl rfl)
theorem dX9_pull_34 : decode cX9_pull 34 = .ok (.invokevirtual 244, 3) := dk_182 0 244 (dk_at dksX9_pull_1 10 rfl rfl)
theorem dX9_pull_37 : decode cX9_pull 37 = .ok (.aload_n 0, 1) := dk_42 (dk_at dksX9_pull_1 13 rfl rfl)
theorem dX9_pull_38 : decode cX9_pull 38 = .ok (.getfield 40, 3) := dk_180 0 40 (dk_at dksX9_pull_1 14 rfl rfl)
theorem dX9_pull_41 : decode cX9_pull 41 = .ok (.bipush 32, 2) := dk_16 32 (dk_at dksX9_pull_1 17 rfl rfl)
theorem dX9_pull_43 : decode cX9_pull 43 = .ok (.iload_n 1, 1) := dk_27 (dk_at dksX9_pull_1 19 rfl rfl)
theorem dX9_pull_44 : decode cX9_pull 44 = .ok (.iadd, 1) := dk_96 (dk_at dksX9_pull_1 20 rfl rfl)
theorem dX9_pull_45 : decode cX9_pull 45 = .ok (.iload_n 2, 1) := dk_28 (dk_at dksX9_pull_1 21 rfl rfl)
theorem dX9_pull_46 : decode cX9_pull 46 = .ok (.iastore, 1) := dk_79 (dk_at dksX9_pull_1 22 rfl rfl)
theorem dX9_pull_47 : decode cX9_pull 47 = .ok (.aload_n 0, 1) := dk_42 (dk_at dksX9_pull_1 23 rfl rfl)
theorem dX9_pull_48 : decode cX9_pull 48 = .ok (.iconst 0, 1) := dk_3 (dk_at dksX9_pull_2 0 rfl rfl)
theorem dX9_pull_49 : decode cX9_pull 49 = .ok (.putfield 200, 3) := dk_181 0 200 (dk_at dksX9_pull_2 1 rfl rfl)
theorem dX9_pull_52 : decode cX9_pull 52 = .ok (.iconst 1, 1) := dk_4 (dk_at dksX9_pull_2 4 rfl rfl)
theorem dX9_pull_53 : decode cX9_pull 53 = .ok (.ireturn, 1) := dk_172 (dk_at dksX9_pull_2 5 rfl rfl)
abbrev cX9_pin : ByteArray := prog_14_method_39_code
def yX9_pin : MethodName := ⟨RX9, "pin", "(II)Z"⟩
def dkwX9_pin_3 : List UInt8 := [180, 0, 40, 16, 64, 92, 46, 4, 27, 120, 2, 130, 126, 79, 42, 3, 181, 0, 200, 4, 172]
abbrev dktX9_pin_3 : List UInt8 := dkwX9_pin_3 ++ []
def dkwX9_pin_2 : List UInt8 := [160, 0, 16, 42, 180, 0, 40, 16, 64, 92, 46, 4, 27, 120, 128, 79, 28, 5, 160, 0, 18, 42]
abbrev dktX9_pin_2 : List UInt8 := dkwX9_pin_2 ++ dktX9_pin_3
def dkwX9_pin_1 : List UInt8 := [96, 46, 28, 160, 0, 5, 3, 172, 42, 182, 0, 244, 42, 180, 0, 40, 16, 48, 27, 96, 28, 79, 28, 4]
abbrev dktX9_pin_1 : List UInt8 := dkwX9_pin_1 ++ dktX9_pin_2
def dkwX9_pin_0 : List UInt8 := [42, 27, 182, 0, 233, 153, 0, 25, 28, 3, 5, 184, 0, 213, 153, 0, 16, 42, 180, 0, 40, 16, 48, 27]
abbrev dktX9_pin_0 : List UInt8 := dkwX9_pin_0 ++ dktX9_pin_1
theorem dksX9_pin_0 : cX9_pin.data.toList.drop 0 = dktX9_pin_0 := by decide +kernel
theorem dksX9_pin_1 : cX9_pin.data.toList.drop 24 = dktX9_pin_1 := dk_seg dksX9_pin_0 24 rfl rfl
theorem dksX9_pin_2 : cX9_pin.data.toList.drop 48 = dktX9_pin_2 := dk_seg dksX9_pin_1 24 rfl rfl
theorem dksX9_pin_3 : cX9_pin.data.toList.drop 70 = dktX9_pin_3 := dk_seg dksX9_pin_2 22 rfl rfl
theorem dX9_pin_0 : decode cX9_pin 0 = .ok (.aload_n 0, 1) := dk_42 (dk_at dksX9_pin_0 0 rfl rfl)
theorem dX9_pin_1 : decode cX9_pin 1 = .ok (.iload_n 1, 1) := dk_27 (dk_at dksX9_pin_0 1 rfl rfl)
theorem dX9_pin_2 : decode cX9_pin 2 = .ok (.invokevirtual 233, 3) := dk_182 0 233 (dk_at dksX9_pin_0 2 rfl rfl)
theorem dX9_pin_5 : decode cX9_pin 5 = .ok (.ifCond .eq 25, 3) := dk_153 0 25 (dk_at dksX9_pin_0 5 rfl rfl)
theorem dX9_pin_8 : decode cX9_pin 8 = .ok (.iload_n 2, 1) := dk_28 (dk_at dksX9_pin_0 8 rfl rfl)
theorem dX9_pin_9 : decode cX9_pin 9 = .ok (.iconst 0, 1) := dk_3 (dk_at dksX9_pin_0 9 rfl rfl)
theorem dX9_pin_10 : decode cX9_pin 10 = .ok (.iconst 2, 1) := dk_5 (dk_at dksX9_pin_0 10 rfl rfl)
theorem dX9_pin_11 : decode cX9_pin 11 = .ok (.invokestatic 213, 3) := dk_184 0 213 (dk_at dksX9_pin_0 11 rfl rfl)
theorem dX9_pin_14 : decode cX9_pin 14 = .ok (.ifCond .eq 16, 3) := dk_153 0 16 (dk_at dksX9_pin_0 14 rfl rfl)
theorem dX9_pin_17 : decode cX9_pin 17 = .ok (.aload_n 0, 1) := dk_42 (dk_at dksX9_pin_0 17 rfl rfl)
theorem dX9_pin_18 : decode cX9_pin 18 = .ok (.getfield 40, 3) := dk_180 0 40 (dk_at dksX9_pin_0 18 rfl rfl)
theorem dX9_pin_21 : decode cX9_pin 21 = .ok (.bipush 48, 2) := dk_16 48 (dk_at dksX9_pin_0 21 rfl rfl)
theorem dX9_pin_23 : decode cX9_pin 23 = .ok (.iload_n 1, 1) := dk_27 (dk_at dksX9_pin_0 23 rfl rfl)
theorem dX9_pin_24 : decode cX9_pin 24 = .ok (.iadd, 1) := dk_96 (dk_at dksX9_pin_1 0 rfl rfl)
theorem dX9_pin_25 : decode cX9_pin 25 = .ok (.iaload, 1) := dk_46 (dk_at dksX9_pin_1 1 rfl rfl)
theorem dX9_pin_26 : decode cX9_pin 26 = .ok (.iload_n 2, 1) := dk_28 (dk_at dksX9_pin_1 2 rfl rfl)
theorem dX9_pin_27 : decode cX9_pin 27 = .ok (.if_icmp .ne 5, 3) := dk_160 0 5 (dk_at dksX9_pin_1 3 rfl rfl)
theorem dX9_pin_30 : decode cX9_pin 30 = .ok (.iconst 0, 1) := dk_3 (dk_at dksX9_pin_1 6 rfl rfl)
theorem dX9_pin_31 : decode cX9_pin 31 = .ok (.ireturn, 1) := dk_172 (dk_at dksX9_pin_1 7 rfl rfl)
theorem dX9_pin_32 : decode cX9_pin 32 = .ok (.aload_n 0, 1) := dk_42 (dk_at dksX9_pin_1 8 rfl rfl)
theorem dX9_pin_33 : decode cX9_pin 33 = .ok (.invokevirtual 244, 3) := dk_182 0 244 (dk_at dksX9_pin_1 9 rfl rfl)
theorem dX9_pin_36 : decode cX9_pin 36 = .ok (.aload_n 0, 1) := dk_42 (dk_at dksX9_pin_1 12 rfl rfl)
theorem dX9_pin_37 : decode cX9_pin 37 = .ok (.getfield 40, 3) := dk_180 0 40 (dk_at dksX9_pin_1 13 rfl rfl)
theorem dX9_pin_40 : decode cX9_pin 40 = .ok (.bipush 48, 2) := dk_16 48 (dk_at dksX9_pin_1 16 rfl rfl)
theorem dX9_pin_42 : decode cX9_pin 42 = .ok (.iload_n 1, 1) := dk_27 (dk_at dksX9_pin_1 18 rfl rfl)
theorem dX9_pin_43 : decode cX9_pin 43 = .ok (.iadd, 1) := dk_96 (dk_at dksX9_pin_1 19 rfl rfl)
theorem dX9_pin_44 : decode cX9_pin 44 = .ok (.iload_n 2, 1) := dk_28 (dk_at dksX9_pin_1 20 rfl rfl)
theorem dX9_pin_45 : decode cX9_pin 45 = .ok (.iastore, 1) := dk_79 (dk_at dksX9_pin_1 21 rfl rfl)
theorem dX9_pin_46 : decode cX9_pin 46 = .ok (.iload_n 2, 1) := dk_28 (dk_at dksX9_pin_1 22 rfl rfl)
theorem dX9_pin_47 : decode cX9_pin 47 = .ok (.iconst 1, 1) := dk_4 (dk_at dksX9_pin_1 23 rfl rfl)
theorem dX9_pin_48 : decode cX9_pin 48 = .ok (.if_icmp .ne 16, 3) := dk_160 0 16 (dk_at dksX9_pin_2 0 rfl rfl)
theorem dX9_pin_51 : decode cX9_pin 51 = .ok (.aload_n 0, 1) := dk_42 (dk_at dksX9_pin_2 3 rfl rfl)
theorem dX9_pin_52 : decode cX9_pin 52 = .ok (.getfield 40, 3) := dk_180 0 40 (dk_at dksX9_pin_2 4 rfl rfl)
theorem dX9_pin_55 : decode cX9_pin 55 = .ok (.bipush 64, 2) := dk_16 64 (dk_at dksX9_pin_2 7 rfl rfl)
theorem dX9_pin_57 : decode cX9_pin 57 = .ok (.dup2, 1) := dk_92 (dk_at dksX9_pin_2 9 rfl rfl)
theorem dX9_pin_58 : decode cX9_pin 58 = .ok (.iaload, 1) := dk_46 (dk_at dksX9_pin_2 10 rfl rfl)
theorem dX9_pin_59 : decode cX9_pin 59 = .ok (.iconst 1, 1) := dk_4 (dk_at dksX9_pin_2 11 rfl rfl)
theorem dX9_pin_60 : decode cX9_pin 60 = .ok (.iload_n 1, 1) := dk_27 (dk_at dksX9_pin_2 12 rfl rfl)
theorem dX9_pin_61 : decode cX9_pin 61 = .ok (.ishl, 1) := dk_120 (dk_at dksX9_pin_2 13 rfl rfl)
theorem dX9_pin_62 : decode cX9_pin 62 = .ok (.ior, 1) := dk_128 (dk_at dksX9_pin_2 14 rfl rfl)
theorem dX9_pin_63 : decode cX9_pin 63 = .ok (.iastore, 1) := dk_79 (dk_at dksX9_pin_2 15 rfl rfl)
theorem dX9_pin_64 : decode cX9_pin 64 = .ok (.iload_n 2, 1) := dk_28 (dk_at dksX9_pin_2 16 rfl rfl)
theorem dX9_pin_65 : decode cX9_pin 65 = .ok (.iconst 2, 1) := dk_5 (dk_at dksX9_pin_2 17 rfl rfl)
theorem dX9_pin_66 : decode cX9_pin 66 = .ok (.if_icmp .ne 18, 3) := dk_160 0 18 (dk_at dksX9_pin_2 18 rfl rfl)
theorem dX9_pin_69 : decode cX9_pin 69 = .ok (.aload_n 0, 1) := dk_42 (dk_at dksX9_pin_2 21 rfl rfl)
theorem dX9_pin_70 : decode cX9_pin 70 = .ok (.getfield 40, 3) := dk_180 0 40 (dk_at dksX9_pin_3 0 rfl rfl)
theorem dX9_pin_73 : decode cX9_pin 73 = .ok (.bipush 64, 2) := dk_16 64 (dk_at dksX9_pin_3 3 rfl rfl)
theorem dX9_pin_75 : decode cX9_pin 75 = .ok (.dup2, 1) := dk_92 (dk_at dksX9_pin_3 5 rfl rfl)
theorem dX9_pin_76 : decode cX9_pin 76 = .ok (.iaload, 1) := dk_46 (dk_at dksX9_pin_3 6 rfl rfl)
theorem dX9_pin_77 : decode cX9_pin 77 = .ok (.iconst 1, 1) := dk_4 (dk_at dksX9_pin_3 7 rfl rfl)
theorem dX9_pin_78 : decode cX9_pin 78 = .ok (.iload_n 1, 1) := dk_27 (dk_at dksX9_pin_3 8 rfl rfl)
theorem dX9_pin_79 : decode cX9_pin 79 = .ok (.ishl, 1) := dk_120 (dk_at dksX9_pin_3 9 rfl rfl)
theorem dX9_pin_80 : decode cX9_pin 80 = .ok (.iconst (-1), 1) := dk_2 (dk_at dksX9_pin_3 10 rfl rfl)
theorem dX9_pin_81 : decode cX9_pin 81 = .ok (.ixor, 1) := dk_130 (dk_at dksX9_pin_3 11 rfl rfl)
theorem dX9_pin_82 : decode cX9_pin 82 = .ok (.iand, 1) := dk_126 (dk_at dksX9_pin_3 12 rfl rfl)
theorem dX9_pin_83 : decode cX9_pin 83 = .ok (.iastore, 1) := dk_79 (dk_at dksX9_pin_3 13 rfl rfl)
theorem dX9_pin_84 : decode cX9_pin 84 = .ok (.aload_n 0, 1) := dk_42 (dk_at dksX9_pin_3 14 rfl rfl)
theorem dX9_pin_85 : decode cX9_pin 85 = .ok (.iconst 0, 1) := dk_3 (dk_at dksX9_pin_3 15 rfl rfl)
theorem dX9_pin_86 : decode cX9_pin 86 = .ok (.putfield 200, 3) := dk_181 0 200 (dk_at dksX9_pin_3 16 rfl rfl)
theorem dX9_pin_89 : decode cX9_pin 89 = .ok (.iconst 1, 1) := dk_4 (dk_at dksX9_pin_3 19 rfl rfl)
theorem dX9_pin_90 : decode cX9_pin 90 = .ok (.ireturn, 1) := dk_172 (dk_at dksX9_pin_3 20 rfl rfl)
abbrev cX9_glass : ByteArray := prog_14_method_41_code
def yX9_glass : MethodName := ⟨RX9, "glass", "(I)Z"⟩
def dkwX9_glass_6 : List UInt8 := [167, 255, 150, 42, 3, 181, 0, 200, 4, 172]
abbrev dktX9_glass_6 : List UInt8 := dkwX9_glass_6 ++ []
def dkwX9_glass_5 : List UInt8 := [20, 1, 1, 109, 20, 1, 3, 113, 10, 148, 154, 0, 7, 4, 167, 0, 4, 2, 79, 132, 4, 1]
abbrev dktX9_glass_5 : List UInt8 := dkwX9_glass_5 ++ dktX9_glass_6
def dkwX9_glass_4 : List UInt8 := [184, 0, 253, 65, 42, 180, 0, 40, 21, 5, 153, 0, 8, 16, 16, 167, 0, 4, 3, 21, 6, 96, 32]
abbrev dktX9_glass_4 : List UInt8 := dkwX9_glass_4 ++ dktX9_glass_5
def dkwX9_glass_3 : List UInt8 := [167, 0, 5, 21, 4, 54, 6, 42, 21, 6, 21, 5, 182, 0, 236, 156, 0, 6, 167, 0, 46, 32]
abbrev dktX9_glass_3 : List UInt8 := dkwX9_glass_3 ++ dktX9_glass_4
def dkwX9_glass_2 : List UInt8 := [161, 0, 7, 4, 167, 0, 4, 3, 54, 5, 21, 5, 153, 0, 13, 21, 4, 42, 182, 0, 193, 100]
abbrev dktX9_glass_2 : List UInt8 := dkwX9_glass_2 ++ dktX9_glass_3
def dkwX9_glass_1 : List UInt8 := [27, 133, 65, 3, 54, 4, 21, 4, 5, 42, 182, 0, 193, 104, 162, 0, 101, 21, 4, 42, 182, 0, 193]
abbrev dktX9_glass_1 : List UInt8 := dkwX9_glass_1 ++ dktX9_glass_2
def dkwX9_glass_0 : List UInt8 := [27, 3, 17, 39, 15, 184, 0, 213, 153, 0, 10, 42, 182, 0, 193, 154, 0, 5, 3, 172, 42, 182, 0, 244]
abbrev dktX9_glass_0 : List UInt8 := dkwX9_glass_0 ++ dktX9_glass_1
theorem dksX9_glass_0 : cX9_glass.data.toList.drop 0 = dktX9_glass_0 := by decide +kernel
theorem dksX9_glass_1 : cX9_glass.data.toList.drop 24 = dktX9_glass_1 := dk_seg dksX9_glass_0 24 rfl rfl
theorem dksX9_glass_2 : cX9_glass.data.toList.drop 47 = dktX9_glass_2 := dk_seg dksX9_glass_1 23 rfl rfl
theorem dksX9_glass_3 : cX9_glass.data.toList.drop 69 = dktX9_glass_3 := dk_seg dksX9_glass_2 22 rfl rfl
theorem dksX9_glass_4 : cX9_glass.data.toList.drop 91 = dktX9_glass_4 := dk_seg dksX9_glass_3 22 rfl rfl
theorem dksX9_glass_5 : cX9_glass.data.toList.drop 114 = dktX9_glass_5 := dk_seg dksX9_glass_4 23 rfl rfl
theorem dksX9_glass_6 : cX9_glass.data.toList.drop 136 = dktX9_glass_6 := dk_seg dksX9_glass_5 22 rfl rfl
theorem dX9_glass_0 : decode cX9_glass 0 = .ok (.iload_n 1, 1) := dk_27 (dk_at dksX9_glass_0 0 rfl rfl)
theorem dX9_glass_1 : decode cX9_glass 1 = .ok (.iconst 0, 1) := dk_3 (dk_at dksX9_glass_0 1 rfl rfl)
theorem dX9_glass_2 : decode cX9_glass 2 = .ok (.sipush 9999, 3) := dk_17 39 15 (dk_at dksX9_glass_0 2 rfl rfl)
theorem dX9_glass_5 : decode cX9_glass 5 = .ok (.invokestatic 213, 3) := dk_184 0 213 (dk_at dksX9_glass_0 5 rfl rfl)
theorem dX9_glass_8 : decode cX9_glass 8 = .ok (.ifCond .eq 10, 3) := dk_153 0 10 (dk_at dksX9_glass_0 8 rfl rfl)
theorem dX9_glass_11 : decode cX9_glass 11 = .ok (.aload_n 0, 1) := dk_42 (dk_at dksX9_glass_0 11 rfl rfl)
theorem dX9_glass_12 : decode cX9_glass 12 = .ok (.invokevirtual 193, 3) := dk_182 0 193 (dk_at dksX9_glass_0 12 rfl rfl)
theorem dX9_glass_15 : decode cX9_glass 15 = .ok (.ifCond .ne 5, 3) := dk_154 0 5 (dk_at dksX9_glass_0 15 rfl rfl)
theorem dX9_glass_18 : decode cX9_glass 18 = .ok (.iconst 0, 1) := dk_3 (dk_at dksX9_glass_0 18 rfl rfl)
theorem dX9_glass_19 : decode cX9_glass 19 = .ok (.ireturn, 1) := dk_172 (dk_at dksX9_glass_0 19 rfl rfl)
theorem dX9_glass_20 : decode cX9_glass 20 = .ok (.aload_n 0, 1) := dk_42 (dk_at dksX9_glass_0 20 rfl rfl)
theorem dX9_glass_21 : decode cX9_glass 21 = .ok (.invokevirtual 244, 3) := dk_182 0 244 (dk_at dksX9_glass_0 21 rfl rfl)
theorem dX9_glass_24 : decode cX9_glass 24 = .ok (.iload_n 1, 1) := dk_27 (dk_at dksX9_glass_1 0 rfl rfl)
theorem dX9_glass_25 : decode cX9_glass 25 = .ok (.i2l, 1) := dk_133 (dk_at dksX9_glass_1 1 rfl rfl)
theorem dX9_glass_26 : decode cX9_glass 26 = .ok (.lstore_n 2, 1) := dk_65 (dk_at dksX9_glass_1 2 rfl rfl)
theorem dX9_glass_27 : decode cX9_glass 27 = .ok (.iconst 0, 1) := dk_3 (dk_at dksX9_glass_1 3 rfl rfl)
theorem dX9_glass_28 : decode cX9_glass 28 = .ok (.istore 4, 2) := dk_54 4 (dk_at dksX9_glass_1 4 rfl rfl)
theorem dX9_glass_30 : decode cX9_glass 30 = .ok (.iload 4, 2) := dk_21 4 (dk_at dksX9_glass_1 6 rfl rfl)
theorem dX9_glass_32 : decode cX9_glass 32 = .ok (.iconst 2, 1) := dk_5 (dk_at dksX9_glass_1 8 rfl rfl)
theorem dX9_glass_33 : decode cX9_glass 33 = .ok (.aload_n 0, 1) := dk_42 (dk_at dksX9_glass_1 9 rfl rfl)
theorem dX9_glass_34 : decode cX9_glass 34 = .ok (.invokevirtual 193, 3) := dk_182 0 193 (dk_at dksX9_glass_1 10 rfl rfl)
theorem dX9_glass_37 : decode cX9_glass 37 = .ok (.imul, 1) := dk_104 (dk_at dksX9_glass_1 13 rfl rfl)
theorem dX9_glass_38 : decode cX9_glass 38 = .ok (.if_icmp .ge 101, 3) := dk_162 0 101 (dk_at dksX9_glass_1 14 rfl rfl)
theorem dX9_glass_41 : decode cX9_glass 41 = .ok (.iload 4, 2) := dk_21 4 (dk_at dksX9_glass_1 17 rfl rfl)
theorem dX9_glass_43 : decode cX9_glass 43 = .ok (.aload_n 0, 1) := dk_42 (dk_at dksX9_glass_1 19 rfl rfl)
theorem dX9_glass_44 : decode cX9_glass 44 = .ok (.invokevirtual 193, 3) := dk_182 0 193 (dk_at dksX9_glass_1 20 rfl rfl)
theorem dX9_glass_47 : decode cX9_glass 47 = .ok (.if_icmp .lt 7, 3) := dk_161 0 7 (dk_at dksX9_glass_2 0 rfl rfl)
theorem dX9_glass_50 : decode cX9_glass 50 = .ok (.iconst 1, 1) := dk_4 (dk_at dksX9_glass_2 3 rfl rfl)
theorem dX9_glass_51 : decode cX9_glass 51 = .ok (.goto 4, 3) := dk_167 0 4 (dk_at dksX9_glass_2 4 rfl rfl)
theorem dX9_glass_54 : decode cX9_glass 54 = .ok (.iconst 0, 1) := dk_3 (dk_at dksX9_glass_2 7 rfl rfl)
theorem dX9_glass_55 : decode cX9_glass 55 = .ok (.istore 5, 2) := dk_54 5 (dk_at dksX9_glass_2 8 rfl rfl)
theorem dX9_glass_57 : decode cX9_glass 57 = .ok (.iload 5, 2) := dk_21 5 (dk_at dksX9_glass_2 10 rfl rfl)
theorem dX9_glass_59 : decode cX9_glass 59 = .ok (.ifCond .eq 13, 3) := dk_153 0 13 (dk_at dksX9_glass_2 12 rfl rfl)
theorem dX9_glass_62 : decode cX9_glass 62 = .ok (.iload 4, 2) := dk_21 4 (dk_at dksX9_glass_2 15 rfl rfl)
theorem dX9_glass_64 : decode cX9_glass 64 = .ok (.aload_n 0, 1) := dk_42 (dk_at dksX9_glass_2 17 rfl rfl)
theorem dX9_glass_65 : decode cX9_glass 65 = .ok (.invokevirtual 193, 3) := dk_182 0 193 (dk_at dksX9_glass_2 18 rfl rfl)
theorem dX9_glass_68 : decode cX9_glass 68 = .ok (.isub, 1) := dk_100 (dk_at dksX9_glass_2 21 rfl rfl)
theorem dX9_glass_69 : decode cX9_glass 69 = .ok (.goto 5, 3) := dk_167 0 5 (dk_at dksX9_glass_3 0 rfl rfl)
theorem dX9_glass_72 : decode cX9_glass 72 = .ok (.iload 4, 2) := dk_21 4 (dk_at dksX9_glass_3 3 rfl rfl)
theorem dX9_glass_74 : decode cX9_glass 74 = .ok (.istore 6, 2) := dk_54 6 (dk_at dksX9_glass_3 5 rfl rfl)
theorem dX9_glass_76 : decode cX9_glass 76 = .ok (.aload_n 0, 1) := dk_42 (dk_at dksX9_glass_3 7 rfl rfl)
theorem dX9_glass_77 : decode cX9_glass 77 = .ok (.iload 6, 2) := dk_21 6 (dk_at dksX9_glass_3 8 rfl rfl)
theorem dX9_glass_79 : decode cX9_glass 79 = .ok (.iload 5, 2) := dk_21 5 (dk_at dksX9_glass_3 10 rfl rfl)
theorem dX9_glass_81 : decode cX9_glass 81 = .ok (.invokevirtual 236, 3) := dk_182 0 236 (dk_at dksX9_glass_3 12 rfl rfl)
theorem dX9_glass_84 : decode cX9_glass 84 = .ok (.ifCond .ge 6, 3) := dk_156 0 6 (dk_at dksX9_glass_3 15 rfl rfl)
theorem dX9_glass_87 : decode cX9_glass 87 = .ok (.goto 46, 3) := dk_167 0 46 (dk_at dksX9_glass_3 18 rfl rfl)
theorem dX9_glass_90 : decode cX9_glass 90 = .ok (.lload_n 2, 1) := dk_32 (dk_at dksX9_glass_3 21 rfl rfl)
theorem dX9_glass_91 : decode cX9_glass 91 = .ok (.invokestatic 253, 3) := dk_184 0 253 (dk_at dksX9_glass_4 0 rfl rfl)
theorem dX9_glass_94 : decode cX9_glass 94 = .ok (.lstore_n 2, 1) := dk_65 (dk_at dksX9_glass_4 3 rfl rfl)
theorem dX9_glass_95 : decode cX9_glass 95 = .ok (.aload_n 0, 1) := dk_42 (dk_at dksX9_glass_4 4 rfl rfl)
theorem dX9_glass_96 : decode cX9_glass 96 = .ok (.getfield 40, 3) := dk_180 0 40 (dk_at dksX9_glass_4 5 rfl rfl)
theorem dX9_glass_99 : decode cX9_glass 99 = .ok (.iload 5, 2) := dk_21 5 (dk_at dksX9_glass_4 8 rfl rfl)
theorem dX9_glass_101 : decode cX9_glass 101 = .ok (.ifCond .eq 8, 3) := dk_153 0 8 (dk_at dksX9_glass_4 10 rfl rfl)
theorem dX9_glass_104 : decode cX9_glass 104 = .ok (.bipush 16, 2) := dk_16 16 (dk_at dksX9_glass_4 13 rfl rfl)
theorem dX9_glass_106 : decode cX9_glass 106 = .ok (.goto 4, 3) := dk_167 0 4 (dk_at dksX9_glass_4 15 rfl rfl)
theorem dX9_glass_109 : decode cX9_glass 109 = .ok (.iconst 0, 1) := dk_3 (dk_at dksX9_glass_4 18 rfl rfl)
theorem dX9_glass_110 : decode cX9_glass 110 = .ok (.iload 6, 2) := dk_21 6 (dk_at dksX9_glass_4 19 rfl rfl)
theorem dX9_glass_112 : decode cX9_glass 112 = .ok (.iadd, 1) := dk_96 (dk_at dksX9_glass_4 21 rfl rfl)
theorem dX9_glass_113 : decode cX9_glass 113 = .ok (.lload_n 2, 1) := dk_32 (dk_at dksX9_glass_4 22 rfl rfl)
theorem dX9_glass_114 : decode cX9_glass 114 = .ok (.ldc2_w 257, 3) := dk_20 1 1 (dk_at dksX9_glass_5 0 rfl rfl)
theorem dX9_glass_117 : decode cX9_glass 117 = .ok (.ldiv, 1) := dk_109 (dk_at dksX9_glass_5 3 rfl rfl)
theorem dX9_glass_118 : decode cX9_glass 118 = .ok (.ldc2_w 259, 3) := dk_20 1 3 (dk_at dksX9_glass_5 4 rfl rfl)
theorem dX9_glass_121 : decode cX9_glass 121 = .ok (.lrem, 1) := dk_113 (dk_at dksX9_glass_5 7 rfl rfl)
theorem dX9_glass_122 : decode cX9_glass 122 = .ok (.lconst 1, 1) := dk_10 (dk_at dksX9_glass_5 8 rfl rfl)
theorem dX9_glass_123 : decode cX9_glass 123 = .ok (.lcmp, 1) := dk_148 (dk_at dksX9_glass_5 9 rfl rfl)
theorem dX9_glass_124 : decode cX9_glass 124 = .ok (.ifCond .ne 7, 3) := dk_154 0 7 (dk_at dksX9_glass_5 10 rfl rfl)
theorem dX9_glass_127 : decode cX9_glass 127 = .ok (.iconst 1, 1) := dk_4 (dk_at dksX9_glass_5 13 rfl rfl)
theorem dX9_glass_128 : decode cX9_glass 128 = .ok (.goto 4, 3) := dk_167 0 4 (dk_at dksX9_glass_5 14 rfl rfl)
theorem dX9_glass_131 : decode cX9_glass 131 = .ok (.iconst (-1), 1) := dk_2 (dk_at dksX9_glass_5 17 rfl rfl)
theorem dX9_glass_132 : decode cX9_glass 132 = .ok (.iastore, 1) := dk_79 (dk_at dksX9_glass_5 18 rfl rfl)
theorem dX9_glass_133 : decode cX9_glass 133 = .ok (.iinc 4 1, 3) := dk_132 4 1 (dk_at dksX9_glass_5 19 rfl rfl)
theorem dX9_glass_136 : decode cX9_glass 136 = .ok (.goto (-106), 3) := dk_167 255 150 (dk_at dksX9_glass_6 0 rfl rfl)
theorem dX9_glass_139 : decode cX9_glass 139 = .ok (.aload_n 0, 1) := dk_42 (dk_at dksX9_glass_6 3 rfl rfl)
theorem dX9_glass_140 : decode cX9_glass 140 = .ok (.iconst 0, 1) := dk_3 (dk_at dksX9_glass_6 4 rfl rfl)
theorem dX9_glass_141 : decode cX9_glass 141 = .ok (.putfield 200, 3) := dk_181 0 200 (dk_at dksX9_glass_6 5 rfl rfl)
theorem dX9_glass_144 : decode cX9_glass 144 = .ok (.iconst 1, 1) := dk_4 (dk_at dksX9_glass_6 8 rfl rfl)
theorem dX9_glass_145 : decode cX9_glass 145 = .ok (.ireturn, 1) := dk_172 (dk_at dksX9_glass_6 9 rfl rfl)
abbrev cX9_nextOf : ByteArray := prog_14_method_40_code
def yX9_nextOf : MethodName := ⟨RX9, "nextOf", "(J)J"⟩
def dkwX9_nextOf_0 : List UInt8 := [30, 20, 0, 247, 105, 20, 0, 249, 97, 20, 0, 251, 113, 173]
abbrev dktX9_nextOf_0 : List UInt8 := dkwX9_nextOf_0 ++ []
theorem dksX9_nextOf_0 : cX9_nextOf.data.toList.drop 0 = dktX9_nextOf_0 := by decide +kernel
theorem dX9_nextOf_0 : decode cX9_nextOf 0 = .ok (.lload_n 0, 1) := dk_30 (dk_at dksX9_nextOf_0 0 rfl rfl)
theorem dX9_nextOf_1 : decode cX9_nextOf 1 = .ok (.ldc2_w 247, 3) := dk_20 0 247 (dk_at dksX9_nextOf_0 1 rfl rfl)
theorem dX9_nextOf_4 : decode cX9_nextOf 4 = .ok (.lmul, 1) := dk_105 (dk_at dksX9_nextOf_0 4 rfl rfl)
theorem dX9_nextOf_5 : decode cX9_nextOf 5 = .ok (.ldc2_w 249, 3) := dk_20 0 249 (dk_at dksX9_nextOf_0 5 rfl rfl)
theorem dX9_nextOf_8 : decode cX9_nextOf 8 = .ok (.ladd, 1) := dk_97 (dk_at dksX9_nextOf_0 8 rfl rfl)
theorem dX9_nextOf_9 : decode cX9_nextOf 9 = .ok (.ldc2_w 251, 3) := dk_20 0 251 (dk_at dksX9_nextOf_0 9 rfl rfl)
theorem dX9_nextOf_12 : decode cX9_nextOf 12 = .ok (.lrem, 1) := dk_113 (dk_at dksX9_nextOf_0 12 rfl rfl)
theorem dX9_nextOf_13 : decode cX9_nextOf 13 = .ok (.lreturn, 1) := dk_173 (dk_at dksX9_nextOf_0 13 rfl rfl)
abbrev cX9_turn : ByteArray := prog_14_method_42_code
def yX9_turn : MethodName := ⟨RX9, "turn", "(I)Z"⟩
def dkwX9_turn_1 : List UInt8 := [182, 0, 244, 42, 180, 0, 40, 16, 64, 92, 46, 4, 27, 120, 130, 79, 4, 172]
abbrev dktX9_turn_1 : List UInt8 := dkwX9_turn_1 ++ []
def dkwX9_turn_0 : List UInt8 := [42, 27, 182, 0, 233, 153, 0, 15, 42, 180, 0, 40, 16, 48, 27, 96, 46, 158, 0, 5, 3, 172, 42]
abbrev dktX9_turn_0 : List UInt8 := dkwX9_turn_0 ++ dktX9_turn_1
theorem dksX9_turn_0 : cX9_turn.data.toList.drop 0 = dktX9_turn_0 := by decide +kernel
theorem dksX9_turn_1 : cX9_turn.data.toList.drop 23 = dktX9_turn_1 := dk_seg dksX9_turn_0 23 rfl rfl
theorem dX9_turn_0 : decode cX9_turn 0 = .ok (.aload_n 0, 1) := dk_42 (dk_at dksX9_turn_0 0 rfl rfl)
theorem dX9_turn_1 : decode cX9_turn 1 = .ok (.iload_n 1, 1) := dk_27 (dk_at dksX9_turn_0 1 rfl rfl)
theorem dX9_turn_2 : decode cX9_turn 2 = .ok (.invokevirtual 233, 3) := dk_182 0 233 (dk_at dksX9_turn_0 2 rfl rfl)
theorem dX9_turn_5 : decode cX9_turn 5 = .ok (.ifCond .eq 15, 3) := dk_153 0 15 (dk_at dksX9_turn_0 5 rfl rfl)
theorem dX9_turn_8 : decode cX9_turn 8 = .ok (.aload_n 0, 1) := dk_42 (dk_at dksX9_turn_0 8 rfl rfl)
theorem dX9_turn_9 : decode cX9_turn 9 = .ok (.getfield 40, 3) := dk_180 0 40 (dk_at dksX9_turn_0 9 rfl rfl)
theorem dX9_turn_12 : decode cX9_turn 12 = .ok (.bipush 48, 2) := dk_16 48 (dk_at dksX9_turn_0 12 rfl rfl)
theorem dX9_turn_14 : decode cX9_turn 14 = .ok (.iload_n 1, 1) := dk_27 (dk_at dksX9_turn_0 14 rfl rfl)
theorem dX9_turn_15 : decode cX9_turn 15 = .ok (.iadd, 1) := dk_96 (dk_at dksX9_turn_0 15 rfl rfl)
theorem dX9_turn_16 : decode cX9_turn 16 = .ok (.iaload, 1) := dk_46 (dk_at dksX9_turn_0 16 rfl rfl)
theorem dX9_turn_17 : decode cX9_turn 17 = .ok (.ifCond .le 5, 3) := dk_158 0 5 (dk_at dksX9_turn_0 17 rfl rfl)
theorem dX9_turn_20 : decode cX9_turn 20 = .ok (.iconst 0, 1) := dk_3 (dk_at dksX9_turn_0 20 rfl rfl)
theorem dX9_turn_21 : decode cX9_turn 21 = .ok (.ireturn, 1) := dk_172 (dk_at dksX9_turn_0 21 rfl rfl)
theorem dX9_turn_22 : decode cX9_turn 22 = .ok (.aload_n 0, 1) := dk_42 (dk_at dksX9_turn_0 22 rfl rfl)
theorem dX9_turn_23 : decode cX9_turn 23 = .ok (.invokevirtual 244, 3) := dk_182 0 244 (dk_at dksX9_turn_1 0 rfl rfl)
theorem dX9_turn_26 : decode cX9_turn 26 = .ok (.aload_n 0, 1) := dk_42 (dk_at dksX9_turn_1 3 rfl rfl)
theorem dX9_turn_27 : decode cX9_turn 27 = .ok (.getfield 40, 3) := dk_180 0 40 (dk_at dksX9_turn_1 4 rfl rfl)
theorem dX9_turn_30 : decode cX9_turn 30 = .ok (.bipush 64, 2) := dk_16 64 (dk_at dksX9_turn_1 7 rfl rfl)
theorem dX9_turn_32 : decode cX9_turn 32 = .ok (.dup2, 1) := dk_92 (dk_at dksX9_turn_1 9 rfl rfl)
theorem dX9_turn_33 : decode cX9_turn 33 = .ok (.iaload, 1) := dk_46 (dk_at dksX9_turn_1 10 rfl rfl)
theorem dX9_turn_34 : decode cX9_turn 34 = .ok (.iconst 1, 1) := dk_4 (dk_at dksX9_turn_1 11 rfl rfl)
theorem dX9_turn_35 : decode cX9_turn 35 = .ok (.iload_n 1, 1) := dk_27 (dk_at dksX9_turn_1 12 rfl rfl)
theorem dX9_turn_36 : decode cX9_turn 36 = .ok (.ishl, 1) := dk_120 (dk_at dksX9_turn_1 13 rfl rfl)
theorem dX9_turn_37 : decode cX9_turn 37 = .ok (.ixor, 1) := dk_130 (dk_at dksX9_turn_1 14 rfl rfl)
theorem dX9_turn_38 : decode cX9_turn 38 = .ok (.iastore, 1) := dk_79 (dk_at dksX9_turn_1 15 rfl rfl)
theorem dX9_turn_39 : decode cX9_turn 39 = .ok (.iconst 1, 1) := dk_4 (dk_at dksX9_turn_1 16 rfl rfl)
theorem dX9_turn_40 : decode cX9_turn 40 = .ok (.ireturn, 1) := dk_172 (dk_at dksX9_turn_1 17 rfl rfl)
abbrev cX9_fall : ByteArray := prog_14_method_43_code
def yX9_fall : MethodName := ⟨RX9, "fall", "()I"⟩
def dkwX9_fall_2 : List UInt8 := [46, 182, 1, 11, 79, 27, 172]
abbrev dktX9_fall_2 : List UInt8 := dkwX9_fall_2 ++ []
def dkwX9_fall_1 : List UInt8 := [60, 27, 154, 0, 5, 3, 172, 42, 182, 0, 244, 42, 180, 0, 40, 16, 64, 42, 42, 180, 0, 40, 16, 64]
abbrev dktX9_fall_1 : List UInt8 := dkwX9_fall_1 ++ dktX9_fall_2
def dkwX9_fall_0 : List UInt8 := [42, 182, 0, 193, 154, 0, 5, 2, 172, 42, 182, 1, 5, 42, 42, 180, 0, 40, 16, 64, 46, 182, 1, 8]
abbrev dktX9_fall_0 : List UInt8 := dkwX9_fall_0 ++ dktX9_fall_1
theorem dksX9_fall_0 : cX9_fall.data.toList.drop 0 = dktX9_fall_0 := by decide +kernel
theorem dksX9_fall_1 : cX9_fall.data.toList.drop 24 = dktX9_fall_1 := dk_seg dksX9_fall_0 24 rfl rfl
theorem dksX9_fall_2 : cX9_fall.data.toList.drop 48 = dktX9_fall_2 := dk_seg dksX9_fall_1 24 rfl rfl
theorem dX9_fall_0 : decode cX9_fall 0 = .ok (.aload_n 0, 1) := dk_42 (dk_at dksX9_fall_0 0 rfl rfl)
theorem dX9_fall_1 : decode cX9_fall 1 = .ok (.invokevirtual 193, 3) := dk_182 0 193 (dk_at dksX9_fall_0 1 rfl rfl)
theorem dX9_fall_4 : decode cX9_fall 4 = .ok (.ifCond .ne 5, 3) := dk_154 0 5 (dk_at dksX9_fall_0 4 rfl rfl)
theorem dX9_fall_7 : decode cX9_fall 7 = .ok (.iconst (-1), 1) := dk_2 (dk_at dksX9_fall_0 7 rfl rfl)
theorem dX9_fall_8 : decode cX9_fall 8 = .ok (.ireturn, 1) := dk_172 (dk_at dksX9_fall_0 8 rfl rfl)
theorem dX9_fall_9 : decode cX9_fall 9 = .ok (.aload_n 0, 1) := dk_42 (dk_at dksX9_fall_0 9 rfl rfl)
theorem dX9_fall_10 : decode cX9_fall 10 = .ok (.invokevirtual 261, 3) := dk_182 1 5 (dk_at dksX9_fall_0 10 rfl rfl)
theorem dX9_fall_13 : decode cX9_fall 13 = .ok (.aload_n 0, 1) := dk_42 (dk_at dksX9_fall_0 13 rfl rfl)
theorem dX9_fall_14 : decode cX9_fall 14 = .ok (.aload_n 0, 1) := dk_42 (dk_at dksX9_fall_0 14 rfl rfl)
theorem dX9_fall_15 : decode cX9_fall 15 = .ok (.getfield 40, 3) := dk_180 0 40 (dk_at dksX9_fall_0 15 rfl rfl)
theorem dX9_fall_18 : decode cX9_fall 18 = .ok (.bipush 64, 2) := dk_16 64 (dk_at dksX9_fall_0 18 rfl rfl)
theorem dX9_fall_20 : decode cX9_fall 20 = .ok (.iaload, 1) := dk_46 (dk_at dksX9_fall_0 20 rfl rfl)
theorem dX9_fall_21 : decode cX9_fall 21 = .ok (.invokevirtual 264, 3) := dk_182 1 8 (dk_at dksX9_fall_0 21 rfl rfl)
theorem dX9_fall_24 : decode cX9_fall 24 = .ok (.istore_n 1, 1) := dk_60 (dk_at dksX9_fall_1 0 rfl rfl)
theorem dX9_fall_25 : decode cX9_fall 25 = .ok (.iload_n 1, 1) := dk_27 (dk_at dksX9_fall_1 1 rfl rfl)
theorem dX9_fall_26 : decode cX9_fall 26 = .ok (.ifCond .ne 5, 3) := dk_154 0 5 (dk_at dksX9_fall_1 2 rfl rfl)
theorem dX9_fall_29 : decode cX9_fall 29 = .ok (.iconst 0, 1) := dk_3 (dk_at dksX9_fall_1 5 rfl rfl)
theorem dX9_fall_30 : decode cX9_fall 30 = .ok (.ireturn, 1) := dk_172 (dk_at dksX9_fall_1 6 rfl rfl)
theorem dX9_fall_31 : decode cX9_fall 31 = .ok (.aload_n 0, 1) := dk_42 (dk_at dksX9_fall_1 7 rfl rfl)
theorem dX9_fall_32 : decode cX9_fall 32 = .ok (.invokevirtual 244, 3) := dk_182 0 244 (dk_at dksX9_fall_1 8 rfl rfl)
theorem dX9_fall_35 : decode cX9_fall 35 = .ok (.aload_n 0, 1) := dk_42 (dk_at dksX9_fall_1 11 rfl rfl)
theorem dX9_fall_36 : decode cX9_fall 36 = .ok (.getfield 40, 3) := dk_180 0 40 (dk_at dksX9_fall_1 12 rfl rfl)
theorem dX9_fall_39 : decode cX9_fall 39 = .ok (.bipush 64, 2) := dk_16 64 (dk_at dksX9_fall_1 15 rfl rfl)
theorem dX9_fall_41 : decode cX9_fall 41 = .ok (.aload_n 0, 1) := dk_42 (dk_at dksX9_fall_1 17 rfl rfl)
theorem dX9_fall_42 : decode cX9_fall 42 = .ok (.aload_n 0, 1) := dk_42 (dk_at dksX9_fall_1 18 rfl rfl)
theorem dX9_fall_43 : decode cX9_fall 43 = .ok (.getfield 40, 3) := dk_180 0 40 (dk_at dksX9_fall_1 19 rfl rfl)
theorem dX9_fall_46 : decode cX9_fall 46 = .ok (.bipush 64, 2) := dk_16 64 (dk_at dksX9_fall_1 22 rfl rfl)
theorem dX9_fall_48 : decode cX9_fall 48 = .ok (.iaload, 1) := dk_46 (dk_at dksX9_fall_2 0 rfl rfl)
theorem dX9_fall_49 : decode cX9_fall 49 = .ok (.invokevirtual 267, 3) := dk_182 1 11 (dk_at dksX9_fall_2 1 rfl rfl)
theorem dX9_fall_52 : decode cX9_fall 52 = .ok (.iastore, 1) := dk_79 (dk_at dksX9_fall_2 4 rfl rfl)
theorem dX9_fall_53 : decode cX9_fall 53 = .ok (.iload_n 1, 1) := dk_27 (dk_at dksX9_fall_2 5 rfl rfl)
theorem dX9_fall_54 : decode cX9_fall 54 = .ok (.ireturn, 1) := dk_172 (dk_at dksX9_fall_2 6 rfl rfl)
abbrev cX9_knows : ByteArray := prog_14_method_52_code
def yX9_knows : MethodName := ⟨RX9, "knows", "()V"⟩
def dkwX9_knows_7 : List UInt8 := [181, 1, 29, 132, 1, 1, 167, 255, 210, 177]
abbrev dktX9_knows_7 : List UInt8 := dkwX9_knows_7 ++ []
def dkwX9_knows_6 : List UInt8 := [167, 0, 27, 42, 180, 0, 63, 42, 180, 1, 29, 27, 17, 0, 150, 100, 79, 42, 89, 180, 1, 29, 4, 96]
abbrev dktX9_knows_6 : List UInt8 := dkwX9_knows_6 ++ dktX9_knows_7
def dkwX9_knows_5 : List UInt8 := [42, 3, 181, 1, 29, 3, 60, 27, 17, 1, 45, 162, 0, 45, 42, 180, 0, 60, 27, 46, 154, 0, 6]
abbrev dktX9_knows_5 : List UInt8 := dkwX9_knows_5 ++ dktX9_knows_6
def dkwX9_knows_4 : List UInt8 := [180, 0, 60, 17, 0, 150, 42, 180, 0, 57, 27, 46, 96, 92, 46, 4, 96, 79, 132, 1, 1, 167, 255, 181]
abbrev dktX9_knows_4 : List UInt8 := dkwX9_knows_4 ++ dktX9_knows_5
def dkwX9_knows_3 : List UInt8 := [182, 1, 21, 167, 0, 6, 19, 1, 28, 79, 42, 180, 0, 57, 27, 46, 19, 1, 28, 162, 0, 22, 42]
abbrev dktX9_knows_3 : List UInt8 := dkwX9_knows_3 ++ dktX9_knows_4
def dkwX9_knows_2 : List UInt8 := [180, 0, 57, 27, 42, 27, 182, 1, 25, 153, 0, 19, 42, 42, 180, 0, 40, 27, 42, 180, 0, 177]
abbrev dktX9_knows_2 : List UInt8 := dkwX9_knows_2 ++ dktX9_knows_3
def dkwX9_knows_1 : List UInt8 := [180, 0, 60, 27, 3, 79, 132, 1, 1, 167, 255, 239, 3, 60, 27, 42, 182, 1, 14, 162, 0, 73, 42]
abbrev dktX9_knows_1 : List UInt8 := dkwX9_knows_1 ++ dktX9_knows_2
def dkwX9_knows_0 : List UInt8 := [42, 180, 0, 200, 153, 0, 4, 177, 42, 4, 181, 0, 200, 3, 60, 27, 17, 1, 45, 162, 0, 16, 42]
abbrev dktX9_knows_0 : List UInt8 := dkwX9_knows_0 ++ dktX9_knows_1
theorem dksX9_knows_0 : cX9_knows.data.toList.drop 0 = dktX9_knows_0 := by decide +kernel
theorem dksX9_knows_1 : cX9_knows.data.toList.drop 23 = dktX9_knows_1 := dk_seg dksX9_knows_0 23 rfl rfl
theorem dksX9_knows_2 : cX9_knows.data.toList.drop 46 = dktX9_knows_2 := dk_seg dksX9_knows_1 23 rfl rfl
theorem dksX9_knows_3 : cX9_knows.data.toList.drop 68 = dktX9_knows_3 := dk_seg dksX9_knows_2 22 rfl rfl
theorem dksX9_knows_4 : cX9_knows.data.toList.drop 91 = dktX9_knows_4 := dk_seg dksX9_knows_3 23 rfl rfl
theorem dksX9_knows_5 : cX9_knows.data.toList.drop 115 = dktX9_knows_5 := dk_seg dksX9_knows_4 24 rfl rfl
theorem dksX9_knows_6 : cX9_knows.data.toList.drop 138 = dktX9_knows_6 := dk_seg dksX9_knows_5 23 rfl rfl
theorem dksX9_knows_7 : cX9_knows.data.toList.drop 162 = dktX9_knows_7 := dk_seg dksX9_knows_6 24 rfl rfl
theorem dX9_knows_0 : decode cX9_knows 0 = .ok (.aload_n 0, 1) := dk_42 (dk_at dksX9_knows_0 0 rfl rfl)
theorem dX9_knows_1 : decode cX9_knows 1 = .ok (.getfield 200, 3) := dk_180 0 200 (dk_at dksX9_knows_0 1 rfl rfl)
theorem dX9_knows_4 : decode cX9_knows 4 = .ok (.ifCond .eq 4, 3) := dk_153 0 4 (dk_at dksX9_knows_0 4 rfl rfl)
theorem dX9_knows_7 : decode cX9_knows 7 = .ok (.return_, 1) := dk_177 (dk_at dksX9_knows_0 7 rfl rfl)
theorem dX9_knows_8 : decode cX9_knows 8 = .ok (.aload_n 0, 1) := dk_42 (dk_at dksX9_knows_0 8 rfl rfl)
theorem dX9_knows_9 : decode cX9_knows 9 = .ok (.iconst 1, 1) := dk_4 (dk_at dksX9_knows_0 9 rfl rfl)
theorem dX9_knows_10 : decode cX9_knows 10 = .ok (.putfield 200, 3) := dk_181 0 200 (dk_at dksX9_knows_0 10 rfl rfl)
theorem dX9_knows_13 : decode cX9_knows 13 = .ok (.iconst 0, 1) := dk_3 (dk_at dksX9_knows_0 13 rfl rfl)
theorem dX9_knows_14 : decode cX9_knows 14 = .ok (.istore_n 1, 1) := dk_60 (dk_at dksX9_knows_0 14 rfl rfl)
theorem dX9_knows_15 : decode cX9_knows 15 = .ok (.iload_n 1, 1) := dk_27 (dk_at dksX9_knows_0 15 rfl rfl)
theorem dX9_knows_16 : decode cX9_knows 16 = .ok (.sipush 301, 3) := dk_17 1 45 (dk_at dksX9_knows_0 16 rfl rfl)
theorem dX9_knows_19 : decode cX9_knows 19 = .ok (.if_icmp .ge 16, 3) := dk_162 0 16 (dk_at dksX9_knows_0 19 rfl rfl)
theorem dX9_knows_22 : decode cX9_knows 22 = .ok (.aload_n 0, 1) := dk_42 (dk_at dksX9_knows_0 22 rfl rfl)
theorem dX9_knows_23 : decode cX9_knows 23 = .ok (.getfield 60, 3) := dk_180 0 60 (dk_at dksX9_knows_1 0 rfl rfl)
theorem dX9_knows_26 : decode cX9_knows 26 = .ok (.iload_n 1, 1) := dk_27 (dk_at dksX9_knows_1 3 rfl rfl)
theorem dX9_knows_27 : decode cX9_knows 27 = .ok (.iconst 0, 1) := dk_3 (dk_at dksX9_knows_1 4 rfl rfl)
theorem dX9_knows_28 : decode cX9_knows 28 = .ok (.iastore, 1) := dk_79 (dk_at dksX9_knows_1 5 rfl rfl)
theorem dX9_knows_29 : decode cX9_knows 29 = .ok (.iinc 1 1, 3) := dk_132 1 1 (dk_at dksX9_knows_1 6 rfl rfl)
theorem dX9_knows_32 : decode cX9_knows 32 = .ok (.goto (-17), 3) := dk_167 255 239 (dk_at dksX9_knows_1 9 rfl rfl)
theorem dX9_knows_35 : decode cX9_knows 35 = .ok (.iconst 0, 1) := dk_3 (dk_at dksX9_knows_1 12 rfl rfl)
theorem dX9_knows_36 : decode cX9_knows 36 = .ok (.istore_n 1, 1) := dk_60 (dk_at dksX9_knows_1 13 rfl rfl)
theorem dX9_knows_37 : decode cX9_knows 37 = .ok (.iload_n 1, 1) := dk_27 (dk_at dksX9_knows_1 14 rfl rfl)
theorem dX9_knows_38 : decode cX9_knows 38 = .ok (.aload_n 0, 1) := dk_42 (dk_at dksX9_knows_1 15 rfl rfl)
theorem dX9_knows_39 : decode cX9_knows 39 = .ok (.invokevirtual 270, 3) := dk_182 1 14 (dk_at dksX9_knows_1 16 rfl rfl)
theorem dX9_knows_42 : decode cX9_knows 42 = .ok (.if_icmp .ge 73, 3) := dk_162 0 73 (dk_at dksX9_knows_1 19 rfl rfl)
theorem dX9_knows_45 : decode cX9_knows 45 = .ok (.aload_n 0, 1) := dk_42 (dk_at dksX9_knows_1 22 rfl rfl)
theorem dX9_knows_46 : decode cX9_knows 46 = .ok (.getfield 57, 3) := dk_180 0 57 (dk_at dksX9_knows_2 0 rfl rfl)
theorem dX9_knows_49 : decode cX9_knows 49 = .ok (.iload_n 1, 1) := dk_27 (dk_at dksX9_knows_2 3 rfl rfl)
theorem dX9_knows_50 : decode cX9_knows 50 = .ok (.aload_n 0, 1) := dk_42 (dk_at dksX9_knows_2 4 rfl rfl)
theorem dX9_knows_51 : decode cX9_knows 51 = .ok (.iload_n 1, 1) := dk_27 (dk_at dksX9_knows_2 5 rfl rfl)
theorem dX9_knows_52 : decode cX9_knows 52 = .ok (.invokevirtual 281, 3) := dk_182 1 25 (dk_at dksX9_knows_2 6 rfl rfl)
theorem dX9_knows_55 : decode cX9_knows 55 = .ok (.ifCond .eq 19, 3) := dk_153 0 19 (dk_at dksX9_knows_2 9 rfl rfl)
theorem dX9_knows_58 : decode cX9_knows 58 = .ok (.aload_n 0, 1) := dk_42 (dk_at dksX9_knows_2 12 rfl rfl)
theorem dX9_knows_59 : decode cX9_knows 59 = .ok (.aload_n 0, 1) := dk_42 (dk_at dksX9_knows_2 13 rfl rfl)
theorem dX9_knows_60 : decode cX9_knows 60 = .ok (.getfield 40, 3) := dk_180 0 40 (dk_at dksX9_knows_2 14 rfl rfl)
theorem dX9_knows_63 : decode cX9_knows 63 = .ok (.iload_n 1, 1) := dk_27 (dk_at dksX9_knows_2 17 rfl rfl)
theorem dX9_knows_64 : decode cX9_knows 64 = .ok (.aload_n 0, 1) := dk_42 (dk_at dksX9_knows_2 18 rfl rfl)
theorem dX9_knows_65 : decode cX9_knows 65 = .ok (.getfield 177, 3) := dk_180 0 177 (dk_at dksX9_knows_2 19 rfl rfl)
theorem dX9_knows_68 : decode cX9_knows 68 = .ok (.invokevirtual 277, 3) := dk_182 1 21 (dk_at dksX9_knows_3 0 rfl rfl)
theorem dX9_knows_71 : decode cX9_knows 71 = .ok (.goto 6, 3) := dk_167 0 6 (dk_at dksX9_knows_3 3 rfl rfl)
theorem dX9_knows_74 : decode cX9_knows 74 = .ok (.ldc_w 284, 3) := dk_19 1 28 (dk_at dksX9_knows_3 6 rfl rfl)
theorem dX9_knows_77 : decode cX9_knows 77 = .ok (.iastore, 1) := dk_79 (dk_at dksX9_knows_3 9 rfl rfl)
theorem dX9_knows_78 : decode cX9_knows 78 = .ok (.aload_n 0, 1) := dk_42 (dk_at dksX9_knows_3 10 rfl rfl)
theorem dX9_knows_79 : decode cX9_knows 79 = .ok (.getfield 57, 3) := dk_180 0 57 (dk_at dksX9_knows_3 11 rfl rfl)
theorem dX9_knows_82 : decode cX9_knows 82 = .ok (.iload_n 1, 1) := dk_27 (dk_at dksX9_knows_3 14 rfl rfl)
theorem dX9_knows_83 : decode cX9_knows 83 = .ok (.iaload, 1) := dk_46 (dk_at dksX9_knows_3 15 rfl rfl)
theorem dX9_knows_84 : decode cX9_knows 84 = .ok (.ldc_w 284, 3) := dk_19 1 28 (dk_at dksX9_knows_3 16 rfl rfl)
theorem dX9_knows_87 : decode cX9_knows 87 = .ok (.if_icmp .ge 22, 3) := dk_162 0 22 (dk_at dksX9_knows_3 19 rfl rfl)
theorem dX9_knows_90 : decode cX9_knows 90 = .ok (.aload_n 0, 1) := dk_42 (dk_at dksX9_knows_3 22 rfl rfl)
theorem dX9_knows_91 : decode cX9_knows 91 = .ok (.getfield 60, 3) := dk_180 0 60 (dk_at dksX9_knows_4 0 rfl rfl)
theorem dX9_knows_94 : decode cX9_knows 94 = .ok (.sipush 150, 3) := dk_17 0 150 (dk_at dksX9_knows_4 3 rfl rfl)
theorem dX9_knows_97 : decode cX9_knows 97 = .ok (.aload_n 0, 1) := dk_42 (dk_at dksX9_knows_4 6 rfl rfl)
theorem dX9_knows_98 : decode cX9_knows 98 = .ok (.getfield 57, 3) := dk_180 0 57 (dk_at dksX9_knows_4 7 rfl rfl)
theorem dX9_knows_101 : decode cX9_knows 101 = .ok (.iload_n 1, 1) := dk_27 (dk_at dksX9_knows_4 10 rfl rfl)
theorem dX9_knows_102 : decode cX9_knows 102 = .ok (.iaload, 1) := dk_46 (dk_at dksX9_knows_4 11 rfl rfl)
theorem dX9_knows_103 : decode cX9_knows 103 = .ok (.iadd, 1) := dk_96 (dk_at dksX9_knows_4 12 rfl rfl)
theorem dX9_knows_104 : decode cX9_knows 104 = .ok (.dup2, 1) := dk_92 (dk_at dksX9_knows_4 13 rfl rfl)
theorem dX9_knows_105 : decode cX9_knows 105 = .ok (.iaload, 1) := dk_46 (dk_at dksX9_knows_4 14 rfl rfl)
theorem dX9_knows_106 : decode cX9_knows 106 = .ok (.iconst 1, 1) := dk_4 (dk_at dksX9_knows_4 15 rfl rfl)
theorem dX9_knows_107 : decode cX9_knows 107 = .ok (.iadd, 1) := dk_96 (dk_at dksX9_knows_4 16 rfl rfl)
theorem dX9_knows_108 : decode cX9_knows 108 = .ok (.iastore, 1) := dk_79 (dk_at dksX9_knows_4 17 rfl rfl)
theorem dX9_knows_109 : decode cX9_knows 109 = .ok (.iinc 1 1, 3) := dk_132 1 1 (dk_at dksX9_knows_4 18 rfl rfl)
theorem dX9_knows_112 : decode cX9_knows 112 = .ok (.goto (-75), 3) := dk_167 255 181 (dk_at dksX9_knows_4 21 rfl rfl)
theorem dX9_knows_115 : decode cX9_knows 115 = .ok (.aload_n 0, 1) := dk_42 (dk_at dksX9_knows_5 0 rfl rfl)
theorem dX9_knows_116 : decode cX9_knows 116 = .ok (.iconst 0, 1) := dk_3 (dk_at dksX9_knows_5 1 rfl rfl)
theorem dX9_knows_117 : decode cX9_knows 117 = .ok (.putfield 285, 3) := dk_181 1 29 (dk_at dksX9_knows_5 2 rfl rfl)
theorem dX9_knows_120 : decode cX9_knows 120 = .ok (.iconst 0, 1) := dk_3 (dk_at dksX9_knows_5 5 rfl rfl)
theorem dX9_knows_121 : decode cX9_knows 121 = .ok (.istore_n 1, 1) := dk_60 (dk_at dksX9_knows_5 6 rfl rfl)
theorem dX9_knows_122 : decode cX9_knows 122 = .ok (.iload_n 1, 1) := dk_27 (dk_at dksX9_knows_5 7 rfl rfl)
theorem dX9_knows_123 : decode cX9_knows 123 = .ok (.sipush 301, 3) := dk_17 1 45 (dk_at dksX9_knows_5 8 rfl rfl)
theorem dX9_knows_126 : decode cX9_knows 126 = .ok (.if_icmp .ge 45, 3) := dk_162 0 45 (dk_at dksX9_knows_5 11 rfl rfl)
theorem dX9_knows_129 : decode cX9_knows 129 = .ok (.aload_n 0, 1) := dk_42 (dk_at dksX9_knows_5 14 rfl rfl)
theorem dX9_knows_130 : decode cX9_knows 130 = .ok (.getfield 60, 3) := dk_180 0 60 (dk_at dksX9_knows_5 15 rfl rfl)
theorem dX9_knows_133 : decode cX9_knows 133 = .ok (.iload_n 1, 1) := dk_27 (dk_at dksX9_knows_5 18 rfl rfl)
theorem dX9_knows_134 : decode cX9_knows 134 = .ok (.iaload, 1) := dk_46 (dk_at dksX9_knows_5 19 rfl rfl)
theorem dX9_knows_135 : decode cX9_knows 135 = .ok (.ifCond .ne 6, 3) := dk_154 0 6 (dk_at dksX9_knows_5 20 rfl rfl)
theorem dX9_knows_138 : decode cX9_knows 138 = .ok (.goto 27, 3) := dk_167 0 27 (dk_at dksX9_knows_6 0 rfl rfl)
theorem dX9_knows_141 : decode cX9_knows 141 = .ok (.aload_n 0, 1) := dk_42 (dk_at dksX9_knows_6 3 rfl rfl)
theorem dX9_knows_142 : decode cX9_knows 142 = .ok (.getfield 63, 3) := dk_180 0 63 (dk_at dksX9_knows_6 4 rfl rfl)
theorem dX9_knows_145 : decode cX9_knows 145 = .ok (.aload_n 0, 1) := dk_42 (dk_at dksX9_knows_6 7 rfl rfl)
theorem dX9_knows_146 : decode cX9_knows 146 = .ok (.getfield 285, 3) := dk_180 1 29 (dk_at dksX9_knows_6 8 rfl rfl)
theorem dX9_knows_149 : decode cX9_knows 149 = .ok (.iload_n 1, 1) := dk_27 (dk_at dksX9_knows_6 11 rfl rfl)
theorem dX9_knows_150 : decode cX9_knows 150 = .ok (.sipush 150, 3) := dk_17 0 150 (dk_at dksX9_knows_6 12 rfl rfl)
theorem dX9_knows_153 : decode cX9_knows 153 = .ok (.isub, 1) := dk_100 (dk_at dksX9_knows_6 15 rfl rfl)
theorem dX9_knows_154 : decode cX9_knows 154 = .ok (.iastore, 1) := dk_79 (dk_at dksX9_knows_6 16 rfl rfl)
theorem dX9_knows_155 : decode cX9_knows 155 = .ok (.aload_n 0, 1) := dk_42 (dk_at dksX9_knows_6 17 rfl rfl)
theorem dX9_knows_156 : decode cX9_knows 156 = .ok (.dup, 1) := dk_89 (dk_at dksX9_knows_6 18 rfl rfl)
theorem dX9_knows_157 : decode cX9_knows 157 = .ok (.getfield 285, 3) := dk_180 1 29 (dk_at dksX9_knows_6 19 rfl rfl)
theorem dX9_knows_160 : decode cX9_knows 160 = .ok (.iconst 1, 1) := dk_4 (dk_at dksX9_knows_6 22 rfl rfl)
theorem dX9_knows_161 : decode cX9_knows 161 = .ok (.iadd, 1) := dk_96 (dk_at dksX9_knows_6 23 rfl rfl)
theorem dX9_knows_162 : decode cX9_knows 162 = .ok (.putfield 285, 3) := dk_181 1 29 (dk_at dksX9_knows_7 0 rfl rfl)
theorem dX9_knows_165 : decode cX9_knows 165 = .ok (.iinc 1 1, 3) := dk_132 1 1 (dk_at dksX9_knows_7 3 rfl rfl)
theorem dX9_knows_168 : decode cX9_knows 168 = .ok (.goto (-46), 3) := dk_167 255 210 (dk_at dksX9_knows_7 6 rfl rfl)
theorem dX9_knows_171 : decode cX9_knows 171 = .ok (.return_, 1) := dk_177 (dk_at dksX9_knows_7 9 rfl rfl)
abbrev cX9_states : ByteArray := prog_14_method_49_code
def yX9_states : MethodName := ⟨RX9, "states", "()I"⟩
def dkwX9_states_0 : List UInt8 := [42, 182, 0, 193, 154, 0, 7, 3, 167, 0, 9, 4, 42, 182, 0, 193, 120, 172]
abbrev dktX9_states_0 : List UInt8 := dkwX9_states_0 ++ []
theorem dksX9_states_0 : cX9_states.data.toList.drop 0 = dktX9_states_0 := by decide +kernel
theorem dX9_states_0 : decode cX9_states 0 = .ok (.aload_n 0, 1) := dk_42 (dk_at dksX9_states_0 0 rfl rfl)
theorem dX9_states_1 : decode cX9_states 1 = .ok (.invokevirtual 193, 3) := dk_182 0 193 (dk_at dksX9_states_0 1 rfl rfl)
theorem dX9_states_4 : decode cX9_states 4 = .ok (.ifCond .ne 7, 3) := dk_154 0 7 (dk_at dksX9_states_0 4 rfl rfl)
theorem dX9_states_7 : decode cX9_states 7 = .ok (.iconst 0, 1) := dk_3 (dk_at dksX9_states_0 7 rfl rfl)
theorem dX9_states_8 : decode cX9_states 8 = .ok (.goto 9, 3) := dk_167 0 9 (dk_at dksX9_states_0 8 rfl rfl)
theorem dX9_states_11 : decode cX9_states 11 = .ok (.iconst 1, 1) := dk_4 (dk_at dksX9_states_0 11 rfl rfl)
theorem dX9_states_12 : decode cX9_states 12 = .ok (.aload_n 0, 1) := dk_42 (dk_at dksX9_states_0 12 rfl rfl)
theorem dX9_states_13 : decode cX9_states 13 = .ok (.invokevirtual 193, 3) := dk_182 0 193 (dk_at dksX9_states_0 13 rfl rfl)
theorem dX9_states_16 : decode cX9_states 16 = .ok (.ishl, 1) := dk_120 (dk_at dksX9_states_0 16 rfl rfl)
theorem dX9_states_17 : decode cX9_states 17 = .ok (.ireturn, 1) := dk_172 (dk_at dksX9_states_0 17 rfl rfl)
abbrev cX9_isLawful : ByteArray := prog_14_method_50_code
def yX9_isLawful : MethodName := ⟨RX9, "isLawful", "(I)Z"⟩
def dkwX9_isLawful_1 : List UInt8 := [184, 1, 17, 153, 0, 7, 4, 167, 0, 4, 3, 172]
abbrev dktX9_isLawful_1 : List UInt8 := dkwX9_isLawful_1 ++ []
def dkwX9_isLawful_0 : List UInt8 := [27, 3, 42, 182, 1, 14, 4, 100, 184, 0, 213, 153, 0, 22, 42, 180, 0, 40, 27, 42, 182, 0, 193]
abbrev dktX9_isLawful_0 : List UInt8 := dkwX9_isLawful_0 ++ dktX9_isLawful_1
theorem dksX9_isLawful_0 : cX9_isLawful.data.toList.drop 0 = dktX9_isLawful_0 := by decide +kernel
theorem dksX9_isLawful_1 : cX9_isLawful.data.toList.drop 23 = dktX9_isLawful_1 := dk_seg dksX9_isLawful_0 23 rfl rfl
theorem dX9_isLawful_0 : decode cX9_isLawful 0 = .ok (.iload_n 1, 1) := dk_27 (dk_at dksX9_isLawful_0 0 rfl rfl)
theorem dX9_isLawful_1 : decode cX9_isLawful 1 = .ok (.iconst 0, 1) := dk_3 (dk_at dksX9_isLawful_0 1 rfl rfl)
theorem dX9_isLawful_2 : decode cX9_isLawful 2 = .ok (.aload_n 0, 1) := dk_42 (dk_at dksX9_isLawful_0 2 rfl rfl)
theorem dX9_isLawful_3 : decode cX9_isLawful 3 = .ok (.invokevirtual 270, 3) := dk_182 1 14 (dk_at dksX9_isLawful_0 3 rfl rfl)
theorem dX9_isLawful_6 : decode cX9_isLawful 6 = .ok (.iconst 1, 1) := dk_4 (dk_at dksX9_isLawful_0 6 rfl rfl)
theorem dX9_isLawful_7 : decode cX9_isLawful 7 = .ok (.isub, 1) := dk_100 (dk_at dksX9_isLawful_0 7 rfl rfl)
theorem dX9_isLawful_8 : decode cX9_isLawful 8 = .ok (.invokestatic 213, 3) := dk_184 0 213 (dk_at dksX9_isLawful_0 8 rfl rfl)
theorem dX9_isLawful_11 : decode cX9_isLawful 11 = .ok (.ifCond .eq 22, 3) := dk_153 0 22 (dk_at dksX9_isLawful_0 11 rfl rfl)
theorem dX9_isLawful_14 : decode cX9_isLawful 14 = .ok (.aload_n 0, 1) := dk_42 (dk_at dksX9_isLawful_0 14 rfl rfl)
theorem dX9_isLawful_15 : decode cX9_isLawful 15 = .ok (.getfield 40, 3) := dk_180 0 40 (dk_at dksX9_isLawful_0 15 rfl rfl)
theorem dX9_isLawful_18 : decode cX9_isLawful 18 = .ok (.iload_n 1, 1) := dk_27 (dk_at dksX9_isLawful_0 18 rfl rfl)
theorem dX9_isLawful_19 : decode cX9_isLawful 19 = .ok (.aload_n 0, 1) := dk_42 (dk_at dksX9_isLawful_0 19 rfl rfl)
theorem dX9_isLawful_20 : decode cX9_isLawful 20 = .ok (.invokevirtual 193, 3) := dk_182 0 193 (dk_at dksX9_isLawful_0 20 rfl rfl)
theorem dX9_isLawful_23 : decode cX9_isLawful 23 = .ok (.invokestatic 273, 3) := dk_184 1 17 (dk_at dksX9_isLawful_1 0 rfl rfl)
theorem dX9_isLawful_26 : decode cX9_isLawful 26 = .ok (.ifCond .eq 7, 3) := dk_153 0 7 (dk_at dksX9_isLawful_1 3 rfl rfl)
theorem dX9_isLawful_29 : decode cX9_isLawful 29 = .ok (.iconst 1, 1) := dk_4 (dk_at dksX9_isLawful_1 6 rfl rfl)
theorem dX9_isLawful_30 : decode cX9_isLawful 30 = .ok (.goto 4, 3) := dk_167 0 4 (dk_at dksX9_isLawful_1 7 rfl rfl)
theorem dX9_isLawful_33 : decode cX9_isLawful 33 = .ok (.iconst 0, 1) := dk_3 (dk_at dksX9_isLawful_1 10 rfl rfl)
theorem dX9_isLawful_34 : decode cX9_isLawful 34 = .ok (.ireturn, 1) := dk_172 (dk_at dksX9_isLawful_1 11 rfl rfl)
abbrev cX9_isLawfulBy : ByteArray := prog_14_method_48_code
def yX9_isLawfulBy : MethodName := ⟨RX9, "isLawfulBy", "([III)Z"⟩
def dkwX9_isLawfulBy_1 : List UInt8 := [16, 48, 29, 96, 46, 100, 159, 0, 5, 3, 172, 132, 3, 1, 167, 255, 221, 4, 172]
abbrev dktX9_isLawfulBy_1 : List UInt8 := dkwX9_isLawfulBy_1 ++ []
def dkwX9_isLawfulBy_0 : List UInt8 := [3, 62, 29, 28, 162, 0, 36, 42, 16, 48, 29, 96, 46, 158, 0, 21, 27, 29, 122, 4, 126, 5, 42]
abbrev dktX9_isLawfulBy_0 : List UInt8 := dkwX9_isLawfulBy_0 ++ dktX9_isLawfulBy_1
theorem dksX9_isLawfulBy_0 : cX9_isLawfulBy.data.toList.drop 0 = dktX9_isLawfulBy_0 := by decide +kernel
theorem dksX9_isLawfulBy_1 : cX9_isLawfulBy.data.toList.drop 23 = dktX9_isLawfulBy_1 := dk_seg dksX9_isLawfulBy_0 23 rfl rfl
theorem dX9_isLawfulBy_0 : decode cX9_isLawfulBy 0 = .ok (.iconst 0, 1) := dk_3 (dk_at dksX9_isLawfulBy_0 0 rfl rfl)
theorem dX9_isLawfulBy_1 : decode cX9_isLawfulBy 1 = .ok (.istore_n 3, 1) := dk_62 (dk_at dksX9_isLawfulBy_0 1 rfl rfl)
theorem dX9_isLawfulBy_2 : decode cX9_isLawfulBy 2 = .ok (.iload_n 3, 1) := dk_29 (dk_at dksX9_isLawfulBy_0 2 rfl rfl)
theorem dX9_isLawfulBy_3 : decode cX9_isLawfulBy 3 = .ok (.iload_n 2, 1) := dk_28 (dk_at dksX9_isLawfulBy_0 3 rfl rfl)
theorem dX9_isLawfulBy_4 : decode cX9_isLawfulBy 4 = .ok (.if_icmp .ge 36, 3) := dk_162 0 36 (dk_at dksX9_isLawfulBy_0 4 rfl rfl)
theorem dX9_isLawfulBy_7 : decode cX9_isLawfulBy 7 = .ok (.aload_n 0, 1) := dk_42 (dk_at dksX9_isLawfulBy_0 7 rfl rfl)
theorem dX9_isLawfulBy_8 : decode cX9_isLawfulBy 8 = .ok (.bipush 48, 2) := dk_16 48 (dk_at dksX9_isLawfulBy_0 8 rfl rfl)
theorem dX9_isLawfulBy_10 : decode cX9_isLawfulBy 10 = .ok (.iload_n 3, 1) := dk_29 (dk_at dksX9_isLawfulBy_0 10 rfl rfl)
theorem dX9_isLawfulBy_11 : decode cX9_isLawfulBy 11 = .ok (.iadd, 1) := dk_96 (dk_at dksX9_isLawfulBy_0 11 rfl rfl)
theorem dX9_isLawfulBy_12 : decode cX9_isLawfulBy 12 = .ok (.iaload, 1) := dk_46 (dk_at dksX9_isLawfulBy_0 12 rfl rfl)
theorem dX9_isLawfulBy_13 : decode cX9_isLawfulBy 13 = .ok (.ifCond .le 21, 3) := dk_158 0 21 (dk_at dksX9_isLawfulBy_0 13 rfl rfl)
theorem dX9_isLawfulBy_16 : decode cX9_isLawfulBy 16 = .ok (.iload_n 1, 1) := dk_27 (dk_at dksX9_isLawfulBy_0 16 rfl rfl)
theorem dX9_isLawfulBy_17 : decode cX9_isLawfulBy 17 = .ok (.iload_n 3, 1) := dk_29 (dk_at dksX9_isLawfulBy_0 17 rfl rfl)
theorem dX9_isLawfulBy_18 : decode cX9_isLawfulBy 18 = .ok (.ishr, 1) := dk_122 (dk_at dksX9_isLawfulBy_0 18 rfl rfl)
theorem dX9_isLawfulBy_19 : decode cX9_isLawfulBy 19 = .ok (.iconst 1, 1) := dk_4 (dk_at dksX9_isLawfulBy_0 19 rfl rfl)
theorem dX9_isLawfulBy_20 : decode cX9_isLawfulBy 20 = .ok (.iand, 1) := dk_126 (dk_at dksX9_isLawfulBy_0 20 rfl rfl)
theorem dX9_isLawfulBy_21 : decode cX9_isLawfulBy 21 = .ok (.iconst 2, 1) := dk_5 (dk_at dksX9_isLawfulBy_0 21 rfl rfl)
theorem dX9_isLawfulBy_22 : decode cX9_isLawfulBy 22 = .ok (.aload_n 0, 1) := dk_42 (dk_at dksX9_isLawfulBy_0 22 rfl rfl)
theorem dX9_isLawfulBy_23 : decode cX9_isLawfulBy 23 = .ok (.bipush 48, 2) := dk_16 48 (dk_at dksX9_isLawfulBy_1 0 rfl rfl)
theorem dX9_isLawfulBy_25 : decode cX9_isLawfulBy 25 = .ok (.iload_n 3, 1) := dk_29 (dk_at dksX9_isLawfulBy_1 2 rfl rfl)
theorem dX9_isLawfulBy_26 : decode cX9_isLawfulBy 26 = .ok (.iadd, 1) := dk_96 (dk_at dksX9_isLawfulBy_1 3 rfl rfl)
theorem dX9_isLawfulBy_27 : decode cX9_isLawfulBy 27 = .ok (.iaload, 1) := dk_46 (dk_at dksX9_isLawfulBy_1 4 rfl rfl)
theorem dX9_isLawfulBy_28 : decode cX9_isLawfulBy 28 = .ok (.isub, 1) := dk_100 (dk_at dksX9_isLawfulBy_1 5 rfl rfl)
theorem dX9_isLawfulBy_29 : decode cX9_isLawfulBy 29 = .ok (.if_icmp .eq 5, 3) := dk_159 0 5 (dk_at dksX9_isLawfulBy_1 6 rfl rfl)
theorem dX9_isLawfulBy_32 : decode cX9_isLawfulBy 32 = .ok (.iconst 0, 1) := dk_3 (dk_at dksX9_isLawfulBy_1 9 rfl rfl)
theorem dX9_isLawfulBy_33 : decode cX9_isLawfulBy 33 = .ok (.ireturn, 1) := dk_172 (dk_at dksX9_isLawfulBy_1 10 rfl rfl)
theorem dX9_isLawfulBy_34 : decode cX9_isLawfulBy 34 = .ok (.iinc 3 1, 3) := dk_132 3 1 (dk_at dksX9_isLawfulBy_1 11 rfl rfl)
theorem dX9_isLawfulBy_37 : decode cX9_isLawfulBy 37 = .ok (.goto (-35), 3) := dk_167 255 221 (dk_at dksX9_isLawfulBy_1 14 rfl rfl)
theorem dX9_isLawfulBy_40 : decode cX9_isLawfulBy 40 = .ok (.iconst 1, 1) := dk_4 (dk_at dksX9_isLawfulBy_1 17 rfl rfl)
theorem dX9_isLawfulBy_41 : decode cX9_isLawfulBy 41 = .ok (.ireturn, 1) := dk_172 (dk_at dksX9_isLawfulBy_1 18 rfl rfl)
abbrev cX9_energy : ByteArray := prog_14_method_47_code
def yX9_energy : MethodName := ⟨RX9, "energy", "([III)I"⟩
def dkwX9_energy_7 : List UInt8 := [167, 0, 10, 43, 16, 16, 21, 5, 96, 46, 96, 54, 4, 132, 5, 1, 167, 255, 82, 21, 4, 172]
abbrev dktX9_energy_7 : List UInt8 := dkwX9_energy_7 ++ []
def dkwX9_energy_6 : List UInt8 := [160, 0, 37, 21, 4, 28, 21, 7, 122, 4, 126, 21, 6, 160, 0, 14, 43, 16, 16, 21, 5, 96, 46, 116]
abbrev dktX9_energy_6 : List UInt8 := dkwX9_energy_6 ++ dktX9_energy_7
def dkwX9_energy_5 : List UInt8 := [164, 0, 17, 21, 7, 42, 180, 0, 171, 29, 104, 162, 0, 48, 167, 0, 11, 29, 42, 180, 0, 177]
abbrev dktX9_energy_5 : List UInt8 := dkwX9_energy_5 ++ dktX9_energy_6
def dkwX9_energy_4 : List UInt8 := [96, 46, 96, 54, 4, 42, 21, 5, 4, 182, 0, 236, 54, 7, 21, 7, 155, 0, 66, 21, 7, 21, 5]
abbrev dktX9_energy_4 : List UInt8 := dkwX9_energy_4 ++ dktX9_energy_5
def dkwX9_energy_3 : List UInt8 := [21, 7, 122, 4, 126, 21, 6, 160, 0, 13, 43, 3, 21, 5, 96, 46, 116, 167, 0, 9, 43, 3, 21, 5]
abbrev dktX9_energy_3 : List UInt8 := dkwX9_energy_3 ++ dktX9_energy_4
def dkwX9_energy_2 : List UInt8 := [21, 5, 96, 46, 96, 54, 4, 42, 21, 5, 3, 182, 0, 236, 54, 7, 21, 7, 155, 0, 35, 21, 4, 28]
abbrev dktX9_energy_2 : List UInt8 := dkwX9_energy_2 ++ dktX9_energy_3
def dkwX9_energy_1 : List UInt8 := [54, 6, 21, 4, 21, 6, 4, 160, 0, 14, 43, 16, 32, 21, 5, 96, 46, 116, 167, 0, 10, 43, 16, 32]
abbrev dktX9_energy_1 : List UInt8 := dkwX9_energy_1 ++ dktX9_energy_2
def dkwX9_energy_0 : List UInt8 := [3, 54, 4, 3, 54, 5, 21, 5, 42, 180, 0, 171, 29, 104, 162, 0, 169, 28, 21, 5, 122, 4, 126]
abbrev dktX9_energy_0 : List UInt8 := dkwX9_energy_0 ++ dktX9_energy_1
theorem dksX9_energy_0 : cX9_energy.data.toList.drop 0 = dktX9_energy_0 := by decide +kernel
theorem dksX9_energy_1 : cX9_energy.data.toList.drop 23 = dktX9_energy_1 := dk_seg dksX9_energy_0 23 rfl rfl
theorem dksX9_energy_2 : cX9_energy.data.toList.drop 47 = dktX9_energy_2 := dk_seg dksX9_energy_1 24 rfl rfl
theorem dksX9_energy_3 : cX9_energy.data.toList.drop 71 = dktX9_energy_3 := dk_seg dksX9_energy_2 24 rfl rfl
theorem dksX9_energy_4 : cX9_energy.data.toList.drop 95 = dktX9_energy_4 := dk_seg dksX9_energy_3 24 rfl rfl
theorem dksX9_energy_5 : cX9_energy.data.toList.drop 118 = dktX9_energy_5 := dk_seg dksX9_energy_4 23 rfl rfl
theorem dksX9_energy_6 : cX9_energy.data.toList.drop 140 = dktX9_energy_6 := dk_seg dksX9_energy_5 22 rfl rfl
theorem dksX9_energy_7 : cX9_energy.data.toList.drop 164 = dktX9_energy_7 := dk_seg dksX9_energy_6 24 rfl rfl
theorem dX9_energy_0 : decode cX9_energy 0 = .ok (.iconst 0, 1) := dk_3 (dk_at dksX9_energy_0 0 rfl rfl)
theorem dX9_energy_1 : decode cX9_energy 1 = .ok (.istore 4, 2) := dk_54 4 (dk_at dksX9_energy_0 1 rfl rfl)
theorem dX9_energy_3 : decode cX9_energy 3 = .ok (.iconst 0, 1) := dk_3 (dk_at dksX9_energy_0 3 rfl rfl)
theorem dX9_energy_4 : decode cX9_energy 4 = .ok (.istore 5, 2) := dk_54 5 (dk_at dksX9_energy_0 4 rfl rfl)
theorem dX9_energy_6 : decode cX9_energy 6 = .ok (.iload 5, 2) := dk_21 5 (dk_at dksX9_energy_0 6 rfl rfl)
theorem dX9_energy_8 : decode cX9_energy 8 = .ok (.aload_n 0, 1) := dk_42 (dk_at dksX9_energy_0 8 rfl rfl)
theorem dX9_energy_9 : decode cX9_energy 9 = .ok (.getfield 171, 3) := dk_180 0 171 (dk_at dksX9_energy_0 9 rfl rfl)
theorem dX9_energy_12 : decode cX9_energy 12 = .ok (.iload_n 3, 1) := dk_29 (dk_at dksX9_energy_0 12 rfl rfl)
theorem dX9_energy_13 : decode cX9_energy 13 = .ok (.imul, 1) := dk_104 (dk_at dksX9_energy_0 13 rfl rfl)
theorem dX9_energy_14 : decode cX9_energy 14 = .ok (.if_icmp .ge 169, 3) := dk_162 0 169 (dk_at dksX9_energy_0 14 rfl rfl)
theorem dX9_energy_17 : decode cX9_energy 17 = .ok (.iload_n 2, 1) := dk_28 (dk_at dksX9_energy_0 17 rfl rfl)
theorem dX9_energy_18 : decode cX9_energy 18 = .ok (.iload 5, 2) := dk_21 5 (dk_at dksX9_energy_0 18 rfl rfl)
theorem dX9_energy_20 : decode cX9_energy 20 = .ok (.ishr, 1) := dk_122 (dk_at dksX9_energy_0 20 rfl rfl)
theorem dX9_energy_21 : decode cX9_energy 21 = .ok (.iconst 1, 1) := dk_4 (dk_at dksX9_energy_0 21 rfl rfl)
theorem dX9_energy_22 : decode cX9_energy 22 = .ok (.iand, 1) := dk_126 (dk_at dksX9_energy_0 22 rfl rfl)
theorem dX9_energy_23 : decode cX9_energy 23 = .ok (.istore 6, 2) := dk_54 6 (dk_at dksX9_energy_1 0 rfl rfl)
theorem dX9_energy_25 : decode cX9_energy 25 = .ok (.iload 4, 2) := dk_21 4 (dk_at dksX9_energy_1 2 rfl rfl)
theorem dX9_energy_27 : decode cX9_energy 27 = .ok (.iload 6, 2) := dk_21 6 (dk_at dksX9_energy_1 4 rfl rfl)
theorem dX9_energy_29 : decode cX9_energy 29 = .ok (.iconst 1, 1) := dk_4 (dk_at dksX9_energy_1 6 rfl rfl)
theorem dX9_energy_30 : decode cX9_energy 30 = .ok (.if_icmp .ne 14, 3) := dk_160 0 14 (dk_at dksX9_energy_1 7 rfl rfl)
theorem dX9_energy_33 : decode cX9_energy 33 = .ok (.aload_n 1, 1) := dk_43 (dk_at dksX9_energy_1 10 rfl rfl)
theorem dX9_energy_34 : decode cX9_energy 34 = .ok (.bipush 32, 2) := dk_16 32 (dk_at dksX9_energy_1 11 rfl rfl)
theorem dX9_energy_36 : decode cX9_energy 36 = .ok (.iload 5, 2) := dk_21 5 (dk_at dksX9_energy_1 13 rfl rfl)
theorem dX9_energy_38 : decode cX9_energy 38 = .ok (.iadd, 1) := dk_96 (dk_at dksX9_energy_1 15 rfl rfl)
theorem dX9_energy_39 : decode cX9_energy 39 = .ok (.iaload, 1) := dk_46 (dk_at dksX9_energy_1 16 rfl rfl)
theorem dX9_energy_40 : decode cX9_energy 40 = .ok (.ineg, 1) := dk_116 (dk_at dksX9_energy_1 17 rfl rfl)
theorem dX9_energy_41 : decode cX9_energy 41 = .ok (.goto 10, 3) := dk_167 0 10 (dk_at dksX9_energy_1 18 rfl rfl)
theorem dX9_energy_44 : decode cX9_energy 44 = .ok (.aload_n 1, 1) := dk_43 (dk_at dksX9_energy_1 21 rfl rfl)
theorem dX9_energy_45 : decode cX9_energy 45 = .ok (.bipush 32, 2) := dk_16 32 (dk_at dksX9_energy_1 22 rfl rfl)
theorem dX9_energy_47 : decode cX9_energy 47 = .ok (.iload 5, 2) := dk_21 5 (dk_at dksX9_energy_2 0 rfl rfl)
theorem dX9_energy_49 : decode cX9_energy 49 = .ok (.iadd, 1) := dk_96 (dk_at dksX9_energy_2 2 rfl rfl)
theorem dX9_energy_50 : decode cX9_energy 50 = .ok (.iaload, 1) := dk_46 (dk_at dksX9_energy_2 3 rfl rfl)
theorem dX9_energy_51 : decode cX9_energy 51 = .ok (.iadd, 1) := dk_96 (dk_at dksX9_energy_2 4 rfl rfl)
theorem dX9_energy_52 : decode cX9_energy 52 = .ok (.istore 4, 2) := dk_54 4 (dk_at dksX9_energy_2 5 rfl rfl)
theorem dX9_energy_54 : decode cX9_energy 54 = .ok (.aload_n 0, 1) := dk_42 (dk_at dksX9_energy_2 7 rfl rfl)
theorem dX9_energy_55 : decode cX9_energy 55 = .ok (.iload 5, 2) := dk_21 5 (dk_at dksX9_energy_2 8 rfl rfl)
theorem dX9_energy_57 : decode cX9_energy 57 = .ok (.iconst 0, 1) := dk_3 (dk_at dksX9_energy_2 10 rfl rfl)
theorem dX9_energy_58 : decode cX9_energy 58 = .ok (.invokevirtual 236, 3) := dk_182 0 236 (dk_at dksX9_energy_2 11 rfl rfl)
theorem dX9_energy_61 : decode cX9_energy 61 = .ok (.istore 7, 2) := dk_54 7 (dk_at dksX9_energy_2 14 rfl rfl)
theorem dX9_energy_63 : decode cX9_energy 63 = .ok (.iload 7, 2) := dk_21 7 (dk_at dksX9_energy_2 16 rfl rfl)
theorem dX9_energy_65 : decode cX9_energy 65 = .ok (.ifCond .lt 35, 3) := dk_155 0 35 (dk_at dksX9_energy_2 18 rfl rfl)
theorem dX9_energy_68 : decode cX9_energy 68 = .ok (.iload 4, 2) := dk_21 4 (dk_at dksX9_energy_2 21 rfl rfl)
theorem dX9_energy_70 : decode cX9_energy 70 = .ok (.iload_n 2, 1) := dk_28 (dk_at dksX9_energy_2 23 rfl rfl)
theorem dX9_energy_71 : decode cX9_energy 71 = .ok (.iload 7, 2) := dk_21 7 (dk_at dksX9_energy_3 0 rfl rfl)
theorem dX9_energy_73 : decode cX9_energy 73 = .ok (.ishr, 1) := dk_122 (dk_at dksX9_energy_3 2 rfl rfl)
theorem dX9_energy_74 : decode cX9_energy 74 = .ok (.iconst 1, 1) := dk_4 (dk_at dksX9_energy_3 3 rfl rfl)
theorem dX9_energy_75 : decode cX9_energy 75 = .ok (.iand, 1) := dk_126 (dk_at dksX9_energy_3 4 rfl rfl)
theorem dX9_energy_76 : decode cX9_energy 76 = .ok (.iload 6, 2) := dk_21 6 (dk_at dksX9_energy_3 5 rfl rfl)
theorem dX9_energy_78 : decode cX9_energy 78 = .ok (.if_icmp .ne 13, 3) := dk_160 0 13 (dk_at dksX9_energy_3 7 rfl rfl)
theorem dX9_energy_81 : decode cX9_energy 81 = .ok (.aload_n 1, 1) := dk_43 (dk_at dksX9_energy_3 10 rfl rfl)
theorem dX9_energy_82 : decode cX9_energy 82 = .ok (.iconst 0, 1) := dk_3 (dk_at dksX9_energy_3 11 rfl rfl)
theorem dX9_energy_83 : decode cX9_energy 83 = .ok (.iload 5, 2) := dk_21 5 (dk_at dksX9_energy_3 12 rfl rfl)
theorem dX9_energy_85 : decode cX9_energy 85 = .ok (.iadd, 1) := dk_96 (dk_at dksX9_energy_3 14 rfl rfl)
theorem dX9_energy_86 : decode cX9_energy 86 = .ok (.iaload, 1) := dk_46 (dk_at dksX9_energy_3 15 rfl rfl)
theorem dX9_energy_87 : decode cX9_energy 87 = .ok (.ineg, 1) := dk_116 (dk_at dksX9_energy_3 16 rfl rfl)
theorem dX9_energy_88 : decode cX9_energy 88 = .ok (.goto 9, 3) := dk_167 0 9 (dk_at dksX9_energy_3 17 rfl rfl)
theorem dX9_energy_91 : decode cX9_energy 91 = .ok (.aload_n 1, 1) := dk_43 (dk_at dksX9_energy_3 20 rfl rfl)
theorem dX9_energy_92 : decode cX9_energy 92 = .ok (.iconst 0, 1) := dk_3 (dk_at dksX9_energy_3 21 rfl rfl)
theorem dX9_energy_93 : decode cX9_energy 93 = .ok (.iload 5, 2) := dk_21 5 (dk_at dksX9_energy_3 22 rfl rfl)
theorem dX9_energy_95 : decode cX9_energy 95 = .ok (.iadd, 1) := dk_96 (dk_at dksX9_energy_4 0 rfl rfl)
theorem dX9_energy_96 : decode cX9_energy 96 = .ok (.iaload, 1) := dk_46 (dk_at dksX9_energy_4 1 rfl rfl)
theorem dX9_energy_97 : decode cX9_energy 97 = .ok (.iadd, 1) := dk_96 (dk_at dksX9_energy_4 2 rfl rfl)
theorem dX9_energy_98 : decode cX9_energy 98 = .ok (.istore 4, 2) := dk_54 4 (dk_at dksX9_energy_4 3 rfl rfl)
theorem dX9_energy_100 : decode cX9_energy 100 = .ok (.aload_n 0, 1) := dk_42 (dk_at dksX9_energy_4 5 rfl rfl)
theorem dX9_energy_101 : decode cX9_energy 101 = .ok (.iload 5, 2) := dk_21 5 (dk_at dksX9_energy_4 6 rfl rfl)
theorem dX9_energy_103 : decode cX9_energy 103 = .ok (.iconst 1, 1) := dk_4 (dk_at dksX9_energy_4 8 rfl rfl)
theorem dX9_energy_104 : decode cX9_energy 104 = .ok (.invokevirtual 236, 3) := dk_182 0 236 (dk_at dksX9_energy_4 9 rfl rfl)
theorem dX9_energy_107 : decode cX9_energy 107 = .ok (.istore 7, 2) := dk_54 7 (dk_at dksX9_energy_4 12 rfl rfl)
theorem dX9_energy_109 : decode cX9_energy 109 = .ok (.iload 7, 2) := dk_21 7 (dk_at dksX9_energy_4 14 rfl rfl)
theorem dX9_energy_111 : decode cX9_energy 111 = .ok (.ifCond .lt 66, 3) := dk_155 0 66 (dk_at dksX9_energy_4 16 rfl rfl)
theorem dX9_energy_114 : decode cX9_energy 114 = .ok (.iload 7, 2) := dk_21 7 (dk_at dksX9_energy_4 19 rfl rfl)
theorem dX9_energy_116 : decode cX9_energy 116 = .ok (.iload 5, 2) := dk_21 5 (dk_at dksX9_energy_4 21 rfl rfl)
theorem dX9_energy_118 : decode cX9_energy 118 = .ok (.if_icmp .le 17, 3) := dk_164 0 17 (dk_at dksX9_energy_5 0 rfl rfl)
theorem dX9_energy_121 : decode cX9_energy 121 = .ok (.iload 7, 2) := dk_21 7 (dk_at dksX9_energy_5 3 rfl rfl)
theorem dX9_energy_123 : decode cX9_energy 123 = .ok (.aload_n 0, 1) := dk_42 (dk_at dksX9_energy_5 5 rfl rfl)
theorem dX9_energy_124 : decode cX9_energy 124 = .ok (.getfield 171, 3) := dk_180 0 171 (dk_at dksX9_energy_5 6 rfl rfl)
theorem dX9_energy_127 : decode cX9_energy 127 = .ok (.iload_n 3, 1) := dk_29 (dk_at dksX9_energy_5 9 rfl rfl)
theorem dX9_energy_128 : decode cX9_energy 128 = .ok (.imul, 1) := dk_104 (dk_at dksX9_energy_5 10 rfl rfl)
theorem dX9_energy_129 : decode cX9_energy 129 = .ok (.if_icmp .ge 48, 3) := dk_162 0 48 (dk_at dksX9_energy_5 11 rfl rfl)
theorem dX9_energy_132 : decode cX9_energy 132 = .ok (.goto 11, 3) := dk_167 0 11 (dk_at dksX9_energy_5 14 rfl rfl)
theorem dX9_energy_135 : decode cX9_energy 135 = .ok (.iload_n 3, 1) := dk_29 (dk_at dksX9_energy_5 17 rfl rfl)
theorem dX9_energy_136 : decode cX9_energy 136 = .ok (.aload_n 0, 1) := dk_42 (dk_at dksX9_energy_5 18 rfl rfl)
theorem dX9_energy_137 : decode cX9_energy 137 = .ok (.getfield 177, 3) := dk_180 0 177 (dk_at dksX9_energy_5 19 rfl rfl)
theorem dX9_energy_140 : decode cX9_energy 140 = .ok (.if_icmp .ne 37, 3) := dk_160 0 37 (dk_at dksX9_energy_6 0 rfl rfl)
theorem dX9_energy_143 : decode cX9_energy 143 = .ok (.iload 4, 2) := dk_21 4 (dk_at dksX9_energy_6 3 rfl rfl)
theorem dX9_energy_145 : decode cX9_energy 145 = .ok (.iload_n 2, 1) := dk_28 (dk_at dksX9_energy_6 5 rfl rfl)
theorem dX9_energy_146 : decode cX9_energy 146 = .ok (.iload 7, 2) := dk_21 7 (dk_at dksX9_energy_6 6 rfl rfl)
theorem dX9_energy_148 : decode cX9_energy 148 = .ok (.ishr, 1) := dk_122 (dk_at dksX9_energy_6 8 rfl rfl)
theorem dX9_energy_149 : decode cX9_energy 149 = .ok (.iconst 1, 1) := dk_4 (dk_at dksX9_energy_6 9 rfl rfl)
theorem dX9_energy_150 : decode cX9_energy 150 = .ok (.iand, 1) := dk_126 (dk_at dksX9_energy_6 10 rfl rfl)
theorem dX9_energy_151 : decode cX9_energy 151 = .ok (.iload 6, 2) := dk_21 6 (dk_at dksX9_energy_6 11 rfl rfl)
theorem dX9_energy_153 : decode cX9_energy 153 = .ok (.if_icmp .ne 14, 3) := dk_160 0 14 (dk_at dksX9_energy_6 13 rfl rfl)
theorem dX9_energy_156 : decode cX9_energy 156 = .ok (.aload_n 1, 1) := dk_43 (dk_at dksX9_energy_6 16 rfl rfl)
theorem dX9_energy_157 : decode cX9_energy 157 = .ok (.bipush 16, 2) := dk_16 16 (dk_at dksX9_energy_6 17 rfl rfl)
theorem dX9_energy_159 : decode cX9_energy 159 = .ok (.iload 5, 2) := dk_21 5 (dk_at dksX9_energy_6 19 rfl rfl)
theorem dX9_energy_161 : decode cX9_energy 161 = .ok (.iadd, 1) := dk_96 (dk_at dksX9_energy_6 21 rfl rfl)
theorem dX9_energy_162 : decode cX9_energy 162 = .ok (.iaload, 1) := dk_46 (dk_at dksX9_energy_6 22 rfl rfl)
theorem dX9_energy_163 : decode cX9_energy 163 = .ok (.ineg, 1) := dk_116 (dk_at dksX9_energy_6 23 rfl rfl)
theorem dX9_energy_164 : decode cX9_energy 164 = .ok (.goto 10, 3) := dk_167 0 10 (dk_at dksX9_energy_7 0 rfl rfl)
theorem dX9_energy_167 : decode cX9_energy 167 = .ok (.aload_n 1, 1) := dk_43 (dk_at dksX9_energy_7 3 rfl rfl)
theorem dX9_energy_168 : decode cX9_energy 168 = .ok (.bipush 16, 2) := dk_16 16 (dk_at dksX9_energy_7 4 rfl rfl)
theorem dX9_energy_170 : decode cX9_energy 170 = .ok (.iload 5, 2) := dk_21 5 (dk_at dksX9_energy_7 6 rfl rfl)
theorem dX9_energy_172 : decode cX9_energy 172 = .ok (.iadd, 1) := dk_96 (dk_at dksX9_energy_7 8 rfl rfl)
theorem dX9_energy_173 : decode cX9_energy 173 = .ok (.iaload, 1) := dk_46 (dk_at dksX9_energy_7 9 rfl rfl)
theorem dX9_energy_174 : decode cX9_energy 174 = .ok (.iadd, 1) := dk_96 (dk_at dksX9_energy_7 10 rfl rfl)
theorem dX9_energy_175 : decode cX9_energy 175 = .ok (.istore 4, 2) := dk_54 4 (dk_at dksX9_energy_7 11 rfl rfl)
theorem dX9_energy_177 : decode cX9_energy 177 = .ok (.iinc 5 1, 3) := dk_132 5 1 (dk_at dksX9_energy_7 13 rfl rfl)
theorem dX9_energy_180 : decode cX9_energy 180 = .ok (.goto (-174), 3) := dk_167 255 82 (dk_at dksX9_energy_7 16 rfl rfl)
theorem dX9_energy_183 : decode cX9_energy 183 = .ok (.iload 4, 2) := dk_21 4 (dk_at dksX9_energy_7 19 rfl rfl)
theorem dX9_energy_185 : decode cX9_energy 185 = .ok (.ireturn, 1) := dk_172 (dk_at dksX9_energy_7 21 rfl rfl)
abbrev cX9_fallTurns : ByteArray := prog_14_method_69_code
def yX9_fallTurns : MethodName := ⟨RX9, "fallTurns", "(I)I"⟩
def dkwX9_fallTurns_1 : List UInt8 := [132, 3, 1, 42, 28, 182, 1, 65, 54, 4, 167, 255, 234, 29, 172]
abbrev dktX9_fallTurns_1 : List UInt8 := dkwX9_fallTurns_1 ++ []
def dkwX9_fallTurns_0 : List UInt8 := [27, 61, 3, 62, 42, 28, 182, 1, 65, 54, 4, 21, 4, 155, 0, 23, 28, 4, 21, 4, 120, 130, 61]
abbrev dktX9_fallTurns_0 : List UInt8 := dkwX9_fallTurns_0 ++ dktX9_fallTurns_1
theorem dksX9_fallTurns_0 : cX9_fallTurns.data.toList.drop 0 = dktX9_fallTurns_0 := by decide +kernel
theorem dksX9_fallTurns_1 : cX9_fallTurns.data.toList.drop 23 = dktX9_fallTurns_1 := dk_seg dksX9_fallTurns_0 23 rfl rfl
theorem dX9_fallTurns_0 : decode cX9_fallTurns 0 = .ok (.iload_n 1, 1) := dk_27 (dk_at dksX9_fallTurns_0 0 rfl rfl)
theorem dX9_fallTurns_1 : decode cX9_fallTurns 1 = .ok (.istore_n 2, 1) := dk_61 (dk_at dksX9_fallTurns_0 1 rfl rfl)
theorem dX9_fallTurns_2 : decode cX9_fallTurns 2 = .ok (.iconst 0, 1) := dk_3 (dk_at dksX9_fallTurns_0 2 rfl rfl)
theorem dX9_fallTurns_3 : decode cX9_fallTurns 3 = .ok (.istore_n 3, 1) := dk_62 (dk_at dksX9_fallTurns_0 3 rfl rfl)
theorem dX9_fallTurns_4 : decode cX9_fallTurns 4 = .ok (.aload_n 0, 1) := dk_42 (dk_at dksX9_fallTurns_0 4 rfl rfl)
theorem dX9_fallTurns_5 : decode cX9_fallTurns 5 = .ok (.iload_n 2, 1) := dk_28 (dk_at dksX9_fallTurns_0 5 rfl rfl)
theorem dX9_fallTurns_6 : decode cX9_fallTurns 6 = .ok (.invokevirtual 321, 3) := dk_182 1 65 (dk_at dksX9_fallTurns_0 6 rfl rfl)
theorem dX9_fallTurns_9 : decode cX9_fallTurns 9 = .ok (.istore 4, 2) := dk_54 4 (dk_at dksX9_fallTurns_0 9 rfl rfl)
theorem dX9_fallTurns_11 : decode cX9_fallTurns 11 = .ok (.iload 4, 2) := dk_21 4 (dk_at dksX9_fallTurns_0 11 rfl rfl)
theorem dX9_fallTurns_13 : decode cX9_fallTurns 13 = .ok (.ifCond .lt 23, 3) := dk_155 0 23 (dk_at dksX9_fallTurns_0 13 rfl rfl)
theorem dX9_fallTurns_16 : decode cX9_fallTurns 16 = .ok (.iload_n 2, 1) := dk_28 (dk_at dksX9_fallTurns_0 16 rfl rfl)
theorem dX9_fallTurns_17 : decode cX9_fallTurns 17 = .ok (.iconst 1, 1) := dk_4 (dk_at dksX9_fallTurns_0 17 rfl rfl)
theorem dX9_fallTurns_18 : decode cX9_fallTurns 18 = .ok (.iload 4, 2) := dk_21 4 (dk_at dksX9_fallTurns_0 18 rfl rfl)
theorem dX9_fallTurns_20 : decode cX9_fallTurns 20 = .ok (.ishl, 1) := dk_120 (dk_at dksX9_fallTurns_0 20 rfl rfl)
theorem dX9_fallTurns_21 : decode cX9_fallTurns 21 = .ok (.ixor, 1) := dk_130 (dk_at dksX9_fallTurns_0 21 rfl rfl)
theorem dX9_fallTurns_22 : decode cX9_fallTurns 22 = .ok (.istore_n 2, 1) := dk_61 (dk_at dksX9_fallTurns_0 22 rfl rfl)
theorem dX9_fallTurns_23 : decode cX9_fallTurns 23 = .ok (.iinc 3 1, 3) := dk_132 3 1 (dk_at dksX9_fallTurns_1 0 rfl rfl)
theorem dX9_fallTurns_26 : decode cX9_fallTurns 26 = .ok (.aload_n 0, 1) := dk_42 (dk_at dksX9_fallTurns_1 3 rfl rfl)
theorem dX9_fallTurns_27 : decode cX9_fallTurns 27 = .ok (.iload_n 2, 1) := dk_28 (dk_at dksX9_fallTurns_1 4 rfl rfl)
theorem dX9_fallTurns_28 : decode cX9_fallTurns 28 = .ok (.invokevirtual 321, 3) := dk_182 1 65 (dk_at dksX9_fallTurns_1 5 rfl rfl)
theorem dX9_fallTurns_31 : decode cX9_fallTurns 31 = .ok (.istore 4, 2) := dk_54 4 (dk_at dksX9_fallTurns_1 8 rfl rfl)
theorem dX9_fallTurns_33 : decode cX9_fallTurns 33 = .ok (.goto (-22), 3) := dk_167 255 234 (dk_at dksX9_fallTurns_1 10 rfl rfl)
theorem dX9_fallTurns_36 : decode cX9_fallTurns 36 = .ok (.iload_n 3, 1) := dk_29 (dk_at dksX9_fallTurns_1 13 rfl rfl)
theorem dX9_fallTurns_37 : decode cX9_fallTurns 37 = .ok (.ireturn, 1) := dk_172 (dk_at dksX9_fallTurns_1 14 rfl rfl)
abbrev cX9_steepest : ByteArray := prog_14_method_67_code
def yX9_steepest : MethodName := ⟨RX9, "steepest", "(I)I"⟩
def dkwX9_steepest_2 : List UInt8 := [21, 5, 62, 132, 4, 1, 167, 255, 216, 28, 172]
abbrev dktX9_steepest_2 : List UInt8 := dkwX9_steepest_2 ++ []
def dkwX9_steepest_1 : List UInt8 := [180, 0, 57, 27, 4, 21, 4, 120, 130, 46, 54, 5, 21, 5, 29, 161, 0, 6, 167, 0, 9, 21, 4, 61]
abbrev dktX9_steepest_1 : List UInt8 := dkwX9_steepest_1 ++ dktX9_steepest_2
def dkwX9_steepest_0 : List UInt8 := [2, 61, 42, 180, 0, 57, 27, 46, 62, 3, 54, 4, 21, 4, 42, 182, 0, 193, 162, 0, 37, 42]
abbrev dktX9_steepest_0 : List UInt8 := dkwX9_steepest_0 ++ dktX9_steepest_1
theorem dksX9_steepest_0 : cX9_steepest.data.toList.drop 0 = dktX9_steepest_0 := by decide +kernel
theorem dksX9_steepest_1 : cX9_steepest.data.toList.drop 22 = dktX9_steepest_1 := dk_seg dksX9_steepest_0 22 rfl rfl
theorem dksX9_steepest_2 : cX9_steepest.data.toList.drop 46 = dktX9_steepest_2 := dk_seg dksX9_steepest_1 24 rfl rfl
theorem dX9_steepest_0 : decode cX9_steepest 0 = .ok (.iconst (-1), 1) := dk_2 (dk_at dksX9_steepest_0 0 rfl rfl)
theorem dX9_steepest_1 : decode cX9_steepest 1 = .ok (.istore_n 2, 1) := dk_61 (dk_at dksX9_steepest_0 1 rfl rfl)
theorem dX9_steepest_2 : decode cX9_steepest 2 = .ok (.aload_n 0, 1) := dk_42 (dk_at dksX9_steepest_0 2 rfl rfl)
theorem dX9_steepest_3 : decode cX9_steepest 3 = .ok (.getfield 57, 3) := dk_180 0 57 (dk_at dksX9_steepest_0 3 rfl rfl)
theorem dX9_steepest_6 : decode cX9_steepest 6 = .ok (.iload_n 1, 1) := dk_27 (dk_at dksX9_steepest_0 6 rfl rfl)
theorem dX9_steepest_7 : decode cX9_steepest 7 = .ok (.iaload, 1) := dk_46 (dk_at dksX9_steepest_0 7 rfl rfl)
theorem dX9_steepest_8 : decode cX9_steepest 8 = .ok (.istore_n 3, 1) := dk_62 (dk_at dksX9_steepest_0 8 rfl rfl)
theorem dX9_steepest_9 : decode cX9_steepest 9 = .ok (.iconst 0, 1) := dk_3 (dk_at dksX9_steepest_0 9 rfl rfl)
theorem dX9_steepest_10 : decode cX9_steepest 10 = .ok (.istore 4, 2) := dk_54 4 (dk_at dksX9_steepest_0 10 rfl rfl)
theorem dX9_steepest_12 : decode cX9_steepest 12 = .ok (.iload 4, 2) := dk_21 4 (dk_at dksX9_steepest_0 12 rfl rfl)
theorem dX9_steepest_14 : decode cX9_steepest 14 = .ok (.aload_n 0, 1) := dk_42 (dk_at dksX9_steepest_0 14 rfl rfl)
theorem dX9_steepest_15 : decode cX9_steepest 15 = .ok (.invokevirtual 193, 3) := dk_182 0 193 (dk_at dksX9_steepest_0 15 rfl rfl)
theorem dX9_steepest_18 : decode cX9_steepest 18 = .ok (.if_icmp .ge 37, 3) := dk_162 0 37 (dk_at dksX9_steepest_0 18 rfl rfl)
theorem dX9_steepest_21 : decode cX9_steepest 21 = .ok (.aload_n 0, 1) := dk_42 (dk_at dksX9_steepest_0 21 rfl rfl)
theorem dX9_steepest_22 : decode cX9_steepest 22 = .ok (.getfield 57, 3) := dk_180 0 57 (dk_at dksX9_steepest_1 0 rfl rfl)
theorem dX9_steepest_25 : decode cX9_steepest 25 = .ok (.iload_n 1, 1) := dk_27 (dk_at dksX9_steepest_1 3 rfl rfl)
theorem dX9_steepest_26 : decode cX9_steepest 26 = .ok (.iconst 1, 1) := dk_4 (dk_at dksX9_steepest_1 4 rfl rfl)
theorem dX9_steepest_27 : decode cX9_steepest 27 = .ok (.iload 4, 2) := dk_21 4 (dk_at dksX9_steepest_1 5 rfl rfl)
theorem dX9_steepest_29 : decode cX9_steepest 29 = .ok (.ishl, 1) := dk_120 (dk_at dksX9_steepest_1 7 rfl rfl)
theorem dX9_steepest_30 : decode cX9_steepest 30 = .ok (.ixor, 1) := dk_130 (dk_at dksX9_steepest_1 8 rfl rfl)
theorem dX9_steepest_31 : decode cX9_steepest 31 = .ok (.iaload, 1) := dk_46 (dk_at dksX9_steepest_1 9 rfl rfl)
theorem dX9_steepest_32 : decode cX9_steepest 32 = .ok (.istore 5, 2) := dk_54 5 (dk_at dksX9_steepest_1 10 rfl rfl)
theorem dX9_steepest_34 : decode cX9_steepest 34 = .ok (.iload 5, 2) := dk_21 5 (dk_at dksX9_steepest_1 12 rfl rfl)
theorem dX9_steepest_36 : decode cX9_steepest 36 = .ok (.iload_n 3, 1) := dk_29 (dk_at dksX9_steepest_1 14 rfl rfl)
theorem dX9_steepest_37 : decode cX9_steepest 37 = .ok (.if_icmp .lt 6, 3) := dk_161 0 6 (dk_at dksX9_steepest_1 15 rfl rfl)
theorem dX9_steepest_40 : decode cX9_steepest 40 = .ok (.goto 9, 3) := dk_167 0 9 (dk_at dksX9_steepest_1 18 rfl rfl)
theorem dX9_steepest_43 : decode cX9_steepest 43 = .ok (.iload 4, 2) := dk_21 4 (dk_at dksX9_steepest_1 21 rfl rfl)
theorem dX9_steepest_45 : decode cX9_steepest 45 = .ok (.istore_n 2, 1) := dk_61 (dk_at dksX9_steepest_1 23 rfl rfl)
theorem dX9_steepest_46 : decode cX9_steepest 46 = .ok (.iload 5, 2) := dk_21 5 (dk_at dksX9_steepest_2 0 rfl rfl)
theorem dX9_steepest_48 : decode cX9_steepest 48 = .ok (.istore_n 3, 1) := dk_62 (dk_at dksX9_steepest_2 2 rfl rfl)
theorem dX9_steepest_49 : decode cX9_steepest 49 = .ok (.iinc 4 1, 3) := dk_132 4 1 (dk_at dksX9_steepest_2 3 rfl rfl)
theorem dX9_steepest_52 : decode cX9_steepest 52 = .ok (.goto (-40), 3) := dk_167 255 216 (dk_at dksX9_steepest_2 6 rfl rfl)
theorem dX9_steepest_55 : decode cX9_steepest 55 = .ok (.iload_n 2, 1) := dk_28 (dk_at dksX9_steepest_2 9 rfl rfl)
theorem dX9_steepest_56 : decode cX9_steepest 56 = .ok (.ireturn, 1) := dk_172 (dk_at dksX9_steepest_2 10 rfl rfl)
abbrev cX9_fallEnd : ByteArray := prog_14_method_68_code
def yX9_fallEnd : MethodName := ⟨RX9, "fallEnd", "(I)I"⟩
def dkwX9_fallEnd_1 : List UInt8 := [167, 255, 240, 28, 172]
abbrev dktX9_fallEnd_1 : List UInt8 := dkwX9_fallEnd_1 ++ []
def dkwX9_fallEnd_0 : List UInt8 := [27, 61, 42, 28, 182, 1, 65, 62, 29, 155, 0, 18, 28, 4, 29, 120, 130, 61, 42, 28, 182, 1, 65, 62]
abbrev dktX9_fallEnd_0 : List UInt8 := dkwX9_fallEnd_0 ++ dktX9_fallEnd_1
theorem dksX9_fallEnd_0 : cX9_fallEnd.data.toList.drop 0 = dktX9_fallEnd_0 := by decide +kernel
theorem dksX9_fallEnd_1 : cX9_fallEnd.data.toList.drop 24 = dktX9_fallEnd_1 := dk_seg dksX9_fallEnd_0 24 rfl rfl
theorem dX9_fallEnd_0 : decode cX9_fallEnd 0 = .ok (.iload_n 1, 1) := dk_27 (dk_at dksX9_fallEnd_0 0 rfl rfl)
theorem dX9_fallEnd_1 : decode cX9_fallEnd 1 = .ok (.istore_n 2, 1) := dk_61 (dk_at dksX9_fallEnd_0 1 rfl rfl)
theorem dX9_fallEnd_2 : decode cX9_fallEnd 2 = .ok (.aload_n 0, 1) := dk_42 (dk_at dksX9_fallEnd_0 2 rfl rfl)
theorem dX9_fallEnd_3 : decode cX9_fallEnd 3 = .ok (.iload_n 2, 1) := dk_28 (dk_at dksX9_fallEnd_0 3 rfl rfl)
theorem dX9_fallEnd_4 : decode cX9_fallEnd 4 = .ok (.invokevirtual 321, 3) := dk_182 1 65 (dk_at dksX9_fallEnd_0 4 rfl rfl)
theorem dX9_fallEnd_7 : decode cX9_fallEnd 7 = .ok (.istore_n 3, 1) := dk_62 (dk_at dksX9_fallEnd_0 7 rfl rfl)
theorem dX9_fallEnd_8 : decode cX9_fallEnd 8 = .ok (.iload_n 3, 1) := dk_29 (dk_at dksX9_fallEnd_0 8 rfl rfl)
theorem dX9_fallEnd_9 : decode cX9_fallEnd 9 = .ok (.ifCond .lt 18, 3) := dk_155 0 18 (dk_at dksX9_fallEnd_0 9 rfl rfl)
theorem dX9_fallEnd_12 : decode cX9_fallEnd 12 = .ok (.iload_n 2, 1) := dk_28 (dk_at dksX9_fallEnd_0 12 rfl rfl)
theorem dX9_fallEnd_13 : decode cX9_fallEnd 13 = .ok (.iconst 1, 1) := dk_4 (dk_at dksX9_fallEnd_0 13 rfl rfl)
theorem dX9_fallEnd_14 : decode cX9_fallEnd 14 = .ok (.iload_n 3, 1) := dk_29 (dk_at dksX9_fallEnd_0 14 rfl rfl)
theorem dX9_fallEnd_15 : decode cX9_fallEnd 15 = .ok (.ishl, 1) := dk_120 (dk_at dksX9_fallEnd_0 15 rfl rfl)
theorem dX9_fallEnd_16 : decode cX9_fallEnd 16 = .ok (.ixor, 1) := dk_130 (dk_at dksX9_fallEnd_0 16 rfl rfl)
theorem dX9_fallEnd_17 : decode cX9_fallEnd 17 = .ok (.istore_n 2, 1) := dk_61 (dk_at dksX9_fallEnd_0 17 rfl rfl)
theorem dX9_fallEnd_18 : decode cX9_fallEnd 18 = .ok (.aload_n 0, 1) := dk_42 (dk_at dksX9_fallEnd_0 18 rfl rfl)
theorem dX9_fallEnd_19 : decode cX9_fallEnd 19 = .ok (.iload_n 2, 1) := dk_28 (dk_at dksX9_fallEnd_0 19 rfl rfl)
theorem dX9_fallEnd_20 : decode cX9_fallEnd 20 = .ok (.invokevirtual 321, 3) := dk_182 1 65 (dk_at dksX9_fallEnd_0 20 rfl rfl)
theorem dX9_fallEnd_23 : decode cX9_fallEnd 23 = .ok (.istore_n 3, 1) := dk_62 (dk_at dksX9_fallEnd_0 23 rfl rfl)
theorem dX9_fallEnd_24 : decode cX9_fallEnd 24 = .ok (.goto (-16), 3) := dk_167 255 240 (dk_at dksX9_fallEnd_1 0 rfl rfl)
theorem dX9_fallEnd_27 : decode cX9_fallEnd 27 = .ok (.iload_n 2, 1) := dk_28 (dk_at dksX9_fallEnd_1 3 rfl rfl)
theorem dX9_fallEnd_28 : decode cX9_fallEnd 28 = .ok (.ireturn, 1) := dk_172 (dk_at dksX9_fallEnd_1 4 rfl rfl)
abbrev cX9_undo : ByteArray := prog_14_method_44_code
def yX9_undo : MethodName := ⟨RX9, "undo", "()Z"⟩
def dkwX9_undo_3 : List UInt8 := [4, 172]
abbrev dktX9_undo_3 : List UInt8 := dkwX9_undo_3 ++ []
def dkwX9_undo_2 : List UInt8 := [180, 0, 40, 28, 42, 180, 0, 46, 27, 28, 96, 46, 79, 132, 2, 1, 167, 255, 233, 42, 3, 181, 0, 200]
abbrev dktX9_undo_2 : List UInt8 := dkwX9_undo_2 ++ dktX9_undo_3
def dkwX9_undo_1 : List UInt8 := [180, 0, 230, 42, 180, 0, 197, 96, 16, 40, 112, 104, 60, 3, 61, 28, 16, 66, 162, 0, 23, 42]
abbrev dktX9_undo_1 : List UInt8 := dkwX9_undo_1 ++ dktX9_undo_2
def dkwX9_undo_0 : List UInt8 := [42, 180, 0, 197, 154, 0, 5, 3, 172, 42, 89, 180, 0, 197, 4, 100, 181, 0, 197, 16, 66, 42]
abbrev dktX9_undo_0 : List UInt8 := dkwX9_undo_0 ++ dktX9_undo_1
theorem dksX9_undo_0 : cX9_undo.data.toList.drop 0 = dktX9_undo_0 := by decide +kernel
theorem dksX9_undo_1 : cX9_undo.data.toList.drop 22 = dktX9_undo_1 := dk_seg dksX9_undo_0 22 rfl rfl
theorem dksX9_undo_2 : cX9_undo.data.toList.drop 44 = dktX9_undo_2 := dk_seg dksX9_undo_1 22 rfl rfl
theorem dksX9_undo_3 : cX9_undo.data.toList.drop 68 = dktX9_undo_3 := dk_seg dksX9_undo_2 24 rfl rfl
theorem dX9_undo_0 : decode cX9_undo 0 = .ok (.aload_n 0, 1) := dk_42 (dk_at dksX9_undo_0 0 rfl rfl)
theorem dX9_undo_1 : decode cX9_undo 1 = .ok (.getfield 197, 3) := dk_180 0 197 (dk_at dksX9_undo_0 1 rfl rfl)
theorem dX9_undo_4 : decode cX9_undo 4 = .ok (.ifCond .ne 5, 3) := dk_154 0 5 (dk_at dksX9_undo_0 4 rfl rfl)
theorem dX9_undo_7 : decode cX9_undo 7 = .ok (.iconst 0, 1) := dk_3 (dk_at dksX9_undo_0 7 rfl rfl)
theorem dX9_undo_8 : decode cX9_undo 8 = .ok (.ireturn, 1) := dk_172 (dk_at dksX9_undo_0 8 rfl rfl)
theorem dX9_undo_9 : decode cX9_undo 9 = .ok (.aload_n 0, 1) := dk_42 (dk_at dksX9_undo_0 9 rfl rfl)
theorem dX9_undo_10 : decode cX9_undo 10 = .ok (.dup, 1) := dk_89 (dk_at dksX9_undo_0 10 rfl rfl)
theorem dX9_undo_11 : decode cX9_undo 11 = .ok (.getfield 197, 3) := dk_180 0 197 (dk_at dksX9_undo_0 11 rfl rfl)
theorem dX9_undo_14 : decode cX9_undo 14 = .ok (.iconst 1, 1) := dk_4 (dk_at dksX9_undo_0 14 rfl rfl)
theorem dX9_undo_15 : decode cX9_undo 15 = .ok (.isub, 1) := dk_100 (dk_at dksX9_undo_0 15 rfl rfl)
theorem dX9_undo_16 : decode cX9_undo 16 = .ok (.putfield 197, 3) := dk_181 0 197 (dk_at dksX9_undo_0 16 rfl rfl)
theorem dX9_undo_19 : decode cX9_undo 19 = .ok (.bipush 66, 2) := dk_16 66 (dk_at dksX9_undo_0 19 rfl rfl)
theorem dX9_undo_21 : decode cX9_undo 21 = .ok (.aload_n 0, 1) := dk_42 (dk_at dksX9_undo_0 21 rfl rfl)
theorem dX9_undo_22 : decode cX9_undo 22 = .ok (.getfield 230, 3) := dk_180 0 230 (dk_at dksX9_undo_1 0 rfl rfl)
theorem dX9_undo_25 : decode cX9_undo 25 = .ok (.aload_n 0, 1) := dk_42 (dk_at dksX9_undo_1 3 rfl rfl)
theorem dX9_undo_26 : decode cX9_undo 26 = .ok (.getfield 197, 3) := dk_180 0 197 (dk_at dksX9_undo_1 4 rfl rfl)
theorem dX9_undo_29 : decode cX9_undo 29 = .ok (.iadd, 1) := dk_96 (dk_at dksX9_undo_1 7 rfl rfl)
theorem dX9_undo_30 : decode cX9_undo 30 = .ok (.bipush 40, 2) := dk_16 40 (dk_at dksX9_undo_1 8 rfl rfl)
theorem dX9_undo_32 : decode cX9_undo 32 = .ok (.irem, 1) := dk_112 (dk_at dksX9_undo_1 10 rfl rfl)
theorem dX9_undo_33 : decode cX9_undo 33 = .ok (.imul, 1) := dk_104 (dk_at dksX9_undo_1 11 rfl rfl)
theorem dX9_undo_34 : decode cX9_undo 34 = .ok (.istore_n 1, 1) := dk_60 (dk_at dksX9_undo_1 12 rfl rfl)
theorem dX9_undo_35 : decode cX9_undo 35 = .ok (.iconst 0, 1) := dk_3 (dk_at dksX9_undo_1 13 rfl rfl)
theorem dX9_undo_36 : decode cX9_undo 36 = .ok (.istore_n 2, 1) := dk_61 (dk_at dksX9_undo_1 14 rfl rfl)
theorem dX9_undo_37 : decode cX9_undo 37 = .ok (.iload_n 2, 1) := dk_28 (dk_at dksX9_undo_1 15 rfl rfl)
theorem dX9_undo_38 : decode cX9_undo 38 = .ok (.bipush 66, 2) := dk_16 66 (dk_at dksX9_undo_1 16 rfl rfl)
theorem dX9_undo_40 : decode cX9_undo 40 = .ok (.if_icmp .ge 23, 3) := dk_162 0 23 (dk_at dksX9_undo_1 18 rfl rfl)
theorem dX9_undo_43 : decode cX9_undo 43 = .ok (.aload_n 0, 1) := dk_42 (dk_at dksX9_undo_1 21 rfl rfl)
theorem dX9_undo_44 : decode cX9_undo 44 = .ok (.getfield 40, 3) := dk_180 0 40 (dk_at dksX9_undo_2 0 rfl rfl)
theorem dX9_undo_47 : decode cX9_undo 47 = .ok (.iload_n 2, 1) := dk_28 (dk_at dksX9_undo_2 3 rfl rfl)
theorem dX9_undo_48 : decode cX9_undo 48 = .ok (.aload_n 0, 1) := dk_42 (dk_at dksX9_undo_2 4 rfl rfl)
theorem dX9_undo_49 : decode cX9_undo 49 = .ok (.getfield 46, 3) := dk_180 0 46 (dk_at dksX9_undo_2 5 rfl rfl)
theorem dX9_undo_52 : decode cX9_undo 52 = .ok (.iload_n 1, 1) := dk_27 (dk_at dksX9_undo_2 8 rfl rfl)
theorem dX9_undo_53 : decode cX9_undo 53 = .ok (.iload_n 2, 1) := dk_28 (dk_at dksX9_undo_2 9 rfl rfl)
theorem dX9_undo_54 : decode cX9_undo 54 = .ok (.iadd, 1) := dk_96 (dk_at dksX9_undo_2 10 rfl rfl)
theorem dX9_undo_55 : decode cX9_undo 55 = .ok (.iaload, 1) := dk_46 (dk_at dksX9_undo_2 11 rfl rfl)
theorem dX9_undo_56 : decode cX9_undo 56 = .ok (.iastore, 1) := dk_79 (dk_at dksX9_undo_2 12 rfl rfl)
theorem dX9_undo_57 : decode cX9_undo 57 = .ok (.iinc 2 1, 3) := dk_132 2 1 (dk_at dksX9_undo_2 13 rfl rfl)
theorem dX9_undo_60 : decode cX9_undo 60 = .ok (.goto (-23), 3) := dk_167 255 233 (dk_at dksX9_undo_2 16 rfl rfl)
theorem dX9_undo_63 : decode cX9_undo 63 = .ok (.aload_n 0, 1) := dk_42 (dk_at dksX9_undo_2 19 rfl rfl)
theorem dX9_undo_64 : decode cX9_undo 64 = .ok (.iconst 0, 1) := dk_3 (dk_at dksX9_undo_2 20 rfl rfl)
theorem dX9_undo_65 : decode cX9_undo 65 = .ok (.putfield 200, 3) := dk_181 0 200 (dk_at dksX9_undo_2 21 rfl rfl)
theorem dX9_undo_68 : decode cX9_undo 68 = .ok (.iconst 1, 1) := dk_4 (dk_at dksX9_undo_3 0 rfl rfl)
theorem dX9_undo_69 : decode cX9_undo 69 = .ok (.ireturn, 1) := dk_172 (dk_at dksX9_undo_3 1 rfl rfl)
abbrev cX9_hold : ByteArray := prog_14_method_45_code
def yX9_hold : MethodName := ⟨RX9, "hold", "(I)Z"⟩
def dkwX9_hold_2 : List UInt8 := [4, 84, 4, 172]
abbrev dktX9_hold_2 : List UInt8 := dkwX9_hold_2 ++ []
def dkwX9_hold_1 : List UInt8 := [16, 66, 27, 104, 28, 96, 42, 180, 0, 40, 28, 46, 79, 132, 2, 1, 167, 255, 230, 42, 180, 0, 52, 27]
abbrev dktX9_hold_1 : List UInt8 := dkwX9_hold_1 ++ dktX9_hold_2
def dkwX9_hold_0 : List UInt8 := [27, 3, 5, 184, 0, 213, 154, 0, 5, 3, 172, 3, 61, 28, 16, 66, 162, 0, 26, 42, 180, 0, 49]
abbrev dktX9_hold_0 : List UInt8 := dkwX9_hold_0 ++ dktX9_hold_1
theorem dksX9_hold_0 : cX9_hold.data.toList.drop 0 = dktX9_hold_0 := by decide +kernel
theorem dksX9_hold_1 : cX9_hold.data.toList.drop 23 = dktX9_hold_1 := dk_seg dksX9_hold_0 23 rfl rfl
theorem dksX9_hold_2 : cX9_hold.data.toList.drop 47 = dktX9_hold_2 := dk_seg dksX9_hold_1 24 rfl rfl
theorem dX9_hold_0 : decode cX9_hold 0 = .ok (.iload_n 1, 1) := dk_27 (dk_at dksX9_hold_0 0 rfl rfl)
theorem dX9_hold_1 : decode cX9_hold 1 = .ok (.iconst 0, 1) := dk_3 (dk_at dksX9_hold_0 1 rfl rfl)
theorem dX9_hold_2 : decode cX9_hold 2 = .ok (.iconst 2, 1) := dk_5 (dk_at dksX9_hold_0 2 rfl rfl)
theorem dX9_hold_3 : decode cX9_hold 3 = .ok (.invokestatic 213, 3) := dk_184 0 213 (dk_at dksX9_hold_0 3 rfl rfl)
theorem dX9_hold_6 : decode cX9_hold 6 = .ok (.ifCond .ne 5, 3) := dk_154 0 5 (dk_at dksX9_hold_0 6 rfl rfl)
theorem dX9_hold_9 : decode cX9_hold 9 = .ok (.iconst 0, 1) := dk_3 (dk_at dksX9_hold_0 9 rfl rfl)
theorem dX9_hold_10 : decode cX9_hold 10 = .ok (.ireturn, 1) := dk_172 (dk_at dksX9_hold_0 10 rfl rfl)
theorem dX9_hold_11 : decode cX9_hold 11 = .ok (.iconst 0, 1) := dk_3 (dk_at dksX9_hold_0 11 rfl rfl)
theorem dX9_hold_12 : decode cX9_hold 12 = .ok (.istore_n 2, 1) := dk_61 (dk_at dksX9_hold_0 12 rfl rfl)
theorem dX9_hold_13 : decode cX9_hold 13 = .ok (.iload_n 2, 1) := dk_28 (dk_at dksX9_hold_0 13 rfl rfl)
theorem dX9_hold_14 : decode cX9_hold 14 = .ok (.bipush 66, 2) := dk_16 66 (dk_at dksX9_hold_0 14 rfl rfl)
theorem dX9_hold_16 : decode cX9_hold 16 = .ok (.if_icmp .ge 26, 3) := dk_162 0 26 (dk_at dksX9_hold_0 16 rfl rfl)
theorem dX9_hold_19 : decode cX9_hold 19 = .ok (.aload_n 0, 1) := dk_42 (dk_at dksX9_hold_0 19 rfl rfl)
theorem dX9_hold_20 : decode cX9_hold 20 = .ok (.getfield 49, 3) := dk_180 0 49 (dk_at dksX9_hold_0 20 rfl rfl)
theorem dX9_hold_23 : decode cX9_hold 23 = .ok (.bipush 66, 2) := dk_16 66 (dk_at dksX9_hold_1 0 rfl rfl)
theorem dX9_hold_25 : decode cX9_hold 25 = .ok (.iload_n 1, 1) := dk_27 (dk_at dksX9_hold_1 2 rfl rfl)
theorem dX9_hold_26 : decode cX9_hold 26 = .ok (.imul, 1) := dk_104 (dk_at dksX9_hold_1 3 rfl rfl)
theorem dX9_hold_27 : decode cX9_hold 27 = .ok (.iload_n 2, 1) := dk_28 (dk_at dksX9_hold_1 4 rfl rfl)
theorem dX9_hold_28 : decode cX9_hold 28 = .ok (.iadd, 1) := dk_96 (dk_at dksX9_hold_1 5 rfl rfl)
theorem dX9_hold_29 : decode cX9_hold 29 = .ok (.aload_n 0, 1) := dk_42 (dk_at dksX9_hold_1 6 rfl rfl)
theorem dX9_hold_30 : decode cX9_hold 30 = .ok (.getfield 40, 3) := dk_180 0 40 (dk_at dksX9_hold_1 7 rfl rfl)
theorem dX9_hold_33 : decode cX9_hold 33 = .ok (.iload_n 2, 1) := dk_28 (dk_at dksX9_hold_1 10 rfl rfl)
theorem dX9_hold_34 : decode cX9_hold 34 = .ok (.iaload, 1) := dk_46 (dk_at dksX9_hold_1 11 rfl rfl)
theorem dX9_hold_35 : decode cX9_hold 35 = .ok (.iastore, 1) := dk_79 (dk_at dksX9_hold_1 12 rfl rfl)
theorem dX9_hold_36 : decode cX9_hold 36 = .ok (.iinc 2 1, 3) := dk_132 2 1 (dk_at dksX9_hold_1 13 rfl rfl)
theorem dX9_hold_39 : decode cX9_hold 39 = .ok (.goto (-26), 3) := dk_167 255 230 (dk_at dksX9_hold_1 16 rfl rfl)
theorem dX9_hold_42 : decode cX9_hold 42 = .ok (.aload_n 0, 1) := dk_42 (dk_at dksX9_hold_1 19 rfl rfl)
theorem dX9_hold_43 : decode cX9_hold 43 = .ok (.getfield 52, 3) := dk_180 0 52 (dk_at dksX9_hold_1 20 rfl rfl)
theorem dX9_hold_46 : decode cX9_hold 46 = .ok (.iload_n 1, 1) := dk_27 (dk_at dksX9_hold_1 23 rfl rfl)
theorem dX9_hold_47 : decode cX9_hold 47 = .ok (.iconst 1, 1) := dk_4 (dk_at dksX9_hold_2 0 rfl rfl)
theorem dX9_hold_48 : decode cX9_hold 48 = .ok (.bastore, 1) := dk_84 (dk_at dksX9_hold_2 1 rfl rfl)
theorem dX9_hold_49 : decode cX9_hold 49 = .ok (.iconst 1, 1) := dk_4 (dk_at dksX9_hold_2 2 rfl rfl)
theorem dX9_hold_50 : decode cX9_hold 50 = .ok (.ireturn, 1) := dk_172 (dk_at dksX9_hold_2 3 rfl rfl)
abbrev cX9_restore : ByteArray := prog_14_method_46_code
def yX9_restore : MethodName := ⟨RX9, "restore", "(I)Z"⟩
def dkwX9_restore_2 : List UInt8 := [132, 2, 1, 167, 255, 230, 42, 3, 181, 0, 197, 42, 3, 181, 0, 200, 4, 172]
abbrev dktX9_restore_2 : List UInt8 := dkwX9_restore_2 ++ []
def dkwX9_restore_1 : List UInt8 := [16, 66, 162, 0, 26, 42, 180, 0, 40, 28, 42, 180, 0, 49, 16, 66, 27, 104, 28, 96, 46, 79]
abbrev dktX9_restore_1 : List UInt8 := dkwX9_restore_1 ++ dktX9_restore_2
def dkwX9_restore_0 : List UInt8 := [27, 3, 5, 184, 0, 213, 153, 0, 12, 42, 180, 0, 52, 27, 51, 154, 0, 5, 3, 172, 3, 61, 28]
abbrev dktX9_restore_0 : List UInt8 := dkwX9_restore_0 ++ dktX9_restore_1
theorem dksX9_restore_0 : cX9_restore.data.toList.drop 0 = dktX9_restore_0 := by decide +kernel
theorem dksX9_restore_1 : cX9_restore.data.toList.drop 23 = dktX9_restore_1 := dk_seg dksX9_restore_0 23 rfl rfl
theorem dksX9_restore_2 : cX9_restore.data.toList.drop 45 = dktX9_restore_2 := dk_seg dksX9_restore_1 22 rfl rfl
theorem dX9_restore_0 : decode cX9_restore 0 = .ok (.iload_n 1, 1) := dk_27 (dk_at dksX9_restore_0 0 rfl rfl)
theorem dX9_restore_1 : decode cX9_restore 1 = .ok (.iconst 0, 1) := dk_3 (dk_at dksX9_restore_0 1 rfl rfl)
theorem dX9_restore_2 : decode cX9_restore 2 = .ok (.iconst 2, 1) := dk_5 (dk_at dksX9_restore_0 2 rfl rfl)
theorem dX9_restore_3 : decode cX9_restore 3 = .ok (.invokestatic 213, 3) := dk_184 0 213 (dk_at dksX9_restore_0 3 rfl rfl)
theorem dX9_restore_6 : decode cX9_restore 6 = .ok (.ifCond .eq 12, 3) := dk_153 0 12 (dk_at dksX9_restore_0 6 rfl rfl)
theorem dX9_restore_9 : decode cX9_restore 9 = .ok (.aload_n 0, 1) := dk_42 (dk_at dksX9_restore_0 9 rfl rfl)
theorem dX9_restore_10 : decode cX9_restore 10 = .ok (.getfield 52, 3) := dk_180 0 52 (dk_at dksX9_restore_0 10 rfl rfl)
theorem dX9_restore_13 : decode cX9_restore 13 = .ok (.iload_n 1, 1) := dk_27 (dk_at dksX9_restore_0 13 rfl rfl)
theorem dX9_restore_14 : decode cX9_restore 14 = .ok (.baload, 1) := dk_51 (dk_at dksX9_restore_0 14 rfl rfl)
theorem dX9_restore_15 : decode cX9_restore 15 = .ok (.ifCond .ne 5, 3) := dk_154 0 5 (dk_at dksX9_restore_0 15 rfl rfl)
theorem dX9_restore_18 : decode cX9_restore 18 = .ok (.iconst 0, 1) := dk_3 (dk_at dksX9_restore_0 18 rfl rfl)
theorem dX9_restore_19 : decode cX9_restore 19 = .ok (.ireturn, 1) := dk_172 (dk_at dksX9_restore_0 19 rfl rfl)
theorem dX9_restore_20 : decode cX9_restore 20 = .ok (.iconst 0, 1) := dk_3 (dk_at dksX9_restore_0 20 rfl rfl)
theorem dX9_restore_21 : decode cX9_restore 21 = .ok (.istore_n 2, 1) := dk_61 (dk_at dksX9_restore_0 21 rfl rfl)
theorem dX9_restore_22 : decode cX9_restore 22 = .ok (.iload_n 2, 1) := dk_28 (dk_at dksX9_restore_0 22 rfl rfl)
theorem dX9_restore_23 : decode cX9_restore 23 = .ok (.bipush 66, 2) := dk_16 66 (dk_at dksX9_restore_1 0 rfl rfl)
theorem dX9_restore_25 : decode cX9_restore 25 = .ok (.if_icmp .ge 26, 3) := dk_162 0 26 (dk_at dksX9_restore_1 2 rfl rfl)
theorem dX9_restore_28 : decode cX9_restore 28 = .ok (.aload_n 0, 1) := dk_42 (dk_at dksX9_restore_1 5 rfl rfl)
theorem dX9_restore_29 : decode cX9_restore 29 = .ok (.getfield 40, 3) := dk_180 0 40 (dk_at dksX9_restore_1 6 rfl rfl)
theorem dX9_restore_32 : decode cX9_restore 32 = .ok (.iload_n 2, 1) := dk_28 (dk_at dksX9_restore_1 9 rfl rfl)
theorem dX9_restore_33 : decode cX9_restore 33 = .ok (.aload_n 0, 1) := dk_42 (dk_at dksX9_restore_1 10 rfl rfl)
theorem dX9_restore_34 : decode cX9_restore 34 = .ok (.getfield 49, 3) := dk_180 0 49 (dk_at dksX9_restore_1 11 rfl rfl)
theorem dX9_restore_37 : decode cX9_restore 37 = .ok (.bipush 66, 2) := dk_16 66 (dk_at dksX9_restore_1 14 rfl rfl)
theorem dX9_restore_39 : decode cX9_restore 39 = .ok (.iload_n 1, 1) := dk_27 (dk_at dksX9_restore_1 16 rfl rfl)
theorem dX9_restore_40 : decode cX9_restore 40 = .ok (.imul, 1) := dk_104 (dk_at dksX9_restore_1 17 rfl rfl)
theorem dX9_restore_41 : decode cX9_restore 41 = .ok (.iload_n 2, 1) := dk_28 (dk_at dksX9_restore_1 18 rfl rfl)
theorem dX9_restore_42 : decode cX9_restore 42 = .ok (.iadd, 1) := dk_96 (dk_at dksX9_restore_1 19 rfl rfl)
theorem dX9_restore_43 : decode cX9_restore 43 = .ok (.iaload, 1) := dk_46 (dk_at dksX9_restore_1 20 rfl rfl)
theorem dX9_restore_44 : decode cX9_restore 44 = .ok (.iastore, 1) := dk_79 (dk_at dksX9_restore_1 21 rfl rfl)
theorem dX9_restore_45 : decode cX9_restore 45 = .ok (.iinc 2 1, 3) := dk_132 2 1 (dk_at dksX9_restore_2 0 rfl rfl)
theorem dX9_restore_48 : decode cX9_restore 48 = .ok (.goto (-26), 3) := dk_167 255 230 (dk_at dksX9_restore_2 3 rfl rfl)
theorem dX9_restore_51 : decode cX9_restore 51 = .ok (.aload_n 0, 1) := dk_42 (dk_at dksX9_restore_2 6 rfl rfl)
theorem dX9_restore_52 : decode cX9_restore 52 = .ok (.iconst 0, 1) := dk_3 (dk_at dksX9_restore_2 7 rfl rfl)
theorem dX9_restore_53 : decode cX9_restore 53 = .ok (.putfield 197, 3) := dk_181 0 197 (dk_at dksX9_restore_2 8 rfl rfl)
theorem dX9_restore_56 : decode cX9_restore 56 = .ok (.aload_n 0, 1) := dk_42 (dk_at dksX9_restore_2 11 rfl rfl)
theorem dX9_restore_57 : decode cX9_restore 57 = .ok (.iconst 0, 1) := dk_3 (dk_at dksX9_restore_2 12 rfl rfl)
theorem dX9_restore_58 : decode cX9_restore 58 = .ok (.putfield 200, 3) := dk_181 0 200 (dk_at dksX9_restore_2 13 rfl rfl)
theorem dX9_restore_61 : decode cX9_restore 61 = .ok (.iconst 1, 1) := dk_4 (dk_at dksX9_restore_2 16 rfl rfl)
theorem dX9_restore_62 : decode cX9_restore 62 = .ok (.ireturn, 1) := dk_172 (dk_at dksX9_restore_2 17 rfl rfl)
abbrev cX9_site : ByteArray := prog_14_method_54_code
def yX9_site : MethodName := ⟨RX9, "site", "(II)I"⟩
def dkwX9_site_6 : List UInt8 := [180, 0, 40, 16, 64, 46, 27, 182, 1, 33, 172, 19, 1, 32, 172]
abbrev dktX9_site_6 : List UInt8 := dkwX9_site_6 ++ []
def dkwX9_site_5 : List UInt8 := [180, 0, 40, 16, 16, 27, 96, 46, 172, 42, 180, 0, 40, 16, 64, 46, 27, 122, 4, 126, 172, 42, 42]
abbrev dktX9_site_5 : List UInt8 := dkwX9_site_5 ++ dktX9_site_6
def dkwX9_site_4 : List UInt8 := [42, 180, 0, 40, 3, 27, 96, 46, 172, 42, 27, 4, 182, 0, 236, 156, 0, 8, 16, 100, 167, 0, 12, 42]
abbrev dktX9_site_4 : List UInt8 := dkwX9_site_4 ++ dktX9_site_5
def dkwX9_site_3 : List UInt8 := [42, 180, 0, 40, 16, 48, 27, 96, 46, 172, 42, 27, 3, 182, 0, 236, 156, 0, 8, 16, 100, 167, 0, 11]
abbrev dktX9_site_3 : List UInt8 := dkwX9_site_3 ++ dktX9_site_4
def dkwX9_site_2 : List UInt8 := [27, 42, 180, 0, 171, 108, 172, 27, 42, 180, 0, 171, 112, 172, 42, 180, 0, 40, 16, 32, 27, 96, 46, 172]
abbrev dktX9_site_2 : List UInt8 := dkwX9_site_2 ++ dktX9_site_3
def dkwX9_site_1 : List UInt8 := [170, 0, 0, 0, 0, 0, 153, 0, 0, 0, 0, 0, 0, 0, 7, 0, 0, 0, 47, 0, 0, 0, 54, 0, 0, 0, 61, 0, 0, 0, 71, 0, 0, 0, 81, 0, 0, 0, 104, 0, 0, 0, 128, 0, 0, 0, 140]
abbrev dktX9_site_1 : List UInt8 := dkwX9_site_1 ++ dktX9_site_2
def dkwX9_site_0 : List UInt8 := [42, 27, 182, 0, 233, 154, 0, 7, 19, 1, 32, 172, 28]
abbrev dktX9_site_0 : List UInt8 := dkwX9_site_0 ++ dktX9_site_1
theorem dksX9_site_0 : cX9_site.data.toList.drop 0 = dktX9_site_0 := by decide +kernel
theorem dksX9_site_1 : cX9_site.data.toList.drop 13 = dktX9_site_1 := dk_seg dksX9_site_0 13 rfl rfl
theorem dksX9_site_2 : cX9_site.data.toList.drop 60 = dktX9_site_2 := dk_seg dksX9_site_1 47 rfl rfl
theorem dksX9_site_3 : cX9_site.data.toList.drop 84 = dktX9_site_3 := dk_seg dksX9_site_2 24 rfl rfl
theorem dksX9_site_4 : cX9_site.data.toList.drop 108 = dktX9_site_4 := dk_seg dksX9_site_3 24 rfl rfl
theorem dksX9_site_5 : cX9_site.data.toList.drop 132 = dktX9_site_5 := dk_seg dksX9_site_4 24 rfl rfl
theorem dksX9_site_6 : cX9_site.data.toList.drop 155 = dktX9_site_6 := dk_seg dksX9_site_5 23 rfl rfl
theorem dX9_site_0 : decode cX9_site 0 = .ok (.aload_n 0, 1) := dk_42 (dk_at dksX9_site_0 0 rfl rfl)
theorem dX9_site_1 : decode cX9_site 1 = .ok (.iload_n 1, 1) := dk_27 (dk_at dksX9_site_0 1 rfl rfl)
theorem dX9_site_2 : decode cX9_site 2 = .ok (.invokevirtual 233, 3) := dk_182 0 233 (dk_at dksX9_site_0 2 rfl rfl)
theorem dX9_site_5 : decode cX9_site 5 = .ok (.ifCond .ne 7, 3) := dk_154 0 7 (dk_at dksX9_site_0 5 rfl rfl)
theorem dX9_site_8 : decode cX9_site 8 = .ok (.ldc_w 288, 3) := dk_19 1 32 (dk_at dksX9_site_0 8 rfl rfl)
theorem dX9_site_11 : decode cX9_site 11 = .ok (.ireturn, 1) := dk_172 (dk_at dksX9_site_0 11 rfl rfl)
theorem dX9_site_12 : decode cX9_site 12 = .ok (.iload_n 2, 1) := dk_28 (dk_at dksX9_site_0 12 rfl rfl)
theorem dX9_site_13 : decode cX9_site 13 = .ok (.tableswitch 153 0 7 #[47, 54, 61, 71, 81, 104, 128, 140], 47) := by decide +kernel
theorem dX9_site_60 : decode cX9_site 60 = .ok (.iload_n 1, 1) := dk_27 (dk_at dksX9_site_2 0 rfl rfl)
theorem dX9_site_61 : decode cX9_site 61 = .ok (.aload_n 0, 1) := dk_42 (dk_at dksX9_site_2 1 rfl rfl)
theorem dX9_site_62 : decode cX9_site 62 = .ok (.getfield 171, 3) := dk_180 0 171 (dk_at dksX9_site_2 2 rfl rfl)
theorem dX9_site_65 : decode cX9_site 65 = .ok (.idiv, 1) := dk_108 (dk_at dksX9_site_2 5 rfl rfl)
theorem dX9_site_66 : decode cX9_site 66 = .ok (.ireturn, 1) := dk_172 (dk_at dksX9_site_2 6 rfl rfl)
theorem dX9_site_67 : decode cX9_site 67 = .ok (.iload_n 1, 1) := dk_27 (dk_at dksX9_site_2 7 rfl rfl)
theorem dX9_site_68 : decode cX9_site 68 = .ok (.aload_n 0, 1) := dk_42 (dk_at dksX9_site_2 8 rfl rfl)
theorem dX9_site_69 : decode cX9_site 69 = .ok (.getfield 171, 3) := dk_180 0 171 (dk_at dksX9_site_2 9 rfl rfl)
theorem dX9_site_72 : decode cX9_site 72 = .ok (.irem, 1) := dk_112 (dk_at dksX9_site_2 12 rfl rfl)
theorem dX9_site_73 : decode cX9_site 73 = .ok (.ireturn, 1) := dk_172 (dk_at dksX9_site_2 13 rfl rfl)
theorem dX9_site_74 : decode cX9_site 74 = .ok (.aload_n 0, 1) := dk_42 (dk_at dksX9_site_2 14 rfl rfl)
theorem dX9_site_75 : decode cX9_site 75 = .ok (.getfield 40, 3) := dk_180 0 40 (dk_at dksX9_site_2 15 rfl rfl)
theorem dX9_site_78 : decode cX9_site 78 = .ok (.bipush 32, 2) := dk_16 32 (dk_at dksX9_site_2 18 rfl rfl)
theorem dX9_site_80 : decode cX9_site 80 = .ok (.iload_n 1, 1) := dk_27 (dk_at dksX9_site_2 20 rfl rfl)
theorem dX9_site_81 : decode cX9_site 81 = .ok (.iadd, 1) := dk_96 (dk_at dksX9_site_2 21 rfl rfl)
theorem dX9_site_82 : decode cX9_site 82 = .ok (.iaload, 1) := dk_46 (dk_at dksX9_site_2 22 rfl rfl)
theorem dX9_site_83 : decode cX9_site 83 = .ok (.ireturn, 1) := dk_172 (dk_at dksX9_site_2 23 rfl rfl)
theorem dX9_site_84 : decode cX9_site 84 = .ok (.aload_n 0, 1) := dk_42 (dk_at dksX9_site_3 0 rfl rfl)
theorem dX9_site_85 : decode cX9_site 85 = .ok (.getfield 40, 3) := dk_180 0 40 (dk_at dksX9_site_3 1 rfl rfl)
theorem dX9_site_88 : decode cX9_site 88 = .ok (.bipush 48, 2) := dk_16 48 (dk_at dksX9_site_3 4 rfl rfl)
theorem dX9_site_90 : decode cX9_site 90 = .ok (.iload_n 1, 1) := dk_27 (dk_at dksX9_site_3 6 rfl rfl)
theorem dX9_site_91 : decode cX9_site 91 = .ok (.iadd, 1) := dk_96 (dk_at dksX9_site_3 7 rfl rfl)
theorem dX9_site_92 : decode cX9_site 92 = .ok (.iaload, 1) := dk_46 (dk_at dksX9_site_3 8 rfl rfl)
theorem dX9_site_93 : decode cX9_site 93 = .ok (.ireturn, 1) := dk_172 (dk_at dksX9_site_3 9 rfl rfl)
theorem dX9_site_94 : decode cX9_site 94 = .ok (.aload_n 0, 1) := dk_42 (dk_at dksX9_site_3 10 rfl rfl)
theorem dX9_site_95 : decode cX9_site 95 = .ok (.iload_n 1, 1) := dk_27 (dk_at dksX9_site_3 11 rfl rfl)
theorem dX9_site_96 : decode cX9_site 96 = .ok (.iconst 0, 1) := dk_3 (dk_at dksX9_site_3 12 rfl rfl)
theorem dX9_site_97 : decode cX9_site 97 = .ok (.invokevirtual 236, 3) := dk_182 0 236 (dk_at dksX9_site_3 13 rfl rfl)
theorem dX9_site_100 : decode cX9_site 100 = .ok (.ifCond .ge 8, 3) := dk_156 0 8 (dk_at dksX9_site_3 16 rfl rfl)
theorem dX9_site_103 : decode cX9_site 103 = .ok (.bipush 100, 2) := dk_16 100 (dk_at dksX9_site_3 19 rfl rfl)
theorem dX9_site_105 : decode cX9_site 105 = .ok (.goto 11, 3) := dk_167 0 11 (dk_at dksX9_site_3 21 rfl rfl)
theorem dX9_site_108 : decode cX9_site 108 = .ok (.aload_n 0, 1) := dk_42 (dk_at dksX9_site_4 0 rfl rfl)
theorem dX9_site_109 : decode cX9_site 109 = .ok (.getfield 40, 3) := dk_180 0 40 (dk_at dksX9_site_4 1 rfl rfl)
theorem dX9_site_112 : decode cX9_site 112 = .ok (.iconst 0, 1) := dk_3 (dk_at dksX9_site_4 4 rfl rfl)
theorem dX9_site_113 : decode cX9_site 113 = .ok (.iload_n 1, 1) := dk_27 (dk_at dksX9_site_4 5 rfl rfl)
theorem dX9_site_114 : decode cX9_site 114 = .ok (.iadd, 1) := dk_96 (dk_at dksX9_site_4 6 rfl rfl)
theorem dX9_site_115 : decode cX9_site 115 = .ok (.iaload, 1) := dk_46 (dk_at dksX9_site_4 7 rfl rfl)
theorem dX9_site_116 : decode cX9_site 116 = .ok (.ireturn, 1) := dk_172 (dk_at dksX9_site_4 8 rfl rfl)
theorem dX9_site_117 : decode cX9_site 117 = .ok (.aload_n 0, 1) := dk_42 (dk_at dksX9_site_4 9 rfl rfl)
theorem dX9_site_118 : decode cX9_site 118 = .ok (.iload_n 1, 1) := dk_27 (dk_at dksX9_site_4 10 rfl rfl)
theorem dX9_site_119 : decode cX9_site 119 = .ok (.iconst 1, 1) := dk_4 (dk_at dksX9_site_4 11 rfl rfl)
theorem dX9_site_120 : decode cX9_site 120 = .ok (.invokevirtual 236, 3) := dk_182 0 236 (dk_at dksX9_site_4 12 rfl rfl)
theorem dX9_site_123 : decode cX9_site 123 = .ok (.ifCond .ge 8, 3) := dk_156 0 8 (dk_at dksX9_site_4 15 rfl rfl)
theorem dX9_site_126 : decode cX9_site 126 = .ok (.bipush 100, 2) := dk_16 100 (dk_at dksX9_site_4 18 rfl rfl)
theorem dX9_site_128 : decode cX9_site 128 = .ok (.goto 12, 3) := dk_167 0 12 (dk_at dksX9_site_4 20 rfl rfl)
theorem dX9_site_131 : decode cX9_site 131 = .ok (.aload_n 0, 1) := dk_42 (dk_at dksX9_site_4 23 rfl rfl)
theorem dX9_site_132 : decode cX9_site 132 = .ok (.getfield 40, 3) := dk_180 0 40 (dk_at dksX9_site_5 0 rfl rfl)
theorem dX9_site_135 : decode cX9_site 135 = .ok (.bipush 16, 2) := dk_16 16 (dk_at dksX9_site_5 3 rfl rfl)
theorem dX9_site_137 : decode cX9_site 137 = .ok (.iload_n 1, 1) := dk_27 (dk_at dksX9_site_5 5 rfl rfl)
theorem dX9_site_138 : decode cX9_site 138 = .ok (.iadd, 1) := dk_96 (dk_at dksX9_site_5 6 rfl rfl)
theorem dX9_site_139 : decode cX9_site 139 = .ok (.iaload, 1) := dk_46 (dk_at dksX9_site_5 7 rfl rfl)
theorem dX9_site_140 : decode cX9_site 140 = .ok (.ireturn, 1) := dk_172 (dk_at dksX9_site_5 8 rfl rfl)
theorem dX9_site_141 : decode cX9_site 141 = .ok (.aload_n 0, 1) := dk_42 (dk_at dksX9_site_5 9 rfl rfl)
theorem dX9_site_142 : decode cX9_site 142 = .ok (.getfield 40, 3) := dk_180 0 40 (dk_at dksX9_site_5 10 rfl rfl)
theorem dX9_site_145 : decode cX9_site 145 = .ok (.bipush 64, 2) := dk_16 64 (dk_at dksX9_site_5 13 rfl rfl)
theorem dX9_site_147 : decode cX9_site 147 = .ok (.iaload, 1) := dk_46 (dk_at dksX9_site_5 15 rfl rfl)
theorem dX9_site_148 : decode cX9_site 148 = .ok (.iload_n 1, 1) := dk_27 (dk_at dksX9_site_5 16 rfl rfl)
theorem dX9_site_149 : decode cX9_site 149 = .ok (.ishr, 1) := dk_122 (dk_at dksX9_site_5 17 rfl rfl)
theorem dX9_site_150 : decode cX9_site 150 = .ok (.iconst 1, 1) := dk_4 (dk_at dksX9_site_5 18 rfl rfl)
theorem dX9_site_151 : decode cX9_site 151 = .ok (.iand, 1) := dk_126 (dk_at dksX9_site_5 19 rfl rfl)
theorem dX9_site_152 : decode cX9_site 152 = .ok (.ireturn, 1) := dk_172 (dk_at dksX9_site_5 20 rfl rfl)
theorem dX9_site_153 : decode cX9_site 153 = .ok (.aload_n 0, 1) := dk_42 (dk_at dksX9_site_5 21 rfl rfl)
theorem dX9_site_154 : decode cX9_site 154 = .ok (.aload_n 0, 1) := dk_42 (dk_at dksX9_site_5 22 rfl rfl)
theorem dX9_site_155 : decode cX9_site 155 = .ok (.getfield 40, 3) := dk_180 0 40 (dk_at dksX9_site_6 0 rfl rfl)
theorem dX9_site_158 : decode cX9_site 158 = .ok (.bipush 64, 2) := dk_16 64 (dk_at dksX9_site_6 3 rfl rfl)
theorem dX9_site_160 : decode cX9_site 160 = .ok (.iaload, 1) := dk_46 (dk_at dksX9_site_6 5 rfl rfl)
theorem dX9_site_161 : decode cX9_site 161 = .ok (.iload_n 1, 1) := dk_27 (dk_at dksX9_site_6 6 rfl rfl)
theorem dX9_site_162 : decode cX9_site 162 = .ok (.invokevirtual 289, 3) := dk_182 1 33 (dk_at dksX9_site_6 7 rfl rfl)
theorem dX9_site_165 : decode cX9_site 165 = .ok (.ireturn, 1) := dk_172 (dk_at dksX9_site_6 10 rfl rfl)
theorem dX9_site_166 : decode cX9_site 166 = .ok (.ldc_w 288, 3) := dk_19 1 32 (dk_at dksX9_site_6 11 rfl rfl)
theorem dX9_site_169 : decode cX9_site 169 = .ok (.ireturn, 1) := dk_172 (dk_at dksX9_site_6 14 rfl rfl)
abbrev cX9_costOf : ByteArray := prog_14_method_53_code
def yX9_costOf : MethodName := ⟨RX9, "costOf", "(II)I"⟩
def dkwX9_costOf_1 : List UInt8 := [180, 0, 177, 182, 1, 21, 100, 172]
abbrev dktX9_costOf_1 : List UInt8 := dkwX9_costOf_1 ++ []
def dkwX9_costOf_0 : List UInt8 := [42, 42, 180, 0, 40, 27, 4, 28, 120, 130, 42, 180, 0, 177, 182, 1, 21, 42, 42, 180, 0, 40, 27, 42]
abbrev dktX9_costOf_0 : List UInt8 := dkwX9_costOf_0 ++ dktX9_costOf_1
theorem dksX9_costOf_0 : cX9_costOf.data.toList.drop 0 = dktX9_costOf_0 := by decide +kernel
theorem dksX9_costOf_1 : cX9_costOf.data.toList.drop 24 = dktX9_costOf_1 := dk_seg dksX9_costOf_0 24 rfl rfl
theorem dX9_costOf_0 : decode cX9_costOf 0 = .ok (.aload_n 0, 1) := dk_42 (dk_at dksX9_costOf_0 0 rfl rfl)
theorem dX9_costOf_1 : decode cX9_costOf 1 = .ok (.aload_n 0, 1) := dk_42 (dk_at dksX9_costOf_0 1 rfl rfl)
theorem dX9_costOf_2 : decode cX9_costOf 2 = .ok (.getfield 40, 3) := dk_180 0 40 (dk_at dksX9_costOf_0 2 rfl rfl)
theorem dX9_costOf_5 : decode cX9_costOf 5 = .ok (.iload_n 1, 1) := dk_27 (dk_at dksX9_costOf_0 5 rfl rfl)
theorem dX9_costOf_6 : decode cX9_costOf 6 = .ok (.iconst 1, 1) := dk_4 (dk_at dksX9_costOf_0 6 rfl rfl)
theorem dX9_costOf_7 : decode cX9_costOf 7 = .ok (.iload_n 2, 1) := dk_28 (dk_at dksX9_costOf_0 7 rfl rfl)
theorem dX9_costOf_8 : decode cX9_costOf 8 = .ok (.ishl, 1) := dk_120 (dk_at dksX9_costOf_0 8 rfl rfl)
theorem dX9_costOf_9 : decode cX9_costOf 9 = .ok (.ixor, 1) := dk_130 (dk_at dksX9_costOf_0 9 rfl rfl)
theorem dX9_costOf_10 : decode cX9_costOf 10 = .ok (.aload_n 0, 1) := dk_42 (dk_at dksX9_costOf_0 10 rfl rfl)
theorem dX9_costOf_11 : decode cX9_costOf 11 = .ok (.getfield 177, 3) := dk_180 0 177 (dk_at dksX9_costOf_0 11 rfl rfl)
theorem dX9_costOf_14 : decode cX9_costOf 14 = .ok (.invokevirtual 277, 3) := dk_182 1 21 (dk_at dksX9_costOf_0 14 rfl rfl)
theorem dX9_costOf_17 : decode cX9_costOf 17 = .ok (.aload_n 0, 1) := dk_42 (dk_at dksX9_costOf_0 17 rfl rfl)
theorem dX9_costOf_18 : decode cX9_costOf 18 = .ok (.aload_n 0, 1) := dk_42 (dk_at dksX9_costOf_0 18 rfl rfl)
theorem dX9_costOf_19 : decode cX9_costOf 19 = .ok (.getfield 40, 3) := dk_180 0 40 (dk_at dksX9_costOf_0 19 rfl rfl)
theorem dX9_costOf_22 : decode cX9_costOf 22 = .ok (.iload_n 1, 1) := dk_27 (dk_at dksX9_costOf_0 22 rfl rfl)
theorem dX9_costOf_23 : decode cX9_costOf 23 = .ok (.aload_n 0, 1) := dk_42 (dk_at dksX9_costOf_0 23 rfl rfl)
theorem dX9_costOf_24 : decode cX9_costOf 24 = .ok (.getfield 177, 3) := dk_180 0 177 (dk_at dksX9_costOf_1 0 rfl rfl)
theorem dX9_costOf_27 : decode cX9_costOf 27 = .ok (.invokevirtual 277, 3) := dk_182 1 21 (dk_at dksX9_costOf_1 3 rfl rfl)
theorem dX9_costOf_30 : decode cX9_costOf 30 = .ok (.isub, 1) := dk_100 (dk_at dksX9_costOf_1 6 rfl rfl)
theorem dX9_costOf_31 : decode cX9_costOf 31 = .ok (.ireturn, 1) := dk_172 (dk_at dksX9_costOf_1 7 rfl rfl)
abbrev cX9_level : ByteArray := prog_14_method_57_code
def yX9_level : MethodName := ⟨RX9, "level", "(II)I"⟩
def dkwX9_level_5 : List UInt8 := [180, 0, 63, 27, 46, 2, 182, 1, 42, 172, 19, 1, 32, 172]
abbrev dktX9_level_5 : List UInt8 := dkwX9_level_5 ++ []
def dkwX9_level_4 : List UInt8 := [42, 180, 0, 63, 27, 46, 182, 1, 39, 172, 42, 42, 180, 0, 63, 27, 46, 4, 182, 1, 42, 172, 42, 42]
abbrev dktX9_level_4 : List UInt8 := dkwX9_level_4 ++ dktX9_level_5
def dkwX9_level_3 : List UInt8 := [42, 180, 0, 63, 27, 46, 172, 42, 180, 0, 60, 17, 0, 150, 42, 180, 0, 63, 27, 46, 96, 46, 172, 42]
abbrev dktX9_level_3 : List UInt8 := dkwX9_level_3 ++ dktX9_level_4
def dkwX9_level_2 : List UInt8 := [170, 0, 0, 0, 0, 0, 93, 0, 0, 0, 0, 0, 0, 0, 4, 0, 0, 0, 35, 0, 0, 0, 42, 0, 0, 0, 58, 0, 0, 0, 69, 0, 0, 0, 81]
abbrev dktX9_level_2 : List UInt8 := dkwX9_level_2 ++ dktX9_level_3
def dkwX9_level_1 : List UInt8 := [184, 0, 213, 154, 0, 7, 19, 1, 32, 172, 28]
abbrev dktX9_level_1 : List UInt8 := dkwX9_level_1 ++ dktX9_level_2
def dkwX9_level_0 : List UInt8 := [42, 182, 1, 5, 27, 2, 160, 0, 8, 42, 180, 1, 29, 172, 27, 3, 42, 180, 1, 29, 4, 100]
abbrev dktX9_level_0 : List UInt8 := dkwX9_level_0 ++ dktX9_level_1
theorem dksX9_level_0 : cX9_level.data.toList.drop 0 = dktX9_level_0 := by decide +kernel
theorem dksX9_level_1 : cX9_level.data.toList.drop 22 = dktX9_level_1 := dk_seg dksX9_level_0 22 rfl rfl
theorem dksX9_level_2 : cX9_level.data.toList.drop 33 = dktX9_level_2 := dk_seg dksX9_level_1 11 rfl rfl
theorem dksX9_level_3 : cX9_level.data.toList.drop 68 = dktX9_level_3 := dk_seg dksX9_level_2 35 rfl rfl
theorem dksX9_level_4 : cX9_level.data.toList.drop 92 = dktX9_level_4 := dk_seg dksX9_level_3 24 rfl rfl
theorem dksX9_level_5 : cX9_level.data.toList.drop 116 = dktX9_level_5 := dk_seg dksX9_level_4 24 rfl rfl
theorem dX9_level_0 : decode cX9_level 0 = .ok (.aload_n 0, 1) := dk_42 (dk_at dksX9_level_0 0 rfl rfl)
theorem dX9_level_1 : decode cX9_level 1 = .ok (.invokevirtual 261, 3) := dk_182 1 5 (dk_at dksX9_level_0 1 rfl rfl)
theorem dX9_level_4 : decode cX9_level 4 = .ok (.iload_n 1, 1) := dk_27 (dk_at dksX9_level_0 4 rfl rfl)
theorem dX9_level_5 : decode cX9_level 5 = .ok (.iconst (-1), 1) := dk_2 (dk_at dksX9_level_0 5 rfl rfl)
theorem dX9_level_6 : decode cX9_level 6 = .ok (.if_icmp .ne 8, 3) := dk_160 0 8 (dk_at dksX9_level_0 6 rfl rfl)
theorem dX9_level_9 : decode cX9_level 9 = .ok (.aload_n 0, 1) := dk_42 (dk_at dksX9_level_0 9 rfl rfl)
theorem dX9_level_10 : decode cX9_level 10 = .ok (.getfield 285, 3) := dk_180 1 29 (dk_at dksX9_level_0 10 rfl rfl)
theorem dX9_level_13 : decode cX9_level 13 = .ok (.ireturn, 1) := dk_172 (dk_at dksX9_level_0 13 rfl rfl)
theorem dX9_level_14 : decode cX9_level 14 = .ok (.iload_n 1, 1) := dk_27 (dk_at dksX9_level_0 14 rfl rfl)
theorem dX9_level_15 : decode cX9_level 15 = .ok (.iconst 0, 1) := dk_3 (dk_at dksX9_level_0 15 rfl rfl)
theorem dX9_level_16 : decode cX9_level 16 = .ok (.aload_n 0, 1) := dk_42 (dk_at dksX9_level_0 16 rfl rfl)
theorem dX9_level_17 : decode cX9_level 17 = .ok (.getfield 285, 3) := dk_180 1 29 (dk_at dksX9_level_0 17 rfl rfl)
theorem dX9_level_20 : decode cX9_level 20 = .ok (.iconst 1, 1) := dk_4 (dk_at dksX9_level_0 20 rfl rfl)
theorem dX9_level_21 : decode cX9_level 21 = .ok (.isub, 1) := dk_100 (dk_at dksX9_level_0 21 rfl rfl)
theorem dX9_level_22 : decode cX9_level 22 = .ok (.invokestatic 213, 3) := dk_184 0 213 (dk_at dksX9_level_1 0 rfl rfl)
theorem dX9_level_25 : decode cX9_level 25 = .ok (.ifCond .ne 7, 3) := dk_154 0 7 (dk_at dksX9_level_1 3 rfl rfl)
theorem dX9_level_28 : decode cX9_level 28 = .ok (.ldc_w 288, 3) := dk_19 1 32 (dk_at dksX9_level_1 6 rfl rfl)
theorem dX9_level_31 : decode cX9_level 31 = .ok (.ireturn, 1) := dk_172 (dk_at dksX9_level_1 9 rfl rfl)
theorem dX9_level_32 : decode cX9_level 32 = .ok (.iload_n 2, 1) := dk_28 (dk_at dksX9_level_1 10 rfl rfl)
theorem dX9_level_33 : decode cX9_level 33 = .ok (.tableswitch 93 0 4 #[35, 42, 58, 69, 81], 35) := by decide +kernel
theorem dX9_level_68 : decode cX9_level 68 = .ok (.aload_n 0, 1) := dk_42 (dk_at dksX9_level_3 0 rfl rfl)
theorem dX9_level_69 : decode cX9_level 69 = .ok (.getfield 63, 3) := dk_180 0 63 (dk_at dksX9_level_3 1 rfl rfl)
theorem dX9_level_72 : decode cX9_level 72 = .ok (.iload_n 1, 1) := dk_27 (dk_at dksX9_level_3 4 rfl rfl)
theorem dX9_level_73 : decode cX9_level 73 = .ok (.iaload, 1) := dk_46 (dk_at dksX9_level_3 5 rfl rfl)
theorem dX9_level_74 : decode cX9_level 74 = .ok (.ireturn, 1) := dk_172 (dk_at dksX9_level_3 6 rfl rfl)
theorem dX9_level_75 : decode cX9_level 75 = .ok (.aload_n 0, 1) := dk_42 (dk_at dksX9_level_3 7 rfl rfl)
theorem dX9_level_76 : decode cX9_level 76 = .ok (.getfield 60, 3) := dk_180 0 60 (dk_at dksX9_level_3 8 rfl rfl)
theorem dX9_level_79 : decode cX9_level 79 = .ok (.sipush 150, 3) := dk_17 0 150 (dk_at dksX9_level_3 11 rfl rfl)
theorem dX9_level_82 : decode cX9_level 82 = .ok (.aload_n 0, 1) := dk_42 (dk_at dksX9_level_3 14 rfl rfl)
theorem dX9_level_83 : decode cX9_level 83 = .ok (.getfield 63, 3) := dk_180 0 63 (dk_at dksX9_level_3 15 rfl rfl)
theorem dX9_level_86 : decode cX9_level 86 = .ok (.iload_n 1, 1) := dk_27 (dk_at dksX9_level_3 18 rfl rfl)
theorem dX9_level_87 : decode cX9_level 87 = .ok (.iaload, 1) := dk_46 (dk_at dksX9_level_3 19 rfl rfl)
theorem dX9_level_88 : decode cX9_level 88 = .ok (.iadd, 1) := dk_96 (dk_at dksX9_level_3 20 rfl rfl)
theorem dX9_level_89 : decode cX9_level 89 = .ok (.iaload, 1) := dk_46 (dk_at dksX9_level_3 21 rfl rfl)
theorem dX9_level_90 : decode cX9_level 90 = .ok (.ireturn, 1) := dk_172 (dk_at dksX9_level_3 22 rfl rfl)
theorem dX9_level_91 : decode cX9_level 91 = .ok (.aload_n 0, 1) := dk_42 (dk_at dksX9_level_3 23 rfl rfl)
theorem dX9_level_92 : decode cX9_level 92 = .ok (.aload_n 0, 1) := dk_42 (dk_at dksX9_level_4 0 rfl rfl)
theorem dX9_level_93 : decode cX9_level 93 = .ok (.getfield 63, 3) := dk_180 0 63 (dk_at dksX9_level_4 1 rfl rfl)
theorem dX9_level_96 : decode cX9_level 96 = .ok (.iload_n 1, 1) := dk_27 (dk_at dksX9_level_4 4 rfl rfl)
theorem dX9_level_97 : decode cX9_level 97 = .ok (.iaload, 1) := dk_46 (dk_at dksX9_level_4 5 rfl rfl)
theorem dX9_level_98 : decode cX9_level 98 = .ok (.invokevirtual 295, 3) := dk_182 1 39 (dk_at dksX9_level_4 6 rfl rfl)
theorem dX9_level_101 : decode cX9_level 101 = .ok (.ireturn, 1) := dk_172 (dk_at dksX9_level_4 9 rfl rfl)
theorem dX9_level_102 : decode cX9_level 102 = .ok (.aload_n 0, 1) := dk_42 (dk_at dksX9_level_4 10 rfl rfl)
theorem dX9_level_103 : decode cX9_level 103 = .ok (.aload_n 0, 1) := dk_42 (dk_at dksX9_level_4 11 rfl rfl)
theorem dX9_level_104 : decode cX9_level 104 = .ok (.getfield 63, 3) := dk_180 0 63 (dk_at dksX9_level_4 12 rfl rfl)
theorem dX9_level_107 : decode cX9_level 107 = .ok (.iload_n 1, 1) := dk_27 (dk_at dksX9_level_4 15 rfl rfl)
theorem dX9_level_108 : decode cX9_level 108 = .ok (.iaload, 1) := dk_46 (dk_at dksX9_level_4 16 rfl rfl)
theorem dX9_level_109 : decode cX9_level 109 = .ok (.iconst 1, 1) := dk_4 (dk_at dksX9_level_4 17 rfl rfl)
theorem dX9_level_110 : decode cX9_level 110 = .ok (.invokevirtual 298, 3) := dk_182 1 42 (dk_at dksX9_level_4 18 rfl rfl)
theorem dX9_level_113 : decode cX9_level 113 = .ok (.ireturn, 1) := dk_172 (dk_at dksX9_level_4 21 rfl rfl)
theorem dX9_level_114 : decode cX9_level 114 = .ok (.aload_n 0, 1) := dk_42 (dk_at dksX9_level_4 22 rfl rfl)
theorem dX9_level_115 : decode cX9_level 115 = .ok (.aload_n 0, 1) := dk_42 (dk_at dksX9_level_4 23 rfl rfl)
theorem dX9_level_116 : decode cX9_level 116 = .ok (.getfield 63, 3) := dk_180 0 63 (dk_at dksX9_level_5 0 rfl rfl)
theorem dX9_level_119 : decode cX9_level 119 = .ok (.iload_n 1, 1) := dk_27 (dk_at dksX9_level_5 3 rfl rfl)
theorem dX9_level_120 : decode cX9_level 120 = .ok (.iaload, 1) := dk_46 (dk_at dksX9_level_5 4 rfl rfl)
theorem dX9_level_121 : decode cX9_level 121 = .ok (.iconst (-1), 1) := dk_2 (dk_at dksX9_level_5 5 rfl rfl)
theorem dX9_level_122 : decode cX9_level 122 = .ok (.invokevirtual 298, 3) := dk_182 1 42 (dk_at dksX9_level_5 6 rfl rfl)
theorem dX9_level_125 : decode cX9_level 125 = .ok (.ireturn, 1) := dk_172 (dk_at dksX9_level_5 9 rfl rfl)
theorem dX9_level_126 : decode cX9_level 126 = .ok (.ldc_w 288, 3) := dk_19 1 32 (dk_at dksX9_level_5 10 rfl rfl)
theorem dX9_level_129 : decode cX9_level 129 = .ok (.ireturn, 1) := dk_172 (dk_at dksX9_level_5 13 rfl rfl)
abbrev cX9_leastOf : ByteArray := prog_14_method_55_code
def yX9_leastOf : MethodName := ⟨RX9, "leastOf", "(I)I"⟩
def dkwX9_leastOf_0 : List UInt8 := [3, 61, 42, 180, 0, 57, 28, 46, 27, 159, 0, 9, 132, 2, 1, 167, 255, 243, 28, 172]
abbrev dktX9_leastOf_0 : List UInt8 := dkwX9_leastOf_0 ++ []
theorem dksX9_leastOf_0 : cX9_leastOf.data.toList.drop 0 = dktX9_leastOf_0 := by decide +kernel
theorem dX9_leastOf_0 : decode cX9_leastOf 0 = .ok (.iconst 0, 1) := dk_3 (dk_at dksX9_leastOf_0 0 rfl rfl)
theorem dX9_leastOf_1 : decode cX9_leastOf 1 = .ok (.istore_n 2, 1) := dk_61 (dk_at dksX9_leastOf_0 1 rfl rfl)
theorem dX9_leastOf_2 : decode cX9_leastOf 2 = .ok (.aload_n 0, 1) := dk_42 (dk_at dksX9_leastOf_0 2 rfl rfl)
theorem dX9_leastOf_3 : decode cX9_leastOf 3 = .ok (.getfield 57, 3) := dk_180 0 57 (dk_at dksX9_leastOf_0 3 rfl rfl)
theorem dX9_leastOf_6 : decode cX9_leastOf 6 = .ok (.iload_n 2, 1) := dk_28 (dk_at dksX9_leastOf_0 6 rfl rfl)
theorem dX9_leastOf_7 : decode cX9_leastOf 7 = .ok (.iaload, 1) := dk_46 (dk_at dksX9_leastOf_0 7 rfl rfl)
theorem dX9_leastOf_8 : decode cX9_leastOf 8 = .ok (.iload_n 1, 1) := dk_27 (dk_at dksX9_leastOf_0 8 rfl rfl)
theorem dX9_leastOf_9 : decode cX9_leastOf 9 = .ok (.if_icmp .eq 9, 3) := dk_159 0 9 (dk_at dksX9_leastOf_0 9 rfl rfl)
theorem dX9_leastOf_12 : decode cX9_leastOf 12 = .ok (.iinc 2 1, 3) := dk_132 2 1 (dk_at dksX9_leastOf_0 12 rfl rfl)
theorem dX9_leastOf_15 : decode cX9_leastOf 15 = .ok (.goto (-13), 3) := dk_167 255 243 (dk_at dksX9_leastOf_0 15 rfl rfl)
theorem dX9_leastOf_18 : decode cX9_leastOf 18 = .ok (.iload_n 2, 1) := dk_28 (dk_at dksX9_leastOf_0 18 rfl rfl)
theorem dX9_leastOf_19 : decode cX9_leastOf 19 = .ok (.ireturn, 1) := dk_172 (dk_at dksX9_leastOf_0 19 rfl rfl)
abbrev cX9_upsOf : ByteArray := prog_14_method_56_code
def yX9_upsOf : MethodName := ⟨RX9, "upsOf", "(II)I"⟩
def dkwX9_upsOf_2 : List UInt8 := [132, 4, 1, 167, 255, 214, 28, 29, 104, 172]
abbrev dktX9_upsOf_2 : List UInt8 := dkwX9_upsOf_2 ++ []
def dkwX9_upsOf_1 : List UInt8 := [160, 0, 22, 28, 21, 4, 184, 1, 36, 104, 29, 162, 0, 11, 28, 21, 4, 184, 1, 36, 104, 62]
abbrev dktX9_upsOf_1 : List UInt8 := dkwX9_upsOf_1 ++ dktX9_upsOf_2
def dkwX9_upsOf_0 : List UInt8 := [19, 1, 28, 62, 3, 54, 4, 21, 4, 42, 182, 1, 14, 162, 0, 39, 42, 180, 0, 57, 21, 4, 46, 27]
abbrev dktX9_upsOf_0 : List UInt8 := dkwX9_upsOf_0 ++ dktX9_upsOf_1
theorem dksX9_upsOf_0 : cX9_upsOf.data.toList.drop 0 = dktX9_upsOf_0 := by decide +kernel
theorem dksX9_upsOf_1 : cX9_upsOf.data.toList.drop 24 = dktX9_upsOf_1 := dk_seg dksX9_upsOf_0 24 rfl rfl
theorem dksX9_upsOf_2 : cX9_upsOf.data.toList.drop 46 = dktX9_upsOf_2 := dk_seg dksX9_upsOf_1 22 rfl rfl
theorem dX9_upsOf_0 : decode cX9_upsOf 0 = .ok (.ldc_w 284, 3) := dk_19 1 28 (dk_at dksX9_upsOf_0 0 rfl rfl)
theorem dX9_upsOf_3 : decode cX9_upsOf 3 = .ok (.istore_n 3, 1) := dk_62 (dk_at dksX9_upsOf_0 3 rfl rfl)
theorem dX9_upsOf_4 : decode cX9_upsOf 4 = .ok (.iconst 0, 1) := dk_3 (dk_at dksX9_upsOf_0 4 rfl rfl)
theorem dX9_upsOf_5 : decode cX9_upsOf 5 = .ok (.istore 4, 2) := dk_54 4 (dk_at dksX9_upsOf_0 5 rfl rfl)
theorem dX9_upsOf_7 : decode cX9_upsOf 7 = .ok (.iload 4, 2) := dk_21 4 (dk_at dksX9_upsOf_0 7 rfl rfl)
theorem dX9_upsOf_9 : decode cX9_upsOf 9 = .ok (.aload_n 0, 1) := dk_42 (dk_at dksX9_upsOf_0 9 rfl rfl)
theorem dX9_upsOf_10 : decode cX9_upsOf 10 = .ok (.invokevirtual 270, 3) := dk_182 1 14 (dk_at dksX9_upsOf_0 10 rfl rfl)
theorem dX9_upsOf_13 : decode cX9_upsOf 13 = .ok (.if_icmp .ge 39, 3) := dk_162 0 39 (dk_at dksX9_upsOf_0 13 rfl rfl)
theorem dX9_upsOf_16 : decode cX9_upsOf 16 = .ok (.aload_n 0, 1) := dk_42 (dk_at dksX9_upsOf_0 16 rfl rfl)
theorem dX9_upsOf_17 : decode cX9_upsOf 17 = .ok (.getfield 57, 3) := dk_180 0 57 (dk_at dksX9_upsOf_0 17 rfl rfl)
theorem dX9_upsOf_20 : decode cX9_upsOf 20 = .ok (.iload 4, 2) := dk_21 4 (dk_at dksX9_upsOf_0 20 rfl rfl)
theorem dX9_upsOf_22 : decode cX9_upsOf 22 = .ok (.iaload, 1) := dk_46 (dk_at dksX9_upsOf_0 22 rfl rfl)
theorem dX9_upsOf_23 : decode cX9_upsOf 23 = .ok (.iload_n 1, 1) := dk_27 (dk_at dksX9_upsOf_0 23 rfl rfl)
theorem dX9_upsOf_24 : decode cX9_upsOf 24 = .ok (.if_icmp .ne 22, 3) := dk_160 0 22 (dk_at dksX9_upsOf_1 0 rfl rfl)
theorem dX9_upsOf_27 : decode cX9_upsOf 27 = .ok (.iload_n 2, 1) := dk_28 (dk_at dksX9_upsOf_1 3 rfl rfl)
theorem dX9_upsOf_28 : decode cX9_upsOf 28 = .ok (.iload 4, 2) := dk_21 4 (dk_at dksX9_upsOf_1 4 rfl rfl)
theorem dX9_upsOf_30 : decode cX9_upsOf 30 = .ok (.invokestatic 292, 3) := dk_184 1 36 (dk_at dksX9_upsOf_1 6 rfl rfl)
theorem dX9_upsOf_33 : decode cX9_upsOf 33 = .ok (.imul, 1) := dk_104 (dk_at dksX9_upsOf_1 9 rfl rfl)
theorem dX9_upsOf_34 : decode cX9_upsOf 34 = .ok (.iload_n 3, 1) := dk_29 (dk_at dksX9_upsOf_1 10 rfl rfl)
theorem dX9_upsOf_35 : decode cX9_upsOf 35 = .ok (.if_icmp .ge 11, 3) := dk_162 0 11 (dk_at dksX9_upsOf_1 11 rfl rfl)
theorem dX9_upsOf_38 : decode cX9_upsOf 38 = .ok (.iload_n 2, 1) := dk_28 (dk_at dksX9_upsOf_1 14 rfl rfl)
theorem dX9_upsOf_39 : decode cX9_upsOf 39 = .ok (.iload 4, 2) := dk_21 4 (dk_at dksX9_upsOf_1 15 rfl rfl)
theorem dX9_upsOf_41 : decode cX9_upsOf 41 = .ok (.invokestatic 292, 3) := dk_184 1 36 (dk_at dksX9_upsOf_1 17 rfl rfl)
theorem dX9_upsOf_44 : decode cX9_upsOf 44 = .ok (.imul, 1) := dk_104 (dk_at dksX9_upsOf_1 20 rfl rfl)
theorem dX9_upsOf_45 : decode cX9_upsOf 45 = .ok (.istore_n 3, 1) := dk_62 (dk_at dksX9_upsOf_1 21 rfl rfl)
theorem dX9_upsOf_46 : decode cX9_upsOf 46 = .ok (.iinc 4 1, 3) := dk_132 4 1 (dk_at dksX9_upsOf_2 0 rfl rfl)
theorem dX9_upsOf_49 : decode cX9_upsOf 49 = .ok (.goto (-42), 3) := dk_167 255 214 (dk_at dksX9_upsOf_2 3 rfl rfl)
theorem dX9_upsOf_52 : decode cX9_upsOf 52 = .ok (.iload_n 2, 1) := dk_28 (dk_at dksX9_upsOf_2 6 rfl rfl)
theorem dX9_upsOf_53 : decode cX9_upsOf 53 = .ok (.iload_n 3, 1) := dk_29 (dk_at dksX9_upsOf_2 7 rfl rfl)
theorem dX9_upsOf_54 : decode cX9_upsOf 54 = .ok (.imul, 1) := dk_104 (dk_at dksX9_upsOf_2 8 rfl rfl)
theorem dX9_upsOf_55 : decode cX9_upsOf 55 = .ok (.ireturn, 1) := dk_172 (dk_at dksX9_upsOf_2 9 rfl rfl)
abbrev cX9_bitsOf : ByteArray := prog_14_method_30_code
def yX9_bitsOf : MethodName := ⟨RX9, "bitsOf", "(I)I"⟩
def dkwX9_bitsOf_0 : List UInt8 := [3, 60, 26, 61, 28, 158, 0, 16, 27, 28, 4, 126, 96, 60, 28, 4, 122, 61, 167, 255, 242, 27, 172]
abbrev dktX9_bitsOf_0 : List UInt8 := dkwX9_bitsOf_0 ++ []
theorem dksX9_bitsOf_0 : cX9_bitsOf.data.toList.drop 0 = dktX9_bitsOf_0 := by decide +kernel
theorem dX9_bitsOf_0 : decode cX9_bitsOf 0 = .ok (.iconst 0, 1) := dk_3 (dk_at dksX9_bitsOf_0 0 rfl rfl)
theorem dX9_bitsOf_1 : decode cX9_bitsOf 1 = .ok (.istore_n 1, 1) := dk_60 (dk_at dksX9_bitsOf_0 1 rfl rfl)
theorem dX9_bitsOf_2 : decode cX9_bitsOf 2 = .ok (.iload_n 0, 1) := dk_26 (dk_at dksX9_bitsOf_0 2 rfl rfl)
theorem dX9_bitsOf_3 : decode cX9_bitsOf 3 = .ok (.istore_n 2, 1) := dk_61 (dk_at dksX9_bitsOf_0 3 rfl rfl)
theorem dX9_bitsOf_4 : decode cX9_bitsOf 4 = .ok (.iload_n 2, 1) := dk_28 (dk_at dksX9_bitsOf_0 4 rfl rfl)
theorem dX9_bitsOf_5 : decode cX9_bitsOf 5 = .ok (.ifCond .le 16, 3) := dk_158 0 16 (dk_at dksX9_bitsOf_0 5 rfl rfl)
theorem dX9_bitsOf_8 : decode cX9_bitsOf 8 = .ok (.iload_n 1, 1) := dk_27 (dk_at dksX9_bitsOf_0 8 rfl rfl)
theorem dX9_bitsOf_9 : decode cX9_bitsOf 9 = .ok (.iload_n 2, 1) := dk_28 (dk_at dksX9_bitsOf_0 9 rfl rfl)
theorem dX9_bitsOf_10 : decode cX9_bitsOf 10 = .ok (.iconst 1, 1) := dk_4 (dk_at dksX9_bitsOf_0 10 rfl rfl)
theorem dX9_bitsOf_11 : decode cX9_bitsOf 11 = .ok (.iand, 1) := dk_126 (dk_at dksX9_bitsOf_0 11 rfl rfl)
theorem dX9_bitsOf_12 : decode cX9_bitsOf 12 = .ok (.iadd, 1) := dk_96 (dk_at dksX9_bitsOf_0 12 rfl rfl)
theorem dX9_bitsOf_13 : decode cX9_bitsOf 13 = .ok (.istore_n 1, 1) := dk_60 (dk_at dksX9_bitsOf_0 13 rfl rfl)
theorem dX9_bitsOf_14 : decode cX9_bitsOf 14 = .ok (.iload_n 2, 1) := dk_28 (dk_at dksX9_bitsOf_0 14 rfl rfl)
theorem dX9_bitsOf_15 : decode cX9_bitsOf 15 = .ok (.iconst 1, 1) := dk_4 (dk_at dksX9_bitsOf_0 15 rfl rfl)
theorem dX9_bitsOf_16 : decode cX9_bitsOf 16 = .ok (.ishr, 1) := dk_122 (dk_at dksX9_bitsOf_0 16 rfl rfl)
theorem dX9_bitsOf_17 : decode cX9_bitsOf 17 = .ok (.istore_n 2, 1) := dk_61 (dk_at dksX9_bitsOf_0 17 rfl rfl)
theorem dX9_bitsOf_18 : decode cX9_bitsOf 18 = .ok (.goto (-14), 3) := dk_167 255 242 (dk_at dksX9_bitsOf_0 18 rfl rfl)
theorem dX9_bitsOf_21 : decode cX9_bitsOf 21 = .ok (.iload_n 1, 1) := dk_27 (dk_at dksX9_bitsOf_0 21 rfl rfl)
theorem dX9_bitsOf_22 : decode cX9_bitsOf 22 = .ok (.ireturn, 1) := dk_172 (dk_at dksX9_bitsOf_0 22 rfl rfl)
abbrev cX9_both : ByteArray := prog_14_method_58_code
def yX9_both : MethodName := ⟨RX9, "both", "(II)I"⟩
def dkwX9_both_2 : List UInt8 := [160, 0, 6, 132, 3, 1, 132, 4, 1, 167, 255, 208, 29, 172]
abbrev dktX9_both_2 : List UInt8 := dkwX9_both_2 ++ []
def dkwX9_both_1 : List UInt8 := [46, 19, 1, 28, 162, 0, 26, 42, 180, 0, 57, 21, 4, 46, 27, 160, 0, 15, 21, 4, 184, 1, 36, 28]
abbrev dktX9_both_1 : List UInt8 := dkwX9_both_1 ++ dktX9_both_2
def dkwX9_both_0 : List UInt8 := [42, 182, 1, 5, 3, 62, 3, 54, 4, 21, 4, 42, 182, 1, 14, 162, 0, 45, 42, 180, 0, 57, 21, 4]
abbrev dktX9_both_0 : List UInt8 := dkwX9_both_0 ++ dktX9_both_1
theorem dksX9_both_0 : cX9_both.data.toList.drop 0 = dktX9_both_0 := by decide +kernel
theorem dksX9_both_1 : cX9_both.data.toList.drop 24 = dktX9_both_1 := dk_seg dksX9_both_0 24 rfl rfl
theorem dksX9_both_2 : cX9_both.data.toList.drop 48 = dktX9_both_2 := dk_seg dksX9_both_1 24 rfl rfl
theorem dX9_both_0 : decode cX9_both 0 = .ok (.aload_n 0, 1) := dk_42 (dk_at dksX9_both_0 0 rfl rfl)
theorem dX9_both_1 : decode cX9_both 1 = .ok (.invokevirtual 261, 3) := dk_182 1 5 (dk_at dksX9_both_0 1 rfl rfl)
theorem dX9_both_4 : decode cX9_both 4 = .ok (.iconst 0, 1) := dk_3 (dk_at dksX9_both_0 4 rfl rfl)
theorem dX9_both_5 : decode cX9_both 5 = .ok (.istore_n 3, 1) := dk_62 (dk_at dksX9_both_0 5 rfl rfl)
theorem dX9_both_6 : decode cX9_both 6 = .ok (.iconst 0, 1) := dk_3 (dk_at dksX9_both_0 6 rfl rfl)
theorem dX9_both_7 : decode cX9_both 7 = .ok (.istore 4, 2) := dk_54 4 (dk_at dksX9_both_0 7 rfl rfl)
theorem dX9_both_9 : decode cX9_both 9 = .ok (.iload 4, 2) := dk_21 4 (dk_at dksX9_both_0 9 rfl rfl)
theorem dX9_both_11 : decode cX9_both 11 = .ok (.aload_n 0, 1) := dk_42 (dk_at dksX9_both_0 11 rfl rfl)
theorem dX9_both_12 : decode cX9_both 12 = .ok (.invokevirtual 270, 3) := dk_182 1 14 (dk_at dksX9_both_0 12 rfl rfl)
theorem dX9_both_15 : decode cX9_both 15 = .ok (.if_icmp .ge 45, 3) := dk_162 0 45 (dk_at dksX9_both_0 15 rfl rfl)
theorem dX9_both_18 : decode cX9_both 18 = .ok (.aload_n 0, 1) := dk_42 (dk_at dksX9_both_0 18 rfl rfl)
theorem dX9_both_19 : decode cX9_both 19 = .ok (.getfield 57, 3) := dk_180 0 57 (dk_at dksX9_both_0 19 rfl rfl)
theorem dX9_both_22 : decode cX9_both 22 = .ok (.iload 4, 2) := dk_21 4 (dk_at dksX9_both_0 22 rfl rfl)
theorem dX9_both_24 : decode cX9_both 24 = .ok (.iaload, 1) := dk_46 (dk_at dksX9_both_1 0 rfl rfl)
theorem dX9_both_25 : decode cX9_both 25 = .ok (.ldc_w 284, 3) := dk_19 1 28 (dk_at dksX9_both_1 1 rfl rfl)
theorem dX9_both_28 : decode cX9_both 28 = .ok (.if_icmp .ge 26, 3) := dk_162 0 26 (dk_at dksX9_both_1 4 rfl rfl)
theorem dX9_both_31 : decode cX9_both 31 = .ok (.aload_n 0, 1) := dk_42 (dk_at dksX9_both_1 7 rfl rfl)
theorem dX9_both_32 : decode cX9_both 32 = .ok (.getfield 57, 3) := dk_180 0 57 (dk_at dksX9_both_1 8 rfl rfl)
theorem dX9_both_35 : decode cX9_both 35 = .ok (.iload 4, 2) := dk_21 4 (dk_at dksX9_both_1 11 rfl rfl)
theorem dX9_both_37 : decode cX9_both 37 = .ok (.iaload, 1) := dk_46 (dk_at dksX9_both_1 13 rfl rfl)
theorem dX9_both_38 : decode cX9_both 38 = .ok (.iload_n 1, 1) := dk_27 (dk_at dksX9_both_1 14 rfl rfl)
theorem dX9_both_39 : decode cX9_both 39 = .ok (.if_icmp .ne 15, 3) := dk_160 0 15 (dk_at dksX9_both_1 15 rfl rfl)
theorem dX9_both_42 : decode cX9_both 42 = .ok (.iload 4, 2) := dk_21 4 (dk_at dksX9_both_1 18 rfl rfl)
theorem dX9_both_44 : decode cX9_both 44 = .ok (.invokestatic 292, 3) := dk_184 1 36 (dk_at dksX9_both_1 20 rfl rfl)
theorem dX9_both_47 : decode cX9_both 47 = .ok (.iload_n 2, 1) := dk_28 (dk_at dksX9_both_1 23 rfl rfl)
theorem dX9_both_48 : decode cX9_both 48 = .ok (.if_icmp .ne 6, 3) := dk_160 0 6 (dk_at dksX9_both_2 0 rfl rfl)
theorem dX9_both_51 : decode cX9_both 51 = .ok (.iinc 3 1, 3) := dk_132 3 1 (dk_at dksX9_both_2 3 rfl rfl)
theorem dX9_both_54 : decode cX9_both 54 = .ok (.iinc 4 1, 3) := dk_132 4 1 (dk_at dksX9_both_2 6 rfl rfl)
theorem dX9_both_57 : decode cX9_both 57 = .ok (.goto (-48), 3) := dk_167 255 208 (dk_at dksX9_both_2 9 rfl rfl)
theorem dX9_both_60 : decode cX9_both 60 = .ok (.iload_n 3, 1) := dk_29 (dk_at dksX9_both_2 12 rfl rfl)
theorem dX9_both_61 : decode cX9_both 61 = .ok (.ireturn, 1) := dk_172 (dk_at dksX9_both_2 13 rfl rfl)
abbrev cX9_broken : ByteArray := prog_14_method_60_code
def yX9_broken : MethodName := ⟨RX9, "broken", "(I)I"⟩
def dkwX9_broken_2 : List UInt8 := [28, 172]
abbrev dktX9_broken_2 : List UInt8 := dkwX9_broken_2 ++ []
def dkwX9_broken_1 : List UInt8 := [19, 1, 28, 162, 0, 15, 42, 29, 182, 1, 49, 27, 160, 0, 6, 132, 2, 1, 132, 3, 1, 167, 255, 221]
abbrev dktX9_broken_1 : List UInt8 := dkwX9_broken_1 ++ dktX9_broken_2
def dkwX9_broken_0 : List UInt8 := [42, 182, 1, 5, 3, 61, 3, 62, 29, 42, 182, 1, 14, 162, 0, 33, 42, 180, 0, 57, 29, 46]
abbrev dktX9_broken_0 : List UInt8 := dkwX9_broken_0 ++ dktX9_broken_1
theorem dksX9_broken_0 : cX9_broken.data.toList.drop 0 = dktX9_broken_0 := by decide +kernel
theorem dksX9_broken_1 : cX9_broken.data.toList.drop 22 = dktX9_broken_1 := dk_seg dksX9_broken_0 22 rfl rfl
theorem dksX9_broken_2 : cX9_broken.data.toList.drop 46 = dktX9_broken_2 := dk_seg dksX9_broken_1 24 rfl rfl
theorem dX9_broken_0 : decode cX9_broken 0 = .ok (.aload_n 0, 1) := dk_42 (dk_at dksX9_broken_0 0 rfl rfl)
theorem dX9_broken_1 : decode cX9_broken 1 = .ok (.invokevirtual 261, 3) := dk_182 1 5 (dk_at dksX9_broken_0 1 rfl rfl)
theorem dX9_broken_4 : decode cX9_broken 4 = .ok (.iconst 0, 1) := dk_3 (dk_at dksX9_broken_0 4 rfl rfl)
theorem dX9_broken_5 : decode cX9_broken 5 = .ok (.istore_n 2, 1) := dk_61 (dk_at dksX9_broken_0 5 rfl rfl)
theorem dX9_broken_6 : decode cX9_broken 6 = .ok (.iconst 0, 1) := dk_3 (dk_at dksX9_broken_0 6 rfl rfl)
theorem dX9_broken_7 : decode cX9_broken 7 = .ok (.istore_n 3, 1) := dk_62 (dk_at dksX9_broken_0 7 rfl rfl)
theorem dX9_broken_8 : decode cX9_broken 8 = .ok (.iload_n 3, 1) := dk_29 (dk_at dksX9_broken_0 8 rfl rfl)
theorem dX9_broken_9 : decode cX9_broken 9 = .ok (.aload_n 0, 1) := dk_42 (dk_at dksX9_broken_0 9 rfl rfl)
theorem dX9_broken_10 : decode cX9_broken 10 = .ok (.invokevirtual 270, 3) := dk_182 1 14 (dk_at dksX9_broken_0 10 rfl rfl)
theorem dX9_broken_13 : decode cX9_broken 13 = .ok (.if_icmp .ge 33, 3) := dk_162 0 33 (dk_at dksX9_broken_0 13 rfl rfl)
theorem dX9_broken_16 : decode cX9_broken 16 = .ok (.aload_n 0, 1) := dk_42 (dk_at dksX9_broken_0 16 rfl rfl)
theorem dX9_broken_17 : decode cX9_broken 17 = .ok (.getfield 57, 3) := dk_180 0 57 (dk_at dksX9_broken_0 17 rfl rfl)
theorem dX9_broken_20 : decode cX9_broken 20 = .ok (.iload_n 3, 1) := dk_29 (dk_at dksX9_broken_0 20 rfl rfl)
theorem dX9_broken_21 : decode cX9_broken 21 = .ok (.iaload, 1) := dk_46 (dk_at dksX9_broken_0 21 rfl rfl)
theorem dX9_broken_22 : decode cX9_broken 22 = .ok (.ldc_w 284, 3) := dk_19 1 28 (dk_at dksX9_broken_1 0 rfl rfl)
theorem dX9_broken_25 : decode cX9_broken 25 = .ok (.if_icmp .ge 15, 3) := dk_162 0 15 (dk_at dksX9_broken_1 3 rfl rfl)
theorem dX9_broken_28 : decode cX9_broken 28 = .ok (.aload_n 0, 1) := dk_42 (dk_at dksX9_broken_1 6 rfl rfl)
theorem dX9_broken_29 : decode cX9_broken 29 = .ok (.iload_n 3, 1) := dk_29 (dk_at dksX9_broken_1 7 rfl rfl)
theorem dX9_broken_30 : decode cX9_broken 30 = .ok (.invokevirtual 305, 3) := dk_182 1 49 (dk_at dksX9_broken_1 8 rfl rfl)
theorem dX9_broken_33 : decode cX9_broken 33 = .ok (.iload_n 1, 1) := dk_27 (dk_at dksX9_broken_1 11 rfl rfl)
theorem dX9_broken_34 : decode cX9_broken 34 = .ok (.if_icmp .ne 6, 3) := dk_160 0 6 (dk_at dksX9_broken_1 12 rfl rfl)
theorem dX9_broken_37 : decode cX9_broken 37 = .ok (.iinc 2 1, 3) := dk_132 2 1 (dk_at dksX9_broken_1 15 rfl rfl)
theorem dX9_broken_40 : decode cX9_broken 40 = .ok (.iinc 3 1, 3) := dk_132 3 1 (dk_at dksX9_broken_1 18 rfl rfl)
theorem dX9_broken_43 : decode cX9_broken 43 = .ok (.goto (-35), 3) := dk_167 255 221 (dk_at dksX9_broken_1 21 rfl rfl)
theorem dX9_broken_46 : decode cX9_broken 46 = .ok (.iload_n 2, 1) := dk_28 (dk_at dksX9_broken_2 0 rfl rfl)
theorem dX9_broken_47 : decode cX9_broken 47 = .ok (.ireturn, 1) := dk_172 (dk_at dksX9_broken_2 1 rfl rfl)
abbrev cX9_brokenOf : ByteArray := prog_14_method_59_code
def yX9_brokenOf : MethodName := ⟨RX9, "brokenOf", "(I)I"⟩
def dkwX9_brokenOf_4 : List UInt8 := [4, 167, 0, 4, 3, 160, 0, 6, 132, 2, 1, 132, 3, 1, 167, 255, 152, 28, 172]
abbrev dktX9_brokenOf_4 : List UInt8 := dkwX9_brokenOf_4 ++ []
def dkwX9_brokenOf_3 : List UInt8 := [21, 4, 184, 1, 45, 27, 21, 6, 184, 1, 45, 160, 0, 7, 4, 167, 0, 4, 3, 21, 7, 156, 0, 7]
abbrev dktX9_brokenOf_3 : List UInt8 := dkwX9_brokenOf_3 ++ dktX9_brokenOf_4
def dkwX9_brokenOf_2 : List UInt8 := [21, 4, 21, 5, 184, 0, 240, 54, 7, 21, 6, 155, 0, 47, 21, 7, 154, 0, 6, 167, 0, 39, 27]
abbrev dktX9_brokenOf_2 : List UInt8 := dkwX9_brokenOf_2 ++ dktX9_brokenOf_3
def dkwX9_brokenOf_1 : List UInt8 := [160, 0, 7, 4, 167, 0, 4, 3, 54, 5, 42, 21, 4, 21, 5, 182, 0, 236, 54, 6, 42, 180, 0, 40]
abbrev dktX9_brokenOf_1 : List UInt8 := dkwX9_brokenOf_1 ++ dktX9_brokenOf_2
def dkwX9_brokenOf_0 : List UInt8 := [3, 61, 3, 62, 29, 5, 42, 182, 0, 193, 104, 162, 0, 100, 29, 5, 108, 54, 4, 29, 5, 112, 4]
abbrev dktX9_brokenOf_0 : List UInt8 := dkwX9_brokenOf_0 ++ dktX9_brokenOf_1
theorem dksX9_brokenOf_0 : cX9_brokenOf.data.toList.drop 0 = dktX9_brokenOf_0 := by decide +kernel
theorem dksX9_brokenOf_1 : cX9_brokenOf.data.toList.drop 23 = dktX9_brokenOf_1 := dk_seg dksX9_brokenOf_0 23 rfl rfl
theorem dksX9_brokenOf_2 : cX9_brokenOf.data.toList.drop 47 = dktX9_brokenOf_2 := dk_seg dksX9_brokenOf_1 24 rfl rfl
theorem dksX9_brokenOf_3 : cX9_brokenOf.data.toList.drop 70 = dktX9_brokenOf_3 := dk_seg dksX9_brokenOf_2 23 rfl rfl
theorem dksX9_brokenOf_4 : cX9_brokenOf.data.toList.drop 94 = dktX9_brokenOf_4 := dk_seg dksX9_brokenOf_3 24 rfl rfl
theorem dX9_brokenOf_0 : decode cX9_brokenOf 0 = .ok (.iconst 0, 1) := dk_3 (dk_at dksX9_brokenOf_0 0 rfl rfl)
theorem dX9_brokenOf_1 : decode cX9_brokenOf 1 = .ok (.istore_n 2, 1) := dk_61 (dk_at dksX9_brokenOf_0 1 rfl rfl)
theorem dX9_brokenOf_2 : decode cX9_brokenOf 2 = .ok (.iconst 0, 1) := dk_3 (dk_at dksX9_brokenOf_0 2 rfl rfl)
theorem dX9_brokenOf_3 : decode cX9_brokenOf 3 = .ok (.istore_n 3, 1) := dk_62 (dk_at dksX9_brokenOf_0 3 rfl rfl)
theorem dX9_brokenOf_4 : decode cX9_brokenOf 4 = .ok (.iload_n 3, 1) := dk_29 (dk_at dksX9_brokenOf_0 4 rfl rfl)
theorem dX9_brokenOf_5 : decode cX9_brokenOf 5 = .ok (.iconst 2, 1) := dk_5 (dk_at dksX9_brokenOf_0 5 rfl rfl)
theorem dX9_brokenOf_6 : decode cX9_brokenOf 6 = .ok (.aload_n 0, 1) := dk_42 (dk_at dksX9_brokenOf_0 6 rfl rfl)
theorem dX9_brokenOf_7 : decode cX9_brokenOf 7 = .ok (.invokevirtual 193, 3) := dk_182 0 193 (dk_at dksX9_brokenOf_0 7 rfl rfl)
theorem dX9_brokenOf_10 : decode cX9_brokenOf 10 = .ok (.imul, 1) := dk_104 (dk_at dksX9_brokenOf_0 10 rfl rfl)
theorem dX9_brokenOf_11 : decode cX9_brokenOf 11 = .ok (.if_icmp .ge 100, 3) := dk_162 0 100 (dk_at dksX9_brokenOf_0 11 rfl rfl)
theorem dX9_brokenOf_14 : decode cX9_brokenOf 14 = .ok (.iload_n 3, 1) := dk_29 (dk_at dksX9_brokenOf_0 14 rfl rfl)
theorem dX9_brokenOf_15 : decode cX9_brokenOf 15 = .ok (.iconst 2, 1) := dk_5 (dk_at dksX9_brokenOf_0 15 rfl rfl)
theorem dX9_brokenOf_16 : decode cX9_brokenOf 16 = .ok (.idiv, 1) := dk_108 (dk_at dksX9_brokenOf_0 16 rfl rfl)
theorem dX9_brokenOf_17 : decode cX9_brokenOf 17 = .ok (.istore 4, 2) := dk_54 4 (dk_at dksX9_brokenOf_0 17 rfl rfl)
theorem dX9_brokenOf_19 : decode cX9_brokenOf 19 = .ok (.iload_n 3, 1) := dk_29 (dk_at dksX9_brokenOf_0 19 rfl rfl)
theorem dX9_brokenOf_20 : decode cX9_brokenOf 20 = .ok (.iconst 2, 1) := dk_5 (dk_at dksX9_brokenOf_0 20 rfl rfl)
theorem dX9_brokenOf_21 : decode cX9_brokenOf 21 = .ok (.irem, 1) := dk_112 (dk_at dksX9_brokenOf_0 21 rfl rfl)
theorem dX9_brokenOf_22 : decode cX9_brokenOf 22 = .ok (.iconst 1, 1) := dk_4 (dk_at dksX9_brokenOf_0 22 rfl rfl)
theorem dX9_brokenOf_23 : decode cX9_brokenOf 23 = .ok (.if_icmp .ne 7, 3) := dk_160 0 7 (dk_at dksX9_brokenOf_1 0 rfl rfl)
theorem dX9_brokenOf_26 : decode cX9_brokenOf 26 = .ok (.iconst 1, 1) := dk_4 (dk_at dksX9_brokenOf_1 3 rfl rfl)
theorem dX9_brokenOf_27 : decode cX9_brokenOf 27 = .ok (.goto 4, 3) := dk_167 0 4 (dk_at dksX9_brokenOf_1 4 rfl rfl)
theorem dX9_brokenOf_30 : decode cX9_brokenOf 30 = .ok (.iconst 0, 1) := dk_3 (dk_at dksX9_brokenOf_1 7 rfl rfl)
theorem dX9_brokenOf_31 : decode cX9_brokenOf 31 = .ok (.istore 5, 2) := dk_54 5 (dk_at dksX9_brokenOf_1 8 rfl rfl)
theorem dX9_brokenOf_33 : decode cX9_brokenOf 33 = .ok (.aload_n 0, 1) := dk_42 (dk_at dksX9_brokenOf_1 10 rfl rfl)
theorem dX9_brokenOf_34 : decode cX9_brokenOf 34 = .ok (.iload 4, 2) := dk_21 4 (dk_at dksX9_brokenOf_1 11 rfl rfl)
theorem dX9_brokenOf_36 : decode cX9_brokenOf 36 = .ok (.iload 5, 2) := dk_21 5 (dk_at dksX9_brokenOf_1 13 rfl rfl)
theorem dX9_brokenOf_38 : decode cX9_brokenOf 38 = .ok (.invokevirtual 236, 3) := dk_182 0 236 (dk_at dksX9_brokenOf_1 15 rfl rfl)
theorem dX9_brokenOf_41 : decode cX9_brokenOf 41 = .ok (.istore 6, 2) := dk_54 6 (dk_at dksX9_brokenOf_1 18 rfl rfl)
theorem dX9_brokenOf_43 : decode cX9_brokenOf 43 = .ok (.aload_n 0, 1) := dk_42 (dk_at dksX9_brokenOf_1 20 rfl rfl)
theorem dX9_brokenOf_44 : decode cX9_brokenOf 44 = .ok (.getfield 40, 3) := dk_180 0 40 (dk_at dksX9_brokenOf_1 21 rfl rfl)
theorem dX9_brokenOf_47 : decode cX9_brokenOf 47 = .ok (.iload 4, 2) := dk_21 4 (dk_at dksX9_brokenOf_2 0 rfl rfl)
theorem dX9_brokenOf_49 : decode cX9_brokenOf 49 = .ok (.iload 5, 2) := dk_21 5 (dk_at dksX9_brokenOf_2 2 rfl rfl)
theorem dX9_brokenOf_51 : decode cX9_brokenOf 51 = .ok (.invokestatic 240, 3) := dk_184 0 240 (dk_at dksX9_brokenOf_2 4 rfl rfl)
theorem dX9_brokenOf_54 : decode cX9_brokenOf 54 = .ok (.istore 7, 2) := dk_54 7 (dk_at dksX9_brokenOf_2 7 rfl rfl)
theorem dX9_brokenOf_56 : decode cX9_brokenOf 56 = .ok (.iload 6, 2) := dk_21 6 (dk_at dksX9_brokenOf_2 9 rfl rfl)
theorem dX9_brokenOf_58 : decode cX9_brokenOf 58 = .ok (.ifCond .lt 47, 3) := dk_155 0 47 (dk_at dksX9_brokenOf_2 11 rfl rfl)
theorem dX9_brokenOf_61 : decode cX9_brokenOf 61 = .ok (.iload 7, 2) := dk_21 7 (dk_at dksX9_brokenOf_2 14 rfl rfl)
theorem dX9_brokenOf_63 : decode cX9_brokenOf 63 = .ok (.ifCond .ne 6, 3) := dk_154 0 6 (dk_at dksX9_brokenOf_2 16 rfl rfl)
theorem dX9_brokenOf_66 : decode cX9_brokenOf 66 = .ok (.goto 39, 3) := dk_167 0 39 (dk_at dksX9_brokenOf_2 19 rfl rfl)
theorem dX9_brokenOf_69 : decode cX9_brokenOf 69 = .ok (.iload_n 1, 1) := dk_27 (dk_at dksX9_brokenOf_2 22 rfl rfl)
theorem dX9_brokenOf_70 : decode cX9_brokenOf 70 = .ok (.iload 4, 2) := dk_21 4 (dk_at dksX9_brokenOf_3 0 rfl rfl)
theorem dX9_brokenOf_72 : decode cX9_brokenOf 72 = .ok (.invokestatic 301, 3) := dk_184 1 45 (dk_at dksX9_brokenOf_3 2 rfl rfl)
theorem dX9_brokenOf_75 : decode cX9_brokenOf 75 = .ok (.iload_n 1, 1) := dk_27 (dk_at dksX9_brokenOf_3 5 rfl rfl)
theorem dX9_brokenOf_76 : decode cX9_brokenOf 76 = .ok (.iload 6, 2) := dk_21 6 (dk_at dksX9_brokenOf_3 6 rfl rfl)
theorem dX9_brokenOf_78 : decode cX9_brokenOf 78 = .ok (.invokestatic 301, 3) := dk_184 1 45 (dk_at dksX9_brokenOf_3 8 rfl rfl)
theorem dX9_brokenOf_81 : decode cX9_brokenOf 81 = .ok (.if_icmp .ne 7, 3) := dk_160 0 7 (dk_at dksX9_brokenOf_3 11 rfl rfl)
theorem dX9_brokenOf_84 : decode cX9_brokenOf 84 = .ok (.iconst 1, 1) := dk_4 (dk_at dksX9_brokenOf_3 14 rfl rfl)
theorem dX9_brokenOf_85 : decode cX9_brokenOf 85 = .ok (.goto 4, 3) := dk_167 0 4 (dk_at dksX9_brokenOf_3 15 rfl rfl)
theorem dX9_brokenOf_88 : decode cX9_brokenOf 88 = .ok (.iconst 0, 1) := dk_3 (dk_at dksX9_brokenOf_3 18 rfl rfl)
theorem dX9_brokenOf_89 : decode cX9_brokenOf 89 = .ok (.iload 7, 2) := dk_21 7 (dk_at dksX9_brokenOf_3 19 rfl rfl)
theorem dX9_brokenOf_91 : decode cX9_brokenOf 91 = .ok (.ifCond .ge 7, 3) := dk_156 0 7 (dk_at dksX9_brokenOf_3 21 rfl rfl)
theorem dX9_brokenOf_94 : decode cX9_brokenOf 94 = .ok (.iconst 1, 1) := dk_4 (dk_at dksX9_brokenOf_4 0 rfl rfl)
theorem dX9_brokenOf_95 : decode cX9_brokenOf 95 = .ok (.goto 4, 3) := dk_167 0 4 (dk_at dksX9_brokenOf_4 1 rfl rfl)
theorem dX9_brokenOf_98 : decode cX9_brokenOf 98 = .ok (.iconst 0, 1) := dk_3 (dk_at dksX9_brokenOf_4 4 rfl rfl)
theorem dX9_brokenOf_99 : decode cX9_brokenOf 99 = .ok (.if_icmp .ne 6, 3) := dk_160 0 6 (dk_at dksX9_brokenOf_4 5 rfl rfl)
theorem dX9_brokenOf_102 : decode cX9_brokenOf 102 = .ok (.iinc 2 1, 3) := dk_132 2 1 (dk_at dksX9_brokenOf_4 8 rfl rfl)
theorem dX9_brokenOf_105 : decode cX9_brokenOf 105 = .ok (.iinc 3 1, 3) := dk_132 3 1 (dk_at dksX9_brokenOf_4 11 rfl rfl)
theorem dX9_brokenOf_108 : decode cX9_brokenOf 108 = .ok (.goto (-104), 3) := dk_167 255 152 (dk_at dksX9_brokenOf_4 14 rfl rfl)
theorem dX9_brokenOf_111 : decode cX9_brokenOf 111 = .ok (.iload_n 2, 1) := dk_28 (dk_at dksX9_brokenOf_4 17 rfl rfl)
theorem dX9_brokenOf_112 : decode cX9_brokenOf 112 = .ok (.ireturn, 1) := dk_172 (dk_at dksX9_brokenOf_4 18 rfl rfl)
abbrev cX9_has : ByteArray := prog_14_method_29_code
def yX9_has : MethodName := ⟨RX9, "has", "(II)Z"⟩
def dkwX9_has_0 : List UInt8 := [26, 27, 122, 4, 126, 4, 160, 0, 7, 4, 167, 0, 4, 3, 172]
abbrev dktX9_has_0 : List UInt8 := dkwX9_has_0 ++ []
theorem dksX9_has_0 : cX9_has.data.toList.drop 0 = dktX9_has_0 := by decide +kernel
theorem dX9_has_0 : decode cX9_has 0 = .ok (.iload_n 0, 1) := dk_26 (dk_at dksX9_has_0 0 rfl rfl)
theorem dX9_has_1 : decode cX9_has 1 = .ok (.iload_n 1, 1) := dk_27 (dk_at dksX9_has_0 1 rfl rfl)
theorem dX9_has_2 : decode cX9_has 2 = .ok (.ishr, 1) := dk_122 (dk_at dksX9_has_0 2 rfl rfl)
theorem dX9_has_3 : decode cX9_has 3 = .ok (.iconst 1, 1) := dk_4 (dk_at dksX9_has_0 3 rfl rfl)
theorem dX9_has_4 : decode cX9_has 4 = .ok (.iand, 1) := dk_126 (dk_at dksX9_has_0 4 rfl rfl)
theorem dX9_has_5 : decode cX9_has 5 = .ok (.iconst 1, 1) := dk_4 (dk_at dksX9_has_0 5 rfl rfl)
theorem dX9_has_6 : decode cX9_has 6 = .ok (.if_icmp .ne 7, 3) := dk_160 0 7 (dk_at dksX9_has_0 6 rfl rfl)
theorem dX9_has_9 : decode cX9_has 9 = .ok (.iconst 1, 1) := dk_4 (dk_at dksX9_has_0 9 rfl rfl)
theorem dX9_has_10 : decode cX9_has 10 = .ok (.goto 4, 3) := dk_167 0 4 (dk_at dksX9_has_0 10 rfl rfl)
theorem dX9_has_13 : decode cX9_has 13 = .ok (.iconst 0, 1) := dk_3 (dk_at dksX9_has_0 13 rfl rfl)
theorem dX9_has_14 : decode cX9_has 14 = .ok (.ireturn, 1) := dk_172 (dk_at dksX9_has_0 14 rfl rfl)
abbrev cX9_ground : ByteArray := prog_14_method_61_code
def yX9_ground : MethodName := ⟨RX9, "ground", "(I)I"⟩
def dkwX9_ground_4 : List UInt8 := [180, 0, 63, 4, 46, 42, 180, 0, 63, 3, 46, 100, 172, 19, 1, 32, 172]
abbrev dktX9_ground_4 : List UInt8 := dkwX9_ground_4 ++ []
def dkwX9_ground_3 : List UInt8 := [42, 180, 0, 63, 3, 46, 182, 1, 39, 172, 42, 180, 1, 29, 4, 160, 0, 8, 16, 254, 167, 0, 16, 42]
abbrev dktX9_ground_3 : List UInt8 := dkwX9_ground_3 ++ dktX9_ground_4
def dkwX9_ground_2 : List UInt8 := [42, 180, 0, 63, 3, 46, 172, 42, 180, 0, 60, 17, 0, 150, 42, 180, 0, 63, 3, 46, 96, 46, 172, 42]
abbrev dktX9_ground_2 : List UInt8 := dkwX9_ground_2 ++ dktX9_ground_3
def dkwX9_ground_1 : List UInt8 := [170, 0, 0, 0, 0, 0, 0, 93, 0, 0, 0, 0, 0, 0, 0, 3, 0, 0, 0, 32, 0, 0, 0, 39, 0, 0, 0, 55, 0, 0, 0, 66]
abbrev dktX9_ground_1 : List UInt8 := dkwX9_ground_1 ++ dktX9_ground_2
def dkwX9_ground_0 : List UInt8 := [42, 182, 1, 5, 42, 180, 1, 29, 154, 0, 7, 19, 1, 32, 172, 27]
abbrev dktX9_ground_0 : List UInt8 := dkwX9_ground_0 ++ dktX9_ground_1
theorem dksX9_ground_0 : cX9_ground.data.toList.drop 0 = dktX9_ground_0 := by decide +kernel
theorem dksX9_ground_1 : cX9_ground.data.toList.drop 16 = dktX9_ground_1 := dk_seg dksX9_ground_0 16 rfl rfl
theorem dksX9_ground_2 : cX9_ground.data.toList.drop 48 = dktX9_ground_2 := dk_seg dksX9_ground_1 32 rfl rfl
theorem dksX9_ground_3 : cX9_ground.data.toList.drop 72 = dktX9_ground_3 := dk_seg dksX9_ground_2 24 rfl rfl
theorem dksX9_ground_4 : cX9_ground.data.toList.drop 96 = dktX9_ground_4 := dk_seg dksX9_ground_3 24 rfl rfl
theorem dX9_ground_0 : decode cX9_ground 0 = .ok (.aload_n 0, 1) := dk_42 (dk_at dksX9_ground_0 0 rfl rfl)
theorem dX9_ground_1 : decode cX9_ground 1 = .ok (.invokevirtual 261, 3) := dk_182 1 5 (dk_at dksX9_ground_0 1 rfl rfl)
theorem dX9_ground_4 : decode cX9_ground 4 = .ok (.aload_n 0, 1) := dk_42 (dk_at dksX9_ground_0 4 rfl rfl)
theorem dX9_ground_5 : decode cX9_ground 5 = .ok (.getfield 285, 3) := dk_180 1 29 (dk_at dksX9_ground_0 5 rfl rfl)
theorem dX9_ground_8 : decode cX9_ground 8 = .ok (.ifCond .ne 7, 3) := dk_154 0 7 (dk_at dksX9_ground_0 8 rfl rfl)
theorem dX9_ground_11 : decode cX9_ground 11 = .ok (.ldc_w 288, 3) := dk_19 1 32 (dk_at dksX9_ground_0 11 rfl rfl)
theorem dX9_ground_14 : decode cX9_ground 14 = .ok (.ireturn, 1) := dk_172 (dk_at dksX9_ground_0 14 rfl rfl)
theorem dX9_ground_15 : decode cX9_ground 15 = .ok (.iload_n 1, 1) := dk_27 (dk_at dksX9_ground_0 15 rfl rfl)
theorem dX9_ground_16 : decode cX9_ground 16 = .ok (.tableswitch 93 0 3 #[32, 39, 55, 66], 32) := by decide +kernel
theorem dX9_ground_48 : decode cX9_ground 48 = .ok (.aload_n 0, 1) := dk_42 (dk_at dksX9_ground_2 0 rfl rfl)
theorem dX9_ground_49 : decode cX9_ground 49 = .ok (.getfield 63, 3) := dk_180 0 63 (dk_at dksX9_ground_2 1 rfl rfl)
theorem dX9_ground_52 : decode cX9_ground 52 = .ok (.iconst 0, 1) := dk_3 (dk_at dksX9_ground_2 4 rfl rfl)
theorem dX9_ground_53 : decode cX9_ground 53 = .ok (.iaload, 1) := dk_46 (dk_at dksX9_ground_2 5 rfl rfl)
theorem dX9_ground_54 : decode cX9_ground 54 = .ok (.ireturn, 1) := dk_172 (dk_at dksX9_ground_2 6 rfl rfl)
theorem dX9_ground_55 : decode cX9_ground 55 = .ok (.aload_n 0, 1) := dk_42 (dk_at dksX9_ground_2 7 rfl rfl)
theorem dX9_ground_56 : decode cX9_ground 56 = .ok (.getfield 60, 3) := dk_180 0 60 (dk_at dksX9_ground_2 8 rfl rfl)
theorem dX9_ground_59 : decode cX9_ground 59 = .ok (.sipush 150, 3) := dk_17 0 150 (dk_at dksX9_ground_2 11 rfl rfl)
theorem dX9_ground_62 : decode cX9_ground 62 = .ok (.aload_n 0, 1) := dk_42 (dk_at dksX9_ground_2 14 rfl rfl)
theorem dX9_ground_63 : decode cX9_ground 63 = .ok (.getfield 63, 3) := dk_180 0 63 (dk_at dksX9_ground_2 15 rfl rfl)
theorem dX9_ground_66 : decode cX9_ground 66 = .ok (.iconst 0, 1) := dk_3 (dk_at dksX9_ground_2 18 rfl rfl)
theorem dX9_ground_67 : decode cX9_ground 67 = .ok (.iaload, 1) := dk_46 (dk_at dksX9_ground_2 19 rfl rfl)
theorem dX9_ground_68 : decode cX9_ground 68 = .ok (.iadd, 1) := dk_96 (dk_at dksX9_ground_2 20 rfl rfl)
theorem dX9_ground_69 : decode cX9_ground 69 = .ok (.iaload, 1) := dk_46 (dk_at dksX9_ground_2 21 rfl rfl)
theorem dX9_ground_70 : decode cX9_ground 70 = .ok (.ireturn, 1) := dk_172 (dk_at dksX9_ground_2 22 rfl rfl)
theorem dX9_ground_71 : decode cX9_ground 71 = .ok (.aload_n 0, 1) := dk_42 (dk_at dksX9_ground_2 23 rfl rfl)
theorem dX9_ground_72 : decode cX9_ground 72 = .ok (.aload_n 0, 1) := dk_42 (dk_at dksX9_ground_3 0 rfl rfl)
theorem dX9_ground_73 : decode cX9_ground 73 = .ok (.getfield 63, 3) := dk_180 0 63 (dk_at dksX9_ground_3 1 rfl rfl)
theorem dX9_ground_76 : decode cX9_ground 76 = .ok (.iconst 0, 1) := dk_3 (dk_at dksX9_ground_3 4 rfl rfl)
theorem dX9_ground_77 : decode cX9_ground 77 = .ok (.iaload, 1) := dk_46 (dk_at dksX9_ground_3 5 rfl rfl)
theorem dX9_ground_78 : decode cX9_ground 78 = .ok (.invokevirtual 295, 3) := dk_182 1 39 (dk_at dksX9_ground_3 6 rfl rfl)
theorem dX9_ground_81 : decode cX9_ground 81 = .ok (.ireturn, 1) := dk_172 (dk_at dksX9_ground_3 9 rfl rfl)
theorem dX9_ground_82 : decode cX9_ground 82 = .ok (.aload_n 0, 1) := dk_42 (dk_at dksX9_ground_3 10 rfl rfl)
theorem dX9_ground_83 : decode cX9_ground 83 = .ok (.getfield 285, 3) := dk_180 1 29 (dk_at dksX9_ground_3 11 rfl rfl)
theorem dX9_ground_86 : decode cX9_ground 86 = .ok (.iconst 1, 1) := dk_4 (dk_at dksX9_ground_3 14 rfl rfl)
theorem dX9_ground_87 : decode cX9_ground 87 = .ok (.if_icmp .ne 8, 3) := dk_160 0 8 (dk_at dksX9_ground_3 15 rfl rfl)
theorem dX9_ground_90 : decode cX9_ground 90 = .ok (.bipush (-2), 2) := dk_16 254 (dk_at dksX9_ground_3 18 rfl rfl)
theorem dX9_ground_92 : decode cX9_ground 92 = .ok (.goto 16, 3) := dk_167 0 16 (dk_at dksX9_ground_3 20 rfl rfl)
theorem dX9_ground_95 : decode cX9_ground 95 = .ok (.aload_n 0, 1) := dk_42 (dk_at dksX9_ground_3 23 rfl rfl)
theorem dX9_ground_96 : decode cX9_ground 96 = .ok (.getfield 63, 3) := dk_180 0 63 (dk_at dksX9_ground_4 0 rfl rfl)
theorem dX9_ground_99 : decode cX9_ground 99 = .ok (.iconst 1, 1) := dk_4 (dk_at dksX9_ground_4 3 rfl rfl)
theorem dX9_ground_100 : decode cX9_ground 100 = .ok (.iaload, 1) := dk_46 (dk_at dksX9_ground_4 4 rfl rfl)
theorem dX9_ground_101 : decode cX9_ground 101 = .ok (.aload_n 0, 1) := dk_42 (dk_at dksX9_ground_4 5 rfl rfl)
theorem dX9_ground_102 : decode cX9_ground 102 = .ok (.getfield 63, 3) := dk_180 0 63 (dk_at dksX9_ground_4 6 rfl rfl)
theorem dX9_ground_105 : decode cX9_ground 105 = .ok (.iconst 0, 1) := dk_3 (dk_at dksX9_ground_4 9 rfl rfl)
theorem dX9_ground_106 : decode cX9_ground 106 = .ok (.iaload, 1) := dk_46 (dk_at dksX9_ground_4 10 rfl rfl)
theorem dX9_ground_107 : decode cX9_ground 107 = .ok (.isub, 1) := dk_100 (dk_at dksX9_ground_4 11 rfl rfl)
theorem dX9_ground_108 : decode cX9_ground 108 = .ok (.ireturn, 1) := dk_172 (dk_at dksX9_ground_4 12 rfl rfl)
theorem dX9_ground_109 : decode cX9_ground 109 = .ok (.ldc_w 288, 3) := dk_19 1 32 (dk_at dksX9_ground_4 13 rfl rfl)
theorem dX9_ground_112 : decode cX9_ground 112 = .ok (.ireturn, 1) := dk_172 (dk_at dksX9_ground_4 16 rfl rfl)
abbrev cX9_pair : ByteArray := prog_14_method_63_code
def yX9_pair : MethodName := ⟨RX9, "pair", "(IIII)I"⟩
def dkwX9_pair_5 : List UInt8 := [17, 0, 150, 42, 180, 0, 63, 29, 46, 96, 46, 21, 4, 184, 1, 52, 172]
abbrev dktX9_pair_5 : List UInt8 := dkwX9_pair_5 ++ []
def dkwX9_pair_4 : List UInt8 := [160, 0, 7, 4, 167, 0, 4, 2, 96, 54, 5, 132, 6, 1, 167, 255, 203, 21, 5, 42, 180, 0, 60]
abbrev dktX9_pair_4 : List UInt8 := dkwX9_pair_4 ++ dktX9_pair_5
def dkwX9_pair_3 : List UInt8 := [180, 0, 63, 29, 46, 160, 0, 28, 21, 5, 21, 6, 27, 184, 1, 45, 21, 6, 28, 184, 1, 45]
abbrev dktX9_pair_3 : List UInt8 := dkwX9_pair_3 ++ dktX9_pair_4
def dkwX9_pair_2 : List UInt8 := [172, 3, 54, 5, 3, 54, 6, 21, 6, 42, 182, 1, 14, 162, 0, 50, 42, 180, 0, 57, 21, 6, 46, 42]
abbrev dktX9_pair_2 : List UInt8 := dkwX9_pair_2 ++ dktX9_pair_3
def dkwX9_pair_1 : List UInt8 := [180, 1, 29, 4, 100, 184, 0, 213, 153, 0, 13, 21, 4, 3, 4, 184, 0, 213, 154, 0, 7, 19, 1, 32]
abbrev dktX9_pair_1 : List UInt8 := dkwX9_pair_1 ++ dktX9_pair_2
def dkwX9_pair_0 : List UInt8 := [42, 182, 1, 5, 42, 27, 182, 0, 233, 153, 0, 35, 42, 28, 182, 0, 233, 153, 0, 27, 29, 3, 42]
abbrev dktX9_pair_0 : List UInt8 := dkwX9_pair_0 ++ dktX9_pair_1
theorem dksX9_pair_0 : cX9_pair.data.toList.drop 0 = dktX9_pair_0 := by decide +kernel
theorem dksX9_pair_1 : cX9_pair.data.toList.drop 23 = dktX9_pair_1 := dk_seg dksX9_pair_0 23 rfl rfl
theorem dksX9_pair_2 : cX9_pair.data.toList.drop 47 = dktX9_pair_2 := dk_seg dksX9_pair_1 24 rfl rfl
theorem dksX9_pair_3 : cX9_pair.data.toList.drop 71 = dktX9_pair_3 := dk_seg dksX9_pair_2 24 rfl rfl
theorem dksX9_pair_4 : cX9_pair.data.toList.drop 93 = dktX9_pair_4 := dk_seg dksX9_pair_3 22 rfl rfl
theorem dksX9_pair_5 : cX9_pair.data.toList.drop 116 = dktX9_pair_5 := dk_seg dksX9_pair_4 23 rfl rfl
theorem dX9_pair_0 : decode cX9_pair 0 = .ok (.aload_n 0, 1) := dk_42 (dk_at dksX9_pair_0 0 rfl rfl)
theorem dX9_pair_1 : decode cX9_pair 1 = .ok (.invokevirtual 261, 3) := dk_182 1 5 (dk_at dksX9_pair_0 1 rfl rfl)
theorem dX9_pair_4 : decode cX9_pair 4 = .ok (.aload_n 0, 1) := dk_42 (dk_at dksX9_pair_0 4 rfl rfl)
theorem dX9_pair_5 : decode cX9_pair 5 = .ok (.iload_n 1, 1) := dk_27 (dk_at dksX9_pair_0 5 rfl rfl)
theorem dX9_pair_6 : decode cX9_pair 6 = .ok (.invokevirtual 233, 3) := dk_182 0 233 (dk_at dksX9_pair_0 6 rfl rfl)
theorem dX9_pair_9 : decode cX9_pair 9 = .ok (.ifCond .eq 35, 3) := dk_153 0 35 (dk_at dksX9_pair_0 9 rfl rfl)
theorem dX9_pair_12 : decode cX9_pair 12 = .ok (.aload_n 0, 1) := dk_42 (dk_at dksX9_pair_0 12 rfl rfl)
theorem dX9_pair_13 : decode cX9_pair 13 = .ok (.iload_n 2, 1) := dk_28 (dk_at dksX9_pair_0 13 rfl rfl)
theorem dX9_pair_14 : decode cX9_pair 14 = .ok (.invokevirtual 233, 3) := dk_182 0 233 (dk_at dksX9_pair_0 14 rfl rfl)
theorem dX9_pair_17 : decode cX9_pair 17 = .ok (.ifCond .eq 27, 3) := dk_153 0 27 (dk_at dksX9_pair_0 17 rfl rfl)
theorem dX9_pair_20 : decode cX9_pair 20 = .ok (.iload_n 3, 1) := dk_29 (dk_at dksX9_pair_0 20 rfl rfl)
theorem dX9_pair_21 : decode cX9_pair 21 = .ok (.iconst 0, 1) := dk_3 (dk_at dksX9_pair_0 21 rfl rfl)
theorem dX9_pair_22 : decode cX9_pair 22 = .ok (.aload_n 0, 1) := dk_42 (dk_at dksX9_pair_0 22 rfl rfl)
theorem dX9_pair_23 : decode cX9_pair 23 = .ok (.getfield 285, 3) := dk_180 1 29 (dk_at dksX9_pair_1 0 rfl rfl)
theorem dX9_pair_26 : decode cX9_pair 26 = .ok (.iconst 1, 1) := dk_4 (dk_at dksX9_pair_1 3 rfl rfl)
theorem dX9_pair_27 : decode cX9_pair 27 = .ok (.isub, 1) := dk_100 (dk_at dksX9_pair_1 4 rfl rfl)
theorem dX9_pair_28 : decode cX9_pair 28 = .ok (.invokestatic 213, 3) := dk_184 0 213 (dk_at dksX9_pair_1 5 rfl rfl)
theorem dX9_pair_31 : decode cX9_pair 31 = .ok (.ifCond .eq 13, 3) := dk_153 0 13 (dk_at dksX9_pair_1 8 rfl rfl)
theorem dX9_pair_34 : decode cX9_pair 34 = .ok (.iload 4, 2) := dk_21 4 (dk_at dksX9_pair_1 11 rfl rfl)
theorem dX9_pair_36 : decode cX9_pair 36 = .ok (.iconst 0, 1) := dk_3 (dk_at dksX9_pair_1 13 rfl rfl)
theorem dX9_pair_37 : decode cX9_pair 37 = .ok (.iconst 1, 1) := dk_4 (dk_at dksX9_pair_1 14 rfl rfl)
theorem dX9_pair_38 : decode cX9_pair 38 = .ok (.invokestatic 213, 3) := dk_184 0 213 (dk_at dksX9_pair_1 15 rfl rfl)
theorem dX9_pair_41 : decode cX9_pair 41 = .ok (.ifCond .ne 7, 3) := dk_154 0 7 (dk_at dksX9_pair_1 18 rfl rfl)
theorem dX9_pair_44 : decode cX9_pair 44 = .ok (.ldc_w 288, 3) := dk_19 1 32 (dk_at dksX9_pair_1 21 rfl rfl)
theorem dX9_pair_47 : decode cX9_pair 47 = .ok (.ireturn, 1) := dk_172 (dk_at dksX9_pair_2 0 rfl rfl)
theorem dX9_pair_48 : decode cX9_pair 48 = .ok (.iconst 0, 1) := dk_3 (dk_at dksX9_pair_2 1 rfl rfl)
theorem dX9_pair_49 : decode cX9_pair 49 = .ok (.istore 5, 2) := dk_54 5 (dk_at dksX9_pair_2 2 rfl rfl)
theorem dX9_pair_51 : decode cX9_pair 51 = .ok (.iconst 0, 1) := dk_3 (dk_at dksX9_pair_2 4 rfl rfl)
theorem dX9_pair_52 : decode cX9_pair 52 = .ok (.istore 6, 2) := dk_54 6 (dk_at dksX9_pair_2 5 rfl rfl)
theorem dX9_pair_54 : decode cX9_pair 54 = .ok (.iload 6, 2) := dk_21 6 (dk_at dksX9_pair_2 7 rfl rfl)
theorem dX9_pair_56 : decode cX9_pair 56 = .ok (.aload_n 0, 1) := dk_42 (dk_at dksX9_pair_2 9 rfl rfl)
theorem dX9_pair_57 : decode cX9_pair 57 = .ok (.invokevirtual 270, 3) := dk_182 1 14 (dk_at dksX9_pair_2 10 rfl rfl)
theorem dX9_pair_60 : decode cX9_pair 60 = .ok (.if_icmp .ge 50, 3) := dk_162 0 50 (dk_at dksX9_pair_2 13 rfl rfl)
theorem dX9_pair_63 : decode cX9_pair 63 = .ok (.aload_n 0, 1) := dk_42 (dk_at dksX9_pair_2 16 rfl rfl)
theorem dX9_pair_64 : decode cX9_pair 64 = .ok (.getfield 57, 3) := dk_180 0 57 (dk_at dksX9_pair_2 17 rfl rfl)
theorem dX9_pair_67 : decode cX9_pair 67 = .ok (.iload 6, 2) := dk_21 6 (dk_at dksX9_pair_2 20 rfl rfl)
theorem dX9_pair_69 : decode cX9_pair 69 = .ok (.iaload, 1) := dk_46 (dk_at dksX9_pair_2 22 rfl rfl)
theorem dX9_pair_70 : decode cX9_pair 70 = .ok (.aload_n 0, 1) := dk_42 (dk_at dksX9_pair_2 23 rfl rfl)
theorem dX9_pair_71 : decode cX9_pair 71 = .ok (.getfield 63, 3) := dk_180 0 63 (dk_at dksX9_pair_3 0 rfl rfl)
theorem dX9_pair_74 : decode cX9_pair 74 = .ok (.iload_n 3, 1) := dk_29 (dk_at dksX9_pair_3 3 rfl rfl)
theorem dX9_pair_75 : decode cX9_pair 75 = .ok (.iaload, 1) := dk_46 (dk_at dksX9_pair_3 4 rfl rfl)
theorem dX9_pair_76 : decode cX9_pair 76 = .ok (.if_icmp .ne 28, 3) := dk_160 0 28 (dk_at dksX9_pair_3 5 rfl rfl)
theorem dX9_pair_79 : decode cX9_pair 79 = .ok (.iload 5, 2) := dk_21 5 (dk_at dksX9_pair_3 8 rfl rfl)
theorem dX9_pair_81 : decode cX9_pair 81 = .ok (.iload 6, 2) := dk_21 6 (dk_at dksX9_pair_3 10 rfl rfl)
theorem dX9_pair_83 : decode cX9_pair 83 = .ok (.iload_n 1, 1) := dk_27 (dk_at dksX9_pair_3 12 rfl rfl)
theorem dX9_pair_84 : decode cX9_pair 84 = .ok (.invokestatic 301, 3) := dk_184 1 45 (dk_at dksX9_pair_3 13 rfl rfl)
theorem dX9_pair_87 : decode cX9_pair 87 = .ok (.iload 6, 2) := dk_21 6 (dk_at dksX9_pair_3 16 rfl rfl)
theorem dX9_pair_89 : decode cX9_pair 89 = .ok (.iload_n 2, 1) := dk_28 (dk_at dksX9_pair_3 18 rfl rfl)
theorem dX9_pair_90 : decode cX9_pair 90 = .ok (.invokestatic 301, 3) := dk_184 1 45 (dk_at dksX9_pair_3 19 rfl rfl)
theorem dX9_pair_93 : decode cX9_pair 93 = .ok (.if_icmp .ne 7, 3) := dk_160 0 7 (dk_at dksX9_pair_4 0 rfl rfl)
theorem dX9_pair_96 : decode cX9_pair 96 = .ok (.iconst 1, 1) := dk_4 (dk_at dksX9_pair_4 3 rfl rfl)
theorem dX9_pair_97 : decode cX9_pair 97 = .ok (.goto 4, 3) := dk_167 0 4 (dk_at dksX9_pair_4 4 rfl rfl)
theorem dX9_pair_100 : decode cX9_pair 100 = .ok (.iconst (-1), 1) := dk_2 (dk_at dksX9_pair_4 7 rfl rfl)
theorem dX9_pair_101 : decode cX9_pair 101 = .ok (.iadd, 1) := dk_96 (dk_at dksX9_pair_4 8 rfl rfl)
theorem dX9_pair_102 : decode cX9_pair 102 = .ok (.istore 5, 2) := dk_54 5 (dk_at dksX9_pair_4 9 rfl rfl)
theorem dX9_pair_104 : decode cX9_pair 104 = .ok (.iinc 6 1, 3) := dk_132 6 1 (dk_at dksX9_pair_4 11 rfl rfl)
theorem dX9_pair_107 : decode cX9_pair 107 = .ok (.goto (-53), 3) := dk_167 255 203 (dk_at dksX9_pair_4 14 rfl rfl)
theorem dX9_pair_110 : decode cX9_pair 110 = .ok (.iload 5, 2) := dk_21 5 (dk_at dksX9_pair_4 17 rfl rfl)
theorem dX9_pair_112 : decode cX9_pair 112 = .ok (.aload_n 0, 1) := dk_42 (dk_at dksX9_pair_4 19 rfl rfl)
theorem dX9_pair_113 : decode cX9_pair 113 = .ok (.getfield 60, 3) := dk_180 0 60 (dk_at dksX9_pair_4 20 rfl rfl)
theorem dX9_pair_116 : decode cX9_pair 116 = .ok (.sipush 150, 3) := dk_17 0 150 (dk_at dksX9_pair_5 0 rfl rfl)
theorem dX9_pair_119 : decode cX9_pair 119 = .ok (.aload_n 0, 1) := dk_42 (dk_at dksX9_pair_5 3 rfl rfl)
theorem dX9_pair_120 : decode cX9_pair 120 = .ok (.getfield 63, 3) := dk_180 0 63 (dk_at dksX9_pair_5 4 rfl rfl)
theorem dX9_pair_123 : decode cX9_pair 123 = .ok (.iload_n 3, 1) := dk_29 (dk_at dksX9_pair_5 7 rfl rfl)
theorem dX9_pair_124 : decode cX9_pair 124 = .ok (.iaload, 1) := dk_46 (dk_at dksX9_pair_5 8 rfl rfl)
theorem dX9_pair_125 : decode cX9_pair 125 = .ok (.iadd, 1) := dk_96 (dk_at dksX9_pair_5 9 rfl rfl)
theorem dX9_pair_126 : decode cX9_pair 126 = .ok (.iaload, 1) := dk_46 (dk_at dksX9_pair_5 10 rfl rfl)
theorem dX9_pair_127 : decode cX9_pair 127 = .ok (.iload 4, 2) := dk_21 4 (dk_at dksX9_pair_5 11 rfl rfl)
theorem dX9_pair_129 : decode cX9_pair 129 = .ok (.invokestatic 308, 3) := dk_184 1 52 (dk_at dksX9_pair_5 13 rfl rfl)
theorem dX9_pair_132 : decode cX9_pair 132 = .ok (.ireturn, 1) := dk_172 (dk_at dksX9_pair_5 16 rfl rfl)
abbrev cX9_part : ByteArray := prog_14_method_62_code
def yX9_part : MethodName := ⟨RX9, "part", "(III)I"⟩
def dkwX9_part_1 : List UInt8 := [54, 5, 21, 4, 62, 21, 5, 54, 4, 167, 255, 238, 28, 154, 0, 7, 26, 167, 0, 4, 27, 29, 108, 172]
abbrev dktX9_part_1 : List UInt8 := dkwX9_part_1 ++ []
def dkwX9_part_0 : List UInt8 := [26, 156, 0, 8, 26, 116, 167, 0, 4, 26, 62, 27, 54, 4, 21, 4, 158, 0, 19, 29, 21, 4, 112]
abbrev dktX9_part_0 : List UInt8 := dkwX9_part_0 ++ dktX9_part_1
theorem dksX9_part_0 : cX9_part.data.toList.drop 0 = dktX9_part_0 := by decide +kernel
theorem dksX9_part_1 : cX9_part.data.toList.drop 23 = dktX9_part_1 := dk_seg dksX9_part_0 23 rfl rfl
theorem dX9_part_0 : decode cX9_part 0 = .ok (.iload_n 0, 1) := dk_26 (dk_at dksX9_part_0 0 rfl rfl)
theorem dX9_part_1 : decode cX9_part 1 = .ok (.ifCond .ge 8, 3) := dk_156 0 8 (dk_at dksX9_part_0 1 rfl rfl)
theorem dX9_part_4 : decode cX9_part 4 = .ok (.iload_n 0, 1) := dk_26 (dk_at dksX9_part_0 4 rfl rfl)
theorem dX9_part_5 : decode cX9_part 5 = .ok (.ineg, 1) := dk_116 (dk_at dksX9_part_0 5 rfl rfl)
theorem dX9_part_6 : decode cX9_part 6 = .ok (.goto 4, 3) := dk_167 0 4 (dk_at dksX9_part_0 6 rfl rfl)
theorem dX9_part_9 : decode cX9_part 9 = .ok (.iload_n 0, 1) := dk_26 (dk_at dksX9_part_0 9 rfl rfl)
theorem dX9_part_10 : decode cX9_part 10 = .ok (.istore_n 3, 1) := dk_62 (dk_at dksX9_part_0 10 rfl rfl)
theorem dX9_part_11 : decode cX9_part 11 = .ok (.iload_n 1, 1) := dk_27 (dk_at dksX9_part_0 11 rfl rfl)
theorem dX9_part_12 : decode cX9_part 12 = .ok (.istore 4, 2) := dk_54 4 (dk_at dksX9_part_0 12 rfl rfl)
theorem dX9_part_14 : decode cX9_part 14 = .ok (.iload 4, 2) := dk_21 4 (dk_at dksX9_part_0 14 rfl rfl)
theorem dX9_part_16 : decode cX9_part 16 = .ok (.ifCond .le 19, 3) := dk_158 0 19 (dk_at dksX9_part_0 16 rfl rfl)
theorem dX9_part_19 : decode cX9_part 19 = .ok (.iload_n 3, 1) := dk_29 (dk_at dksX9_part_0 19 rfl rfl)
theorem dX9_part_20 : decode cX9_part 20 = .ok (.iload 4, 2) := dk_21 4 (dk_at dksX9_part_0 20 rfl rfl)
theorem dX9_part_22 : decode cX9_part 22 = .ok (.irem, 1) := dk_112 (dk_at dksX9_part_0 22 rfl rfl)
theorem dX9_part_23 : decode cX9_part 23 = .ok (.istore 5, 2) := dk_54 5 (dk_at dksX9_part_1 0 rfl rfl)
theorem dX9_part_25 : decode cX9_part 25 = .ok (.iload 4, 2) := dk_21 4 (dk_at dksX9_part_1 2 rfl rfl)
theorem dX9_part_27 : decode cX9_part 27 = .ok (.istore_n 3, 1) := dk_62 (dk_at dksX9_part_1 4 rfl rfl)
theorem dX9_part_28 : decode cX9_part 28 = .ok (.iload 5, 2) := dk_21 5 (dk_at dksX9_part_1 5 rfl rfl)
theorem dX9_part_30 : decode cX9_part 30 = .ok (.istore 4, 2) := dk_54 4 (dk_at dksX9_part_1 7 rfl rfl)
theorem dX9_part_32 : decode cX9_part 32 = .ok (.goto (-18), 3) := dk_167 255 238 (dk_at dksX9_part_1 9 rfl rfl)
theorem dX9_part_35 : decode cX9_part 35 = .ok (.iload_n 2, 1) := dk_28 (dk_at dksX9_part_1 12 rfl rfl)
theorem dX9_part_36 : decode cX9_part 36 = .ok (.ifCond .ne 7, 3) := dk_154 0 7 (dk_at dksX9_part_1 13 rfl rfl)
theorem dX9_part_39 : decode cX9_part 39 = .ok (.iload_n 0, 1) := dk_26 (dk_at dksX9_part_1 16 rfl rfl)
theorem dX9_part_40 : decode cX9_part 40 = .ok (.goto 4, 3) := dk_167 0 4 (dk_at dksX9_part_1 17 rfl rfl)
theorem dX9_part_43 : decode cX9_part 43 = .ok (.iload_n 1, 1) := dk_27 (dk_at dksX9_part_1 20 rfl rfl)
theorem dX9_part_44 : decode cX9_part 44 = .ok (.iload_n 3, 1) := dk_29 (dk_at dksX9_part_1 21 rfl rfl)
theorem dX9_part_45 : decode cX9_part 45 = .ok (.idiv, 1) := dk_108 (dk_at dksX9_part_1 22 rfl rfl)
theorem dX9_part_46 : decode cX9_part 46 = .ok (.ireturn, 1) := dk_172 (dk_at dksX9_part_1 23 rfl rfl)
abbrev cX9_mean : ByteArray := prog_14_method_64_code
def yX9_mean : MethodName := ⟨RX9, "mean", "(II)I"⟩
def dkwX9_mean_4 : List UInt8 := [184, 1, 52, 172]
abbrev dktX9_mean_4 : List UInt8 := dkwX9_mean_4 ++ []
def dkwX9_mean_3 : List UInt8 := [132, 4, 1, 167, 255, 220, 29, 42, 180, 0, 60, 17, 0, 150, 42, 180, 0, 63, 27, 46, 96, 46, 28]
abbrev dktX9_mean_3 : List UInt8 := dkwX9_mean_3 ++ dktX9_mean_4
def dkwX9_mean_2 : List UInt8 := [180, 0, 57, 21, 4, 46, 42, 180, 0, 63, 27, 46, 160, 0, 11, 29, 21, 4, 184, 1, 36, 96, 62]
abbrev dktX9_mean_2 : List UInt8 := dkwX9_mean_2 ++ dktX9_mean_3
def dkwX9_mean_1 : List UInt8 := [154, 0, 7, 19, 1, 32, 172, 3, 62, 3, 54, 4, 21, 4, 42, 182, 1, 14, 162, 0, 33, 42]
abbrev dktX9_mean_1 : List UInt8 := dkwX9_mean_1 ++ dktX9_mean_2
def dkwX9_mean_0 : List UInt8 := [42, 182, 1, 5, 27, 3, 42, 180, 1, 29, 4, 100, 184, 0, 213, 153, 0, 12, 28, 3, 4, 184, 0, 213]
abbrev dktX9_mean_0 : List UInt8 := dkwX9_mean_0 ++ dktX9_mean_1
theorem dksX9_mean_0 : cX9_mean.data.toList.drop 0 = dktX9_mean_0 := by decide +kernel
theorem dksX9_mean_1 : cX9_mean.data.toList.drop 24 = dktX9_mean_1 := dk_seg dksX9_mean_0 24 rfl rfl
theorem dksX9_mean_2 : cX9_mean.data.toList.drop 46 = dktX9_mean_2 := dk_seg dksX9_mean_1 22 rfl rfl
theorem dksX9_mean_3 : cX9_mean.data.toList.drop 69 = dktX9_mean_3 := dk_seg dksX9_mean_2 23 rfl rfl
theorem dksX9_mean_4 : cX9_mean.data.toList.drop 92 = dktX9_mean_4 := dk_seg dksX9_mean_3 23 rfl rfl
theorem dX9_mean_0 : decode cX9_mean 0 = .ok (.aload_n 0, 1) := dk_42 (dk_at dksX9_mean_0 0 rfl rfl)
theorem dX9_mean_1 : decode cX9_mean 1 = .ok (.invokevirtual 261, 3) := dk_182 1 5 (dk_at dksX9_mean_0 1 rfl rfl)
theorem dX9_mean_4 : decode cX9_mean 4 = .ok (.iload_n 1, 1) := dk_27 (dk_at dksX9_mean_0 4 rfl rfl)
theorem dX9_mean_5 : decode cX9_mean 5 = .ok (.iconst 0, 1) := dk_3 (dk_at dksX9_mean_0 5 rfl rfl)
theorem dX9_mean_6 : decode cX9_mean 6 = .ok (.aload_n 0, 1) := dk_42 (dk_at dksX9_mean_0 6 rfl rfl)
theorem dX9_mean_7 : decode cX9_mean 7 = .ok (.getfield 285, 3) := dk_180 1 29 (dk_at dksX9_mean_0 7 rfl rfl)
theorem dX9_mean_10 : decode cX9_mean 10 = .ok (.iconst 1, 1) := dk_4 (dk_at dksX9_mean_0 10 rfl rfl)
theorem dX9_mean_11 : decode cX9_mean 11 = .ok (.isub, 1) := dk_100 (dk_at dksX9_mean_0 11 rfl rfl)
theorem dX9_mean_12 : decode cX9_mean 12 = .ok (.invokestatic 213, 3) := dk_184 0 213 (dk_at dksX9_mean_0 12 rfl rfl)
theorem dX9_mean_15 : decode cX9_mean 15 = .ok (.ifCond .eq 12, 3) := dk_153 0 12 (dk_at dksX9_mean_0 15 rfl rfl)
theorem dX9_mean_18 : decode cX9_mean 18 = .ok (.iload_n 2, 1) := dk_28 (dk_at dksX9_mean_0 18 rfl rfl)
theorem dX9_mean_19 : decode cX9_mean 19 = .ok (.iconst 0, 1) := dk_3 (dk_at dksX9_mean_0 19 rfl rfl)
theorem dX9_mean_20 : decode cX9_mean 20 = .ok (.iconst 1, 1) := dk_4 (dk_at dksX9_mean_0 20 rfl rfl)
theorem dX9_mean_21 : decode cX9_mean 21 = .ok (.invokestatic 213, 3) := dk_184 0 213 (dk_at dksX9_mean_0 21 rfl rfl)
theorem dX9_mean_24 : decode cX9_mean 24 = .ok (.ifCond .ne 7, 3) := dk_154 0 7 (dk_at dksX9_mean_1 0 rfl rfl)
theorem dX9_mean_27 : decode cX9_mean 27 = .ok (.ldc_w 288, 3) := dk_19 1 32 (dk_at dksX9_mean_1 3 rfl rfl)
theorem dX9_mean_30 : decode cX9_mean 30 = .ok (.ireturn, 1) := dk_172 (dk_at dksX9_mean_1 6 rfl rfl)
theorem dX9_mean_31 : decode cX9_mean 31 = .ok (.iconst 0, 1) := dk_3 (dk_at dksX9_mean_1 7 rfl rfl)
theorem dX9_mean_32 : decode cX9_mean 32 = .ok (.istore_n 3, 1) := dk_62 (dk_at dksX9_mean_1 8 rfl rfl)
theorem dX9_mean_33 : decode cX9_mean 33 = .ok (.iconst 0, 1) := dk_3 (dk_at dksX9_mean_1 9 rfl rfl)
theorem dX9_mean_34 : decode cX9_mean 34 = .ok (.istore 4, 2) := dk_54 4 (dk_at dksX9_mean_1 10 rfl rfl)
theorem dX9_mean_36 : decode cX9_mean 36 = .ok (.iload 4, 2) := dk_21 4 (dk_at dksX9_mean_1 12 rfl rfl)
theorem dX9_mean_38 : decode cX9_mean 38 = .ok (.aload_n 0, 1) := dk_42 (dk_at dksX9_mean_1 14 rfl rfl)
theorem dX9_mean_39 : decode cX9_mean 39 = .ok (.invokevirtual 270, 3) := dk_182 1 14 (dk_at dksX9_mean_1 15 rfl rfl)
theorem dX9_mean_42 : decode cX9_mean 42 = .ok (.if_icmp .ge 33, 3) := dk_162 0 33 (dk_at dksX9_mean_1 18 rfl rfl)
theorem dX9_mean_45 : decode cX9_mean 45 = .ok (.aload_n 0, 1) := dk_42 (dk_at dksX9_mean_1 21 rfl rfl)
theorem dX9_mean_46 : decode cX9_mean 46 = .ok (.getfield 57, 3) := dk_180 0 57 (dk_at dksX9_mean_2 0 rfl rfl)
theorem dX9_mean_49 : decode cX9_mean 49 = .ok (.iload 4, 2) := dk_21 4 (dk_at dksX9_mean_2 3 rfl rfl)
theorem dX9_mean_51 : decode cX9_mean 51 = .ok (.iaload, 1) := dk_46 (dk_at dksX9_mean_2 5 rfl rfl)
theorem dX9_mean_52 : decode cX9_mean 52 = .ok (.aload_n 0, 1) := dk_42 (dk_at dksX9_mean_2 6 rfl rfl)
theorem dX9_mean_53 : decode cX9_mean 53 = .ok (.getfield 63, 3) := dk_180 0 63 (dk_at dksX9_mean_2 7 rfl rfl)
theorem dX9_mean_56 : decode cX9_mean 56 = .ok (.iload_n 1, 1) := dk_27 (dk_at dksX9_mean_2 10 rfl rfl)
theorem dX9_mean_57 : decode cX9_mean 57 = .ok (.iaload, 1) := dk_46 (dk_at dksX9_mean_2 11 rfl rfl)
theorem dX9_mean_58 : decode cX9_mean 58 = .ok (.if_icmp .ne 11, 3) := dk_160 0 11 (dk_at dksX9_mean_2 12 rfl rfl)
theorem dX9_mean_61 : decode cX9_mean 61 = .ok (.iload_n 3, 1) := dk_29 (dk_at dksX9_mean_2 15 rfl rfl)
theorem dX9_mean_62 : decode cX9_mean 62 = .ok (.iload 4, 2) := dk_21 4 (dk_at dksX9_mean_2 16 rfl rfl)
theorem dX9_mean_64 : decode cX9_mean 64 = .ok (.invokestatic 292, 3) := dk_184 1 36 (dk_at dksX9_mean_2 18 rfl rfl)
theorem dX9_mean_67 : decode cX9_mean 67 = .ok (.iadd, 1) := dk_96 (dk_at dksX9_mean_2 21 rfl rfl)
theorem dX9_mean_68 : decode cX9_mean 68 = .ok (.istore_n 3, 1) := dk_62 (dk_at dksX9_mean_2 22 rfl rfl)
theorem dX9_mean_69 : decode cX9_mean 69 = .ok (.iinc 4 1, 3) := dk_132 4 1 (dk_at dksX9_mean_3 0 rfl rfl)
theorem dX9_mean_72 : decode cX9_mean 72 = .ok (.goto (-36), 3) := dk_167 255 220 (dk_at dksX9_mean_3 3 rfl rfl)
theorem dX9_mean_75 : decode cX9_mean 75 = .ok (.iload_n 3, 1) := dk_29 (dk_at dksX9_mean_3 6 rfl rfl)
theorem dX9_mean_76 : decode cX9_mean 76 = .ok (.aload_n 0, 1) := dk_42 (dk_at dksX9_mean_3 7 rfl rfl)
theorem dX9_mean_77 : decode cX9_mean 77 = .ok (.getfield 60, 3) := dk_180 0 60 (dk_at dksX9_mean_3 8 rfl rfl)
theorem dX9_mean_80 : decode cX9_mean 80 = .ok (.sipush 150, 3) := dk_17 0 150 (dk_at dksX9_mean_3 11 rfl rfl)
theorem dX9_mean_83 : decode cX9_mean 83 = .ok (.aload_n 0, 1) := dk_42 (dk_at dksX9_mean_3 14 rfl rfl)
theorem dX9_mean_84 : decode cX9_mean 84 = .ok (.getfield 63, 3) := dk_180 0 63 (dk_at dksX9_mean_3 15 rfl rfl)
theorem dX9_mean_87 : decode cX9_mean 87 = .ok (.iload_n 1, 1) := dk_27 (dk_at dksX9_mean_3 18 rfl rfl)
theorem dX9_mean_88 : decode cX9_mean 88 = .ok (.iaload, 1) := dk_46 (dk_at dksX9_mean_3 19 rfl rfl)
theorem dX9_mean_89 : decode cX9_mean 89 = .ok (.iadd, 1) := dk_96 (dk_at dksX9_mean_3 20 rfl rfl)
theorem dX9_mean_90 : decode cX9_mean 90 = .ok (.iaload, 1) := dk_46 (dk_at dksX9_mean_3 21 rfl rfl)
theorem dX9_mean_91 : decode cX9_mean 91 = .ok (.iload_n 2, 1) := dk_28 (dk_at dksX9_mean_3 22 rfl rfl)
theorem dX9_mean_92 : decode cX9_mean 92 = .ok (.invokestatic 308, 3) := dk_184 1 52 (dk_at dksX9_mean_4 0 rfl rfl)
theorem dX9_mean_95 : decode cX9_mean 95 = .ok (.ireturn, 1) := dk_172 (dk_at dksX9_mean_4 3 rfl rfl)
abbrev cX9_value : ByteArray := prog_14_method_65_code
def yX9_value : MethodName := ⟨RX9, "value", "(I)I"⟩
def dkwX9_value_4 : List UInt8 := [133, 105, 20, 1, 57, 113, 55, 4, 132, 7, 1, 167, 255, 196, 32, 136, 172]
abbrev dktX9_value_4 : List UInt8 := dkwX9_value_4 ++ []
def dkwX9_value_3 : List UInt8 := [180, 0, 60, 17, 0, 150, 21, 7, 96, 46, 133, 105, 97, 20, 1, 57, 113, 65, 132, 6, 1, 22, 4, 27]
abbrev dktX9_value_3 : List UInt8 := dkwX9_value_3 ++ dktX9_value_4
def dkwX9_value_2 : List UInt8 := [180, 1, 29, 162, 0, 57, 21, 7, 42, 180, 0, 63, 21, 6, 46, 160, 0, 28, 32, 22, 4, 42]
abbrev dktX9_value_2 : List UInt8 := dkwX9_value_2 ++ dktX9_value_3
def dkwX9_value_1 : List UInt8 := [54, 6, 42, 180, 1, 29, 154, 0, 7, 3, 167, 0, 9, 42, 180, 0, 63, 3, 46, 54, 7, 21, 6, 42]
abbrev dktX9_value_1 : List UInt8 := dkwX9_value_1 ++ dktX9_value_2
def dkwX9_value_0 : List UInt8 := [27, 3, 19, 1, 56, 184, 0, 213, 154, 0, 5, 2, 172, 42, 182, 1, 5, 9, 65, 10, 55, 4, 3]
abbrev dktX9_value_0 : List UInt8 := dkwX9_value_0 ++ dktX9_value_1
theorem dksX9_value_0 : cX9_value.data.toList.drop 0 = dktX9_value_0 := by decide +kernel
theorem dksX9_value_1 : cX9_value.data.toList.drop 23 = dktX9_value_1 := dk_seg dksX9_value_0 23 rfl rfl
theorem dksX9_value_2 : cX9_value.data.toList.drop 47 = dktX9_value_2 := dk_seg dksX9_value_1 24 rfl rfl
theorem dksX9_value_3 : cX9_value.data.toList.drop 69 = dktX9_value_3 := dk_seg dksX9_value_2 22 rfl rfl
theorem dksX9_value_4 : cX9_value.data.toList.drop 93 = dktX9_value_4 := dk_seg dksX9_value_3 24 rfl rfl
theorem dX9_value_0 : decode cX9_value 0 = .ok (.iload_n 1, 1) := dk_27 (dk_at dksX9_value_0 0 rfl rfl)
theorem dX9_value_1 : decode cX9_value 1 = .ok (.iconst 0, 1) := dk_3 (dk_at dksX9_value_0 1 rfl rfl)
theorem dX9_value_2 : decode cX9_value 2 = .ok (.ldc_w 312, 3) := dk_19 1 56 (dk_at dksX9_value_0 2 rfl rfl)
theorem dX9_value_5 : decode cX9_value 5 = .ok (.invokestatic 213, 3) := dk_184 0 213 (dk_at dksX9_value_0 5 rfl rfl)
theorem dX9_value_8 : decode cX9_value 8 = .ok (.ifCond .ne 5, 3) := dk_154 0 5 (dk_at dksX9_value_0 8 rfl rfl)
theorem dX9_value_11 : decode cX9_value 11 = .ok (.iconst (-1), 1) := dk_2 (dk_at dksX9_value_0 11 rfl rfl)
theorem dX9_value_12 : decode cX9_value 12 = .ok (.ireturn, 1) := dk_172 (dk_at dksX9_value_0 12 rfl rfl)
theorem dX9_value_13 : decode cX9_value 13 = .ok (.aload_n 0, 1) := dk_42 (dk_at dksX9_value_0 13 rfl rfl)
theorem dX9_value_14 : decode cX9_value 14 = .ok (.invokevirtual 261, 3) := dk_182 1 5 (dk_at dksX9_value_0 14 rfl rfl)
theorem dX9_value_17 : decode cX9_value 17 = .ok (.lconst 0, 1) := dk_9 (dk_at dksX9_value_0 17 rfl rfl)
theorem dX9_value_18 : decode cX9_value 18 = .ok (.lstore_n 2, 1) := dk_65 (dk_at dksX9_value_0 18 rfl rfl)
theorem dX9_value_19 : decode cX9_value 19 = .ok (.lconst 1, 1) := dk_10 (dk_at dksX9_value_0 19 rfl rfl)
theorem dX9_value_20 : decode cX9_value 20 = .ok (.lstore 4, 2) := dk_55 4 (dk_at dksX9_value_0 20 rfl rfl)
theorem dX9_value_22 : decode cX9_value 22 = .ok (.iconst 0, 1) := dk_3 (dk_at dksX9_value_0 22 rfl rfl)
theorem dX9_value_23 : decode cX9_value 23 = .ok (.istore 6, 2) := dk_54 6 (dk_at dksX9_value_1 0 rfl rfl)
theorem dX9_value_25 : decode cX9_value 25 = .ok (.aload_n 0, 1) := dk_42 (dk_at dksX9_value_1 2 rfl rfl)
theorem dX9_value_26 : decode cX9_value 26 = .ok (.getfield 285, 3) := dk_180 1 29 (dk_at dksX9_value_1 3 rfl rfl)
theorem dX9_value_29 : decode cX9_value 29 = .ok (.ifCond .ne 7, 3) := dk_154 0 7 (dk_at dksX9_value_1 6 rfl rfl)
theorem dX9_value_32 : decode cX9_value 32 = .ok (.iconst 0, 1) := dk_3 (dk_at dksX9_value_1 9 rfl rfl)
theorem dX9_value_33 : decode cX9_value 33 = .ok (.goto 9, 3) := dk_167 0 9 (dk_at dksX9_value_1 10 rfl rfl)
theorem dX9_value_36 : decode cX9_value 36 = .ok (.aload_n 0, 1) := dk_42 (dk_at dksX9_value_1 13 rfl rfl)
theorem dX9_value_37 : decode cX9_value 37 = .ok (.getfield 63, 3) := dk_180 0 63 (dk_at dksX9_value_1 14 rfl rfl)
theorem dX9_value_40 : decode cX9_value 40 = .ok (.iconst 0, 1) := dk_3 (dk_at dksX9_value_1 17 rfl rfl)
theorem dX9_value_41 : decode cX9_value 41 = .ok (.iaload, 1) := dk_46 (dk_at dksX9_value_1 18 rfl rfl)
theorem dX9_value_42 : decode cX9_value 42 = .ok (.istore 7, 2) := dk_54 7 (dk_at dksX9_value_1 19 rfl rfl)
theorem dX9_value_44 : decode cX9_value 44 = .ok (.iload 6, 2) := dk_21 6 (dk_at dksX9_value_1 21 rfl rfl)
theorem dX9_value_46 : decode cX9_value 46 = .ok (.aload_n 0, 1) := dk_42 (dk_at dksX9_value_1 23 rfl rfl)
theorem dX9_value_47 : decode cX9_value 47 = .ok (.getfield 285, 3) := dk_180 1 29 (dk_at dksX9_value_2 0 rfl rfl)
theorem dX9_value_50 : decode cX9_value 50 = .ok (.if_icmp .ge 57, 3) := dk_162 0 57 (dk_at dksX9_value_2 3 rfl rfl)
theorem dX9_value_53 : decode cX9_value 53 = .ok (.iload 7, 2) := dk_21 7 (dk_at dksX9_value_2 6 rfl rfl)
theorem dX9_value_55 : decode cX9_value 55 = .ok (.aload_n 0, 1) := dk_42 (dk_at dksX9_value_2 8 rfl rfl)
theorem dX9_value_56 : decode cX9_value 56 = .ok (.getfield 63, 3) := dk_180 0 63 (dk_at dksX9_value_2 9 rfl rfl)
theorem dX9_value_59 : decode cX9_value 59 = .ok (.iload 6, 2) := dk_21 6 (dk_at dksX9_value_2 12 rfl rfl)
theorem dX9_value_61 : decode cX9_value 61 = .ok (.iaload, 1) := dk_46 (dk_at dksX9_value_2 14 rfl rfl)
theorem dX9_value_62 : decode cX9_value 62 = .ok (.if_icmp .ne 28, 3) := dk_160 0 28 (dk_at dksX9_value_2 15 rfl rfl)
theorem dX9_value_65 : decode cX9_value 65 = .ok (.lload_n 2, 1) := dk_32 (dk_at dksX9_value_2 18 rfl rfl)
theorem dX9_value_66 : decode cX9_value 66 = .ok (.lload 4, 2) := dk_22 4 (dk_at dksX9_value_2 19 rfl rfl)
theorem dX9_value_68 : decode cX9_value 68 = .ok (.aload_n 0, 1) := dk_42 (dk_at dksX9_value_2 21 rfl rfl)
theorem dX9_value_69 : decode cX9_value 69 = .ok (.getfield 60, 3) := dk_180 0 60 (dk_at dksX9_value_3 0 rfl rfl)
theorem dX9_value_72 : decode cX9_value 72 = .ok (.sipush 150, 3) := dk_17 0 150 (dk_at dksX9_value_3 3 rfl rfl)
theorem dX9_value_75 : decode cX9_value 75 = .ok (.iload 7, 2) := dk_21 7 (dk_at dksX9_value_3 6 rfl rfl)
theorem dX9_value_77 : decode cX9_value 77 = .ok (.iadd, 1) := dk_96 (dk_at dksX9_value_3 8 rfl rfl)
theorem dX9_value_78 : decode cX9_value 78 = .ok (.iaload, 1) := dk_46 (dk_at dksX9_value_3 9 rfl rfl)
theorem dX9_value_79 : decode cX9_value 79 = .ok (.i2l, 1) := dk_133 (dk_at dksX9_value_3 10 rfl rfl)
theorem dX9_value_80 : decode cX9_value 80 = .ok (.lmul, 1) := dk_105 (dk_at dksX9_value_3 11 rfl rfl)
theorem dX9_value_81 : decode cX9_value 81 = .ok (.ladd, 1) := dk_97 (dk_at dksX9_value_3 12 rfl rfl)
theorem dX9_value_82 : decode cX9_value 82 = .ok (.ldc2_w 313, 3) := dk_20 1 57 (dk_at dksX9_value_3 13 rfl rfl)
theorem dX9_value_85 : decode cX9_value 85 = .ok (.lrem, 1) := dk_113 (dk_at dksX9_value_3 16 rfl rfl)
theorem dX9_value_86 : decode cX9_value 86 = .ok (.lstore_n 2, 1) := dk_65 (dk_at dksX9_value_3 17 rfl rfl)
theorem dX9_value_87 : decode cX9_value 87 = .ok (.iinc 6 1, 3) := dk_132 6 1 (dk_at dksX9_value_3 18 rfl rfl)
theorem dX9_value_90 : decode cX9_value 90 = .ok (.lload 4, 2) := dk_22 4 (dk_at dksX9_value_3 21 rfl rfl)
theorem dX9_value_92 : decode cX9_value 92 = .ok (.iload_n 1, 1) := dk_27 (dk_at dksX9_value_3 23 rfl rfl)
theorem dX9_value_93 : decode cX9_value 93 = .ok (.i2l, 1) := dk_133 (dk_at dksX9_value_4 0 rfl rfl)
theorem dX9_value_94 : decode cX9_value 94 = .ok (.lmul, 1) := dk_105 (dk_at dksX9_value_4 1 rfl rfl)
theorem dX9_value_95 : decode cX9_value 95 = .ok (.ldc2_w 313, 3) := dk_20 1 57 (dk_at dksX9_value_4 2 rfl rfl)
theorem dX9_value_98 : decode cX9_value 98 = .ok (.lrem, 1) := dk_113 (dk_at dksX9_value_4 5 rfl rfl)
theorem dX9_value_99 : decode cX9_value 99 = .ok (.lstore 4, 2) := dk_55 4 (dk_at dksX9_value_4 6 rfl rfl)
theorem dX9_value_101 : decode cX9_value 101 = .ok (.iinc 7 1, 3) := dk_132 7 1 (dk_at dksX9_value_4 8 rfl rfl)
theorem dX9_value_104 : decode cX9_value 104 = .ok (.goto (-60), 3) := dk_167 255 196 (dk_at dksX9_value_4 11 rfl rfl)
theorem dX9_value_107 : decode cX9_value 107 = .ok (.lload_n 2, 1) := dk_32 (dk_at dksX9_value_4 14 rfl rfl)
theorem dX9_value_108 : decode cX9_value 108 = .ok (.l2i, 1) := dk_136 (dk_at dksX9_value_4 15 rfl rfl)
theorem dX9_value_109 : decode cX9_value 109 = .ok (.ireturn, 1) := dk_172 (dk_at dksX9_value_4 16 rfl rfl)
abbrev cX9_joined : ByteArray := prog_14_method_66_code
def yX9_joined : MethodName := ⟨RX9, "joined", "(III)J"⟩
def dkwX9_joined_11 : List UInt8 := [21, 4, 133, 167, 0, 6, 20, 1, 59, 173]
abbrev dktX9_joined_11 : List UInt8 := dkwX9_joined_11 ++ []
def dkwX9_joined_10 : List UInt8 := [21, 5, 47, 167, 0, 6, 20, 1, 59, 173, 132, 4, 1, 132, 5, 1, 167, 255, 188, 28, 2, 160, 0, 9]
abbrev dktX9_joined_10 : List UInt8 := dkwX9_joined_10 ++ dktX9_joined_11
def dkwX9_joined_9 : List UInt8 := [29, 154, 0, 13, 21, 5, 17, 1, 44, 100, 133, 167, 0, 21, 29, 4, 160, 0, 13, 42, 180, 0, 72]
abbrev dktX9_joined_9 : List UInt8 := dkwX9_joined_9 ++ dktX9_joined_10
def dkwX9_joined_8 : List UInt8 := [162, 0, 66, 42, 180, 0, 72, 21, 5, 47, 9, 148, 154, 0, 6, 167, 0, 45, 21, 4, 28, 160, 0, 36]
abbrev dktX9_joined_8 : List UInt8 := dkwX9_joined_8 ++ dktX9_joined_9
def dkwX9_joined_7 : List UInt8 := [132, 5, 1, 167, 255, 205, 132, 4, 1, 167, 255, 188, 3, 54, 4, 3, 54, 5, 21, 5, 17, 2, 89]
abbrev dktX9_joined_7 : List UInt8 := dkwX9_joined_7 ++ dktX9_joined_8
def dkwX9_joined_6 : List UInt8 := [96, 92, 47, 42, 180, 0, 60, 21, 4, 46, 133, 42, 180, 0, 69, 21, 5, 46, 133, 105, 97, 80]
abbrev dktX9_joined_6 : List UInt8 := dkwX9_joined_6 ++ dktX9_joined_7
def dkwX9_joined_5 : List UInt8 := [17, 1, 45, 162, 0, 49, 42, 180, 0, 60, 21, 4, 46, 158, 0, 39, 42, 180, 0, 72, 21, 4, 21, 5]
abbrev dktX9_joined_5 : List UInt8 := dkwX9_joined_5 ++ dktX9_joined_6
def dkwX9_joined_4 : List UInt8 := [132, 4, 1, 167, 255, 237, 3, 54, 4, 21, 4, 17, 1, 45, 162, 0, 66, 3, 54, 5, 21, 5]
abbrev dktX9_joined_4 : List UInt8 := dkwX9_joined_4 ++ dktX9_joined_5
def dkwX9_joined_3 : List UInt8 := [182, 1, 61, 3, 54, 4, 21, 4, 17, 2, 89, 162, 0, 17, 42, 180, 0, 72, 21, 4, 9, 80]
abbrev dktX9_joined_3 : List UInt8 := dkwX9_joined_3 ++ dktX9_joined_4
def dkwX9_joined_2 : List UInt8 := [16, 66, 27, 104, 21, 4, 96, 46, 79, 132, 4, 1, 167, 255, 227, 42, 42, 180, 0, 66, 42, 180, 0, 69]
abbrev dktX9_joined_2 : List UInt8 := dkwX9_joined_2 ++ dktX9_joined_3
def dkwX9_joined_1 : List UInt8 := [182, 1, 5, 3, 54, 4, 21, 4, 16, 66, 162, 0, 28, 42, 180, 0, 66, 21, 4, 42, 180, 0, 49]
abbrev dktX9_joined_1 : List UInt8 := dkwX9_joined_1 ++ dktX9_joined_2
def dkwX9_joined_0 : List UInt8 := [27, 3, 5, 184, 0, 213, 153, 0, 12, 42, 180, 0, 52, 27, 51, 154, 0, 7, 20, 1, 59, 173, 42]
abbrev dktX9_joined_0 : List UInt8 := dkwX9_joined_0 ++ dktX9_joined_1
theorem dksX9_joined_0 : cX9_joined.data.toList.drop 0 = dktX9_joined_0 := by decide +kernel
theorem dksX9_joined_1 : cX9_joined.data.toList.drop 23 = dktX9_joined_1 := dk_seg dksX9_joined_0 23 rfl rfl
theorem dksX9_joined_2 : cX9_joined.data.toList.drop 46 = dktX9_joined_2 := dk_seg dksX9_joined_1 23 rfl rfl
theorem dksX9_joined_3 : cX9_joined.data.toList.drop 70 = dktX9_joined_3 := dk_seg dksX9_joined_2 24 rfl rfl
theorem dksX9_joined_4 : cX9_joined.data.toList.drop 92 = dktX9_joined_4 := dk_seg dksX9_joined_3 22 rfl rfl
theorem dksX9_joined_5 : cX9_joined.data.toList.drop 114 = dktX9_joined_5 := dk_seg dksX9_joined_4 22 rfl rfl
theorem dksX9_joined_6 : cX9_joined.data.toList.drop 138 = dktX9_joined_6 := dk_seg dksX9_joined_5 24 rfl rfl
theorem dksX9_joined_7 : cX9_joined.data.toList.drop 160 = dktX9_joined_7 := dk_seg dksX9_joined_6 22 rfl rfl
theorem dksX9_joined_8 : cX9_joined.data.toList.drop 183 = dktX9_joined_8 := dk_seg dksX9_joined_7 23 rfl rfl
theorem dksX9_joined_9 : cX9_joined.data.toList.drop 207 = dktX9_joined_9 := dk_seg dksX9_joined_8 24 rfl rfl
theorem dksX9_joined_10 : cX9_joined.data.toList.drop 230 = dktX9_joined_10 := dk_seg dksX9_joined_9 23 rfl rfl
theorem dksX9_joined_11 : cX9_joined.data.toList.drop 254 = dktX9_joined_11 := dk_seg dksX9_joined_10 24 rfl rfl
theorem dX9_joined_0 : decode cX9_joined 0 = .ok (.iload_n 1, 1) := dk_27 (dk_at dksX9_joined_0 0 rfl rfl)
theorem dX9_joined_1 : decode cX9_joined 1 = .ok (.iconst 0, 1) := dk_3 (dk_at dksX9_joined_0 1 rfl rfl)
theorem dX9_joined_2 : decode cX9_joined 2 = .ok (.iconst 2, 1) := dk_5 (dk_at dksX9_joined_0 2 rfl rfl)
theorem dX9_joined_3 : decode cX9_joined 3 = .ok (.invokestatic 213, 3) := dk_184 0 213 (dk_at dksX9_joined_0 3 rfl rfl)
theorem dX9_joined_6 : decode cX9_joined 6 = .ok (.ifCond .eq 12, 3) := dk_153 0 12 (dk_at dksX9_joined_0 6 rfl rfl)
theorem dX9_joined_9 : decode cX9_joined 9 = .ok (.aload_n 0, 1) := dk_42 (dk_at dksX9_joined_0 9 rfl rfl)
theorem dX9_joined_10 : decode cX9_joined 10 = .ok (.getfield 52, 3) := dk_180 0 52 (dk_at dksX9_joined_0 10 rfl rfl)
theorem dX9_joined_13 : decode cX9_joined 13 = .ok (.iload_n 1, 1) := dk_27 (dk_at dksX9_joined_0 13 rfl rfl)
theorem dX9_joined_14 : decode cX9_joined 14 = .ok (.baload, 1) := dk_51 (dk_at dksX9_joined_0 14 rfl rfl)
theorem dX9_joined_15 : decode cX9_joined 15 = .ok (.ifCond .ne 7, 3) := dk_154 0 7 (dk_at dksX9_joined_0 15 rfl rfl)
theorem dX9_joined_18 : decode cX9_joined 18 = .ok (.ldc2_w 315, 3) := dk_20 1 59 (dk_at dksX9_joined_0 18 rfl rfl)
theorem dX9_joined_21 : decode cX9_joined 21 = .ok (.lreturn, 1) := dk_173 (dk_at dksX9_joined_0 21 rfl rfl)
theorem dX9_joined_22 : decode cX9_joined 22 = .ok (.aload_n 0, 1) := dk_42 (dk_at dksX9_joined_0 22 rfl rfl)
theorem dX9_joined_23 : decode cX9_joined 23 = .ok (.invokevirtual 261, 3) := dk_182 1 5 (dk_at dksX9_joined_1 0 rfl rfl)
theorem dX9_joined_26 : decode cX9_joined 26 = .ok (.iconst 0, 1) := dk_3 (dk_at dksX9_joined_1 3 rfl rfl)
theorem dX9_joined_27 : decode cX9_joined 27 = .ok (.istore 4, 2) := dk_54 4 (dk_at dksX9_joined_1 4 rfl rfl)
theorem dX9_joined_29 : decode cX9_joined 29 = .ok (.iload 4, 2) := dk_21 4 (dk_at dksX9_joined_1 6 rfl rfl)
theorem dX9_joined_31 : decode cX9_joined 31 = .ok (.bipush 66, 2) := dk_16 66 (dk_at dksX9_joined_1 8 rfl rfl)
theorem dX9_joined_33 : decode cX9_joined 33 = .ok (.if_icmp .ge 28, 3) := dk_162 0 28 (dk_at dksX9_joined_1 10 rfl rfl)
theorem dX9_joined_36 : decode cX9_joined 36 = .ok (.aload_n 0, 1) := dk_42 (dk_at dksX9_joined_1 13 rfl rfl)
theorem dX9_joined_37 : decode cX9_joined 37 = .ok (.getfield 66, 3) := dk_180 0 66 (dk_at dksX9_joined_1 14 rfl rfl)
theorem dX9_joined_40 : decode cX9_joined 40 = .ok (.iload 4, 2) := dk_21 4 (dk_at dksX9_joined_1 17 rfl rfl)
theorem dX9_joined_42 : decode cX9_joined 42 = .ok (.aload_n 0, 1) := dk_42 (dk_at dksX9_joined_1 19 rfl rfl)
theorem dX9_joined_43 : decode cX9_joined 43 = .ok (.getfield 49, 3) := dk_180 0 49 (dk_at dksX9_joined_1 20 rfl rfl)
theorem dX9_joined_46 : decode cX9_joined 46 = .ok (.bipush 66, 2) := dk_16 66 (dk_at dksX9_joined_2 0 rfl rfl)
theorem dX9_joined_48 : decode cX9_joined 48 = .ok (.iload_n 1, 1) := dk_27 (dk_at dksX9_joined_2 2 rfl rfl)
theorem dX9_joined_49 : decode cX9_joined 49 = .ok (.imul, 1) := dk_104 (dk_at dksX9_joined_2 3 rfl rfl)
theorem dX9_joined_50 : decode cX9_joined 50 = .ok (.iload 4, 2) := dk_21 4 (dk_at dksX9_joined_2 4 rfl rfl)
theorem dX9_joined_52 : decode cX9_joined 52 = .ok (.iadd, 1) := dk_96 (dk_at dksX9_joined_2 6 rfl rfl)
theorem dX9_joined_53 : decode cX9_joined 53 = .ok (.iaload, 1) := dk_46 (dk_at dksX9_joined_2 7 rfl rfl)
theorem dX9_joined_54 : decode cX9_joined 54 = .ok (.iastore, 1) := dk_79 (dk_at dksX9_joined_2 8 rfl rfl)
theorem dX9_joined_55 : decode cX9_joined 55 = .ok (.iinc 4 1, 3) := dk_132 4 1 (dk_at dksX9_joined_2 9 rfl rfl)
theorem dX9_joined_58 : decode cX9_joined 58 = .ok (.goto (-29), 3) := dk_167 255 227 (dk_at dksX9_joined_2 12 rfl rfl)
theorem dX9_joined_61 : decode cX9_joined 61 = .ok (.aload_n 0, 1) := dk_42 (dk_at dksX9_joined_2 15 rfl rfl)
theorem dX9_joined_62 : decode cX9_joined 62 = .ok (.aload_n 0, 1) := dk_42 (dk_at dksX9_joined_2 16 rfl rfl)
theorem dX9_joined_63 : decode cX9_joined 63 = .ok (.getfield 66, 3) := dk_180 0 66 (dk_at dksX9_joined_2 17 rfl rfl)
theorem dX9_joined_66 : decode cX9_joined 66 = .ok (.aload_n 0, 1) := dk_42 (dk_at dksX9_joined_2 20 rfl rfl)
theorem dX9_joined_67 : decode cX9_joined 67 = .ok (.getfield 69, 3) := dk_180 0 69 (dk_at dksX9_joined_2 21 rfl rfl)
theorem dX9_joined_70 : decode cX9_joined 70 = .ok (.invokevirtual 317, 3) := dk_182 1 61 (dk_at dksX9_joined_3 0 rfl rfl)
theorem dX9_joined_73 : decode cX9_joined 73 = .ok (.iconst 0, 1) := dk_3 (dk_at dksX9_joined_3 3 rfl rfl)
theorem dX9_joined_74 : decode cX9_joined 74 = .ok (.istore 4, 2) := dk_54 4 (dk_at dksX9_joined_3 4 rfl rfl)
theorem dX9_joined_76 : decode cX9_joined 76 = .ok (.iload 4, 2) := dk_21 4 (dk_at dksX9_joined_3 6 rfl rfl)
theorem dX9_joined_78 : decode cX9_joined 78 = .ok (.sipush 601, 3) := dk_17 2 89 (dk_at dksX9_joined_3 8 rfl rfl)
theorem dX9_joined_81 : decode cX9_joined 81 = .ok (.if_icmp .ge 17, 3) := dk_162 0 17 (dk_at dksX9_joined_3 11 rfl rfl)
theorem dX9_joined_84 : decode cX9_joined 84 = .ok (.aload_n 0, 1) := dk_42 (dk_at dksX9_joined_3 14 rfl rfl)
theorem dX9_joined_85 : decode cX9_joined 85 = .ok (.getfield 72, 3) := dk_180 0 72 (dk_at dksX9_joined_3 15 rfl rfl)
theorem dX9_joined_88 : decode cX9_joined 88 = .ok (.iload 4, 2) := dk_21 4 (dk_at dksX9_joined_3 18 rfl rfl)
theorem dX9_joined_90 : decode cX9_joined 90 = .ok (.lconst 0, 1) := dk_9 (dk_at dksX9_joined_3 20 rfl rfl)
theorem dX9_joined_91 : decode cX9_joined 91 = .ok (.lastore, 1) := dk_80 (dk_at dksX9_joined_3 21 rfl rfl)
theorem dX9_joined_92 : decode cX9_joined 92 = .ok (.iinc 4 1, 3) := dk_132 4 1 (dk_at dksX9_joined_4 0 rfl rfl)
theorem dX9_joined_95 : decode cX9_joined 95 = .ok (.goto (-19), 3) := dk_167 255 237 (dk_at dksX9_joined_4 3 rfl rfl)
theorem dX9_joined_98 : decode cX9_joined 98 = .ok (.iconst 0, 1) := dk_3 (dk_at dksX9_joined_4 6 rfl rfl)
theorem dX9_joined_99 : decode cX9_joined 99 = .ok (.istore 4, 2) := dk_54 4 (dk_at dksX9_joined_4 7 rfl rfl)
theorem dX9_joined_101 : decode cX9_joined 101 = .ok (.iload 4, 2) := dk_21 4 (dk_at dksX9_joined_4 9 rfl rfl)
theorem dX9_joined_103 : decode cX9_joined 103 = .ok (.sipush 301, 3) := dk_17 1 45 (dk_at dksX9_joined_4 11 rfl rfl)
theorem dX9_joined_106 : decode cX9_joined 106 = .ok (.if_icmp .ge 66, 3) := dk_162 0 66 (dk_at dksX9_joined_4 14 rfl rfl)
theorem dX9_joined_109 : decode cX9_joined 109 = .ok (.iconst 0, 1) := dk_3 (dk_at dksX9_joined_4 17 rfl rfl)
theorem dX9_joined_110 : decode cX9_joined 110 = .ok (.istore 5, 2) := dk_54 5 (dk_at dksX9_joined_4 18 rfl rfl)
theorem dX9_joined_112 : decode cX9_joined 112 = .ok (.iload 5, 2) := dk_21 5 (dk_at dksX9_joined_4 20 rfl rfl)
theorem dX9_joined_114 : decode cX9_joined 114 = .ok (.sipush 301, 3) := dk_17 1 45 (dk_at dksX9_joined_5 0 rfl rfl)
theorem dX9_joined_117 : decode cX9_joined 117 = .ok (.if_icmp .ge 49, 3) := dk_162 0 49 (dk_at dksX9_joined_5 3 rfl rfl)
theorem dX9_joined_120 : decode cX9_joined 120 = .ok (.aload_n 0, 1) := dk_42 (dk_at dksX9_joined_5 6 rfl rfl)
theorem dX9_joined_121 : decode cX9_joined 121 = .ok (.getfield 60, 3) := dk_180 0 60 (dk_at dksX9_joined_5 7 rfl rfl)
theorem dX9_joined_124 : decode cX9_joined 124 = .ok (.iload 4, 2) := dk_21 4 (dk_at dksX9_joined_5 10 rfl rfl)
theorem dX9_joined_126 : decode cX9_joined 126 = .ok (.iaload, 1) := dk_46 (dk_at dksX9_joined_5 12 rfl rfl)
theorem dX9_joined_127 : decode cX9_joined 127 = .ok (.ifCond .le 39, 3) := dk_158 0 39 (dk_at dksX9_joined_5 13 rfl rfl)
theorem dX9_joined_130 : decode cX9_joined 130 = .ok (.aload_n 0, 1) := dk_42 (dk_at dksX9_joined_5 16 rfl rfl)
theorem dX9_joined_131 : decode cX9_joined 131 = .ok (.getfield 72, 3) := dk_180 0 72 (dk_at dksX9_joined_5 17 rfl rfl)
theorem dX9_joined_134 : decode cX9_joined 134 = .ok (.iload 4, 2) := dk_21 4 (dk_at dksX9_joined_5 20 rfl rfl)
theorem dX9_joined_136 : decode cX9_joined 136 = .ok (.iload 5, 2) := dk_21 5 (dk_at dksX9_joined_5 22 rfl rfl)
theorem dX9_joined_138 : decode cX9_joined 138 = .ok (.iadd, 1) := dk_96 (dk_at dksX9_joined_6 0 rfl rfl)
theorem dX9_joined_139 : decode cX9_joined 139 = .ok (.dup2, 1) := dk_92 (dk_at dksX9_joined_6 1 rfl rfl)
theorem dX9_joined_140 : decode cX9_joined 140 = .ok (.laload, 1) := dk_47 (dk_at dksX9_joined_6 2 rfl rfl)
theorem dX9_joined_141 : decode cX9_joined 141 = .ok (.aload_n 0, 1) := dk_42 (dk_at dksX9_joined_6 3 rfl rfl)
theorem dX9_joined_142 : decode cX9_joined 142 = .ok (.getfield 60, 3) := dk_180 0 60 (dk_at dksX9_joined_6 4 rfl rfl)
theorem dX9_joined_145 : decode cX9_joined 145 = .ok (.iload 4, 2) := dk_21 4 (dk_at dksX9_joined_6 7 rfl rfl)
theorem dX9_joined_147 : decode cX9_joined 147 = .ok (.iaload, 1) := dk_46 (dk_at dksX9_joined_6 9 rfl rfl)
theorem dX9_joined_148 : decode cX9_joined 148 = .ok (.i2l, 1) := dk_133 (dk_at dksX9_joined_6 10 rfl rfl)
theorem dX9_joined_149 : decode cX9_joined 149 = .ok (.aload_n 0, 1) := dk_42 (dk_at dksX9_joined_6 11 rfl rfl)
theorem dX9_joined_150 : decode cX9_joined 150 = .ok (.getfield 69, 3) := dk_180 0 69 (dk_at dksX9_joined_6 12 rfl rfl)
theorem dX9_joined_153 : decode cX9_joined 153 = .ok (.iload 5, 2) := dk_21 5 (dk_at dksX9_joined_6 15 rfl rfl)
theorem dX9_joined_155 : decode cX9_joined 155 = .ok (.iaload, 1) := dk_46 (dk_at dksX9_joined_6 17 rfl rfl)
theorem dX9_joined_156 : decode cX9_joined 156 = .ok (.i2l, 1) := dk_133 (dk_at dksX9_joined_6 18 rfl rfl)
theorem dX9_joined_157 : decode cX9_joined 157 = .ok (.lmul, 1) := dk_105 (dk_at dksX9_joined_6 19 rfl rfl)
theorem dX9_joined_158 : decode cX9_joined 158 = .ok (.ladd, 1) := dk_97 (dk_at dksX9_joined_6 20 rfl rfl)
theorem dX9_joined_159 : decode cX9_joined 159 = .ok (.lastore, 1) := dk_80 (dk_at dksX9_joined_6 21 rfl rfl)
theorem dX9_joined_160 : decode cX9_joined 160 = .ok (.iinc 5 1, 3) := dk_132 5 1 (dk_at dksX9_joined_7 0 rfl rfl)
theorem dX9_joined_163 : decode cX9_joined 163 = .ok (.goto (-51), 3) := dk_167 255 205 (dk_at dksX9_joined_7 3 rfl rfl)
theorem dX9_joined_166 : decode cX9_joined 166 = .ok (.iinc 4 1, 3) := dk_132 4 1 (dk_at dksX9_joined_7 6 rfl rfl)
theorem dX9_joined_169 : decode cX9_joined 169 = .ok (.goto (-68), 3) := dk_167 255 188 (dk_at dksX9_joined_7 9 rfl rfl)
theorem dX9_joined_172 : decode cX9_joined 172 = .ok (.iconst 0, 1) := dk_3 (dk_at dksX9_joined_7 12 rfl rfl)
theorem dX9_joined_173 : decode cX9_joined 173 = .ok (.istore 4, 2) := dk_54 4 (dk_at dksX9_joined_7 13 rfl rfl)
theorem dX9_joined_175 : decode cX9_joined 175 = .ok (.iconst 0, 1) := dk_3 (dk_at dksX9_joined_7 15 rfl rfl)
theorem dX9_joined_176 : decode cX9_joined 176 = .ok (.istore 5, 2) := dk_54 5 (dk_at dksX9_joined_7 16 rfl rfl)
theorem dX9_joined_178 : decode cX9_joined 178 = .ok (.iload 5, 2) := dk_21 5 (dk_at dksX9_joined_7 18 rfl rfl)
theorem dX9_joined_180 : decode cX9_joined 180 = .ok (.sipush 601, 3) := dk_17 2 89 (dk_at dksX9_joined_7 20 rfl rfl)
theorem dX9_joined_183 : decode cX9_joined 183 = .ok (.if_icmp .ge 66, 3) := dk_162 0 66 (dk_at dksX9_joined_8 0 rfl rfl)
theorem dX9_joined_186 : decode cX9_joined 186 = .ok (.aload_n 0, 1) := dk_42 (dk_at dksX9_joined_8 3 rfl rfl)
theorem dX9_joined_187 : decode cX9_joined 187 = .ok (.getfield 72, 3) := dk_180 0 72 (dk_at dksX9_joined_8 4 rfl rfl)
theorem dX9_joined_190 : decode cX9_joined 190 = .ok (.iload 5, 2) := dk_21 5 (dk_at dksX9_joined_8 7 rfl rfl)
theorem dX9_joined_192 : decode cX9_joined 192 = .ok (.laload, 1) := dk_47 (dk_at dksX9_joined_8 9 rfl rfl)
theorem dX9_joined_193 : decode cX9_joined 193 = .ok (.lconst 0, 1) := dk_9 (dk_at dksX9_joined_8 10 rfl rfl)
theorem dX9_joined_194 : decode cX9_joined 194 = .ok (.lcmp, 1) := dk_148 (dk_at dksX9_joined_8 11 rfl rfl)
theorem dX9_joined_195 : decode cX9_joined 195 = .ok (.ifCond .ne 6, 3) := dk_154 0 6 (dk_at dksX9_joined_8 12 rfl rfl)
theorem dX9_joined_198 : decode cX9_joined 198 = .ok (.goto 45, 3) := dk_167 0 45 (dk_at dksX9_joined_8 15 rfl rfl)
theorem dX9_joined_201 : decode cX9_joined 201 = .ok (.iload 4, 2) := dk_21 4 (dk_at dksX9_joined_8 18 rfl rfl)
theorem dX9_joined_203 : decode cX9_joined 203 = .ok (.iload_n 2, 1) := dk_28 (dk_at dksX9_joined_8 20 rfl rfl)
theorem dX9_joined_204 : decode cX9_joined 204 = .ok (.if_icmp .ne 36, 3) := dk_160 0 36 (dk_at dksX9_joined_8 21 rfl rfl)
theorem dX9_joined_207 : decode cX9_joined 207 = .ok (.iload_n 3, 1) := dk_29 (dk_at dksX9_joined_9 0 rfl rfl)
theorem dX9_joined_208 : decode cX9_joined 208 = .ok (.ifCond .ne 13, 3) := dk_154 0 13 (dk_at dksX9_joined_9 1 rfl rfl)
theorem dX9_joined_211 : decode cX9_joined 211 = .ok (.iload 5, 2) := dk_21 5 (dk_at dksX9_joined_9 4 rfl rfl)
theorem dX9_joined_213 : decode cX9_joined 213 = .ok (.sipush 300, 3) := dk_17 1 44 (dk_at dksX9_joined_9 6 rfl rfl)
theorem dX9_joined_216 : decode cX9_joined 216 = .ok (.isub, 1) := dk_100 (dk_at dksX9_joined_9 9 rfl rfl)
theorem dX9_joined_217 : decode cX9_joined 217 = .ok (.i2l, 1) := dk_133 (dk_at dksX9_joined_9 10 rfl rfl)
theorem dX9_joined_218 : decode cX9_joined 218 = .ok (.goto 21, 3) := dk_167 0 21 (dk_at dksX9_joined_9 11 rfl rfl)
theorem dX9_joined_221 : decode cX9_joined 221 = .ok (.iload_n 3, 1) := dk_29 (dk_at dksX9_joined_9 14 rfl rfl)
theorem dX9_joined_222 : decode cX9_joined 222 = .ok (.iconst 1, 1) := dk_4 (dk_at dksX9_joined_9 15 rfl rfl)
theorem dX9_joined_223 : decode cX9_joined 223 = .ok (.if_icmp .ne 13, 3) := dk_160 0 13 (dk_at dksX9_joined_9 16 rfl rfl)
theorem dX9_joined_226 : decode cX9_joined 226 = .ok (.aload_n 0, 1) := dk_42 (dk_at dksX9_joined_9 19 rfl rfl)
theorem dX9_joined_227 : decode cX9_joined 227 = .ok (.getfield 72, 3) := dk_180 0 72 (dk_at dksX9_joined_9 20 rfl rfl)
theorem dX9_joined_230 : decode cX9_joined 230 = .ok (.iload 5, 2) := dk_21 5 (dk_at dksX9_joined_10 0 rfl rfl)
theorem dX9_joined_232 : decode cX9_joined 232 = .ok (.laload, 1) := dk_47 (dk_at dksX9_joined_10 2 rfl rfl)
theorem dX9_joined_233 : decode cX9_joined 233 = .ok (.goto 6, 3) := dk_167 0 6 (dk_at dksX9_joined_10 3 rfl rfl)
theorem dX9_joined_236 : decode cX9_joined 236 = .ok (.ldc2_w 315, 3) := dk_20 1 59 (dk_at dksX9_joined_10 6 rfl rfl)
theorem dX9_joined_239 : decode cX9_joined 239 = .ok (.lreturn, 1) := dk_173 (dk_at dksX9_joined_10 9 rfl rfl)
theorem dX9_joined_240 : decode cX9_joined 240 = .ok (.iinc 4 1, 3) := dk_132 4 1 (dk_at dksX9_joined_10 10 rfl rfl)
theorem dX9_joined_243 : decode cX9_joined 243 = .ok (.iinc 5 1, 3) := dk_132 5 1 (dk_at dksX9_joined_10 13 rfl rfl)
theorem dX9_joined_246 : decode cX9_joined 246 = .ok (.goto (-68), 3) := dk_167 255 188 (dk_at dksX9_joined_10 16 rfl rfl)
theorem dX9_joined_249 : decode cX9_joined 249 = .ok (.iload_n 2, 1) := dk_28 (dk_at dksX9_joined_10 19 rfl rfl)
theorem dX9_joined_250 : decode cX9_joined 250 = .ok (.iconst (-1), 1) := dk_2 (dk_at dksX9_joined_10 20 rfl rfl)
theorem dX9_joined_251 : decode cX9_joined 251 = .ok (.if_icmp .ne 9, 3) := dk_160 0 9 (dk_at dksX9_joined_10 21 rfl rfl)
theorem dX9_joined_254 : decode cX9_joined 254 = .ok (.iload 4, 2) := dk_21 4 (dk_at dksX9_joined_11 0 rfl rfl)
theorem dX9_joined_256 : decode cX9_joined 256 = .ok (.i2l, 1) := dk_133 (dk_at dksX9_joined_11 2 rfl rfl)
theorem dX9_joined_257 : decode cX9_joined 257 = .ok (.goto 6, 3) := dk_167 0 6 (dk_at dksX9_joined_11 3 rfl rfl)
theorem dX9_joined_260 : decode cX9_joined 260 = .ok (.ldc2_w 315, 3) := dk_20 1 59 (dk_at dksX9_joined_11 6 rfl rfl)
theorem dX9_joined_263 : decode cX9_joined 263 = .ok (.lreturn, 1) := dk_173 (dk_at dksX9_joined_11 9 rfl rfl)
abbrev cX9_laysMany : ByteArray := prog_14_method_51_code
def yX9_laysMany : MethodName := ⟨RX9, "laysMany", "([I[I)V"⟩
def dkwX9_laysMany_2 : List UInt8 := [29, 42, 180, 0, 177, 182, 1, 21, 96, 92, 46, 4, 96, 79, 132, 3, 1, 167, 255, 213, 177]
abbrev dktX9_laysMany_2 : List UInt8 := dkwX9_laysMany_2 ++ []
def dkwX9_laysMany_1 : List UInt8 := [182, 1, 14, 162, 0, 41, 43, 29, 42, 182, 0, 193, 184, 1, 17, 153, 0, 23, 44, 17, 0, 150, 42, 43]
abbrev dktX9_laysMany_1 : List UInt8 := dkwX9_laysMany_1 ++ dktX9_laysMany_2
def dkwX9_laysMany_0 : List UInt8 := [3, 62, 29, 17, 1, 45, 162, 0, 13, 44, 29, 3, 79, 132, 3, 1, 167, 255, 242, 3, 62, 29, 42]
abbrev dktX9_laysMany_0 : List UInt8 := dkwX9_laysMany_0 ++ dktX9_laysMany_1
theorem dksX9_laysMany_0 : cX9_laysMany.data.toList.drop 0 = dktX9_laysMany_0 := by decide +kernel
theorem dksX9_laysMany_1 : cX9_laysMany.data.toList.drop 23 = dktX9_laysMany_1 := dk_seg dksX9_laysMany_0 23 rfl rfl
theorem dksX9_laysMany_2 : cX9_laysMany.data.toList.drop 47 = dktX9_laysMany_2 := dk_seg dksX9_laysMany_1 24 rfl rfl
theorem dX9_laysMany_0 : decode cX9_laysMany 0 = .ok (.iconst 0, 1) := dk_3 (dk_at dksX9_laysMany_0 0 rfl rfl)
theorem dX9_laysMany_1 : decode cX9_laysMany 1 = .ok (.istore_n 3, 1) := dk_62 (dk_at dksX9_laysMany_0 1 rfl rfl)
theorem dX9_laysMany_2 : decode cX9_laysMany 2 = .ok (.iload_n 3, 1) := dk_29 (dk_at dksX9_laysMany_0 2 rfl rfl)
theorem dX9_laysMany_3 : decode cX9_laysMany 3 = .ok (.sipush 301, 3) := dk_17 1 45 (dk_at dksX9_laysMany_0 3 rfl rfl)
theorem dX9_laysMany_6 : decode cX9_laysMany 6 = .ok (.if_icmp .ge 13, 3) := dk_162 0 13 (dk_at dksX9_laysMany_0 6 rfl rfl)
theorem dX9_laysMany_9 : decode cX9_laysMany 9 = .ok (.aload_n 2, 1) := dk_44 (dk_at dksX9_laysMany_0 9 rfl rfl)
theorem dX9_laysMany_10 : decode cX9_laysMany 10 = .ok (.iload_n 3, 1) := dk_29 (dk_at dksX9_laysMany_0 10 rfl rfl)
theorem dX9_laysMany_11 : decode cX9_laysMany 11 = .ok (.iconst 0, 1) := dk_3 (dk_at dksX9_laysMany_0 11 rfl rfl)
theorem dX9_laysMany_12 : decode cX9_laysMany 12 = .ok (.iastore, 1) := dk_79 (dk_at dksX9_laysMany_0 12 rfl rfl)
theorem dX9_laysMany_13 : decode cX9_laysMany 13 = .ok (.iinc 3 1, 3) := dk_132 3 1 (dk_at dksX9_laysMany_0 13 rfl rfl)
theorem dX9_laysMany_16 : decode cX9_laysMany 16 = .ok (.goto (-14), 3) := dk_167 255 242 (dk_at dksX9_laysMany_0 16 rfl rfl)
theorem dX9_laysMany_19 : decode cX9_laysMany 19 = .ok (.iconst 0, 1) := dk_3 (dk_at dksX9_laysMany_0 19 rfl rfl)
theorem dX9_laysMany_20 : decode cX9_laysMany 20 = .ok (.istore_n 3, 1) := dk_62 (dk_at dksX9_laysMany_0 20 rfl rfl)
theorem dX9_laysMany_21 : decode cX9_laysMany 21 = .ok (.iload_n 3, 1) := dk_29 (dk_at dksX9_laysMany_0 21 rfl rfl)
theorem dX9_laysMany_22 : decode cX9_laysMany 22 = .ok (.aload_n 0, 1) := dk_42 (dk_at dksX9_laysMany_0 22 rfl rfl)
theorem dX9_laysMany_23 : decode cX9_laysMany 23 = .ok (.invokevirtual 270, 3) := dk_182 1 14 (dk_at dksX9_laysMany_1 0 rfl rfl)
theorem dX9_laysMany_26 : decode cX9_laysMany 26 = .ok (.if_icmp .ge 41, 3) := dk_162 0 41 (dk_at dksX9_laysMany_1 3 rfl rfl)
theorem dX9_laysMany_29 : decode cX9_laysMany 29 = .ok (.aload_n 1, 1) := dk_43 (dk_at dksX9_laysMany_1 6 rfl rfl)
theorem dX9_laysMany_30 : decode cX9_laysMany 30 = .ok (.iload_n 3, 1) := dk_29 (dk_at dksX9_laysMany_1 7 rfl rfl)
theorem dX9_laysMany_31 : decode cX9_laysMany 31 = .ok (.aload_n 0, 1) := dk_42 (dk_at dksX9_laysMany_1 8 rfl rfl)
theorem dX9_laysMany_32 : decode cX9_laysMany 32 = .ok (.invokevirtual 193, 3) := dk_182 0 193 (dk_at dksX9_laysMany_1 9 rfl rfl)
theorem dX9_laysMany_35 : decode cX9_laysMany 35 = .ok (.invokestatic 273, 3) := dk_184 1 17 (dk_at dksX9_laysMany_1 12 rfl rfl)
theorem dX9_laysMany_38 : decode cX9_laysMany 38 = .ok (.ifCond .eq 23, 3) := dk_153 0 23 (dk_at dksX9_laysMany_1 15 rfl rfl)
theorem dX9_laysMany_41 : decode cX9_laysMany 41 = .ok (.aload_n 2, 1) := dk_44 (dk_at dksX9_laysMany_1 18 rfl rfl)
theorem dX9_laysMany_42 : decode cX9_laysMany 42 = .ok (.sipush 150, 3) := dk_17 0 150 (dk_at dksX9_laysMany_1 19 rfl rfl)
theorem dX9_laysMany_45 : decode cX9_laysMany 45 = .ok (.aload_n 0, 1) := dk_42 (dk_at dksX9_laysMany_1 22 rfl rfl)
theorem dX9_laysMany_46 : decode cX9_laysMany 46 = .ok (.aload_n 1, 1) := dk_43 (dk_at dksX9_laysMany_1 23 rfl rfl)
theorem dX9_laysMany_47 : decode cX9_laysMany 47 = .ok (.iload_n 3, 1) := dk_29 (dk_at dksX9_laysMany_2 0 rfl rfl)
theorem dX9_laysMany_48 : decode cX9_laysMany 48 = .ok (.aload_n 0, 1) := dk_42 (dk_at dksX9_laysMany_2 1 rfl rfl)
theorem dX9_laysMany_49 : decode cX9_laysMany 49 = .ok (.getfield 177, 3) := dk_180 0 177 (dk_at dksX9_laysMany_2 2 rfl rfl)
theorem dX9_laysMany_52 : decode cX9_laysMany 52 = .ok (.invokevirtual 277, 3) := dk_182 1 21 (dk_at dksX9_laysMany_2 5 rfl rfl)
theorem dX9_laysMany_55 : decode cX9_laysMany 55 = .ok (.iadd, 1) := dk_96 (dk_at dksX9_laysMany_2 8 rfl rfl)
theorem dX9_laysMany_56 : decode cX9_laysMany 56 = .ok (.dup2, 1) := dk_92 (dk_at dksX9_laysMany_2 9 rfl rfl)
theorem dX9_laysMany_57 : decode cX9_laysMany 57 = .ok (.iaload, 1) := dk_46 (dk_at dksX9_laysMany_2 10 rfl rfl)
theorem dX9_laysMany_58 : decode cX9_laysMany 58 = .ok (.iconst 1, 1) := dk_4 (dk_at dksX9_laysMany_2 11 rfl rfl)
theorem dX9_laysMany_59 : decode cX9_laysMany 59 = .ok (.iadd, 1) := dk_96 (dk_at dksX9_laysMany_2 12 rfl rfl)
theorem dX9_laysMany_60 : decode cX9_laysMany 60 = .ok (.iastore, 1) := dk_79 (dk_at dksX9_laysMany_2 13 rfl rfl)
theorem dX9_laysMany_61 : decode cX9_laysMany 61 = .ok (.iinc 3 1, 3) := dk_132 3 1 (dk_at dksX9_laysMany_2 14 rfl rfl)
theorem dX9_laysMany_64 : decode cX9_laysMany 64 = .ok (.goto (-43), 3) := dk_167 255 213 (dk_at dksX9_laysMany_2 17 rfl rfl)
theorem dX9_laysMany_67 : decode cX9_laysMany 67 = .ok (.return_, 1) := dk_177 (dk_at dksX9_laysMany_2 20 rfl rfl)
abbrev cX9_state : ByteArray := prog_14_method_71_code
def yX9_state : MethodName := ⟨RX9, "state", "(II)I"⟩
def dkwX9_state_4 : List UInt8 := [19, 1, 32, 172]
abbrev dktX9_state_4 : List UInt8 := dkwX9_state_4 ++ []
def dkwX9_state_3 : List UInt8 := [167, 0, 4, 3, 172, 42, 27, 182, 1, 11, 172, 42, 27, 182, 1, 8, 172, 42, 27, 182, 1, 68, 172]
abbrev dktX9_state_3 : List UInt8 := dkwX9_state_3 ++ dktX9_state_4
def dkwX9_state_2 : List UInt8 := [42, 180, 0, 57, 27, 46, 172, 42, 27, 182, 1, 49, 172, 42, 27, 182, 1, 65, 156, 0, 7, 4]
abbrev dktX9_state_2 : List UInt8 := dkwX9_state_2 ++ dktX9_state_3
def dkwX9_state_1 : List UInt8 := [170, 0, 0, 0, 0, 0, 84, 0, 0, 0, 0, 0, 0, 0, 5, 0, 0, 0, 39, 0, 0, 0, 46, 0, 0, 0, 52, 0, 0, 0, 66, 0, 0, 0, 72, 0, 0, 0, 78]
abbrev dktX9_state_1 : List UInt8 := dkwX9_state_1 ++ dktX9_state_2
def dkwX9_state_0 : List UInt8 := [42, 27, 182, 1, 25, 154, 0, 7, 19, 1, 32, 172, 42, 182, 1, 5, 28]
abbrev dktX9_state_0 : List UInt8 := dkwX9_state_0 ++ dktX9_state_1
theorem dksX9_state_0 : cX9_state.data.toList.drop 0 = dktX9_state_0 := by decide +kernel
theorem dksX9_state_1 : cX9_state.data.toList.drop 17 = dktX9_state_1 := dk_seg dksX9_state_0 17 rfl rfl
theorem dksX9_state_2 : cX9_state.data.toList.drop 56 = dktX9_state_2 := dk_seg dksX9_state_1 39 rfl rfl
theorem dksX9_state_3 : cX9_state.data.toList.drop 78 = dktX9_state_3 := dk_seg dksX9_state_2 22 rfl rfl
theorem dksX9_state_4 : cX9_state.data.toList.drop 101 = dktX9_state_4 := dk_seg dksX9_state_3 23 rfl rfl
theorem dX9_state_0 : decode cX9_state 0 = .ok (.aload_n 0, 1) := dk_42 (dk_at dksX9_state_0 0 rfl rfl)
theorem dX9_state_1 : decode cX9_state 1 = .ok (.iload_n 1, 1) := dk_27 (dk_at dksX9_state_0 1 rfl rfl)
theorem dX9_state_2 : decode cX9_state 2 = .ok (.invokevirtual 281, 3) := dk_182 1 25 (dk_at dksX9_state_0 2 rfl rfl)
theorem dX9_state_5 : decode cX9_state 5 = .ok (.ifCond .ne 7, 3) := dk_154 0 7 (dk_at dksX9_state_0 5 rfl rfl)
theorem dX9_state_8 : decode cX9_state 8 = .ok (.ldc_w 288, 3) := dk_19 1 32 (dk_at dksX9_state_0 8 rfl rfl)
theorem dX9_state_11 : decode cX9_state 11 = .ok (.ireturn, 1) := dk_172 (dk_at dksX9_state_0 11 rfl rfl)
theorem dX9_state_12 : decode cX9_state 12 = .ok (.aload_n 0, 1) := dk_42 (dk_at dksX9_state_0 12 rfl rfl)
theorem dX9_state_13 : decode cX9_state 13 = .ok (.invokevirtual 261, 3) := dk_182 1 5 (dk_at dksX9_state_0 13 rfl rfl)
theorem dX9_state_16 : decode cX9_state 16 = .ok (.iload_n 2, 1) := dk_28 (dk_at dksX9_state_0 16 rfl rfl)
theorem dX9_state_17 : decode cX9_state 17 = .ok (.tableswitch 84 0 5 #[39, 46, 52, 66, 72, 78], 39) := by decide +kernel
theorem dX9_state_56 : decode cX9_state 56 = .ok (.aload_n 0, 1) := dk_42 (dk_at dksX9_state_2 0 rfl rfl)
theorem dX9_state_57 : decode cX9_state 57 = .ok (.getfield 57, 3) := dk_180 0 57 (dk_at dksX9_state_2 1 rfl rfl)
theorem dX9_state_60 : decode cX9_state 60 = .ok (.iload_n 1, 1) := dk_27 (dk_at dksX9_state_2 4 rfl rfl)
theorem dX9_state_61 : decode cX9_state 61 = .ok (.iaload, 1) := dk_46 (dk_at dksX9_state_2 5 rfl rfl)
theorem dX9_state_62 : decode cX9_state 62 = .ok (.ireturn, 1) := dk_172 (dk_at dksX9_state_2 6 rfl rfl)
theorem dX9_state_63 : decode cX9_state 63 = .ok (.aload_n 0, 1) := dk_42 (dk_at dksX9_state_2 7 rfl rfl)
theorem dX9_state_64 : decode cX9_state 64 = .ok (.iload_n 1, 1) := dk_27 (dk_at dksX9_state_2 8 rfl rfl)
theorem dX9_state_65 : decode cX9_state 65 = .ok (.invokevirtual 305, 3) := dk_182 1 49 (dk_at dksX9_state_2 9 rfl rfl)
theorem dX9_state_68 : decode cX9_state 68 = .ok (.ireturn, 1) := dk_172 (dk_at dksX9_state_2 12 rfl rfl)
theorem dX9_state_69 : decode cX9_state 69 = .ok (.aload_n 0, 1) := dk_42 (dk_at dksX9_state_2 13 rfl rfl)
theorem dX9_state_70 : decode cX9_state 70 = .ok (.iload_n 1, 1) := dk_27 (dk_at dksX9_state_2 14 rfl rfl)
theorem dX9_state_71 : decode cX9_state 71 = .ok (.invokevirtual 321, 3) := dk_182 1 65 (dk_at dksX9_state_2 15 rfl rfl)
theorem dX9_state_74 : decode cX9_state 74 = .ok (.ifCond .ge 7, 3) := dk_156 0 7 (dk_at dksX9_state_2 18 rfl rfl)
theorem dX9_state_77 : decode cX9_state 77 = .ok (.iconst 1, 1) := dk_4 (dk_at dksX9_state_2 21 rfl rfl)
theorem dX9_state_78 : decode cX9_state 78 = .ok (.goto 4, 3) := dk_167 0 4 (dk_at dksX9_state_3 0 rfl rfl)
theorem dX9_state_81 : decode cX9_state 81 = .ok (.iconst 0, 1) := dk_3 (dk_at dksX9_state_3 3 rfl rfl)
theorem dX9_state_82 : decode cX9_state 82 = .ok (.ireturn, 1) := dk_172 (dk_at dksX9_state_3 4 rfl rfl)
theorem dX9_state_83 : decode cX9_state 83 = .ok (.aload_n 0, 1) := dk_42 (dk_at dksX9_state_3 5 rfl rfl)
theorem dX9_state_84 : decode cX9_state 84 = .ok (.iload_n 1, 1) := dk_27 (dk_at dksX9_state_3 6 rfl rfl)
theorem dX9_state_85 : decode cX9_state 85 = .ok (.invokevirtual 267, 3) := dk_182 1 11 (dk_at dksX9_state_3 7 rfl rfl)
theorem dX9_state_88 : decode cX9_state 88 = .ok (.ireturn, 1) := dk_172 (dk_at dksX9_state_3 10 rfl rfl)
theorem dX9_state_89 : decode cX9_state 89 = .ok (.aload_n 0, 1) := dk_42 (dk_at dksX9_state_3 11 rfl rfl)
theorem dX9_state_90 : decode cX9_state 90 = .ok (.iload_n 1, 1) := dk_27 (dk_at dksX9_state_3 12 rfl rfl)
theorem dX9_state_91 : decode cX9_state 91 = .ok (.invokevirtual 264, 3) := dk_182 1 8 (dk_at dksX9_state_3 13 rfl rfl)
theorem dX9_state_94 : decode cX9_state 94 = .ok (.ireturn, 1) := dk_172 (dk_at dksX9_state_3 16 rfl rfl)
theorem dX9_state_95 : decode cX9_state 95 = .ok (.aload_n 0, 1) := dk_42 (dk_at dksX9_state_3 17 rfl rfl)
theorem dX9_state_96 : decode cX9_state 96 = .ok (.iload_n 1, 1) := dk_27 (dk_at dksX9_state_3 18 rfl rfl)
theorem dX9_state_97 : decode cX9_state 97 = .ok (.invokevirtual 324, 3) := dk_182 1 68 (dk_at dksX9_state_3 19 rfl rfl)
theorem dX9_state_100 : decode cX9_state 100 = .ok (.ireturn, 1) := dk_172 (dk_at dksX9_state_3 22 rfl rfl)
theorem dX9_state_101 : decode cX9_state 101 = .ok (.ldc_w 288, 3) := dk_19 1 32 (dk_at dksX9_state_4 0 rfl rfl)
theorem dX9_state_104 : decode cX9_state 104 = .ok (.ireturn, 1) := dk_172 (dk_at dksX9_state_4 3 rfl rfl)
abbrev cX9_levelOf : ByteArray := prog_14_method_70_code
def yX9_levelOf : MethodName := ⟨RX9, "levelOf", "(I)I"⟩
def dkwX9_levelOf_1 : List UInt8 := [172]
abbrev dktX9_levelOf_1 : List UInt8 := dkwX9_levelOf_1 ++ []
def dkwX9_levelOf_0 : List UInt8 := [3, 61, 42, 180, 0, 63, 28, 46, 42, 180, 0, 57, 27, 46, 159, 0, 9, 132, 2, 1, 167, 255, 238, 28]
abbrev dktX9_levelOf_0 : List UInt8 := dkwX9_levelOf_0 ++ dktX9_levelOf_1
theorem dksX9_levelOf_0 : cX9_levelOf.data.toList.drop 0 = dktX9_levelOf_0 := by decide +kernel
theorem dksX9_levelOf_1 : cX9_levelOf.data.toList.drop 24 = dktX9_levelOf_1 := dk_seg dksX9_levelOf_0 24 rfl rfl
theorem dX9_levelOf_0 : decode cX9_levelOf 0 = .ok (.iconst 0, 1) := dk_3 (dk_at dksX9_levelOf_0 0 rfl rfl)
theorem dX9_levelOf_1 : decode cX9_levelOf 1 = .ok (.istore_n 2, 1) := dk_61 (dk_at dksX9_levelOf_0 1 rfl rfl)
theorem dX9_levelOf_2 : decode cX9_levelOf 2 = .ok (.aload_n 0, 1) := dk_42 (dk_at dksX9_levelOf_0 2 rfl rfl)
theorem dX9_levelOf_3 : decode cX9_levelOf 3 = .ok (.getfield 63, 3) := dk_180 0 63 (dk_at dksX9_levelOf_0 3 rfl rfl)
theorem dX9_levelOf_6 : decode cX9_levelOf 6 = .ok (.iload_n 2, 1) := dk_28 (dk_at dksX9_levelOf_0 6 rfl rfl)
theorem dX9_levelOf_7 : decode cX9_levelOf 7 = .ok (.iaload, 1) := dk_46 (dk_at dksX9_levelOf_0 7 rfl rfl)
theorem dX9_levelOf_8 : decode cX9_levelOf 8 = .ok (.aload_n 0, 1) := dk_42 (dk_at dksX9_levelOf_0 8 rfl rfl)
theorem dX9_levelOf_9 : decode cX9_levelOf 9 = .ok (.getfield 57, 3) := dk_180 0 57 (dk_at dksX9_levelOf_0 9 rfl rfl)
theorem dX9_levelOf_12 : decode cX9_levelOf 12 = .ok (.iload_n 1, 1) := dk_27 (dk_at dksX9_levelOf_0 12 rfl rfl)
theorem dX9_levelOf_13 : decode cX9_levelOf 13 = .ok (.iaload, 1) := dk_46 (dk_at dksX9_levelOf_0 13 rfl rfl)
theorem dX9_levelOf_14 : decode cX9_levelOf 14 = .ok (.if_icmp .eq 9, 3) := dk_159 0 9 (dk_at dksX9_levelOf_0 14 rfl rfl)
theorem dX9_levelOf_17 : decode cX9_levelOf 17 = .ok (.iinc 2 1, 3) := dk_132 2 1 (dk_at dksX9_levelOf_0 17 rfl rfl)
theorem dX9_levelOf_20 : decode cX9_levelOf 20 = .ok (.goto (-18), 3) := dk_167 255 238 (dk_at dksX9_levelOf_0 20 rfl rfl)
theorem dX9_levelOf_23 : decode cX9_levelOf 23 = .ok (.iload_n 2, 1) := dk_28 (dk_at dksX9_levelOf_0 23 rfl rfl)
theorem dX9_levelOf_24 : decode cX9_levelOf 24 = .ok (.ireturn, 1) := dk_172 (dk_at dksX9_levelOf_1 0 rfl rfl)
abbrev cX9_stuck : ByteArray := prog_14_method_72_code
def yX9_stuck : MethodName := ⟨RX9, "stuck", "(Z)I"⟩
def dkwX9_stuck_2 : List UInt8 := [164, 0, 14, 42, 29, 182, 1, 65, 156, 0, 6, 132, 2, 1, 132, 3, 1, 167, 255, 203, 28, 172]
abbrev dktX9_stuck_2 : List UInt8 := dkwX9_stuck_2 ++ []
def dkwX9_stuck_1 : List UInt8 := [19, 1, 28, 162, 0, 33, 27, 153, 0, 18, 42, 180, 0, 57, 29, 46, 42, 180, 0, 63, 3, 46]
abbrev dktX9_stuck_1 : List UInt8 := dkwX9_stuck_1 ++ dktX9_stuck_2
def dkwX9_stuck_0 : List UInt8 := [42, 182, 1, 5, 3, 61, 3, 62, 29, 42, 182, 1, 14, 162, 0, 51, 42, 180, 0, 57, 29, 46]
abbrev dktX9_stuck_0 : List UInt8 := dkwX9_stuck_0 ++ dktX9_stuck_1
theorem dksX9_stuck_0 : cX9_stuck.data.toList.drop 0 = dktX9_stuck_0 := by decide +kernel
theorem dksX9_stuck_1 : cX9_stuck.data.toList.drop 22 = dktX9_stuck_1 := dk_seg dksX9_stuck_0 22 rfl rfl
theorem dksX9_stuck_2 : cX9_stuck.data.toList.drop 44 = dktX9_stuck_2 := dk_seg dksX9_stuck_1 22 rfl rfl
theorem dX9_stuck_0 : decode cX9_stuck 0 = .ok (.aload_n 0, 1) := dk_42 (dk_at dksX9_stuck_0 0 rfl rfl)
theorem dX9_stuck_1 : decode cX9_stuck 1 = .ok (.invokevirtual 261, 3) := dk_182 1 5 (dk_at dksX9_stuck_0 1 rfl rfl)
theorem dX9_stuck_4 : decode cX9_stuck 4 = .ok (.iconst 0, 1) := dk_3 (dk_at dksX9_stuck_0 4 rfl rfl)
theorem dX9_stuck_5 : decode cX9_stuck 5 = .ok (.istore_n 2, 1) := dk_61 (dk_at dksX9_stuck_0 5 rfl rfl)
theorem dX9_stuck_6 : decode cX9_stuck 6 = .ok (.iconst 0, 1) := dk_3 (dk_at dksX9_stuck_0 6 rfl rfl)
theorem dX9_stuck_7 : decode cX9_stuck 7 = .ok (.istore_n 3, 1) := dk_62 (dk_at dksX9_stuck_0 7 rfl rfl)
theorem dX9_stuck_8 : decode cX9_stuck 8 = .ok (.iload_n 3, 1) := dk_29 (dk_at dksX9_stuck_0 8 rfl rfl)
theorem dX9_stuck_9 : decode cX9_stuck 9 = .ok (.aload_n 0, 1) := dk_42 (dk_at dksX9_stuck_0 9 rfl rfl)
theorem dX9_stuck_10 : decode cX9_stuck 10 = .ok (.invokevirtual 270, 3) := dk_182 1 14 (dk_at dksX9_stuck_0 10 rfl rfl)
theorem dX9_stuck_13 : decode cX9_stuck 13 = .ok (.if_icmp .ge 51, 3) := dk_162 0 51 (dk_at dksX9_stuck_0 13 rfl rfl)
theorem dX9_stuck_16 : decode cX9_stuck 16 = .ok (.aload_n 0, 1) := dk_42 (dk_at dksX9_stuck_0 16 rfl rfl)
theorem dX9_stuck_17 : decode cX9_stuck 17 = .ok (.getfield 57, 3) := dk_180 0 57 (dk_at dksX9_stuck_0 17 rfl rfl)
theorem dX9_stuck_20 : decode cX9_stuck 20 = .ok (.iload_n 3, 1) := dk_29 (dk_at dksX9_stuck_0 20 rfl rfl)
theorem dX9_stuck_21 : decode cX9_stuck 21 = .ok (.iaload, 1) := dk_46 (dk_at dksX9_stuck_0 21 rfl rfl)
theorem dX9_stuck_22 : decode cX9_stuck 22 = .ok (.ldc_w 284, 3) := dk_19 1 28 (dk_at dksX9_stuck_1 0 rfl rfl)
theorem dX9_stuck_25 : decode cX9_stuck 25 = .ok (.if_icmp .ge 33, 3) := dk_162 0 33 (dk_at dksX9_stuck_1 3 rfl rfl)
theorem dX9_stuck_28 : decode cX9_stuck 28 = .ok (.iload_n 1, 1) := dk_27 (dk_at dksX9_stuck_1 6 rfl rfl)
theorem dX9_stuck_29 : decode cX9_stuck 29 = .ok (.ifCond .eq 18, 3) := dk_153 0 18 (dk_at dksX9_stuck_1 7 rfl rfl)
theorem dX9_stuck_32 : decode cX9_stuck 32 = .ok (.aload_n 0, 1) := dk_42 (dk_at dksX9_stuck_1 10 rfl rfl)
theorem dX9_stuck_33 : decode cX9_stuck 33 = .ok (.getfield 57, 3) := dk_180 0 57 (dk_at dksX9_stuck_1 11 rfl rfl)
theorem dX9_stuck_36 : decode cX9_stuck 36 = .ok (.iload_n 3, 1) := dk_29 (dk_at dksX9_stuck_1 14 rfl rfl)
theorem dX9_stuck_37 : decode cX9_stuck 37 = .ok (.iaload, 1) := dk_46 (dk_at dksX9_stuck_1 15 rfl rfl)
theorem dX9_stuck_38 : decode cX9_stuck 38 = .ok (.aload_n 0, 1) := dk_42 (dk_at dksX9_stuck_1 16 rfl rfl)
theorem dX9_stuck_39 : decode cX9_stuck 39 = .ok (.getfield 63, 3) := dk_180 0 63 (dk_at dksX9_stuck_1 17 rfl rfl)
theorem dX9_stuck_42 : decode cX9_stuck 42 = .ok (.iconst 0, 1) := dk_3 (dk_at dksX9_stuck_1 20 rfl rfl)
theorem dX9_stuck_43 : decode cX9_stuck 43 = .ok (.iaload, 1) := dk_46 (dk_at dksX9_stuck_1 21 rfl rfl)
theorem dX9_stuck_44 : decode cX9_stuck 44 = .ok (.if_icmp .le 14, 3) := dk_164 0 14 (dk_at dksX9_stuck_2 0 rfl rfl)
theorem dX9_stuck_47 : decode cX9_stuck 47 = .ok (.aload_n 0, 1) := dk_42 (dk_at dksX9_stuck_2 3 rfl rfl)
theorem dX9_stuck_48 : decode cX9_stuck 48 = .ok (.iload_n 3, 1) := dk_29 (dk_at dksX9_stuck_2 4 rfl rfl)
theorem dX9_stuck_49 : decode cX9_stuck 49 = .ok (.invokevirtual 321, 3) := dk_182 1 65 (dk_at dksX9_stuck_2 5 rfl rfl)
theorem dX9_stuck_52 : decode cX9_stuck 52 = .ok (.ifCond .ge 6, 3) := dk_156 0 6 (dk_at dksX9_stuck_2 8 rfl rfl)
theorem dX9_stuck_55 : decode cX9_stuck 55 = .ok (.iinc 2 1, 3) := dk_132 2 1 (dk_at dksX9_stuck_2 11 rfl rfl)
theorem dX9_stuck_58 : decode cX9_stuck 58 = .ok (.iinc 3 1, 3) := dk_132 3 1 (dk_at dksX9_stuck_2 14 rfl rfl)
theorem dX9_stuck_61 : decode cX9_stuck 61 = .ok (.goto (-53), 3) := dk_167 255 203 (dk_at dksX9_stuck_2 17 rfl rfl)
theorem dX9_stuck_64 : decode cX9_stuck 64 = .ok (.iload_n 2, 1) := dk_28 (dk_at dksX9_stuck_2 20 rfl rfl)
theorem dX9_stuck_65 : decode cX9_stuck 65 = .ok (.ireturn, 1) := dk_172 (dk_at dksX9_stuck_2 21 rfl rfl)
abbrev cX9_basin : ByteArray := prog_14_method_73_code
def yX9_basin : MethodName := ⟨RX9, "basin", "(I)I"⟩
def dkwX9_basin_2 : List UInt8 := [162, 0, 15, 42, 29, 182, 1, 11, 27, 160, 0, 6, 132, 2, 1, 132, 3, 1, 167, 255, 221, 28, 172]
abbrev dktX9_basin_2 : List UInt8 := dkwX9_basin_2 ++ []
def dkwX9_basin_1 : List UInt8 := [182, 1, 5, 3, 61, 3, 62, 29, 42, 182, 1, 14, 162, 0, 33, 42, 180, 0, 57, 29, 46, 19, 1, 28]
abbrev dktX9_basin_1 : List UInt8 := dkwX9_basin_1 ++ dktX9_basin_2
def dkwX9_basin_0 : List UInt8 := [42, 27, 182, 1, 25, 153, 0, 12, 42, 182, 0, 193, 16, 10, 164, 0, 7, 19, 1, 32, 172, 42]
abbrev dktX9_basin_0 : List UInt8 := dkwX9_basin_0 ++ dktX9_basin_1
theorem dksX9_basin_0 : cX9_basin.data.toList.drop 0 = dktX9_basin_0 := by decide +kernel
theorem dksX9_basin_1 : cX9_basin.data.toList.drop 22 = dktX9_basin_1 := dk_seg dksX9_basin_0 22 rfl rfl
theorem dksX9_basin_2 : cX9_basin.data.toList.drop 46 = dktX9_basin_2 := dk_seg dksX9_basin_1 24 rfl rfl
theorem dX9_basin_0 : decode cX9_basin 0 = .ok (.aload_n 0, 1) := dk_42 (dk_at dksX9_basin_0 0 rfl rfl)
theorem dX9_basin_1 : decode cX9_basin 1 = .ok (.iload_n 1, 1) := dk_27 (dk_at dksX9_basin_0 1 rfl rfl)
theorem dX9_basin_2 : decode cX9_basin 2 = .ok (.invokevirtual 281, 3) := dk_182 1 25 (dk_at dksX9_basin_0 2 rfl rfl)
theorem dX9_basin_5 : decode cX9_basin 5 = .ok (.ifCond .eq 12, 3) := dk_153 0 12 (dk_at dksX9_basin_0 5 rfl rfl)
theorem dX9_basin_8 : decode cX9_basin 8 = .ok (.aload_n 0, 1) := dk_42 (dk_at dksX9_basin_0 8 rfl rfl)
theorem dX9_basin_9 : decode cX9_basin 9 = .ok (.invokevirtual 193, 3) := dk_182 0 193 (dk_at dksX9_basin_0 9 rfl rfl)
theorem dX9_basin_12 : decode cX9_basin 12 = .ok (.bipush 10, 2) := dk_16 10 (dk_at dksX9_basin_0 12 rfl rfl)
theorem dX9_basin_14 : decode cX9_basin 14 = .ok (.if_icmp .le 7, 3) := dk_164 0 7 (dk_at dksX9_basin_0 14 rfl rfl)
theorem dX9_basin_17 : decode cX9_basin 17 = .ok (.ldc_w 288, 3) := dk_19 1 32 (dk_at dksX9_basin_0 17 rfl rfl)
theorem dX9_basin_20 : decode cX9_basin 20 = .ok (.ireturn, 1) := dk_172 (dk_at dksX9_basin_0 20 rfl rfl)
theorem dX9_basin_21 : decode cX9_basin 21 = .ok (.aload_n 0, 1) := dk_42 (dk_at dksX9_basin_0 21 rfl rfl)
theorem dX9_basin_22 : decode cX9_basin 22 = .ok (.invokevirtual 261, 3) := dk_182 1 5 (dk_at dksX9_basin_1 0 rfl rfl)
theorem dX9_basin_25 : decode cX9_basin 25 = .ok (.iconst 0, 1) := dk_3 (dk_at dksX9_basin_1 3 rfl rfl)
theorem dX9_basin_26 : decode cX9_basin 26 = .ok (.istore_n 2, 1) := dk_61 (dk_at dksX9_basin_1 4 rfl rfl)
theorem dX9_basin_27 : decode cX9_basin 27 = .ok (.iconst 0, 1) := dk_3 (dk_at dksX9_basin_1 5 rfl rfl)
theorem dX9_basin_28 : decode cX9_basin 28 = .ok (.istore_n 3, 1) := dk_62 (dk_at dksX9_basin_1 6 rfl rfl)
theorem dX9_basin_29 : decode cX9_basin 29 = .ok (.iload_n 3, 1) := dk_29 (dk_at dksX9_basin_1 7 rfl rfl)
theorem dX9_basin_30 : decode cX9_basin 30 = .ok (.aload_n 0, 1) := dk_42 (dk_at dksX9_basin_1 8 rfl rfl)
theorem dX9_basin_31 : decode cX9_basin 31 = .ok (.invokevirtual 270, 3) := dk_182 1 14 (dk_at dksX9_basin_1 9 rfl rfl)
theorem dX9_basin_34 : decode cX9_basin 34 = .ok (.if_icmp .ge 33, 3) := dk_162 0 33 (dk_at dksX9_basin_1 12 rfl rfl)
theorem dX9_basin_37 : decode cX9_basin 37 = .ok (.aload_n 0, 1) := dk_42 (dk_at dksX9_basin_1 15 rfl rfl)
theorem dX9_basin_38 : decode cX9_basin 38 = .ok (.getfield 57, 3) := dk_180 0 57 (dk_at dksX9_basin_1 16 rfl rfl)
theorem dX9_basin_41 : decode cX9_basin 41 = .ok (.iload_n 3, 1) := dk_29 (dk_at dksX9_basin_1 19 rfl rfl)
theorem dX9_basin_42 : decode cX9_basin 42 = .ok (.iaload, 1) := dk_46 (dk_at dksX9_basin_1 20 rfl rfl)
theorem dX9_basin_43 : decode cX9_basin 43 = .ok (.ldc_w 284, 3) := dk_19 1 28 (dk_at dksX9_basin_1 21 rfl rfl)
theorem dX9_basin_46 : decode cX9_basin 46 = .ok (.if_icmp .ge 15, 3) := dk_162 0 15 (dk_at dksX9_basin_2 0 rfl rfl)
theorem dX9_basin_49 : decode cX9_basin 49 = .ok (.aload_n 0, 1) := dk_42 (dk_at dksX9_basin_2 3 rfl rfl)
theorem dX9_basin_50 : decode cX9_basin 50 = .ok (.iload_n 3, 1) := dk_29 (dk_at dksX9_basin_2 4 rfl rfl)
theorem dX9_basin_51 : decode cX9_basin 51 = .ok (.invokevirtual 267, 3) := dk_182 1 11 (dk_at dksX9_basin_2 5 rfl rfl)
theorem dX9_basin_54 : decode cX9_basin 54 = .ok (.iload_n 1, 1) := dk_27 (dk_at dksX9_basin_2 8 rfl rfl)
theorem dX9_basin_55 : decode cX9_basin 55 = .ok (.if_icmp .ne 6, 3) := dk_160 0 6 (dk_at dksX9_basin_2 9 rfl rfl)
theorem dX9_basin_58 : decode cX9_basin 58 = .ok (.iinc 2 1, 3) := dk_132 2 1 (dk_at dksX9_basin_2 12 rfl rfl)
theorem dX9_basin_61 : decode cX9_basin 61 = .ok (.iinc 3 1, 3) := dk_132 3 1 (dk_at dksX9_basin_2 15 rfl rfl)
theorem dX9_basin_64 : decode cX9_basin 64 = .ok (.goto (-35), 3) := dk_167 255 221 (dk_at dksX9_basin_2 18 rfl rfl)
theorem dX9_basin_67 : decode cX9_basin 67 = .ok (.iload_n 2, 1) := dk_28 (dk_at dksX9_basin_2 21 rfl rfl)
theorem dX9_basin_68 : decode cX9_basin 68 = .ok (.ireturn, 1) := dk_172 (dk_at dksX9_basin_2 22 rfl rfl)
abbrev cX9_hill : ByteArray := prog_14_method_75_code
def yX9_hill : MethodName := ⟨RX9, "hill", "(I)I"⟩
def dkwX9_hill_3 : List UInt8 := [132, 2, 1, 167, 255, 212, 42, 182, 1, 71, 42, 180, 0, 75, 27, 46, 172]
abbrev dktX9_hill_3 : List UInt8 := dkwX9_hill_3 ++ []
def dkwX9_hill_2 : List UInt8 := [42, 180, 0, 63, 3, 46, 160, 0, 12, 42, 180, 0, 63, 3, 46, 167, 0, 6, 19, 1, 28, 79]
abbrev dktX9_hill_2 : List UInt8 := dkwX9_hill_2 ++ dktX9_hill_3
def dkwX9_hill_1 : List UInt8 := [182, 1, 5, 3, 61, 28, 42, 182, 1, 14, 162, 0, 42, 42, 180, 0, 75, 28, 42, 180, 0, 57, 28, 46]
abbrev dktX9_hill_1 : List UInt8 := dkwX9_hill_1 ++ dktX9_hill_2
def dkwX9_hill_0 : List UInt8 := [42, 27, 182, 1, 25, 153, 0, 12, 42, 182, 0, 193, 16, 10, 164, 0, 7, 19, 1, 32, 172, 42]
abbrev dktX9_hill_0 : List UInt8 := dkwX9_hill_0 ++ dktX9_hill_1
theorem dksX9_hill_0 : cX9_hill.data.toList.drop 0 = dktX9_hill_0 := by decide +kernel
theorem dksX9_hill_1 : cX9_hill.data.toList.drop 22 = dktX9_hill_1 := dk_seg dksX9_hill_0 22 rfl rfl
theorem dksX9_hill_2 : cX9_hill.data.toList.drop 46 = dktX9_hill_2 := dk_seg dksX9_hill_1 24 rfl rfl
theorem dksX9_hill_3 : cX9_hill.data.toList.drop 68 = dktX9_hill_3 := dk_seg dksX9_hill_2 22 rfl rfl
theorem dX9_hill_0 : decode cX9_hill 0 = .ok (.aload_n 0, 1) := dk_42 (dk_at dksX9_hill_0 0 rfl rfl)
theorem dX9_hill_1 : decode cX9_hill 1 = .ok (.iload_n 1, 1) := dk_27 (dk_at dksX9_hill_0 1 rfl rfl)
theorem dX9_hill_2 : decode cX9_hill 2 = .ok (.invokevirtual 281, 3) := dk_182 1 25 (dk_at dksX9_hill_0 2 rfl rfl)
theorem dX9_hill_5 : decode cX9_hill 5 = .ok (.ifCond .eq 12, 3) := dk_153 0 12 (dk_at dksX9_hill_0 5 rfl rfl)
theorem dX9_hill_8 : decode cX9_hill 8 = .ok (.aload_n 0, 1) := dk_42 (dk_at dksX9_hill_0 8 rfl rfl)
theorem dX9_hill_9 : decode cX9_hill 9 = .ok (.invokevirtual 193, 3) := dk_182 0 193 (dk_at dksX9_hill_0 9 rfl rfl)
theorem dX9_hill_12 : decode cX9_hill 12 = .ok (.bipush 10, 2) := dk_16 10 (dk_at dksX9_hill_0 12 rfl rfl)
theorem dX9_hill_14 : decode cX9_hill 14 = .ok (.if_icmp .le 7, 3) := dk_164 0 7 (dk_at dksX9_hill_0 14 rfl rfl)
theorem dX9_hill_17 : decode cX9_hill 17 = .ok (.ldc_w 288, 3) := dk_19 1 32 (dk_at dksX9_hill_0 17 rfl rfl)
theorem dX9_hill_20 : decode cX9_hill 20 = .ok (.ireturn, 1) := dk_172 (dk_at dksX9_hill_0 20 rfl rfl)
theorem dX9_hill_21 : decode cX9_hill 21 = .ok (.aload_n 0, 1) := dk_42 (dk_at dksX9_hill_0 21 rfl rfl)
theorem dX9_hill_22 : decode cX9_hill 22 = .ok (.invokevirtual 261, 3) := dk_182 1 5 (dk_at dksX9_hill_1 0 rfl rfl)
theorem dX9_hill_25 : decode cX9_hill 25 = .ok (.iconst 0, 1) := dk_3 (dk_at dksX9_hill_1 3 rfl rfl)
theorem dX9_hill_26 : decode cX9_hill 26 = .ok (.istore_n 2, 1) := dk_61 (dk_at dksX9_hill_1 4 rfl rfl)
theorem dX9_hill_27 : decode cX9_hill 27 = .ok (.iload_n 2, 1) := dk_28 (dk_at dksX9_hill_1 5 rfl rfl)
theorem dX9_hill_28 : decode cX9_hill 28 = .ok (.aload_n 0, 1) := dk_42 (dk_at dksX9_hill_1 6 rfl rfl)
theorem dX9_hill_29 : decode cX9_hill 29 = .ok (.invokevirtual 270, 3) := dk_182 1 14 (dk_at dksX9_hill_1 7 rfl rfl)
theorem dX9_hill_32 : decode cX9_hill 32 = .ok (.if_icmp .ge 42, 3) := dk_162 0 42 (dk_at dksX9_hill_1 10 rfl rfl)
theorem dX9_hill_35 : decode cX9_hill 35 = .ok (.aload_n 0, 1) := dk_42 (dk_at dksX9_hill_1 13 rfl rfl)
theorem dX9_hill_36 : decode cX9_hill 36 = .ok (.getfield 75, 3) := dk_180 0 75 (dk_at dksX9_hill_1 14 rfl rfl)
theorem dX9_hill_39 : decode cX9_hill 39 = .ok (.iload_n 2, 1) := dk_28 (dk_at dksX9_hill_1 17 rfl rfl)
theorem dX9_hill_40 : decode cX9_hill 40 = .ok (.aload_n 0, 1) := dk_42 (dk_at dksX9_hill_1 18 rfl rfl)
theorem dX9_hill_41 : decode cX9_hill 41 = .ok (.getfield 57, 3) := dk_180 0 57 (dk_at dksX9_hill_1 19 rfl rfl)
theorem dX9_hill_44 : decode cX9_hill 44 = .ok (.iload_n 2, 1) := dk_28 (dk_at dksX9_hill_1 22 rfl rfl)
theorem dX9_hill_45 : decode cX9_hill 45 = .ok (.iaload, 1) := dk_46 (dk_at dksX9_hill_1 23 rfl rfl)
theorem dX9_hill_46 : decode cX9_hill 46 = .ok (.aload_n 0, 1) := dk_42 (dk_at dksX9_hill_2 0 rfl rfl)
theorem dX9_hill_47 : decode cX9_hill 47 = .ok (.getfield 63, 3) := dk_180 0 63 (dk_at dksX9_hill_2 1 rfl rfl)
theorem dX9_hill_50 : decode cX9_hill 50 = .ok (.iconst 0, 1) := dk_3 (dk_at dksX9_hill_2 4 rfl rfl)
theorem dX9_hill_51 : decode cX9_hill 51 = .ok (.iaload, 1) := dk_46 (dk_at dksX9_hill_2 5 rfl rfl)
theorem dX9_hill_52 : decode cX9_hill 52 = .ok (.if_icmp .ne 12, 3) := dk_160 0 12 (dk_at dksX9_hill_2 6 rfl rfl)
theorem dX9_hill_55 : decode cX9_hill 55 = .ok (.aload_n 0, 1) := dk_42 (dk_at dksX9_hill_2 9 rfl rfl)
theorem dX9_hill_56 : decode cX9_hill 56 = .ok (.getfield 63, 3) := dk_180 0 63 (dk_at dksX9_hill_2 10 rfl rfl)
theorem dX9_hill_59 : decode cX9_hill 59 = .ok (.iconst 0, 1) := dk_3 (dk_at dksX9_hill_2 13 rfl rfl)
theorem dX9_hill_60 : decode cX9_hill 60 = .ok (.iaload, 1) := dk_46 (dk_at dksX9_hill_2 14 rfl rfl)
theorem dX9_hill_61 : decode cX9_hill 61 = .ok (.goto 6, 3) := dk_167 0 6 (dk_at dksX9_hill_2 15 rfl rfl)
theorem dX9_hill_64 : decode cX9_hill 64 = .ok (.ldc_w 284, 3) := dk_19 1 28 (dk_at dksX9_hill_2 18 rfl rfl)
theorem dX9_hill_67 : decode cX9_hill 67 = .ok (.iastore, 1) := dk_79 (dk_at dksX9_hill_2 21 rfl rfl)
theorem dX9_hill_68 : decode cX9_hill 68 = .ok (.iinc 2 1, 3) := dk_132 2 1 (dk_at dksX9_hill_3 0 rfl rfl)
theorem dX9_hill_71 : decode cX9_hill 71 = .ok (.goto (-44), 3) := dk_167 255 212 (dk_at dksX9_hill_3 3 rfl rfl)
theorem dX9_hill_74 : decode cX9_hill 74 = .ok (.aload_n 0, 1) := dk_42 (dk_at dksX9_hill_3 6 rfl rfl)
theorem dX9_hill_75 : decode cX9_hill 75 = .ok (.invokevirtual 327, 3) := dk_182 1 71 (dk_at dksX9_hill_3 7 rfl rfl)
theorem dX9_hill_78 : decode cX9_hill 78 = .ok (.aload_n 0, 1) := dk_42 (dk_at dksX9_hill_3 10 rfl rfl)
theorem dX9_hill_79 : decode cX9_hill 79 = .ok (.getfield 75, 3) := dk_180 0 75 (dk_at dksX9_hill_3 11 rfl rfl)
theorem dX9_hill_82 : decode cX9_hill 82 = .ok (.iload_n 1, 1) := dk_27 (dk_at dksX9_hill_3 14 rfl rfl)
theorem dX9_hill_83 : decode cX9_hill 83 = .ok (.iaload, 1) := dk_46 (dk_at dksX9_hill_3 15 rfl rfl)
theorem dX9_hill_84 : decode cX9_hill 84 = .ok (.ireturn, 1) := dk_172 (dk_at dksX9_hill_3 16 rfl rfl)
abbrev cX9_laysHills : ByteArray := prog_14_method_74_code
def yX9_laysHills : MethodName := ⟨RX9, "laysHills", "()V"⟩
def dkwX9_laysHills_5 : List UInt8 := [29, 79, 4, 60, 132, 2, 1, 167, 255, 142, 167, 255, 131, 177]
abbrev dktX9_laysHills_5 : List UInt8 := dkwX9_laysHills_5 ++ []
def dkwX9_laysHills_4 : List UInt8 := [180, 0, 57, 28, 46, 62, 29, 42, 180, 0, 75, 28, 46, 161, 0, 6, 167, 0, 12, 42, 180, 0, 75, 28]
abbrev dktX9_laysHills_4 : List UInt8 := dkwX9_laysHills_4 ++ dktX9_laysHills_5
def dkwX9_laysHills_3 : List UInt8 := [21, 4, 120, 130, 46, 62, 132, 4, 1, 167, 255, 217, 29, 42, 180, 0, 57, 28, 46, 162, 0, 10, 42]
abbrev dktX9_laysHills_3 : List UInt8 := dkwX9_laysHills_3 ++ dktX9_laysHills_4
def dkwX9_laysHills_2 : List UInt8 := [162, 0, 36, 42, 180, 0, 75, 28, 4, 21, 4, 120, 130, 46, 29, 162, 0, 15, 42, 180, 0, 75, 28, 4]
abbrev dktX9_laysHills_2 : List UInt8 := dkwX9_laysHills_2 ++ dktX9_laysHills_3
def dkwX9_laysHills_1 : List UInt8 := [19, 1, 28, 160, 0, 6, 167, 0, 91, 19, 1, 28, 62, 3, 54, 4, 21, 4, 42, 182, 0, 193]
abbrev dktX9_laysHills_1 : List UInt8 := dkwX9_laysHills_1 ++ dktX9_laysHills_2
def dkwX9_laysHills_0 : List UInt8 := [4, 60, 27, 153, 0, 127, 3, 60, 3, 61, 28, 42, 182, 1, 14, 162, 0, 112, 42, 180, 0, 57, 28, 46]
abbrev dktX9_laysHills_0 : List UInt8 := dkwX9_laysHills_0 ++ dktX9_laysHills_1
theorem dksX9_laysHills_0 : cX9_laysHills.data.toList.drop 0 = dktX9_laysHills_0 := by decide +kernel
theorem dksX9_laysHills_1 : cX9_laysHills.data.toList.drop 24 = dktX9_laysHills_1 := dk_seg dksX9_laysHills_0 24 rfl rfl
theorem dksX9_laysHills_2 : cX9_laysHills.data.toList.drop 46 = dktX9_laysHills_2 := dk_seg dksX9_laysHills_1 22 rfl rfl
theorem dksX9_laysHills_3 : cX9_laysHills.data.toList.drop 70 = dktX9_laysHills_3 := dk_seg dksX9_laysHills_2 24 rfl rfl
theorem dksX9_laysHills_4 : cX9_laysHills.data.toList.drop 93 = dktX9_laysHills_4 := dk_seg dksX9_laysHills_3 23 rfl rfl
theorem dksX9_laysHills_5 : cX9_laysHills.data.toList.drop 117 = dktX9_laysHills_5 := dk_seg dksX9_laysHills_4 24 rfl rfl
theorem dX9_laysHills_0 : decode cX9_laysHills 0 = .ok (.iconst 1, 1) := dk_4 (dk_at dksX9_laysHills_0 0 rfl rfl)
theorem dX9_laysHills_1 : decode cX9_laysHills 1 = .ok (.istore_n 1, 1) := dk_60 (dk_at dksX9_laysHills_0 1 rfl rfl)
theorem dX9_laysHills_2 : decode cX9_laysHills 2 = .ok (.iload_n 1, 1) := dk_27 (dk_at dksX9_laysHills_0 2 rfl rfl)
theorem dX9_laysHills_3 : decode cX9_laysHills 3 = .ok (.ifCond .eq 127, 3) := dk_153 0 127 (dk_at dksX9_laysHills_0 3 rfl rfl)
theorem dX9_laysHills_6 : decode cX9_laysHills 6 = .ok (.iconst 0, 1) := dk_3 (dk_at dksX9_laysHills_0 6 rfl rfl)
theorem dX9_laysHills_7 : decode cX9_laysHills 7 = .ok (.istore_n 1, 1) := dk_60 (dk_at dksX9_laysHills_0 7 rfl rfl)
theorem dX9_laysHills_8 : decode cX9_laysHills 8 = .ok (.iconst 0, 1) := dk_3 (dk_at dksX9_laysHills_0 8 rfl rfl)
theorem dX9_laysHills_9 : decode cX9_laysHills 9 = .ok (.istore_n 2, 1) := dk_61 (dk_at dksX9_laysHills_0 9 rfl rfl)
theorem dX9_laysHills_10 : decode cX9_laysHills 10 = .ok (.iload_n 2, 1) := dk_28 (dk_at dksX9_laysHills_0 10 rfl rfl)
theorem dX9_laysHills_11 : decode cX9_laysHills 11 = .ok (.aload_n 0, 1) := dk_42 (dk_at dksX9_laysHills_0 11 rfl rfl)
theorem dX9_laysHills_12 : decode cX9_laysHills 12 = .ok (.invokevirtual 270, 3) := dk_182 1 14 (dk_at dksX9_laysHills_0 12 rfl rfl)
theorem dX9_laysHills_15 : decode cX9_laysHills 15 = .ok (.if_icmp .ge 112, 3) := dk_162 0 112 (dk_at dksX9_laysHills_0 15 rfl rfl)
theorem dX9_laysHills_18 : decode cX9_laysHills 18 = .ok (.aload_n 0, 1) := dk_42 (dk_at dksX9_laysHills_0 18 rfl rfl)
theorem dX9_laysHills_19 : decode cX9_laysHills 19 = .ok (.getfield 57, 3) := dk_180 0 57 (dk_at dksX9_laysHills_0 19 rfl rfl)
theorem dX9_laysHills_22 : decode cX9_laysHills 22 = .ok (.iload_n 2, 1) := dk_28 (dk_at dksX9_laysHills_0 22 rfl rfl)
theorem dX9_laysHills_23 : decode cX9_laysHills 23 = .ok (.iaload, 1) := dk_46 (dk_at dksX9_laysHills_0 23 rfl rfl)
theorem dX9_laysHills_24 : decode cX9_laysHills 24 = .ok (.ldc_w 284, 3) := dk_19 1 28 (dk_at dksX9_laysHills_1 0 rfl rfl)
theorem dX9_laysHills_27 : decode cX9_laysHills 27 = .ok (.if_icmp .ne 6, 3) := dk_160 0 6 (dk_at dksX9_laysHills_1 3 rfl rfl)
theorem dX9_laysHills_30 : decode cX9_laysHills 30 = .ok (.goto 91, 3) := dk_167 0 91 (dk_at dksX9_laysHills_1 6 rfl rfl)
theorem dX9_laysHills_33 : decode cX9_laysHills 33 = .ok (.ldc_w 284, 3) := dk_19 1 28 (dk_at dksX9_laysHills_1 9 rfl rfl)
theorem dX9_laysHills_36 : decode cX9_laysHills 36 = .ok (.istore_n 3, 1) := dk_62 (dk_at dksX9_laysHills_1 12 rfl rfl)
theorem dX9_laysHills_37 : decode cX9_laysHills 37 = .ok (.iconst 0, 1) := dk_3 (dk_at dksX9_laysHills_1 13 rfl rfl)
theorem dX9_laysHills_38 : decode cX9_laysHills 38 = .ok (.istore 4, 2) := dk_54 4 (dk_at dksX9_laysHills_1 14 rfl rfl)
theorem dX9_laysHills_40 : decode cX9_laysHills 40 = .ok (.iload 4, 2) := dk_21 4 (dk_at dksX9_laysHills_1 16 rfl rfl)
theorem dX9_laysHills_42 : decode cX9_laysHills 42 = .ok (.aload_n 0, 1) := dk_42 (dk_at dksX9_laysHills_1 18 rfl rfl)
theorem dX9_laysHills_43 : decode cX9_laysHills 43 = .ok (.invokevirtual 193, 3) := dk_182 0 193 (dk_at dksX9_laysHills_1 19 rfl rfl)
theorem dX9_laysHills_46 : decode cX9_laysHills 46 = .ok (.if_icmp .ge 36, 3) := dk_162 0 36 (dk_at dksX9_laysHills_2 0 rfl rfl)
theorem dX9_laysHills_49 : decode cX9_laysHills 49 = .ok (.aload_n 0, 1) := dk_42 (dk_at dksX9_laysHills_2 3 rfl rfl)
theorem dX9_laysHills_50 : decode cX9_laysHills 50 = .ok (.getfield 75, 3) := dk_180 0 75 (dk_at dksX9_laysHills_2 4 rfl rfl)
theorem dX9_laysHills_53 : decode cX9_laysHills 53 = .ok (.iload_n 2, 1) := dk_28 (dk_at dksX9_laysHills_2 7 rfl rfl)
theorem dX9_laysHills_54 : decode cX9_laysHills 54 = .ok (.iconst 1, 1) := dk_4 (dk_at dksX9_laysHills_2 8 rfl rfl)
theorem dX9_laysHills_55 : decode cX9_laysHills 55 = .ok (.iload 4, 2) := dk_21 4 (dk_at dksX9_laysHills_2 9 rfl rfl)
theorem dX9_laysHills_57 : decode cX9_laysHills 57 = .ok (.ishl, 1) := dk_120 (dk_at dksX9_laysHills_2 11 rfl rfl)
theorem dX9_laysHills_58 : decode cX9_laysHills 58 = .ok (.ixor, 1) := dk_130 (dk_at dksX9_laysHills_2 12 rfl rfl)
theorem dX9_laysHills_59 : decode cX9_laysHills 59 = .ok (.iaload, 1) := dk_46 (dk_at dksX9_laysHills_2 13 rfl rfl)
theorem dX9_laysHills_60 : decode cX9_laysHills 60 = .ok (.iload_n 3, 1) := dk_29 (dk_at dksX9_laysHills_2 14 rfl rfl)
theorem dX9_laysHills_61 : decode cX9_laysHills 61 = .ok (.if_icmp .ge 15, 3) := dk_162 0 15 (dk_at dksX9_laysHills_2 15 rfl rfl)
theorem dX9_laysHills_64 : decode cX9_laysHills 64 = .ok (.aload_n 0, 1) := dk_42 (dk_at dksX9_laysHills_2 18 rfl rfl)
theorem dX9_laysHills_65 : decode cX9_laysHills 65 = .ok (.getfield 75, 3) := dk_180 0 75 (dk_at dksX9_laysHills_2 19 rfl rfl)
theorem dX9_laysHills_68 : decode cX9_laysHills 68 = .ok (.iload_n 2, 1) := dk_28 (dk_at dksX9_laysHills_2 22 rfl rfl)
theorem dX9_laysHills_69 : decode cX9_laysHills 69 = .ok (.iconst 1, 1) := dk_4 (dk_at dksX9_laysHills_2 23 rfl rfl)
theorem dX9_laysHills_70 : decode cX9_laysHills 70 = .ok (.iload 4, 2) := dk_21 4 (dk_at dksX9_laysHills_3 0 rfl rfl)
theorem dX9_laysHills_72 : decode cX9_laysHills 72 = .ok (.ishl, 1) := dk_120 (dk_at dksX9_laysHills_3 2 rfl rfl)
theorem dX9_laysHills_73 : decode cX9_laysHills 73 = .ok (.ixor, 1) := dk_130 (dk_at dksX9_laysHills_3 3 rfl rfl)
theorem dX9_laysHills_74 : decode cX9_laysHills 74 = .ok (.iaload, 1) := dk_46 (dk_at dksX9_laysHills_3 4 rfl rfl)
theorem dX9_laysHills_75 : decode cX9_laysHills 75 = .ok (.istore_n 3, 1) := dk_62 (dk_at dksX9_laysHills_3 5 rfl rfl)
theorem dX9_laysHills_76 : decode cX9_laysHills 76 = .ok (.iinc 4 1, 3) := dk_132 4 1 (dk_at dksX9_laysHills_3 6 rfl rfl)
theorem dX9_laysHills_79 : decode cX9_laysHills 79 = .ok (.goto (-39), 3) := dk_167 255 217 (dk_at dksX9_laysHills_3 9 rfl rfl)
theorem dX9_laysHills_82 : decode cX9_laysHills 82 = .ok (.iload_n 3, 1) := dk_29 (dk_at dksX9_laysHills_3 12 rfl rfl)
theorem dX9_laysHills_83 : decode cX9_laysHills 83 = .ok (.aload_n 0, 1) := dk_42 (dk_at dksX9_laysHills_3 13 rfl rfl)
theorem dX9_laysHills_84 : decode cX9_laysHills 84 = .ok (.getfield 57, 3) := dk_180 0 57 (dk_at dksX9_laysHills_3 14 rfl rfl)
theorem dX9_laysHills_87 : decode cX9_laysHills 87 = .ok (.iload_n 2, 1) := dk_28 (dk_at dksX9_laysHills_3 17 rfl rfl)
theorem dX9_laysHills_88 : decode cX9_laysHills 88 = .ok (.iaload, 1) := dk_46 (dk_at dksX9_laysHills_3 18 rfl rfl)
theorem dX9_laysHills_89 : decode cX9_laysHills 89 = .ok (.if_icmp .ge 10, 3) := dk_162 0 10 (dk_at dksX9_laysHills_3 19 rfl rfl)
theorem dX9_laysHills_92 : decode cX9_laysHills 92 = .ok (.aload_n 0, 1) := dk_42 (dk_at dksX9_laysHills_3 22 rfl rfl)
theorem dX9_laysHills_93 : decode cX9_laysHills 93 = .ok (.getfield 57, 3) := dk_180 0 57 (dk_at dksX9_laysHills_4 0 rfl rfl)
theorem dX9_laysHills_96 : decode cX9_laysHills 96 = .ok (.iload_n 2, 1) := dk_28 (dk_at dksX9_laysHills_4 3 rfl rfl)
theorem dX9_laysHills_97 : decode cX9_laysHills 97 = .ok (.iaload, 1) := dk_46 (dk_at dksX9_laysHills_4 4 rfl rfl)
theorem dX9_laysHills_98 : decode cX9_laysHills 98 = .ok (.istore_n 3, 1) := dk_62 (dk_at dksX9_laysHills_4 5 rfl rfl)
theorem dX9_laysHills_99 : decode cX9_laysHills 99 = .ok (.iload_n 3, 1) := dk_29 (dk_at dksX9_laysHills_4 6 rfl rfl)
theorem dX9_laysHills_100 : decode cX9_laysHills 100 = .ok (.aload_n 0, 1) := dk_42 (dk_at dksX9_laysHills_4 7 rfl rfl)
theorem dX9_laysHills_101 : decode cX9_laysHills 101 = .ok (.getfield 75, 3) := dk_180 0 75 (dk_at dksX9_laysHills_4 8 rfl rfl)
theorem dX9_laysHills_104 : decode cX9_laysHills 104 = .ok (.iload_n 2, 1) := dk_28 (dk_at dksX9_laysHills_4 11 rfl rfl)
theorem dX9_laysHills_105 : decode cX9_laysHills 105 = .ok (.iaload, 1) := dk_46 (dk_at dksX9_laysHills_4 12 rfl rfl)
theorem dX9_laysHills_106 : decode cX9_laysHills 106 = .ok (.if_icmp .lt 6, 3) := dk_161 0 6 (dk_at dksX9_laysHills_4 13 rfl rfl)
theorem dX9_laysHills_109 : decode cX9_laysHills 109 = .ok (.goto 12, 3) := dk_167 0 12 (dk_at dksX9_laysHills_4 16 rfl rfl)
theorem dX9_laysHills_112 : decode cX9_laysHills 112 = .ok (.aload_n 0, 1) := dk_42 (dk_at dksX9_laysHills_4 19 rfl rfl)
theorem dX9_laysHills_113 : decode cX9_laysHills 113 = .ok (.getfield 75, 3) := dk_180 0 75 (dk_at dksX9_laysHills_4 20 rfl rfl)
theorem dX9_laysHills_116 : decode cX9_laysHills 116 = .ok (.iload_n 2, 1) := dk_28 (dk_at dksX9_laysHills_4 23 rfl rfl)
theorem dX9_laysHills_117 : decode cX9_laysHills 117 = .ok (.iload_n 3, 1) := dk_29 (dk_at dksX9_laysHills_5 0 rfl rfl)
theorem dX9_laysHills_118 : decode cX9_laysHills 118 = .ok (.iastore, 1) := dk_79 (dk_at dksX9_laysHills_5 1 rfl rfl)
theorem dX9_laysHills_119 : decode cX9_laysHills 119 = .ok (.iconst 1, 1) := dk_4 (dk_at dksX9_laysHills_5 2 rfl rfl)
theorem dX9_laysHills_120 : decode cX9_laysHills 120 = .ok (.istore_n 1, 1) := dk_60 (dk_at dksX9_laysHills_5 3 rfl rfl)
theorem dX9_laysHills_121 : decode cX9_laysHills 121 = .ok (.iinc 2 1, 3) := dk_132 2 1 (dk_at dksX9_laysHills_5 4 rfl rfl)
theorem dX9_laysHills_124 : decode cX9_laysHills 124 = .ok (.goto (-114), 3) := dk_167 255 142 (dk_at dksX9_laysHills_5 7 rfl rfl)
theorem dX9_laysHills_127 : decode cX9_laysHills 127 = .ok (.goto (-125), 3) := dk_167 255 131 (dk_at dksX9_laysHills_5 10 rfl rfl)
theorem dX9_laysHills_130 : decode cX9_laysHills 130 = .ok (.return_, 1) := dk_177 (dk_at dksX9_laysHills_5 13 rfl rfl)
abbrev cX9_pass : ByteArray := prog_14_method_76_code
def yX9_pass : MethodName := ⟨RX9, "pass", "(II)I"⟩
def dkwX9_pass_3 : List UInt8 := [132, 3, 1, 167, 255, 222, 42, 182, 1, 71, 42, 180, 0, 75, 27, 46, 172]
abbrev dktX9_pass_3 : List UInt8 := dkwX9_pass_3 ++ []
def dkwX9_pass_2 : List UInt8 := [180, 0, 75, 29, 29, 28, 160, 0, 12, 42, 180, 0, 57, 29, 46, 167, 0, 6, 19, 1, 28, 79]
abbrev dktX9_pass_2 : List UInt8 := dkwX9_pass_2 ++ dktX9_pass_3
def dkwX9_pass_1 : List UInt8 := [164, 0, 7, 19, 1, 32, 172, 42, 182, 1, 5, 3, 62, 29, 42, 182, 1, 14, 162, 0, 32, 42]
abbrev dktX9_pass_1 : List UInt8 := dkwX9_pass_1 ++ dktX9_pass_2
def dkwX9_pass_0 : List UInt8 := [42, 27, 182, 1, 25, 153, 0, 20, 42, 28, 182, 1, 25, 153, 0, 12, 42, 182, 0, 193, 16, 10]
abbrev dktX9_pass_0 : List UInt8 := dkwX9_pass_0 ++ dktX9_pass_1
theorem dksX9_pass_0 : cX9_pass.data.toList.drop 0 = dktX9_pass_0 := by decide +kernel
theorem dksX9_pass_1 : cX9_pass.data.toList.drop 22 = dktX9_pass_1 := dk_seg dksX9_pass_0 22 rfl rfl
theorem dksX9_pass_2 : cX9_pass.data.toList.drop 44 = dktX9_pass_2 := dk_seg dksX9_pass_1 22 rfl rfl
theorem dksX9_pass_3 : cX9_pass.data.toList.drop 66 = dktX9_pass_3 := dk_seg dksX9_pass_2 22 rfl rfl
theorem dX9_pass_0 : decode cX9_pass 0 = .ok (.aload_n 0, 1) := dk_42 (dk_at dksX9_pass_0 0 rfl rfl)
theorem dX9_pass_1 : decode cX9_pass 1 = .ok (.iload_n 1, 1) := dk_27 (dk_at dksX9_pass_0 1 rfl rfl)
theorem dX9_pass_2 : decode cX9_pass 2 = .ok (.invokevirtual 281, 3) := dk_182 1 25 (dk_at dksX9_pass_0 2 rfl rfl)
theorem dX9_pass_5 : decode cX9_pass 5 = .ok (.ifCond .eq 20, 3) := dk_153 0 20 (dk_at dksX9_pass_0 5 rfl rfl)
theorem dX9_pass_8 : decode cX9_pass 8 = .ok (.aload_n 0, 1) := dk_42 (dk_at dksX9_pass_0 8 rfl rfl)
theorem dX9_pass_9 : decode cX9_pass 9 = .ok (.iload_n 2, 1) := dk_28 (dk_at dksX9_pass_0 9 rfl rfl)
theorem dX9_pass_10 : decode cX9_pass 10 = .ok (.invokevirtual 281, 3) := dk_182 1 25 (dk_at dksX9_pass_0 10 rfl rfl)
theorem dX9_pass_13 : decode cX9_pass 13 = .ok (.ifCond .eq 12, 3) := dk_153 0 12 (dk_at dksX9_pass_0 13 rfl rfl)
theorem dX9_pass_16 : decode cX9_pass 16 = .ok (.aload_n 0, 1) := dk_42 (dk_at dksX9_pass_0 16 rfl rfl)
theorem dX9_pass_17 : decode cX9_pass 17 = .ok (.invokevirtual 193, 3) := dk_182 0 193 (dk_at dksX9_pass_0 17 rfl rfl)
theorem dX9_pass_20 : decode cX9_pass 20 = .ok (.bipush 10, 2) := dk_16 10 (dk_at dksX9_pass_0 20 rfl rfl)
theorem dX9_pass_22 : decode cX9_pass 22 = .ok (.if_icmp .le 7, 3) := dk_164 0 7 (dk_at dksX9_pass_1 0 rfl rfl)
theorem dX9_pass_25 : decode cX9_pass 25 = .ok (.ldc_w 288, 3) := dk_19 1 32 (dk_at dksX9_pass_1 3 rfl rfl)
theorem dX9_pass_28 : decode cX9_pass 28 = .ok (.ireturn, 1) := dk_172 (dk_at dksX9_pass_1 6 rfl rfl)
theorem dX9_pass_29 : decode cX9_pass 29 = .ok (.aload_n 0, 1) := dk_42 (dk_at dksX9_pass_1 7 rfl rfl)
theorem dX9_pass_30 : decode cX9_pass 30 = .ok (.invokevirtual 261, 3) := dk_182 1 5 (dk_at dksX9_pass_1 8 rfl rfl)
theorem dX9_pass_33 : decode cX9_pass 33 = .ok (.iconst 0, 1) := dk_3 (dk_at dksX9_pass_1 11 rfl rfl)
theorem dX9_pass_34 : decode cX9_pass 34 = .ok (.istore_n 3, 1) := dk_62 (dk_at dksX9_pass_1 12 rfl rfl)
theorem dX9_pass_35 : decode cX9_pass 35 = .ok (.iload_n 3, 1) := dk_29 (dk_at dksX9_pass_1 13 rfl rfl)
theorem dX9_pass_36 : decode cX9_pass 36 = .ok (.aload_n 0, 1) := dk_42 (dk_at dksX9_pass_1 14 rfl rfl)
theorem dX9_pass_37 : decode cX9_pass 37 = .ok (.invokevirtual 270, 3) := dk_182 1 14 (dk_at dksX9_pass_1 15 rfl rfl)
theorem dX9_pass_40 : decode cX9_pass 40 = .ok (.if_icmp .ge 32, 3) := dk_162 0 32 (dk_at dksX9_pass_1 18 rfl rfl)
theorem dX9_pass_43 : decode cX9_pass 43 = .ok (.aload_n 0, 1) := dk_42 (dk_at dksX9_pass_1 21 rfl rfl)
theorem dX9_pass_44 : decode cX9_pass 44 = .ok (.getfield 75, 3) := dk_180 0 75 (dk_at dksX9_pass_2 0 rfl rfl)
theorem dX9_pass_47 : decode cX9_pass 47 = .ok (.iload_n 3, 1) := dk_29 (dk_at dksX9_pass_2 3 rfl rfl)
theorem dX9_pass_48 : decode cX9_pass 48 = .ok (.iload_n 3, 1) := dk_29 (dk_at dksX9_pass_2 4 rfl rfl)
theorem dX9_pass_49 : decode cX9_pass 49 = .ok (.iload_n 2, 1) := dk_28 (dk_at dksX9_pass_2 5 rfl rfl)
theorem dX9_pass_50 : decode cX9_pass 50 = .ok (.if_icmp .ne 12, 3) := dk_160 0 12 (dk_at dksX9_pass_2 6 rfl rfl)
theorem dX9_pass_53 : decode cX9_pass 53 = .ok (.aload_n 0, 1) := dk_42 (dk_at dksX9_pass_2 9 rfl rfl)
theorem dX9_pass_54 : decode cX9_pass 54 = .ok (.getfield 57, 3) := dk_180 0 57 (dk_at dksX9_pass_2 10 rfl rfl)
theorem dX9_pass_57 : decode cX9_pass 57 = .ok (.iload_n 3, 1) := dk_29 (dk_at dksX9_pass_2 13 rfl rfl)
theorem dX9_pass_58 : decode cX9_pass 58 = .ok (.iaload, 1) := dk_46 (dk_at dksX9_pass_2 14 rfl rfl)
theorem dX9_pass_59 : decode cX9_pass 59 = .ok (.goto 6, 3) := dk_167 0 6 (dk_at dksX9_pass_2 15 rfl rfl)
theorem dX9_pass_62 : decode cX9_pass 62 = .ok (.ldc_w 284, 3) := dk_19 1 28 (dk_at dksX9_pass_2 18 rfl rfl)
theorem dX9_pass_65 : decode cX9_pass 65 = .ok (.iastore, 1) := dk_79 (dk_at dksX9_pass_2 21 rfl rfl)
theorem dX9_pass_66 : decode cX9_pass 66 = .ok (.iinc 3 1, 3) := dk_132 3 1 (dk_at dksX9_pass_3 0 rfl rfl)
theorem dX9_pass_69 : decode cX9_pass 69 = .ok (.goto (-34), 3) := dk_167 255 222 (dk_at dksX9_pass_3 3 rfl rfl)
theorem dX9_pass_72 : decode cX9_pass 72 = .ok (.aload_n 0, 1) := dk_42 (dk_at dksX9_pass_3 6 rfl rfl)
theorem dX9_pass_73 : decode cX9_pass 73 = .ok (.invokevirtual 327, 3) := dk_182 1 71 (dk_at dksX9_pass_3 7 rfl rfl)
theorem dX9_pass_76 : decode cX9_pass 76 = .ok (.aload_n 0, 1) := dk_42 (dk_at dksX9_pass_3 10 rfl rfl)
theorem dX9_pass_77 : decode cX9_pass 77 = .ok (.getfield 75, 3) := dk_180 0 75 (dk_at dksX9_pass_3 11 rfl rfl)
theorem dX9_pass_80 : decode cX9_pass 80 = .ok (.iload_n 1, 1) := dk_27 (dk_at dksX9_pass_3 14 rfl rfl)
theorem dX9_pass_81 : decode cX9_pass 81 = .ok (.iaload, 1) := dk_46 (dk_at dksX9_pass_3 15 rfl rfl)
theorem dX9_pass_82 : decode cX9_pass 82 = .ok (.ireturn, 1) := dk_172 (dk_at dksX9_pass_3 16 rfl rfl)
abbrev cX9_lakes : ByteArray := prog_14_method_77_code
def yX9_lakes : MethodName := ⟨RX9, "lakes", "(I)I"⟩
def dkwX9_lakes_9 : List UInt8 := [167, 255, 157, 132, 3, 1, 167, 255, 86, 28, 172]
abbrev dktX9_lakes_9 : List UInt8 := dkwX9_lakes_9 ++ []
def dkwX9_lakes_8 : List UInt8 := [84, 42, 180, 0, 81, 21, 4, 21, 7, 79, 132, 4, 1, 132, 6, 1, 167, 255, 173, 132, 5, 1]
abbrev dktX9_lakes_8 : List UInt8 := dkwX9_lakes_8 ++ dktX9_lakes_9
def dkwX9_lakes_7 : List UInt8 := [159, 0, 37, 42, 180, 0, 57, 21, 7, 46, 27, 164, 0, 6, 167, 0, 23, 42, 180, 0, 78, 21, 7, 4]
abbrev dktX9_lakes_7 : List UInt8 := dkwX9_lakes_7 ++ dktX9_lakes_8
def dkwX9_lakes_6 : List UInt8 := [54, 7, 42, 180, 0, 78, 21, 7, 51, 154, 0, 50, 42, 180, 0, 57, 21, 7, 46, 19, 1, 28]
abbrev dktX9_lakes_6 : List UInt8 := dkwX9_lakes_6 ++ dktX9_lakes_7
def dkwX9_lakes_5 : List UInt8 := [54, 6, 21, 6, 42, 182, 0, 193, 162, 0, 80, 42, 180, 0, 81, 21, 5, 46, 4, 21, 6, 120, 130]
abbrev dktX9_lakes_5 : List UInt8 := dkwX9_lakes_5 ++ dktX9_lakes_6
def dkwX9_lakes_4 : List UInt8 := [4, 84, 42, 180, 0, 81, 3, 29, 79, 4, 54, 4, 3, 54, 5, 21, 5, 21, 4, 162, 0, 98, 3]
abbrev dktX9_lakes_4 : List UInt8 := dkwX9_lakes_4 ++ dktX9_lakes_5
def dkwX9_lakes_3 : List UInt8 := [159, 0, 141, 42, 180, 0, 57, 29, 46, 27, 164, 0, 6, 167, 0, 128, 132, 2, 1, 42, 180, 0, 78, 29]
abbrev dktX9_lakes_3 : List UInt8 := dkwX9_lakes_3 ++ dktX9_lakes_4
def dkwX9_lakes_2 : List UInt8 := [182, 1, 14, 162, 0, 168, 42, 180, 0, 78, 29, 51, 154, 0, 153, 42, 180, 0, 57, 29, 46, 19, 1, 28]
abbrev dktX9_lakes_2 : List UInt8 := dkwX9_lakes_2 ++ dktX9_lakes_3
def dkwX9_lakes_1 : List UInt8 := [162, 0, 16, 42, 180, 0, 78, 28, 3, 84, 132, 2, 1, 167, 255, 238, 3, 61, 3, 62, 29, 42]
abbrev dktX9_lakes_1 : List UInt8 := dkwX9_lakes_1 ++ dktX9_lakes_2
def dkwX9_lakes_0 : List UInt8 := [42, 182, 0, 193, 16, 10, 164, 0, 7, 19, 1, 32, 172, 42, 182, 1, 5, 3, 61, 28, 42, 182, 1, 14]
abbrev dktX9_lakes_0 : List UInt8 := dkwX9_lakes_0 ++ dktX9_lakes_1
theorem dksX9_lakes_0 : cX9_lakes.data.toList.drop 0 = dktX9_lakes_0 := by decide +kernel
theorem dksX9_lakes_1 : cX9_lakes.data.toList.drop 24 = dktX9_lakes_1 := dk_seg dksX9_lakes_0 24 rfl rfl
theorem dksX9_lakes_2 : cX9_lakes.data.toList.drop 46 = dktX9_lakes_2 := dk_seg dksX9_lakes_1 22 rfl rfl
theorem dksX9_lakes_3 : cX9_lakes.data.toList.drop 70 = dktX9_lakes_3 := dk_seg dksX9_lakes_2 24 rfl rfl
theorem dksX9_lakes_4 : cX9_lakes.data.toList.drop 94 = dktX9_lakes_4 := dk_seg dksX9_lakes_3 24 rfl rfl
theorem dksX9_lakes_5 : cX9_lakes.data.toList.drop 117 = dktX9_lakes_5 := dk_seg dksX9_lakes_4 23 rfl rfl
theorem dksX9_lakes_6 : cX9_lakes.data.toList.drop 140 = dktX9_lakes_6 := dk_seg dksX9_lakes_5 23 rfl rfl
theorem dksX9_lakes_7 : cX9_lakes.data.toList.drop 162 = dktX9_lakes_7 := dk_seg dksX9_lakes_6 22 rfl rfl
theorem dksX9_lakes_8 : cX9_lakes.data.toList.drop 186 = dktX9_lakes_8 := dk_seg dksX9_lakes_7 24 rfl rfl
theorem dksX9_lakes_9 : cX9_lakes.data.toList.drop 208 = dktX9_lakes_9 := dk_seg dksX9_lakes_8 22 rfl rfl
theorem dX9_lakes_0 : decode cX9_lakes 0 = .ok (.aload_n 0, 1) := dk_42 (dk_at dksX9_lakes_0 0 rfl rfl)
theorem dX9_lakes_1 : decode cX9_lakes 1 = .ok (.invokevirtual 193, 3) := dk_182 0 193 (dk_at dksX9_lakes_0 1 rfl rfl)
theorem dX9_lakes_4 : decode cX9_lakes 4 = .ok (.bipush 10, 2) := dk_16 10 (dk_at dksX9_lakes_0 4 rfl rfl)
theorem dX9_lakes_6 : decode cX9_lakes 6 = .ok (.if_icmp .le 7, 3) := dk_164 0 7 (dk_at dksX9_lakes_0 6 rfl rfl)
theorem dX9_lakes_9 : decode cX9_lakes 9 = .ok (.ldc_w 288, 3) := dk_19 1 32 (dk_at dksX9_lakes_0 9 rfl rfl)
theorem dX9_lakes_12 : decode cX9_lakes 12 = .ok (.ireturn, 1) := dk_172 (dk_at dksX9_lakes_0 12 rfl rfl)
theorem dX9_lakes_13 : decode cX9_lakes 13 = .ok (.aload_n 0, 1) := dk_42 (dk_at dksX9_lakes_0 13 rfl rfl)
theorem dX9_lakes_14 : decode cX9_lakes 14 = .ok (.invokevirtual 261, 3) := dk_182 1 5 (dk_at dksX9_lakes_0 14 rfl rfl)
theorem dX9_lakes_17 : decode cX9_lakes 17 = .ok (.iconst 0, 1) := dk_3 (dk_at dksX9_lakes_0 17 rfl rfl)
theorem dX9_lakes_18 : decode cX9_lakes 18 = .ok (.istore_n 2, 1) := dk_61 (dk_at dksX9_lakes_0 18 rfl rfl)
theorem dX9_lakes_19 : decode cX9_lakes 19 = .ok (.iload_n 2, 1) := dk_28 (dk_at dksX9_lakes_0 19 rfl rfl)
theorem dX9_lakes_20 : decode cX9_lakes 20 = .ok (.aload_n 0, 1) := dk_42 (dk_at dksX9_lakes_0 20 rfl rfl)
theorem dX9_lakes_21 : decode cX9_lakes 21 = .ok (.invokevirtual 270, 3) := dk_182 1 14 (dk_at dksX9_lakes_0 21 rfl rfl)
theorem dX9_lakes_24 : decode cX9_lakes 24 = .ok (.if_icmp .ge 16, 3) := dk_162 0 16 (dk_at dksX9_lakes_1 0 rfl rfl)
theorem dX9_lakes_27 : decode cX9_lakes 27 = .ok (.aload_n 0, 1) := dk_42 (dk_at dksX9_lakes_1 3 rfl rfl)
theorem dX9_lakes_28 : decode cX9_lakes 28 = .ok (.getfield 78, 3) := dk_180 0 78 (dk_at dksX9_lakes_1 4 rfl rfl)
theorem dX9_lakes_31 : decode cX9_lakes 31 = .ok (.iload_n 2, 1) := dk_28 (dk_at dksX9_lakes_1 7 rfl rfl)
theorem dX9_lakes_32 : decode cX9_lakes 32 = .ok (.iconst 0, 1) := dk_3 (dk_at dksX9_lakes_1 8 rfl rfl)
theorem dX9_lakes_33 : decode cX9_lakes 33 = .ok (.bastore, 1) := dk_84 (dk_at dksX9_lakes_1 9 rfl rfl)
theorem dX9_lakes_34 : decode cX9_lakes 34 = .ok (.iinc 2 1, 3) := dk_132 2 1 (dk_at dksX9_lakes_1 10 rfl rfl)
theorem dX9_lakes_37 : decode cX9_lakes 37 = .ok (.goto (-18), 3) := dk_167 255 238 (dk_at dksX9_lakes_1 13 rfl rfl)
theorem dX9_lakes_40 : decode cX9_lakes 40 = .ok (.iconst 0, 1) := dk_3 (dk_at dksX9_lakes_1 16 rfl rfl)
theorem dX9_lakes_41 : decode cX9_lakes 41 = .ok (.istore_n 2, 1) := dk_61 (dk_at dksX9_lakes_1 17 rfl rfl)
theorem dX9_lakes_42 : decode cX9_lakes 42 = .ok (.iconst 0, 1) := dk_3 (dk_at dksX9_lakes_1 18 rfl rfl)
theorem dX9_lakes_43 : decode cX9_lakes 43 = .ok (.istore_n 3, 1) := dk_62 (dk_at dksX9_lakes_1 19 rfl rfl)
theorem dX9_lakes_44 : decode cX9_lakes 44 = .ok (.iload_n 3, 1) := dk_29 (dk_at dksX9_lakes_1 20 rfl rfl)
theorem dX9_lakes_45 : decode cX9_lakes 45 = .ok (.aload_n 0, 1) := dk_42 (dk_at dksX9_lakes_1 21 rfl rfl)
theorem dX9_lakes_46 : decode cX9_lakes 46 = .ok (.invokevirtual 270, 3) := dk_182 1 14 (dk_at dksX9_lakes_2 0 rfl rfl)
theorem dX9_lakes_49 : decode cX9_lakes 49 = .ok (.if_icmp .ge 168, 3) := dk_162 0 168 (dk_at dksX9_lakes_2 3 rfl rfl)
theorem dX9_lakes_52 : decode cX9_lakes 52 = .ok (.aload_n 0, 1) := dk_42 (dk_at dksX9_lakes_2 6 rfl rfl)
theorem dX9_lakes_53 : decode cX9_lakes 53 = .ok (.getfield 78, 3) := dk_180 0 78 (dk_at dksX9_lakes_2 7 rfl rfl)
theorem dX9_lakes_56 : decode cX9_lakes 56 = .ok (.iload_n 3, 1) := dk_29 (dk_at dksX9_lakes_2 10 rfl rfl)
theorem dX9_lakes_57 : decode cX9_lakes 57 = .ok (.baload, 1) := dk_51 (dk_at dksX9_lakes_2 11 rfl rfl)
theorem dX9_lakes_58 : decode cX9_lakes 58 = .ok (.ifCond .ne 153, 3) := dk_154 0 153 (dk_at dksX9_lakes_2 12 rfl rfl)
theorem dX9_lakes_61 : decode cX9_lakes 61 = .ok (.aload_n 0, 1) := dk_42 (dk_at dksX9_lakes_2 15 rfl rfl)
theorem dX9_lakes_62 : decode cX9_lakes 62 = .ok (.getfield 57, 3) := dk_180 0 57 (dk_at dksX9_lakes_2 16 rfl rfl)
theorem dX9_lakes_65 : decode cX9_lakes 65 = .ok (.iload_n 3, 1) := dk_29 (dk_at dksX9_lakes_2 19 rfl rfl)
theorem dX9_lakes_66 : decode cX9_lakes 66 = .ok (.iaload, 1) := dk_46 (dk_at dksX9_lakes_2 20 rfl rfl)
theorem dX9_lakes_67 : decode cX9_lakes 67 = .ok (.ldc_w 284, 3) := dk_19 1 28 (dk_at dksX9_lakes_2 21 rfl rfl)
theorem dX9_lakes_70 : decode cX9_lakes 70 = .ok (.if_icmp .eq 141, 3) := dk_159 0 141 (dk_at dksX9_lakes_3 0 rfl rfl)
theorem dX9_lakes_73 : decode cX9_lakes 73 = .ok (.aload_n 0, 1) := dk_42 (dk_at dksX9_lakes_3 3 rfl rfl)
theorem dX9_lakes_74 : decode cX9_lakes 74 = .ok (.getfield 57, 3) := dk_180 0 57 (dk_at dksX9_lakes_3 4 rfl rfl)
theorem dX9_lakes_77 : decode cX9_lakes 77 = .ok (.iload_n 3, 1) := dk_29 (dk_at dksX9_lakes_3 7 rfl rfl)
theorem dX9_lakes_78 : decode cX9_lakes 78 = .ok (.iaload, 1) := dk_46 (dk_at dksX9_lakes_3 8 rfl rfl)
theorem dX9_lakes_79 : decode cX9_lakes 79 = .ok (.iload_n 1, 1) := dk_27 (dk_at dksX9_lakes_3 9 rfl rfl)
theorem dX9_lakes_80 : decode cX9_lakes 80 = .ok (.if_icmp .le 6, 3) := dk_164 0 6 (dk_at dksX9_lakes_3 10 rfl rfl)
theorem dX9_lakes_83 : decode cX9_lakes 83 = .ok (.goto 128, 3) := dk_167 0 128 (dk_at dksX9_lakes_3 13 rfl rfl)
theorem dX9_lakes_86 : decode cX9_lakes 86 = .ok (.iinc 2 1, 3) := dk_132 2 1 (dk_at dksX9_lakes_3 16 rfl rfl)
theorem dX9_lakes_89 : decode cX9_lakes 89 = .ok (.aload_n 0, 1) := dk_42 (dk_at dksX9_lakes_3 19 rfl rfl)
theorem dX9_lakes_90 : decode cX9_lakes 90 = .ok (.getfield 78, 3) := dk_180 0 78 (dk_at dksX9_lakes_3 20 rfl rfl)
theorem dX9_lakes_93 : decode cX9_lakes 93 = .ok (.iload_n 3, 1) := dk_29 (dk_at dksX9_lakes_3 23 rfl rfl)
theorem dX9_lakes_94 : decode cX9_lakes 94 = .ok (.iconst 1, 1) := dk_4 (dk_at dksX9_lakes_4 0 rfl rfl)
theorem dX9_lakes_95 : decode cX9_lakes 95 = .ok (.bastore, 1) := dk_84 (dk_at dksX9_lakes_4 1 rfl rfl)
theorem dX9_lakes_96 : decode cX9_lakes 96 = .ok (.aload_n 0, 1) := dk_42 (dk_at dksX9_lakes_4 2 rfl rfl)
theorem dX9_lakes_97 : decode cX9_lakes 97 = .ok (.getfield 81, 3) := dk_180 0 81 (dk_at dksX9_lakes_4 3 rfl rfl)
theorem dX9_lakes_100 : decode cX9_lakes 100 = .ok (.iconst 0, 1) := dk_3 (dk_at dksX9_lakes_4 6 rfl rfl)
theorem dX9_lakes_101 : decode cX9_lakes 101 = .ok (.iload_n 3, 1) := dk_29 (dk_at dksX9_lakes_4 7 rfl rfl)
theorem dX9_lakes_102 : decode cX9_lakes 102 = .ok (.iastore, 1) := dk_79 (dk_at dksX9_lakes_4 8 rfl rfl)
theorem dX9_lakes_103 : decode cX9_lakes 103 = .ok (.iconst 1, 1) := dk_4 (dk_at dksX9_lakes_4 9 rfl rfl)
theorem dX9_lakes_104 : decode cX9_lakes 104 = .ok (.istore 4, 2) := dk_54 4 (dk_at dksX9_lakes_4 10 rfl rfl)
theorem dX9_lakes_106 : decode cX9_lakes 106 = .ok (.iconst 0, 1) := dk_3 (dk_at dksX9_lakes_4 12 rfl rfl)
theorem dX9_lakes_107 : decode cX9_lakes 107 = .ok (.istore 5, 2) := dk_54 5 (dk_at dksX9_lakes_4 13 rfl rfl)
theorem dX9_lakes_109 : decode cX9_lakes 109 = .ok (.iload 5, 2) := dk_21 5 (dk_at dksX9_lakes_4 15 rfl rfl)
theorem dX9_lakes_111 : decode cX9_lakes 111 = .ok (.iload 4, 2) := dk_21 4 (dk_at dksX9_lakes_4 17 rfl rfl)
theorem dX9_lakes_113 : decode cX9_lakes 113 = .ok (.if_icmp .ge 98, 3) := dk_162 0 98 (dk_at dksX9_lakes_4 19 rfl rfl)
theorem dX9_lakes_116 : decode cX9_lakes 116 = .ok (.iconst 0, 1) := dk_3 (dk_at dksX9_lakes_4 22 rfl rfl)
theorem dX9_lakes_117 : decode cX9_lakes 117 = .ok (.istore 6, 2) := dk_54 6 (dk_at dksX9_lakes_5 0 rfl rfl)
theorem dX9_lakes_119 : decode cX9_lakes 119 = .ok (.iload 6, 2) := dk_21 6 (dk_at dksX9_lakes_5 2 rfl rfl)
theorem dX9_lakes_121 : decode cX9_lakes 121 = .ok (.aload_n 0, 1) := dk_42 (dk_at dksX9_lakes_5 4 rfl rfl)
theorem dX9_lakes_122 : decode cX9_lakes 122 = .ok (.invokevirtual 193, 3) := dk_182 0 193 (dk_at dksX9_lakes_5 5 rfl rfl)
theorem dX9_lakes_125 : decode cX9_lakes 125 = .ok (.if_icmp .ge 80, 3) := dk_162 0 80 (dk_at dksX9_lakes_5 8 rfl rfl)
theorem dX9_lakes_128 : decode cX9_lakes 128 = .ok (.aload_n 0, 1) := dk_42 (dk_at dksX9_lakes_5 11 rfl rfl)
theorem dX9_lakes_129 : decode cX9_lakes 129 = .ok (.getfield 81, 3) := dk_180 0 81 (dk_at dksX9_lakes_5 12 rfl rfl)
theorem dX9_lakes_132 : decode cX9_lakes 132 = .ok (.iload 5, 2) := dk_21 5 (dk_at dksX9_lakes_5 15 rfl rfl)
theorem dX9_lakes_134 : decode cX9_lakes 134 = .ok (.iaload, 1) := dk_46 (dk_at dksX9_lakes_5 17 rfl rfl)
theorem dX9_lakes_135 : decode cX9_lakes 135 = .ok (.iconst 1, 1) := dk_4 (dk_at dksX9_lakes_5 18 rfl rfl)
theorem dX9_lakes_136 : decode cX9_lakes 136 = .ok (.iload 6, 2) := dk_21 6 (dk_at dksX9_lakes_5 19 rfl rfl)
theorem dX9_lakes_138 : decode cX9_lakes 138 = .ok (.ishl, 1) := dk_120 (dk_at dksX9_lakes_5 21 rfl rfl)
theorem dX9_lakes_139 : decode cX9_lakes 139 = .ok (.ixor, 1) := dk_130 (dk_at dksX9_lakes_5 22 rfl rfl)
theorem dX9_lakes_140 : decode cX9_lakes 140 = .ok (.istore 7, 2) := dk_54 7 (dk_at dksX9_lakes_6 0 rfl rfl)
theorem dX9_lakes_142 : decode cX9_lakes 142 = .ok (.aload_n 0, 1) := dk_42 (dk_at dksX9_lakes_6 2 rfl rfl)
theorem dX9_lakes_143 : decode cX9_lakes 143 = .ok (.getfield 78, 3) := dk_180 0 78 (dk_at dksX9_lakes_6 3 rfl rfl)
theorem dX9_lakes_146 : decode cX9_lakes 146 = .ok (.iload 7, 2) := dk_21 7 (dk_at dksX9_lakes_6 6 rfl rfl)
theorem dX9_lakes_148 : decode cX9_lakes 148 = .ok (.baload, 1) := dk_51 (dk_at dksX9_lakes_6 8 rfl rfl)
theorem dX9_lakes_149 : decode cX9_lakes 149 = .ok (.ifCond .ne 50, 3) := dk_154 0 50 (dk_at dksX9_lakes_6 9 rfl rfl)
theorem dX9_lakes_152 : decode cX9_lakes 152 = .ok (.aload_n 0, 1) := dk_42 (dk_at dksX9_lakes_6 12 rfl rfl)
theorem dX9_lakes_153 : decode cX9_lakes 153 = .ok (.getfield 57, 3) := dk_180 0 57 (dk_at dksX9_lakes_6 13 rfl rfl)
theorem dX9_lakes_156 : decode cX9_lakes 156 = .ok (.iload 7, 2) := dk_21 7 (dk_at dksX9_lakes_6 16 rfl rfl)
theorem dX9_lakes_158 : decode cX9_lakes 158 = .ok (.iaload, 1) := dk_46 (dk_at dksX9_lakes_6 18 rfl rfl)
theorem dX9_lakes_159 : decode cX9_lakes 159 = .ok (.ldc_w 284, 3) := dk_19 1 28 (dk_at dksX9_lakes_6 19 rfl rfl)
theorem dX9_lakes_162 : decode cX9_lakes 162 = .ok (.if_icmp .eq 37, 3) := dk_159 0 37 (dk_at dksX9_lakes_7 0 rfl rfl)
theorem dX9_lakes_165 : decode cX9_lakes 165 = .ok (.aload_n 0, 1) := dk_42 (dk_at dksX9_lakes_7 3 rfl rfl)
theorem dX9_lakes_166 : decode cX9_lakes 166 = .ok (.getfield 57, 3) := dk_180 0 57 (dk_at dksX9_lakes_7 4 rfl rfl)
theorem dX9_lakes_169 : decode cX9_lakes 169 = .ok (.iload 7, 2) := dk_21 7 (dk_at dksX9_lakes_7 7 rfl rfl)
theorem dX9_lakes_171 : decode cX9_lakes 171 = .ok (.iaload, 1) := dk_46 (dk_at dksX9_lakes_7 9 rfl rfl)
theorem dX9_lakes_172 : decode cX9_lakes 172 = .ok (.iload_n 1, 1) := dk_27 (dk_at dksX9_lakes_7 10 rfl rfl)
theorem dX9_lakes_173 : decode cX9_lakes 173 = .ok (.if_icmp .le 6, 3) := dk_164 0 6 (dk_at dksX9_lakes_7 11 rfl rfl)
theorem dX9_lakes_176 : decode cX9_lakes 176 = .ok (.goto 23, 3) := dk_167 0 23 (dk_at dksX9_lakes_7 14 rfl rfl)
theorem dX9_lakes_179 : decode cX9_lakes 179 = .ok (.aload_n 0, 1) := dk_42 (dk_at dksX9_lakes_7 17 rfl rfl)
theorem dX9_lakes_180 : decode cX9_lakes 180 = .ok (.getfield 78, 3) := dk_180 0 78 (dk_at dksX9_lakes_7 18 rfl rfl)
theorem dX9_lakes_183 : decode cX9_lakes 183 = .ok (.iload 7, 2) := dk_21 7 (dk_at dksX9_lakes_7 21 rfl rfl)
theorem dX9_lakes_185 : decode cX9_lakes 185 = .ok (.iconst 1, 1) := dk_4 (dk_at dksX9_lakes_7 23 rfl rfl)
theorem dX9_lakes_186 : decode cX9_lakes 186 = .ok (.bastore, 1) := dk_84 (dk_at dksX9_lakes_8 0 rfl rfl)
theorem dX9_lakes_187 : decode cX9_lakes 187 = .ok (.aload_n 0, 1) := dk_42 (dk_at dksX9_lakes_8 1 rfl rfl)
theorem dX9_lakes_188 : decode cX9_lakes 188 = .ok (.getfield 81, 3) := dk_180 0 81 (dk_at dksX9_lakes_8 2 rfl rfl)
theorem dX9_lakes_191 : decode cX9_lakes 191 = .ok (.iload 4, 2) := dk_21 4 (dk_at dksX9_lakes_8 5 rfl rfl)
theorem dX9_lakes_193 : decode cX9_lakes 193 = .ok (.iload 7, 2) := dk_21 7 (dk_at dksX9_lakes_8 7 rfl rfl)
theorem dX9_lakes_195 : decode cX9_lakes 195 = .ok (.iastore, 1) := dk_79 (dk_at dksX9_lakes_8 9 rfl rfl)
theorem dX9_lakes_196 : decode cX9_lakes 196 = .ok (.iinc 4 1, 3) := dk_132 4 1 (dk_at dksX9_lakes_8 10 rfl rfl)
theorem dX9_lakes_199 : decode cX9_lakes 199 = .ok (.iinc 6 1, 3) := dk_132 6 1 (dk_at dksX9_lakes_8 13 rfl rfl)
theorem dX9_lakes_202 : decode cX9_lakes 202 = .ok (.goto (-83), 3) := dk_167 255 173 (dk_at dksX9_lakes_8 16 rfl rfl)
theorem dX9_lakes_205 : decode cX9_lakes 205 = .ok (.iinc 5 1, 3) := dk_132 5 1 (dk_at dksX9_lakes_8 19 rfl rfl)
theorem dX9_lakes_208 : decode cX9_lakes 208 = .ok (.goto (-99), 3) := dk_167 255 157 (dk_at dksX9_lakes_9 0 rfl rfl)
theorem dX9_lakes_211 : decode cX9_lakes 211 = .ok (.iinc 3 1, 3) := dk_132 3 1 (dk_at dksX9_lakes_9 3 rfl rfl)
theorem dX9_lakes_214 : decode cX9_lakes 214 = .ok (.goto (-170), 3) := dk_167 255 86 (dk_at dksX9_lakes_9 6 rfl rfl)
theorem dX9_lakes_217 : decode cX9_lakes 217 = .ok (.iload_n 2, 1) := dk_28 (dk_at dksX9_lakes_9 9 rfl rfl)
theorem dX9_lakes_218 : decode cX9_lakes 218 = .ok (.ireturn, 1) := dk_172 (dk_at dksX9_lakes_9 10 rfl rfl)
abbrev cX9_down : ByteArray := prog_14_method_78_code
def yX9_down : MethodName := ⟨RX9, "down", "(I)J"⟩
def dkwX9_down_7 : List UInt8 := [173]
abbrev dktX9_down_7 : List UInt8 := dkwX9_down_7 ++ []
def dkwX9_down_6 : List UInt8 := [180, 0, 84, 29, 10, 80, 132, 3, 1, 167, 255, 144, 132, 2, 1, 167, 255, 128, 42, 180, 0, 84, 27, 47]
abbrev dktX9_down_6 : List UInt8 := dkwX9_down_6 ++ dktX9_down_7
def dkwX9_down_5 : List UInt8 := [130, 47, 97, 80, 132, 4, 1, 167, 255, 204, 42, 180, 0, 84, 29, 47, 9, 148, 154, 0, 10, 42]
abbrev dktX9_down_5 : List UInt8 := dkwX9_down_5 ++ dktX9_down_6
def dkwX9_down_4 : List UInt8 := [180, 0, 57, 29, 46, 162, 0, 23, 42, 180, 0, 84, 29, 92, 47, 42, 180, 0, 84, 29, 4, 21, 4, 120]
abbrev dktX9_down_4 : List UInt8 := dkwX9_down_4 ++ dktX9_down_5
def dkwX9_down_3 : List UInt8 := [3, 54, 4, 21, 4, 42, 182, 0, 193, 162, 0, 49, 42, 180, 0, 57, 29, 4, 21, 4, 120, 130, 46, 42]
abbrev dktX9_down_3 : List UInt8 := dkwX9_down_3 ++ dktX9_down_4
def dkwX9_down_2 : List UInt8 := [180, 0, 57, 29, 46, 42, 180, 0, 63, 28, 46, 159, 0, 6, 167, 0, 86, 42, 180, 0, 84, 29, 9, 80]
abbrev dktX9_down_2 : List UInt8 := dkwX9_down_2 ++ dktX9_down_3
def dkwX9_down_1 : List UInt8 := [182, 1, 5, 3, 61, 28, 42, 180, 1, 29, 162, 0, 126, 3, 62, 29, 42, 182, 1, 14, 162, 0, 110, 42]
abbrev dktX9_down_1 : List UInt8 := dkwX9_down_1 ++ dktX9_down_2
def dkwX9_down_0 : List UInt8 := [42, 27, 182, 1, 25, 153, 0, 12, 42, 182, 0, 193, 16, 10, 164, 0, 7, 20, 1, 59, 173, 42]
abbrev dktX9_down_0 : List UInt8 := dkwX9_down_0 ++ dktX9_down_1
theorem dksX9_down_0 : cX9_down.data.toList.drop 0 = dktX9_down_0 := by decide +kernel
theorem dksX9_down_1 : cX9_down.data.toList.drop 22 = dktX9_down_1 := dk_seg dksX9_down_0 22 rfl rfl
theorem dksX9_down_2 : cX9_down.data.toList.drop 46 = dktX9_down_2 := dk_seg dksX9_down_1 24 rfl rfl
theorem dksX9_down_3 : cX9_down.data.toList.drop 70 = dktX9_down_3 := dk_seg dksX9_down_2 24 rfl rfl
theorem dksX9_down_4 : cX9_down.data.toList.drop 94 = dktX9_down_4 := dk_seg dksX9_down_3 24 rfl rfl
theorem dksX9_down_5 : cX9_down.data.toList.drop 118 = dktX9_down_5 := dk_seg dksX9_down_4 24 rfl rfl
theorem dksX9_down_6 : cX9_down.data.toList.drop 140 = dktX9_down_6 := dk_seg dksX9_down_5 22 rfl rfl
theorem dksX9_down_7 : cX9_down.data.toList.drop 164 = dktX9_down_7 := dk_seg dksX9_down_6 24 rfl rfl
theorem dX9_down_0 : decode cX9_down 0 = .ok (.aload_n 0, 1) := dk_42 (dk_at dksX9_down_0 0 rfl rfl)
theorem dX9_down_1 : decode cX9_down 1 = .ok (.iload_n 1, 1) := dk_27 (dk_at dksX9_down_0 1 rfl rfl)
theorem dX9_down_2 : decode cX9_down 2 = .ok (.invokevirtual 281, 3) := dk_182 1 25 (dk_at dksX9_down_0 2 rfl rfl)
theorem dX9_down_5 : decode cX9_down 5 = .ok (.ifCond .eq 12, 3) := dk_153 0 12 (dk_at dksX9_down_0 5 rfl rfl)
theorem dX9_down_8 : decode cX9_down 8 = .ok (.aload_n 0, 1) := dk_42 (dk_at dksX9_down_0 8 rfl rfl)
theorem dX9_down_9 : decode cX9_down 9 = .ok (.invokevirtual 193, 3) := dk_182 0 193 (dk_at dksX9_down_0 9 rfl rfl)
theorem dX9_down_12 : decode cX9_down 12 = .ok (.bipush 10, 2) := dk_16 10 (dk_at dksX9_down_0 12 rfl rfl)
theorem dX9_down_14 : decode cX9_down 14 = .ok (.if_icmp .le 7, 3) := dk_164 0 7 (dk_at dksX9_down_0 14 rfl rfl)
theorem dX9_down_17 : decode cX9_down 17 = .ok (.ldc2_w 315, 3) := dk_20 1 59 (dk_at dksX9_down_0 17 rfl rfl)
theorem dX9_down_20 : decode cX9_down 20 = .ok (.lreturn, 1) := dk_173 (dk_at dksX9_down_0 20 rfl rfl)
theorem dX9_down_21 : decode cX9_down 21 = .ok (.aload_n 0, 1) := dk_42 (dk_at dksX9_down_0 21 rfl rfl)
theorem dX9_down_22 : decode cX9_down 22 = .ok (.invokevirtual 261, 3) := dk_182 1 5 (dk_at dksX9_down_1 0 rfl rfl)
theorem dX9_down_25 : decode cX9_down 25 = .ok (.iconst 0, 1) := dk_3 (dk_at dksX9_down_1 3 rfl rfl)
theorem dX9_down_26 : decode cX9_down 26 = .ok (.istore_n 2, 1) := dk_61 (dk_at dksX9_down_1 4 rfl rfl)
theorem dX9_down_27 : decode cX9_down 27 = .ok (.iload_n 2, 1) := dk_28 (dk_at dksX9_down_1 5 rfl rfl)
theorem dX9_down_28 : decode cX9_down 28 = .ok (.aload_n 0, 1) := dk_42 (dk_at dksX9_down_1 6 rfl rfl)
theorem dX9_down_29 : decode cX9_down 29 = .ok (.getfield 285, 3) := dk_180 1 29 (dk_at dksX9_down_1 7 rfl rfl)
theorem dX9_down_32 : decode cX9_down 32 = .ok (.if_icmp .ge 126, 3) := dk_162 0 126 (dk_at dksX9_down_1 10 rfl rfl)
theorem dX9_down_35 : decode cX9_down 35 = .ok (.iconst 0, 1) := dk_3 (dk_at dksX9_down_1 13 rfl rfl)
theorem dX9_down_36 : decode cX9_down 36 = .ok (.istore_n 3, 1) := dk_62 (dk_at dksX9_down_1 14 rfl rfl)
theorem dX9_down_37 : decode cX9_down 37 = .ok (.iload_n 3, 1) := dk_29 (dk_at dksX9_down_1 15 rfl rfl)
theorem dX9_down_38 : decode cX9_down 38 = .ok (.aload_n 0, 1) := dk_42 (dk_at dksX9_down_1 16 rfl rfl)
theorem dX9_down_39 : decode cX9_down 39 = .ok (.invokevirtual 270, 3) := dk_182 1 14 (dk_at dksX9_down_1 17 rfl rfl)
theorem dX9_down_42 : decode cX9_down 42 = .ok (.if_icmp .ge 110, 3) := dk_162 0 110 (dk_at dksX9_down_1 20 rfl rfl)
theorem dX9_down_45 : decode cX9_down 45 = .ok (.aload_n 0, 1) := dk_42 (dk_at dksX9_down_1 23 rfl rfl)
theorem dX9_down_46 : decode cX9_down 46 = .ok (.getfield 57, 3) := dk_180 0 57 (dk_at dksX9_down_2 0 rfl rfl)
theorem dX9_down_49 : decode cX9_down 49 = .ok (.iload_n 3, 1) := dk_29 (dk_at dksX9_down_2 3 rfl rfl)
theorem dX9_down_50 : decode cX9_down 50 = .ok (.iaload, 1) := dk_46 (dk_at dksX9_down_2 4 rfl rfl)
theorem dX9_down_51 : decode cX9_down 51 = .ok (.aload_n 0, 1) := dk_42 (dk_at dksX9_down_2 5 rfl rfl)
theorem dX9_down_52 : decode cX9_down 52 = .ok (.getfield 63, 3) := dk_180 0 63 (dk_at dksX9_down_2 6 rfl rfl)
theorem dX9_down_55 : decode cX9_down 55 = .ok (.iload_n 2, 1) := dk_28 (dk_at dksX9_down_2 9 rfl rfl)
theorem dX9_down_56 : decode cX9_down 56 = .ok (.iaload, 1) := dk_46 (dk_at dksX9_down_2 10 rfl rfl)
theorem dX9_down_57 : decode cX9_down 57 = .ok (.if_icmp .eq 6, 3) := dk_159 0 6 (dk_at dksX9_down_2 11 rfl rfl)
theorem dX9_down_60 : decode cX9_down 60 = .ok (.goto 86, 3) := dk_167 0 86 (dk_at dksX9_down_2 14 rfl rfl)
theorem dX9_down_63 : decode cX9_down 63 = .ok (.aload_n 0, 1) := dk_42 (dk_at dksX9_down_2 17 rfl rfl)
theorem dX9_down_64 : decode cX9_down 64 = .ok (.getfield 84, 3) := dk_180 0 84 (dk_at dksX9_down_2 18 rfl rfl)
theorem dX9_down_67 : decode cX9_down 67 = .ok (.iload_n 3, 1) := dk_29 (dk_at dksX9_down_2 21 rfl rfl)
theorem dX9_down_68 : decode cX9_down 68 = .ok (.lconst 0, 1) := dk_9 (dk_at dksX9_down_2 22 rfl rfl)
theorem dX9_down_69 : decode cX9_down 69 = .ok (.lastore, 1) := dk_80 (dk_at dksX9_down_2 23 rfl rfl)
theorem dX9_down_70 : decode cX9_down 70 = .ok (.iconst 0, 1) := dk_3 (dk_at dksX9_down_3 0 rfl rfl)
theorem dX9_down_71 : decode cX9_down 71 = .ok (.istore 4, 2) := dk_54 4 (dk_at dksX9_down_3 1 rfl rfl)
theorem dX9_down_73 : decode cX9_down 73 = .ok (.iload 4, 2) := dk_21 4 (dk_at dksX9_down_3 3 rfl rfl)
theorem dX9_down_75 : decode cX9_down 75 = .ok (.aload_n 0, 1) := dk_42 (dk_at dksX9_down_3 5 rfl rfl)
theorem dX9_down_76 : decode cX9_down 76 = .ok (.invokevirtual 193, 3) := dk_182 0 193 (dk_at dksX9_down_3 6 rfl rfl)
theorem dX9_down_79 : decode cX9_down 79 = .ok (.if_icmp .ge 49, 3) := dk_162 0 49 (dk_at dksX9_down_3 9 rfl rfl)
theorem dX9_down_82 : decode cX9_down 82 = .ok (.aload_n 0, 1) := dk_42 (dk_at dksX9_down_3 12 rfl rfl)
theorem dX9_down_83 : decode cX9_down 83 = .ok (.getfield 57, 3) := dk_180 0 57 (dk_at dksX9_down_3 13 rfl rfl)
theorem dX9_down_86 : decode cX9_down 86 = .ok (.iload_n 3, 1) := dk_29 (dk_at dksX9_down_3 16 rfl rfl)
theorem dX9_down_87 : decode cX9_down 87 = .ok (.iconst 1, 1) := dk_4 (dk_at dksX9_down_3 17 rfl rfl)
theorem dX9_down_88 : decode cX9_down 88 = .ok (.iload 4, 2) := dk_21 4 (dk_at dksX9_down_3 18 rfl rfl)
theorem dX9_down_90 : decode cX9_down 90 = .ok (.ishl, 1) := dk_120 (dk_at dksX9_down_3 20 rfl rfl)
theorem dX9_down_91 : decode cX9_down 91 = .ok (.ixor, 1) := dk_130 (dk_at dksX9_down_3 21 rfl rfl)
theorem dX9_down_92 : decode cX9_down 92 = .ok (.iaload, 1) := dk_46 (dk_at dksX9_down_3 22 rfl rfl)
theorem dX9_down_93 : decode cX9_down 93 = .ok (.aload_n 0, 1) := dk_42 (dk_at dksX9_down_3 23 rfl rfl)
theorem dX9_down_94 : decode cX9_down 94 = .ok (.getfield 57, 3) := dk_180 0 57 (dk_at dksX9_down_4 0 rfl rfl)
theorem dX9_down_97 : decode cX9_down 97 = .ok (.iload_n 3, 1) := dk_29 (dk_at dksX9_down_4 3 rfl rfl)
theorem dX9_down_98 : decode cX9_down 98 = .ok (.iaload, 1) := dk_46 (dk_at dksX9_down_4 4 rfl rfl)
theorem dX9_down_99 : decode cX9_down 99 = .ok (.if_icmp .ge 23, 3) := dk_162 0 23 (dk_at dksX9_down_4 5 rfl rfl)
theorem dX9_down_102 : decode cX9_down 102 = .ok (.aload_n 0, 1) := dk_42 (dk_at dksX9_down_4 8 rfl rfl)
theorem dX9_down_103 : decode cX9_down 103 = .ok (.getfield 84, 3) := dk_180 0 84 (dk_at dksX9_down_4 9 rfl rfl)
theorem dX9_down_106 : decode cX9_down 106 = .ok (.iload_n 3, 1) := dk_29 (dk_at dksX9_down_4 12 rfl rfl)
theorem dX9_down_107 : decode cX9_down 107 = .ok (.dup2, 1) := dk_92 (dk_at dksX9_down_4 13 rfl rfl)
theorem dX9_down_108 : decode cX9_down 108 = .ok (.laload, 1) := dk_47 (dk_at dksX9_down_4 14 rfl rfl)
theorem dX9_down_109 : decode cX9_down 109 = .ok (.aload_n 0, 1) := dk_42 (dk_at dksX9_down_4 15 rfl rfl)
theorem dX9_down_110 : decode cX9_down 110 = .ok (.getfield 84, 3) := dk_180 0 84 (dk_at dksX9_down_4 16 rfl rfl)
theorem dX9_down_113 : decode cX9_down 113 = .ok (.iload_n 3, 1) := dk_29 (dk_at dksX9_down_4 19 rfl rfl)
theorem dX9_down_114 : decode cX9_down 114 = .ok (.iconst 1, 1) := dk_4 (dk_at dksX9_down_4 20 rfl rfl)
theorem dX9_down_115 : decode cX9_down 115 = .ok (.iload 4, 2) := dk_21 4 (dk_at dksX9_down_4 21 rfl rfl)
theorem dX9_down_117 : decode cX9_down 117 = .ok (.ishl, 1) := dk_120 (dk_at dksX9_down_4 23 rfl rfl)
theorem dX9_down_118 : decode cX9_down 118 = .ok (.ixor, 1) := dk_130 (dk_at dksX9_down_5 0 rfl rfl)
theorem dX9_down_119 : decode cX9_down 119 = .ok (.laload, 1) := dk_47 (dk_at dksX9_down_5 1 rfl rfl)
theorem dX9_down_120 : decode cX9_down 120 = .ok (.ladd, 1) := dk_97 (dk_at dksX9_down_5 2 rfl rfl)
theorem dX9_down_121 : decode cX9_down 121 = .ok (.lastore, 1) := dk_80 (dk_at dksX9_down_5 3 rfl rfl)
theorem dX9_down_122 : decode cX9_down 122 = .ok (.iinc 4 1, 3) := dk_132 4 1 (dk_at dksX9_down_5 4 rfl rfl)
theorem dX9_down_125 : decode cX9_down 125 = .ok (.goto (-52), 3) := dk_167 255 204 (dk_at dksX9_down_5 7 rfl rfl)
theorem dX9_down_128 : decode cX9_down 128 = .ok (.aload_n 0, 1) := dk_42 (dk_at dksX9_down_5 10 rfl rfl)
theorem dX9_down_129 : decode cX9_down 129 = .ok (.getfield 84, 3) := dk_180 0 84 (dk_at dksX9_down_5 11 rfl rfl)
theorem dX9_down_132 : decode cX9_down 132 = .ok (.iload_n 3, 1) := dk_29 (dk_at dksX9_down_5 14 rfl rfl)
theorem dX9_down_133 : decode cX9_down 133 = .ok (.laload, 1) := dk_47 (dk_at dksX9_down_5 15 rfl rfl)
theorem dX9_down_134 : decode cX9_down 134 = .ok (.lconst 0, 1) := dk_9 (dk_at dksX9_down_5 16 rfl rfl)
theorem dX9_down_135 : decode cX9_down 135 = .ok (.lcmp, 1) := dk_148 (dk_at dksX9_down_5 17 rfl rfl)
theorem dX9_down_136 : decode cX9_down 136 = .ok (.ifCond .ne 10, 3) := dk_154 0 10 (dk_at dksX9_down_5 18 rfl rfl)
theorem dX9_down_139 : decode cX9_down 139 = .ok (.aload_n 0, 1) := dk_42 (dk_at dksX9_down_5 21 rfl rfl)
theorem dX9_down_140 : decode cX9_down 140 = .ok (.getfield 84, 3) := dk_180 0 84 (dk_at dksX9_down_6 0 rfl rfl)
theorem dX9_down_143 : decode cX9_down 143 = .ok (.iload_n 3, 1) := dk_29 (dk_at dksX9_down_6 3 rfl rfl)
theorem dX9_down_144 : decode cX9_down 144 = .ok (.lconst 1, 1) := dk_10 (dk_at dksX9_down_6 4 rfl rfl)
theorem dX9_down_145 : decode cX9_down 145 = .ok (.lastore, 1) := dk_80 (dk_at dksX9_down_6 5 rfl rfl)
theorem dX9_down_146 : decode cX9_down 146 = .ok (.iinc 3 1, 3) := dk_132 3 1 (dk_at dksX9_down_6 6 rfl rfl)
theorem dX9_down_149 : decode cX9_down 149 = .ok (.goto (-112), 3) := dk_167 255 144 (dk_at dksX9_down_6 9 rfl rfl)
theorem dX9_down_152 : decode cX9_down 152 = .ok (.iinc 2 1, 3) := dk_132 2 1 (dk_at dksX9_down_6 12 rfl rfl)
theorem dX9_down_155 : decode cX9_down 155 = .ok (.goto (-128), 3) := dk_167 255 128 (dk_at dksX9_down_6 15 rfl rfl)
theorem dX9_down_158 : decode cX9_down 158 = .ok (.aload_n 0, 1) := dk_42 (dk_at dksX9_down_6 18 rfl rfl)
theorem dX9_down_159 : decode cX9_down 159 = .ok (.getfield 84, 3) := dk_180 0 84 (dk_at dksX9_down_6 19 rfl rfl)
theorem dX9_down_162 : decode cX9_down 162 = .ok (.iload_n 1, 1) := dk_27 (dk_at dksX9_down_6 22 rfl rfl)
theorem dX9_down_163 : decode cX9_down 163 = .ok (.laload, 1) := dk_47 (dk_at dksX9_down_6 23 rfl rfl)
theorem dX9_down_164 : decode cX9_down 164 = .ok (.lreturn, 1) := dk_173 (dk_at dksX9_down_7 0 rfl rfl)
abbrev cX9_nearest : ByteArray := prog_14_method_79_code
def yX9_nearest : MethodName := ⟨RX9, "nearest", "(II)I"⟩
def dkwX9_nearest_4 : List UInt8 := [167, 0, 9, 29, 27, 130, 184, 1, 36, 172]
abbrev dktX9_nearest_4 : List UInt8 := dkwX9_nearest_4 ++ []
def dkwX9_nearest_3 : List UInt8 := [27, 130, 184, 1, 36, 162, 0, 6, 21, 4, 62, 132, 4, 1, 167, 255, 202, 28, 154, 0, 7, 29]
abbrev dktX9_nearest_3 : List UInt8 := dkwX9_nearest_3 ++ dktX9_nearest_4
def dkwX9_nearest_2 : List UInt8 := [42, 180, 0, 63, 3, 46, 159, 0, 6, 167, 0, 26, 29, 155, 0, 19, 21, 4, 27, 130, 184, 1, 36, 29]
abbrev dktX9_nearest_2 : List UInt8 := dkwX9_nearest_2 ++ dktX9_nearest_3
def dkwX9_nearest_1 : List UInt8 := [182, 1, 5, 2, 62, 3, 54, 4, 21, 4, 42, 182, 1, 14, 162, 0, 51, 42, 180, 0, 57, 21, 4, 46]
abbrev dktX9_nearest_1 : List UInt8 := dkwX9_nearest_1 ++ dktX9_nearest_2
def dkwX9_nearest_0 : List UInt8 := [42, 27, 182, 1, 25, 153, 0, 12, 28, 3, 4, 184, 0, 213, 154, 0, 7, 19, 1, 32, 172, 42]
abbrev dktX9_nearest_0 : List UInt8 := dkwX9_nearest_0 ++ dktX9_nearest_1
theorem dksX9_nearest_0 : cX9_nearest.data.toList.drop 0 = dktX9_nearest_0 := by decide +kernel
theorem dksX9_nearest_1 : cX9_nearest.data.toList.drop 22 = dktX9_nearest_1 := dk_seg dksX9_nearest_0 22 rfl rfl
theorem dksX9_nearest_2 : cX9_nearest.data.toList.drop 46 = dktX9_nearest_2 := dk_seg dksX9_nearest_1 24 rfl rfl
theorem dksX9_nearest_3 : cX9_nearest.data.toList.drop 70 = dktX9_nearest_3 := dk_seg dksX9_nearest_2 24 rfl rfl
theorem dksX9_nearest_4 : cX9_nearest.data.toList.drop 92 = dktX9_nearest_4 := dk_seg dksX9_nearest_3 22 rfl rfl
theorem dX9_nearest_0 : decode cX9_nearest 0 = .ok (.aload_n 0, 1) := dk_42 (dk_at dksX9_nearest_0 0 rfl rfl)
theorem dX9_nearest_1 : decode cX9_nearest 1 = .ok (.iload_n 1, 1) := dk_27 (dk_at dksX9_nearest_0 1 rfl rfl)
theorem dX9_nearest_2 : decode cX9_nearest 2 = .ok (.invokevirtual 281, 3) := dk_182 1 25 (dk_at dksX9_nearest_0 2 rfl rfl)
theorem dX9_nearest_5 : decode cX9_nearest 5 = .ok (.ifCond .eq 12, 3) := dk_153 0 12 (dk_at dksX9_nearest_0 5 rfl rfl)
theorem dX9_nearest_8 : decode cX9_nearest 8 = .ok (.iload_n 2, 1) := dk_28 (dk_at dksX9_nearest_0 8 rfl rfl)
theorem dX9_nearest_9 : decode cX9_nearest 9 = .ok (.iconst 0, 1) := dk_3 (dk_at dksX9_nearest_0 9 rfl rfl)
theorem dX9_nearest_10 : decode cX9_nearest 10 = .ok (.iconst 1, 1) := dk_4 (dk_at dksX9_nearest_0 10 rfl rfl)
theorem dX9_nearest_11 : decode cX9_nearest 11 = .ok (.invokestatic 213, 3) := dk_184 0 213 (dk_at dksX9_nearest_0 11 rfl rfl)
theorem dX9_nearest_14 : decode cX9_nearest 14 = .ok (.ifCond .ne 7, 3) := dk_154 0 7 (dk_at dksX9_nearest_0 14 rfl rfl)
theorem dX9_nearest_17 : decode cX9_nearest 17 = .ok (.ldc_w 288, 3) := dk_19 1 32 (dk_at dksX9_nearest_0 17 rfl rfl)
theorem dX9_nearest_20 : decode cX9_nearest 20 = .ok (.ireturn, 1) := dk_172 (dk_at dksX9_nearest_0 20 rfl rfl)
theorem dX9_nearest_21 : decode cX9_nearest 21 = .ok (.aload_n 0, 1) := dk_42 (dk_at dksX9_nearest_0 21 rfl rfl)
theorem dX9_nearest_22 : decode cX9_nearest 22 = .ok (.invokevirtual 261, 3) := dk_182 1 5 (dk_at dksX9_nearest_1 0 rfl rfl)
theorem dX9_nearest_25 : decode cX9_nearest 25 = .ok (.iconst (-1), 1) := dk_2 (dk_at dksX9_nearest_1 3 rfl rfl)
theorem dX9_nearest_26 : decode cX9_nearest 26 = .ok (.istore_n 3, 1) := dk_62 (dk_at dksX9_nearest_1 4 rfl rfl)
theorem dX9_nearest_27 : decode cX9_nearest 27 = .ok (.iconst 0, 1) := dk_3 (dk_at dksX9_nearest_1 5 rfl rfl)
theorem dX9_nearest_28 : decode cX9_nearest 28 = .ok (.istore 4, 2) := dk_54 4 (dk_at dksX9_nearest_1 6 rfl rfl)
theorem dX9_nearest_30 : decode cX9_nearest 30 = .ok (.iload 4, 2) := dk_21 4 (dk_at dksX9_nearest_1 8 rfl rfl)
theorem dX9_nearest_32 : decode cX9_nearest 32 = .ok (.aload_n 0, 1) := dk_42 (dk_at dksX9_nearest_1 10 rfl rfl)
theorem dX9_nearest_33 : decode cX9_nearest 33 = .ok (.invokevirtual 270, 3) := dk_182 1 14 (dk_at dksX9_nearest_1 11 rfl rfl)
theorem dX9_nearest_36 : decode cX9_nearest 36 = .ok (.if_icmp .ge 51, 3) := dk_162 0 51 (dk_at dksX9_nearest_1 14 rfl rfl)
theorem dX9_nearest_39 : decode cX9_nearest 39 = .ok (.aload_n 0, 1) := dk_42 (dk_at dksX9_nearest_1 17 rfl rfl)
theorem dX9_nearest_40 : decode cX9_nearest 40 = .ok (.getfield 57, 3) := dk_180 0 57 (dk_at dksX9_nearest_1 18 rfl rfl)
theorem dX9_nearest_43 : decode cX9_nearest 43 = .ok (.iload 4, 2) := dk_21 4 (dk_at dksX9_nearest_1 21 rfl rfl)
theorem dX9_nearest_45 : decode cX9_nearest 45 = .ok (.iaload, 1) := dk_46 (dk_at dksX9_nearest_1 23 rfl rfl)
theorem dX9_nearest_46 : decode cX9_nearest 46 = .ok (.aload_n 0, 1) := dk_42 (dk_at dksX9_nearest_2 0 rfl rfl)
theorem dX9_nearest_47 : decode cX9_nearest 47 = .ok (.getfield 63, 3) := dk_180 0 63 (dk_at dksX9_nearest_2 1 rfl rfl)
theorem dX9_nearest_50 : decode cX9_nearest 50 = .ok (.iconst 0, 1) := dk_3 (dk_at dksX9_nearest_2 4 rfl rfl)
theorem dX9_nearest_51 : decode cX9_nearest 51 = .ok (.iaload, 1) := dk_46 (dk_at dksX9_nearest_2 5 rfl rfl)
theorem dX9_nearest_52 : decode cX9_nearest 52 = .ok (.if_icmp .eq 6, 3) := dk_159 0 6 (dk_at dksX9_nearest_2 6 rfl rfl)
theorem dX9_nearest_55 : decode cX9_nearest 55 = .ok (.goto 26, 3) := dk_167 0 26 (dk_at dksX9_nearest_2 9 rfl rfl)
theorem dX9_nearest_58 : decode cX9_nearest 58 = .ok (.iload_n 3, 1) := dk_29 (dk_at dksX9_nearest_2 12 rfl rfl)
theorem dX9_nearest_59 : decode cX9_nearest 59 = .ok (.ifCond .lt 19, 3) := dk_155 0 19 (dk_at dksX9_nearest_2 13 rfl rfl)
theorem dX9_nearest_62 : decode cX9_nearest 62 = .ok (.iload 4, 2) := dk_21 4 (dk_at dksX9_nearest_2 16 rfl rfl)
theorem dX9_nearest_64 : decode cX9_nearest 64 = .ok (.iload_n 1, 1) := dk_27 (dk_at dksX9_nearest_2 18 rfl rfl)
theorem dX9_nearest_65 : decode cX9_nearest 65 = .ok (.ixor, 1) := dk_130 (dk_at dksX9_nearest_2 19 rfl rfl)
theorem dX9_nearest_66 : decode cX9_nearest 66 = .ok (.invokestatic 292, 3) := dk_184 1 36 (dk_at dksX9_nearest_2 20 rfl rfl)
theorem dX9_nearest_69 : decode cX9_nearest 69 = .ok (.iload_n 3, 1) := dk_29 (dk_at dksX9_nearest_2 23 rfl rfl)
theorem dX9_nearest_70 : decode cX9_nearest 70 = .ok (.iload_n 1, 1) := dk_27 (dk_at dksX9_nearest_3 0 rfl rfl)
theorem dX9_nearest_71 : decode cX9_nearest 71 = .ok (.ixor, 1) := dk_130 (dk_at dksX9_nearest_3 1 rfl rfl)
theorem dX9_nearest_72 : decode cX9_nearest 72 = .ok (.invokestatic 292, 3) := dk_184 1 36 (dk_at dksX9_nearest_3 2 rfl rfl)
theorem dX9_nearest_75 : decode cX9_nearest 75 = .ok (.if_icmp .ge 6, 3) := dk_162 0 6 (dk_at dksX9_nearest_3 5 rfl rfl)
theorem dX9_nearest_78 : decode cX9_nearest 78 = .ok (.iload 4, 2) := dk_21 4 (dk_at dksX9_nearest_3 8 rfl rfl)
theorem dX9_nearest_80 : decode cX9_nearest 80 = .ok (.istore_n 3, 1) := dk_62 (dk_at dksX9_nearest_3 10 rfl rfl)
theorem dX9_nearest_81 : decode cX9_nearest 81 = .ok (.iinc 4 1, 3) := dk_132 4 1 (dk_at dksX9_nearest_3 11 rfl rfl)
theorem dX9_nearest_84 : decode cX9_nearest 84 = .ok (.goto (-54), 3) := dk_167 255 202 (dk_at dksX9_nearest_3 14 rfl rfl)
theorem dX9_nearest_87 : decode cX9_nearest 87 = .ok (.iload_n 2, 1) := dk_28 (dk_at dksX9_nearest_3 17 rfl rfl)
theorem dX9_nearest_88 : decode cX9_nearest 88 = .ok (.ifCond .ne 7, 3) := dk_154 0 7 (dk_at dksX9_nearest_3 18 rfl rfl)
theorem dX9_nearest_91 : decode cX9_nearest 91 = .ok (.iload_n 3, 1) := dk_29 (dk_at dksX9_nearest_3 21 rfl rfl)
theorem dX9_nearest_92 : decode cX9_nearest 92 = .ok (.goto 9, 3) := dk_167 0 9 (dk_at dksX9_nearest_4 0 rfl rfl)
theorem dX9_nearest_95 : decode cX9_nearest 95 = .ok (.iload_n 3, 1) := dk_29 (dk_at dksX9_nearest_4 3 rfl rfl)
theorem dX9_nearest_96 : decode cX9_nearest 96 = .ok (.iload_n 1, 1) := dk_27 (dk_at dksX9_nearest_4 4 rfl rfl)
theorem dX9_nearest_97 : decode cX9_nearest 97 = .ok (.ixor, 1) := dk_130 (dk_at dksX9_nearest_4 5 rfl rfl)
theorem dX9_nearest_98 : decode cX9_nearest 98 = .ok (.invokestatic 292, 3) := dk_184 1 36 (dk_at dksX9_nearest_4 6 rfl rfl)
theorem dX9_nearest_101 : decode cX9_nearest 101 = .ok (.ireturn, 1) := dk_172 (dk_at dksX9_nearest_4 9 rfl rfl)
abbrev cX9_stiff : ByteArray := prog_14_method_80_code
def yX9_stiff : MethodName := ⟨RX9, "stiff", "(II)I"⟩
def dkwX9_stiff_5 : List UInt8 := [159, 0, 11, 21, 4, 19, 1, 28, 160, 0, 9, 19, 1, 32, 167, 0, 7, 21, 4, 29, 100, 172]
abbrev dktX9_stiff_5 : List UInt8 := dkwX9_stiff_5 ++ []
def dkwX9_stiff_4 : List UInt8 := [21, 4, 162, 0, 12, 42, 180, 0, 57, 21, 5, 46, 54, 4, 132, 5, 1, 167, 255, 186, 29, 19, 1, 28]
abbrev dktX9_stiff_4 : List UInt8 := dkwX9_stiff_4 ++ dktX9_stiff_5
def dkwX9_stiff_3 : List UInt8 := [46, 29, 162, 0, 35, 42, 180, 0, 57, 21, 5, 46, 62, 167, 0, 24, 42, 180, 0, 57, 21, 5, 46]
abbrev dktX9_stiff_3 : List UInt8 := dkwX9_stiff_3 ++ dktX9_stiff_4
def dkwX9_stiff_2 : List UInt8 := [162, 0, 67, 21, 5, 27, 184, 1, 45, 21, 5, 28, 184, 1, 45, 160, 0, 25, 42, 180, 0, 57, 21, 5]
abbrev dktX9_stiff_2 : List UInt8 := dkwX9_stiff_2 ++ dktX9_stiff_3
def dkwX9_stiff_1 : List UInt8 := [172, 42, 182, 1, 5, 19, 1, 28, 62, 19, 1, 28, 54, 4, 3, 54, 5, 21, 5, 42, 182, 1, 14]
abbrev dktX9_stiff_1 : List UInt8 := dkwX9_stiff_1 ++ dktX9_stiff_2
def dkwX9_stiff_0 : List UInt8 := [42, 27, 182, 0, 233, 153, 0, 16, 42, 28, 182, 0, 233, 153, 0, 8, 27, 28, 160, 0, 7, 19, 1, 32]
abbrev dktX9_stiff_0 : List UInt8 := dkwX9_stiff_0 ++ dktX9_stiff_1
theorem dksX9_stiff_0 : cX9_stiff.data.toList.drop 0 = dktX9_stiff_0 := by decide +kernel
theorem dksX9_stiff_1 : cX9_stiff.data.toList.drop 24 = dktX9_stiff_1 := dk_seg dksX9_stiff_0 24 rfl rfl
theorem dksX9_stiff_2 : cX9_stiff.data.toList.drop 47 = dktX9_stiff_2 := dk_seg dksX9_stiff_1 23 rfl rfl
theorem dksX9_stiff_3 : cX9_stiff.data.toList.drop 71 = dktX9_stiff_3 := dk_seg dksX9_stiff_2 24 rfl rfl
theorem dksX9_stiff_4 : cX9_stiff.data.toList.drop 94 = dktX9_stiff_4 := dk_seg dksX9_stiff_3 23 rfl rfl
theorem dksX9_stiff_5 : cX9_stiff.data.toList.drop 118 = dktX9_stiff_5 := dk_seg dksX9_stiff_4 24 rfl rfl
theorem dX9_stiff_0 : decode cX9_stiff 0 = .ok (.aload_n 0, 1) := dk_42 (dk_at dksX9_stiff_0 0 rfl rfl)
theorem dX9_stiff_1 : decode cX9_stiff 1 = .ok (.iload_n 1, 1) := dk_27 (dk_at dksX9_stiff_0 1 rfl rfl)
theorem dX9_stiff_2 : decode cX9_stiff 2 = .ok (.invokevirtual 233, 3) := dk_182 0 233 (dk_at dksX9_stiff_0 2 rfl rfl)
theorem dX9_stiff_5 : decode cX9_stiff 5 = .ok (.ifCond .eq 16, 3) := dk_153 0 16 (dk_at dksX9_stiff_0 5 rfl rfl)
theorem dX9_stiff_8 : decode cX9_stiff 8 = .ok (.aload_n 0, 1) := dk_42 (dk_at dksX9_stiff_0 8 rfl rfl)
theorem dX9_stiff_9 : decode cX9_stiff 9 = .ok (.iload_n 2, 1) := dk_28 (dk_at dksX9_stiff_0 9 rfl rfl)
theorem dX9_stiff_10 : decode cX9_stiff 10 = .ok (.invokevirtual 233, 3) := dk_182 0 233 (dk_at dksX9_stiff_0 10 rfl rfl)
theorem dX9_stiff_13 : decode cX9_stiff 13 = .ok (.ifCond .eq 8, 3) := dk_153 0 8 (dk_at dksX9_stiff_0 13 rfl rfl)
theorem dX9_stiff_16 : decode cX9_stiff 16 = .ok (.iload_n 1, 1) := dk_27 (dk_at dksX9_stiff_0 16 rfl rfl)
theorem dX9_stiff_17 : decode cX9_stiff 17 = .ok (.iload_n 2, 1) := dk_28 (dk_at dksX9_stiff_0 17 rfl rfl)
theorem dX9_stiff_18 : decode cX9_stiff 18 = .ok (.if_icmp .ne 7, 3) := dk_160 0 7 (dk_at dksX9_stiff_0 18 rfl rfl)
theorem dX9_stiff_21 : decode cX9_stiff 21 = .ok (.ldc_w 288, 3) := dk_19 1 32 (dk_at dksX9_stiff_0 21 rfl rfl)
theorem dX9_stiff_24 : decode cX9_stiff 24 = .ok (.ireturn, 1) := dk_172 (dk_at dksX9_stiff_1 0 rfl rfl)
theorem dX9_stiff_25 : decode cX9_stiff 25 = .ok (.aload_n 0, 1) := dk_42 (dk_at dksX9_stiff_1 1 rfl rfl)
theorem dX9_stiff_26 : decode cX9_stiff 26 = .ok (.invokevirtual 261, 3) := dk_182 1 5 (dk_at dksX9_stiff_1 2 rfl rfl)
theorem dX9_stiff_29 : decode cX9_stiff 29 = .ok (.ldc_w 284, 3) := dk_19 1 28 (dk_at dksX9_stiff_1 5 rfl rfl)
theorem dX9_stiff_32 : decode cX9_stiff 32 = .ok (.istore_n 3, 1) := dk_62 (dk_at dksX9_stiff_1 8 rfl rfl)
theorem dX9_stiff_33 : decode cX9_stiff 33 = .ok (.ldc_w 284, 3) := dk_19 1 28 (dk_at dksX9_stiff_1 9 rfl rfl)
theorem dX9_stiff_36 : decode cX9_stiff 36 = .ok (.istore 4, 2) := dk_54 4 (dk_at dksX9_stiff_1 12 rfl rfl)
theorem dX9_stiff_38 : decode cX9_stiff 38 = .ok (.iconst 0, 1) := dk_3 (dk_at dksX9_stiff_1 14 rfl rfl)
theorem dX9_stiff_39 : decode cX9_stiff 39 = .ok (.istore 5, 2) := dk_54 5 (dk_at dksX9_stiff_1 15 rfl rfl)
theorem dX9_stiff_41 : decode cX9_stiff 41 = .ok (.iload 5, 2) := dk_21 5 (dk_at dksX9_stiff_1 17 rfl rfl)
theorem dX9_stiff_43 : decode cX9_stiff 43 = .ok (.aload_n 0, 1) := dk_42 (dk_at dksX9_stiff_1 19 rfl rfl)
theorem dX9_stiff_44 : decode cX9_stiff 44 = .ok (.invokevirtual 270, 3) := dk_182 1 14 (dk_at dksX9_stiff_1 20 rfl rfl)
theorem dX9_stiff_47 : decode cX9_stiff 47 = .ok (.if_icmp .ge 67, 3) := dk_162 0 67 (dk_at dksX9_stiff_2 0 rfl rfl)
theorem dX9_stiff_50 : decode cX9_stiff 50 = .ok (.iload 5, 2) := dk_21 5 (dk_at dksX9_stiff_2 3 rfl rfl)
theorem dX9_stiff_52 : decode cX9_stiff 52 = .ok (.iload_n 1, 1) := dk_27 (dk_at dksX9_stiff_2 5 rfl rfl)
theorem dX9_stiff_53 : decode cX9_stiff 53 = .ok (.invokestatic 301, 3) := dk_184 1 45 (dk_at dksX9_stiff_2 6 rfl rfl)
theorem dX9_stiff_56 : decode cX9_stiff 56 = .ok (.iload 5, 2) := dk_21 5 (dk_at dksX9_stiff_2 9 rfl rfl)
theorem dX9_stiff_58 : decode cX9_stiff 58 = .ok (.iload_n 2, 1) := dk_28 (dk_at dksX9_stiff_2 11 rfl rfl)
theorem dX9_stiff_59 : decode cX9_stiff 59 = .ok (.invokestatic 301, 3) := dk_184 1 45 (dk_at dksX9_stiff_2 12 rfl rfl)
theorem dX9_stiff_62 : decode cX9_stiff 62 = .ok (.if_icmp .ne 25, 3) := dk_160 0 25 (dk_at dksX9_stiff_2 15 rfl rfl)
theorem dX9_stiff_65 : decode cX9_stiff 65 = .ok (.aload_n 0, 1) := dk_42 (dk_at dksX9_stiff_2 18 rfl rfl)
theorem dX9_stiff_66 : decode cX9_stiff 66 = .ok (.getfield 57, 3) := dk_180 0 57 (dk_at dksX9_stiff_2 19 rfl rfl)
theorem dX9_stiff_69 : decode cX9_stiff 69 = .ok (.iload 5, 2) := dk_21 5 (dk_at dksX9_stiff_2 22 rfl rfl)
theorem dX9_stiff_71 : decode cX9_stiff 71 = .ok (.iaload, 1) := dk_46 (dk_at dksX9_stiff_3 0 rfl rfl)
theorem dX9_stiff_72 : decode cX9_stiff 72 = .ok (.iload_n 3, 1) := dk_29 (dk_at dksX9_stiff_3 1 rfl rfl)
theorem dX9_stiff_73 : decode cX9_stiff 73 = .ok (.if_icmp .ge 35, 3) := dk_162 0 35 (dk_at dksX9_stiff_3 2 rfl rfl)
theorem dX9_stiff_76 : decode cX9_stiff 76 = .ok (.aload_n 0, 1) := dk_42 (dk_at dksX9_stiff_3 5 rfl rfl)
theorem dX9_stiff_77 : decode cX9_stiff 77 = .ok (.getfield 57, 3) := dk_180 0 57 (dk_at dksX9_stiff_3 6 rfl rfl)
theorem dX9_stiff_80 : decode cX9_stiff 80 = .ok (.iload 5, 2) := dk_21 5 (dk_at dksX9_stiff_3 9 rfl rfl)
theorem dX9_stiff_82 : decode cX9_stiff 82 = .ok (.iaload, 1) := dk_46 (dk_at dksX9_stiff_3 11 rfl rfl)
theorem dX9_stiff_83 : decode cX9_stiff 83 = .ok (.istore_n 3, 1) := dk_62 (dk_at dksX9_stiff_3 12 rfl rfl)
theorem dX9_stiff_84 : decode cX9_stiff 84 = .ok (.goto 24, 3) := dk_167 0 24 (dk_at dksX9_stiff_3 13 rfl rfl)
theorem dX9_stiff_87 : decode cX9_stiff 87 = .ok (.aload_n 0, 1) := dk_42 (dk_at dksX9_stiff_3 16 rfl rfl)
theorem dX9_stiff_88 : decode cX9_stiff 88 = .ok (.getfield 57, 3) := dk_180 0 57 (dk_at dksX9_stiff_3 17 rfl rfl)
theorem dX9_stiff_91 : decode cX9_stiff 91 = .ok (.iload 5, 2) := dk_21 5 (dk_at dksX9_stiff_3 20 rfl rfl)
theorem dX9_stiff_93 : decode cX9_stiff 93 = .ok (.iaload, 1) := dk_46 (dk_at dksX9_stiff_3 22 rfl rfl)
theorem dX9_stiff_94 : decode cX9_stiff 94 = .ok (.iload 4, 2) := dk_21 4 (dk_at dksX9_stiff_4 0 rfl rfl)
theorem dX9_stiff_96 : decode cX9_stiff 96 = .ok (.if_icmp .ge 12, 3) := dk_162 0 12 (dk_at dksX9_stiff_4 2 rfl rfl)
theorem dX9_stiff_99 : decode cX9_stiff 99 = .ok (.aload_n 0, 1) := dk_42 (dk_at dksX9_stiff_4 5 rfl rfl)
theorem dX9_stiff_100 : decode cX9_stiff 100 = .ok (.getfield 57, 3) := dk_180 0 57 (dk_at dksX9_stiff_4 6 rfl rfl)
theorem dX9_stiff_103 : decode cX9_stiff 103 = .ok (.iload 5, 2) := dk_21 5 (dk_at dksX9_stiff_4 9 rfl rfl)
theorem dX9_stiff_105 : decode cX9_stiff 105 = .ok (.iaload, 1) := dk_46 (dk_at dksX9_stiff_4 11 rfl rfl)
theorem dX9_stiff_106 : decode cX9_stiff 106 = .ok (.istore 4, 2) := dk_54 4 (dk_at dksX9_stiff_4 12 rfl rfl)
theorem dX9_stiff_108 : decode cX9_stiff 108 = .ok (.iinc 5 1, 3) := dk_132 5 1 (dk_at dksX9_stiff_4 14 rfl rfl)
theorem dX9_stiff_111 : decode cX9_stiff 111 = .ok (.goto (-70), 3) := dk_167 255 186 (dk_at dksX9_stiff_4 17 rfl rfl)
theorem dX9_stiff_114 : decode cX9_stiff 114 = .ok (.iload_n 3, 1) := dk_29 (dk_at dksX9_stiff_4 20 rfl rfl)
theorem dX9_stiff_115 : decode cX9_stiff 115 = .ok (.ldc_w 284, 3) := dk_19 1 28 (dk_at dksX9_stiff_4 21 rfl rfl)
theorem dX9_stiff_118 : decode cX9_stiff 118 = .ok (.if_icmp .eq 11, 3) := dk_159 0 11 (dk_at dksX9_stiff_5 0 rfl rfl)
theorem dX9_stiff_121 : decode cX9_stiff 121 = .ok (.iload 4, 2) := dk_21 4 (dk_at dksX9_stiff_5 3 rfl rfl)
theorem dX9_stiff_123 : decode cX9_stiff 123 = .ok (.ldc_w 284, 3) := dk_19 1 28 (dk_at dksX9_stiff_5 5 rfl rfl)
theorem dX9_stiff_126 : decode cX9_stiff 126 = .ok (.if_icmp .ne 9, 3) := dk_160 0 9 (dk_at dksX9_stiff_5 8 rfl rfl)
theorem dX9_stiff_129 : decode cX9_stiff 129 = .ok (.ldc_w 288, 3) := dk_19 1 32 (dk_at dksX9_stiff_5 11 rfl rfl)
theorem dX9_stiff_132 : decode cX9_stiff 132 = .ok (.goto 7, 3) := dk_167 0 7 (dk_at dksX9_stiff_5 14 rfl rfl)
theorem dX9_stiff_135 : decode cX9_stiff 135 = .ok (.iload 4, 2) := dk_21 4 (dk_at dksX9_stiff_5 17 rfl rfl)
theorem dX9_stiff_137 : decode cX9_stiff 137 = .ok (.iload_n 3, 1) := dk_29 (dk_at dksX9_stiff_5 19 rfl rfl)
theorem dX9_stiff_138 : decode cX9_stiff 138 = .ok (.isub, 1) := dk_100 (dk_at dksX9_stiff_5 20 rfl rfl)
theorem dX9_stiff_139 : decode cX9_stiff 139 = .ok (.ireturn, 1) := dk_172 (dk_at dksX9_stiff_5 21 rfl rfl)
abbrev cX9_overlap : ByteArray := prog_14_method_81_code
def yX9_overlap : MethodName := ⟨RX9, "overlap", "(I)I"⟩
def dkwX9_overlap_5 : List UInt8 := [132, 2, 1, 132, 4, 1, 167, 255, 179, 29, 172]
abbrev dktX9_overlap_5 : List UInt8 := dkwX9_overlap_5 ++ []
def dkwX9_overlap_4 : List UInt8 := [184, 1, 36, 27, 160, 0, 6, 132, 3, 1, 132, 5, 1, 167, 255, 227, 42, 180, 0, 87, 28, 21, 4, 79]
abbrev dktX9_overlap_4 : List UInt8 := dkwX9_overlap_4 ++ dktX9_overlap_5
def dkwX9_overlap_3 : List UInt8 := [167, 0, 49, 3, 54, 5, 21, 5, 28, 162, 0, 29, 21, 4, 42, 180, 0, 87, 21, 5, 46, 130]
abbrev dktX9_overlap_3 : List UInt8 := dkwX9_overlap_3 ++ dktX9_overlap_4
def dkwX9_overlap_2 : List UInt8 := [182, 1, 14, 162, 0, 74, 42, 180, 0, 57, 21, 4, 46, 42, 180, 0, 63, 3, 46, 159, 0, 6]
abbrev dktX9_overlap_2 : List UInt8 := dkwX9_overlap_2 ++ dktX9_overlap_3
def dkwX9_overlap_1 : List UInt8 := [3, 46, 96, 46, 17, 1, 0, 164, 0, 6, 16, 254, 172, 3, 61, 3, 62, 3, 54, 4, 21, 4, 42]
abbrev dktX9_overlap_1 : List UInt8 := dkwX9_overlap_1 ++ dktX9_overlap_2
def dkwX9_overlap_0 : List UInt8 := [42, 182, 1, 5, 42, 180, 1, 29, 154, 0, 5, 3, 172, 42, 180, 0, 60, 17, 0, 150, 42, 180, 0, 63]
abbrev dktX9_overlap_0 : List UInt8 := dkwX9_overlap_0 ++ dktX9_overlap_1
theorem dksX9_overlap_0 : cX9_overlap.data.toList.drop 0 = dktX9_overlap_0 := by decide +kernel
theorem dksX9_overlap_1 : cX9_overlap.data.toList.drop 24 = dktX9_overlap_1 := dk_seg dksX9_overlap_0 24 rfl rfl
theorem dksX9_overlap_2 : cX9_overlap.data.toList.drop 47 = dktX9_overlap_2 := dk_seg dksX9_overlap_1 23 rfl rfl
theorem dksX9_overlap_3 : cX9_overlap.data.toList.drop 69 = dktX9_overlap_3 := dk_seg dksX9_overlap_2 22 rfl rfl
theorem dksX9_overlap_4 : cX9_overlap.data.toList.drop 91 = dktX9_overlap_4 := dk_seg dksX9_overlap_3 22 rfl rfl
theorem dksX9_overlap_5 : cX9_overlap.data.toList.drop 115 = dktX9_overlap_5 := dk_seg dksX9_overlap_4 24 rfl rfl
theorem dX9_overlap_0 : decode cX9_overlap 0 = .ok (.aload_n 0, 1) := dk_42 (dk_at dksX9_overlap_0 0 rfl rfl)
theorem dX9_overlap_1 : decode cX9_overlap 1 = .ok (.invokevirtual 261, 3) := dk_182 1 5 (dk_at dksX9_overlap_0 1 rfl rfl)
theorem dX9_overlap_4 : decode cX9_overlap 4 = .ok (.aload_n 0, 1) := dk_42 (dk_at dksX9_overlap_0 4 rfl rfl)
theorem dX9_overlap_5 : decode cX9_overlap 5 = .ok (.getfield 285, 3) := dk_180 1 29 (dk_at dksX9_overlap_0 5 rfl rfl)
theorem dX9_overlap_8 : decode cX9_overlap 8 = .ok (.ifCond .ne 5, 3) := dk_154 0 5 (dk_at dksX9_overlap_0 8 rfl rfl)
theorem dX9_overlap_11 : decode cX9_overlap 11 = .ok (.iconst 0, 1) := dk_3 (dk_at dksX9_overlap_0 11 rfl rfl)
theorem dX9_overlap_12 : decode cX9_overlap 12 = .ok (.ireturn, 1) := dk_172 (dk_at dksX9_overlap_0 12 rfl rfl)
theorem dX9_overlap_13 : decode cX9_overlap 13 = .ok (.aload_n 0, 1) := dk_42 (dk_at dksX9_overlap_0 13 rfl rfl)
theorem dX9_overlap_14 : decode cX9_overlap 14 = .ok (.getfield 60, 3) := dk_180 0 60 (dk_at dksX9_overlap_0 14 rfl rfl)
theorem dX9_overlap_17 : decode cX9_overlap 17 = .ok (.sipush 150, 3) := dk_17 0 150 (dk_at dksX9_overlap_0 17 rfl rfl)
theorem dX9_overlap_20 : decode cX9_overlap 20 = .ok (.aload_n 0, 1) := dk_42 (dk_at dksX9_overlap_0 20 rfl rfl)
theorem dX9_overlap_21 : decode cX9_overlap 21 = .ok (.getfield 63, 3) := dk_180 0 63 (dk_at dksX9_overlap_0 21 rfl rfl)
theorem dX9_overlap_24 : decode cX9_overlap 24 = .ok (.iconst 0, 1) := dk_3 (dk_at dksX9_overlap_1 0 rfl rfl)
theorem dX9_overlap_25 : decode cX9_overlap 25 = .ok (.iaload, 1) := dk_46 (dk_at dksX9_overlap_1 1 rfl rfl)
theorem dX9_overlap_26 : decode cX9_overlap 26 = .ok (.iadd, 1) := dk_96 (dk_at dksX9_overlap_1 2 rfl rfl)
theorem dX9_overlap_27 : decode cX9_overlap 27 = .ok (.iaload, 1) := dk_46 (dk_at dksX9_overlap_1 3 rfl rfl)
theorem dX9_overlap_28 : decode cX9_overlap 28 = .ok (.sipush 256, 3) := dk_17 1 0 (dk_at dksX9_overlap_1 4 rfl rfl)
theorem dX9_overlap_31 : decode cX9_overlap 31 = .ok (.if_icmp .le 6, 3) := dk_164 0 6 (dk_at dksX9_overlap_1 7 rfl rfl)
theorem dX9_overlap_34 : decode cX9_overlap 34 = .ok (.bipush (-2), 2) := dk_16 254 (dk_at dksX9_overlap_1 10 rfl rfl)
theorem dX9_overlap_36 : decode cX9_overlap 36 = .ok (.ireturn, 1) := dk_172 (dk_at dksX9_overlap_1 12 rfl rfl)
theorem dX9_overlap_37 : decode cX9_overlap 37 = .ok (.iconst 0, 1) := dk_3 (dk_at dksX9_overlap_1 13 rfl rfl)
theorem dX9_overlap_38 : decode cX9_overlap 38 = .ok (.istore_n 2, 1) := dk_61 (dk_at dksX9_overlap_1 14 rfl rfl)
theorem dX9_overlap_39 : decode cX9_overlap 39 = .ok (.iconst 0, 1) := dk_3 (dk_at dksX9_overlap_1 15 rfl rfl)
theorem dX9_overlap_40 : decode cX9_overlap 40 = .ok (.istore_n 3, 1) := dk_62 (dk_at dksX9_overlap_1 16 rfl rfl)
theorem dX9_overlap_41 : decode cX9_overlap 41 = .ok (.iconst 0, 1) := dk_3 (dk_at dksX9_overlap_1 17 rfl rfl)
theorem dX9_overlap_42 : decode cX9_overlap 42 = .ok (.istore 4, 2) := dk_54 4 (dk_at dksX9_overlap_1 18 rfl rfl)
theorem dX9_overlap_44 : decode cX9_overlap 44 = .ok (.iload 4, 2) := dk_21 4 (dk_at dksX9_overlap_1 20 rfl rfl)
theorem dX9_overlap_46 : decode cX9_overlap 46 = .ok (.aload_n 0, 1) := dk_42 (dk_at dksX9_overlap_1 22 rfl rfl)
theorem dX9_overlap_47 : decode cX9_overlap 47 = .ok (.invokevirtual 270, 3) := dk_182 1 14 (dk_at dksX9_overlap_2 0 rfl rfl)
theorem dX9_overlap_50 : decode cX9_overlap 50 = .ok (.if_icmp .ge 74, 3) := dk_162 0 74 (dk_at dksX9_overlap_2 3 rfl rfl)
theorem dX9_overlap_53 : decode cX9_overlap 53 = .ok (.aload_n 0, 1) := dk_42 (dk_at dksX9_overlap_2 6 rfl rfl)
theorem dX9_overlap_54 : decode cX9_overlap 54 = .ok (.getfield 57, 3) := dk_180 0 57 (dk_at dksX9_overlap_2 7 rfl rfl)
theorem dX9_overlap_57 : decode cX9_overlap 57 = .ok (.iload 4, 2) := dk_21 4 (dk_at dksX9_overlap_2 10 rfl rfl)
theorem dX9_overlap_59 : decode cX9_overlap 59 = .ok (.iaload, 1) := dk_46 (dk_at dksX9_overlap_2 12 rfl rfl)
theorem dX9_overlap_60 : decode cX9_overlap 60 = .ok (.aload_n 0, 1) := dk_42 (dk_at dksX9_overlap_2 13 rfl rfl)
theorem dX9_overlap_61 : decode cX9_overlap 61 = .ok (.getfield 63, 3) := dk_180 0 63 (dk_at dksX9_overlap_2 14 rfl rfl)
theorem dX9_overlap_64 : decode cX9_overlap 64 = .ok (.iconst 0, 1) := dk_3 (dk_at dksX9_overlap_2 17 rfl rfl)
theorem dX9_overlap_65 : decode cX9_overlap 65 = .ok (.iaload, 1) := dk_46 (dk_at dksX9_overlap_2 18 rfl rfl)
theorem dX9_overlap_66 : decode cX9_overlap 66 = .ok (.if_icmp .eq 6, 3) := dk_159 0 6 (dk_at dksX9_overlap_2 19 rfl rfl)
theorem dX9_overlap_69 : decode cX9_overlap 69 = .ok (.goto 49, 3) := dk_167 0 49 (dk_at dksX9_overlap_3 0 rfl rfl)
theorem dX9_overlap_72 : decode cX9_overlap 72 = .ok (.iconst 0, 1) := dk_3 (dk_at dksX9_overlap_3 3 rfl rfl)
theorem dX9_overlap_73 : decode cX9_overlap 73 = .ok (.istore 5, 2) := dk_54 5 (dk_at dksX9_overlap_3 4 rfl rfl)
theorem dX9_overlap_75 : decode cX9_overlap 75 = .ok (.iload 5, 2) := dk_21 5 (dk_at dksX9_overlap_3 6 rfl rfl)
theorem dX9_overlap_77 : decode cX9_overlap 77 = .ok (.iload_n 2, 1) := dk_28 (dk_at dksX9_overlap_3 8 rfl rfl)
theorem dX9_overlap_78 : decode cX9_overlap 78 = .ok (.if_icmp .ge 29, 3) := dk_162 0 29 (dk_at dksX9_overlap_3 9 rfl rfl)
theorem dX9_overlap_81 : decode cX9_overlap 81 = .ok (.iload 4, 2) := dk_21 4 (dk_at dksX9_overlap_3 12 rfl rfl)
theorem dX9_overlap_83 : decode cX9_overlap 83 = .ok (.aload_n 0, 1) := dk_42 (dk_at dksX9_overlap_3 14 rfl rfl)
theorem dX9_overlap_84 : decode cX9_overlap 84 = .ok (.getfield 87, 3) := dk_180 0 87 (dk_at dksX9_overlap_3 15 rfl rfl)
theorem dX9_overlap_87 : decode cX9_overlap 87 = .ok (.iload 5, 2) := dk_21 5 (dk_at dksX9_overlap_3 18 rfl rfl)
theorem dX9_overlap_89 : decode cX9_overlap 89 = .ok (.iaload, 1) := dk_46 (dk_at dksX9_overlap_3 20 rfl rfl)
theorem dX9_overlap_90 : decode cX9_overlap 90 = .ok (.ixor, 1) := dk_130 (dk_at dksX9_overlap_3 21 rfl rfl)
theorem dX9_overlap_91 : decode cX9_overlap 91 = .ok (.invokestatic 292, 3) := dk_184 1 36 (dk_at dksX9_overlap_4 0 rfl rfl)
theorem dX9_overlap_94 : decode cX9_overlap 94 = .ok (.iload_n 1, 1) := dk_27 (dk_at dksX9_overlap_4 3 rfl rfl)
theorem dX9_overlap_95 : decode cX9_overlap 95 = .ok (.if_icmp .ne 6, 3) := dk_160 0 6 (dk_at dksX9_overlap_4 4 rfl rfl)
theorem dX9_overlap_98 : decode cX9_overlap 98 = .ok (.iinc 3 1, 3) := dk_132 3 1 (dk_at dksX9_overlap_4 7 rfl rfl)
theorem dX9_overlap_101 : decode cX9_overlap 101 = .ok (.iinc 5 1, 3) := dk_132 5 1 (dk_at dksX9_overlap_4 10 rfl rfl)
theorem dX9_overlap_104 : decode cX9_overlap 104 = .ok (.goto (-29), 3) := dk_167 255 227 (dk_at dksX9_overlap_4 13 rfl rfl)
theorem dX9_overlap_107 : decode cX9_overlap 107 = .ok (.aload_n 0, 1) := dk_42 (dk_at dksX9_overlap_4 16 rfl rfl)
theorem dX9_overlap_108 : decode cX9_overlap 108 = .ok (.getfield 87, 3) := dk_180 0 87 (dk_at dksX9_overlap_4 17 rfl rfl)
theorem dX9_overlap_111 : decode cX9_overlap 111 = .ok (.iload_n 2, 1) := dk_28 (dk_at dksX9_overlap_4 20 rfl rfl)
theorem dX9_overlap_112 : decode cX9_overlap 112 = .ok (.iload 4, 2) := dk_21 4 (dk_at dksX9_overlap_4 21 rfl rfl)
theorem dX9_overlap_114 : decode cX9_overlap 114 = .ok (.iastore, 1) := dk_79 (dk_at dksX9_overlap_4 23 rfl rfl)
theorem dX9_overlap_115 : decode cX9_overlap 115 = .ok (.iinc 2 1, 3) := dk_132 2 1 (dk_at dksX9_overlap_5 0 rfl rfl)
theorem dX9_overlap_118 : decode cX9_overlap 118 = .ok (.iinc 4 1, 3) := dk_132 4 1 (dk_at dksX9_overlap_5 3 rfl rfl)
theorem dX9_overlap_121 : decode cX9_overlap 121 = .ok (.goto (-77), 3) := dk_167 255 179 (dk_at dksX9_overlap_5 6 rfl rfl)
theorem dX9_overlap_124 : decode cX9_overlap 124 = .ok (.iload_n 3, 1) := dk_29 (dk_at dksX9_overlap_5 9 rfl rfl)
theorem dX9_overlap_125 : decode cX9_overlap 125 = .ok (.ireturn, 1) := dk_172 (dk_at dksX9_overlap_5 10 rfl rfl)
abbrev cX9_rows : ByteArray := prog_14_method_82_code
def yX9_rows : MethodName := ⟨RX9, "rows", "(III)I"⟩
def dkwX9_rows_4 : List UInt8 := [29, 160, 0, 6, 132, 4, 1, 132, 6, 1, 167, 255, 196, 21, 4, 172]
abbrev dktX9_rows_4 : List UInt8 := dkwX9_rows_4 ++ []
def dkwX9_rows_3 : List UInt8 := [42, 180, 0, 171, 96, 184, 1, 17, 153, 0, 23, 42, 42, 180, 0, 40, 21, 7, 27, 4, 96, 182, 1, 21]
abbrev dktX9_rows_3 : List UInt8 := dkwX9_rows_3 ++ dktX9_rows_4
def dkwX9_rows_2 : List UInt8 := [4, 21, 5, 120, 162, 0, 57, 21, 6, 28, 21, 5, 120, 128, 54, 7, 42, 180, 0, 40, 21, 7, 21, 5]
abbrev dktX9_rows_2 : List UInt8 := dkwX9_rows_2 ++ dktX9_rows_3
def dkwX9_rows_1 : List UInt8 := [184, 0, 213, 154, 0, 5, 2, 172, 3, 54, 4, 42, 180, 0, 171, 27, 104, 54, 5, 3, 54, 6, 21, 6]
abbrev dktX9_rows_1 : List UInt8 := dkwX9_rows_1 ++ dktX9_rows_2
def dkwX9_rows_0 : List UInt8 := [27, 3, 42, 180, 0, 177, 4, 100, 184, 0, 213, 153, 0, 19, 28, 3, 4, 42, 180, 0, 171, 120, 4, 100]
abbrev dktX9_rows_0 : List UInt8 := dkwX9_rows_0 ++ dktX9_rows_1
theorem dksX9_rows_0 : cX9_rows.data.toList.drop 0 = dktX9_rows_0 := by decide +kernel
theorem dksX9_rows_1 : cX9_rows.data.toList.drop 24 = dktX9_rows_1 := dk_seg dksX9_rows_0 24 rfl rfl
theorem dksX9_rows_2 : cX9_rows.data.toList.drop 48 = dktX9_rows_2 := dk_seg dksX9_rows_1 24 rfl rfl
theorem dksX9_rows_3 : cX9_rows.data.toList.drop 72 = dktX9_rows_3 := dk_seg dksX9_rows_2 24 rfl rfl
theorem dksX9_rows_4 : cX9_rows.data.toList.drop 96 = dktX9_rows_4 := dk_seg dksX9_rows_3 24 rfl rfl
theorem dX9_rows_0 : decode cX9_rows 0 = .ok (.iload_n 1, 1) := dk_27 (dk_at dksX9_rows_0 0 rfl rfl)
theorem dX9_rows_1 : decode cX9_rows 1 = .ok (.iconst 0, 1) := dk_3 (dk_at dksX9_rows_0 1 rfl rfl)
theorem dX9_rows_2 : decode cX9_rows 2 = .ok (.aload_n 0, 1) := dk_42 (dk_at dksX9_rows_0 2 rfl rfl)
theorem dX9_rows_3 : decode cX9_rows 3 = .ok (.getfield 177, 3) := dk_180 0 177 (dk_at dksX9_rows_0 3 rfl rfl)
theorem dX9_rows_6 : decode cX9_rows 6 = .ok (.iconst 1, 1) := dk_4 (dk_at dksX9_rows_0 6 rfl rfl)
theorem dX9_rows_7 : decode cX9_rows 7 = .ok (.isub, 1) := dk_100 (dk_at dksX9_rows_0 7 rfl rfl)
theorem dX9_rows_8 : decode cX9_rows 8 = .ok (.invokestatic 213, 3) := dk_184 0 213 (dk_at dksX9_rows_0 8 rfl rfl)
theorem dX9_rows_11 : decode cX9_rows 11 = .ok (.ifCond .eq 19, 3) := dk_153 0 19 (dk_at dksX9_rows_0 11 rfl rfl)
theorem dX9_rows_14 : decode cX9_rows 14 = .ok (.iload_n 2, 1) := dk_28 (dk_at dksX9_rows_0 14 rfl rfl)
theorem dX9_rows_15 : decode cX9_rows 15 = .ok (.iconst 0, 1) := dk_3 (dk_at dksX9_rows_0 15 rfl rfl)
theorem dX9_rows_16 : decode cX9_rows 16 = .ok (.iconst 1, 1) := dk_4 (dk_at dksX9_rows_0 16 rfl rfl)
theorem dX9_rows_17 : decode cX9_rows 17 = .ok (.aload_n 0, 1) := dk_42 (dk_at dksX9_rows_0 17 rfl rfl)
theorem dX9_rows_18 : decode cX9_rows 18 = .ok (.getfield 171, 3) := dk_180 0 171 (dk_at dksX9_rows_0 18 rfl rfl)
theorem dX9_rows_21 : decode cX9_rows 21 = .ok (.ishl, 1) := dk_120 (dk_at dksX9_rows_0 21 rfl rfl)
theorem dX9_rows_22 : decode cX9_rows 22 = .ok (.iconst 1, 1) := dk_4 (dk_at dksX9_rows_0 22 rfl rfl)
theorem dX9_rows_23 : decode cX9_rows 23 = .ok (.isub, 1) := dk_100 (dk_at dksX9_rows_0 23 rfl rfl)
theorem dX9_rows_24 : decode cX9_rows 24 = .ok (.invokestatic 213, 3) := dk_184 0 213 (dk_at dksX9_rows_1 0 rfl rfl)
theorem dX9_rows_27 : decode cX9_rows 27 = .ok (.ifCond .ne 5, 3) := dk_154 0 5 (dk_at dksX9_rows_1 3 rfl rfl)
theorem dX9_rows_30 : decode cX9_rows 30 = .ok (.iconst (-1), 1) := dk_2 (dk_at dksX9_rows_1 6 rfl rfl)
theorem dX9_rows_31 : decode cX9_rows 31 = .ok (.ireturn, 1) := dk_172 (dk_at dksX9_rows_1 7 rfl rfl)
theorem dX9_rows_32 : decode cX9_rows 32 = .ok (.iconst 0, 1) := dk_3 (dk_at dksX9_rows_1 8 rfl rfl)
theorem dX9_rows_33 : decode cX9_rows 33 = .ok (.istore 4, 2) := dk_54 4 (dk_at dksX9_rows_1 9 rfl rfl)
theorem dX9_rows_35 : decode cX9_rows 35 = .ok (.aload_n 0, 1) := dk_42 (dk_at dksX9_rows_1 11 rfl rfl)
theorem dX9_rows_36 : decode cX9_rows 36 = .ok (.getfield 171, 3) := dk_180 0 171 (dk_at dksX9_rows_1 12 rfl rfl)
theorem dX9_rows_39 : decode cX9_rows 39 = .ok (.iload_n 1, 1) := dk_27 (dk_at dksX9_rows_1 15 rfl rfl)
theorem dX9_rows_40 : decode cX9_rows 40 = .ok (.imul, 1) := dk_104 (dk_at dksX9_rows_1 16 rfl rfl)
theorem dX9_rows_41 : decode cX9_rows 41 = .ok (.istore 5, 2) := dk_54 5 (dk_at dksX9_rows_1 17 rfl rfl)
theorem dX9_rows_43 : decode cX9_rows 43 = .ok (.iconst 0, 1) := dk_3 (dk_at dksX9_rows_1 19 rfl rfl)
theorem dX9_rows_44 : decode cX9_rows 44 = .ok (.istore 6, 2) := dk_54 6 (dk_at dksX9_rows_1 20 rfl rfl)
theorem dX9_rows_46 : decode cX9_rows 46 = .ok (.iload 6, 2) := dk_21 6 (dk_at dksX9_rows_1 22 rfl rfl)
theorem dX9_rows_48 : decode cX9_rows 48 = .ok (.iconst 1, 1) := dk_4 (dk_at dksX9_rows_2 0 rfl rfl)
theorem dX9_rows_49 : decode cX9_rows 49 = .ok (.iload 5, 2) := dk_21 5 (dk_at dksX9_rows_2 1 rfl rfl)
theorem dX9_rows_51 : decode cX9_rows 51 = .ok (.ishl, 1) := dk_120 (dk_at dksX9_rows_2 3 rfl rfl)
theorem dX9_rows_52 : decode cX9_rows 52 = .ok (.if_icmp .ge 57, 3) := dk_162 0 57 (dk_at dksX9_rows_2 4 rfl rfl)
theorem dX9_rows_55 : decode cX9_rows 55 = .ok (.iload 6, 2) := dk_21 6 (dk_at dksX9_rows_2 7 rfl rfl)
theorem dX9_rows_57 : decode cX9_rows 57 = .ok (.iload_n 2, 1) := dk_28 (dk_at dksX9_rows_2 9 rfl rfl)
theorem dX9_rows_58 : decode cX9_rows 58 = .ok (.iload 5, 2) := dk_21 5 (dk_at dksX9_rows_2 10 rfl rfl)
theorem dX9_rows_60 : decode cX9_rows 60 = .ok (.ishl, 1) := dk_120 (dk_at dksX9_rows_2 12 rfl rfl)
theorem dX9_rows_61 : decode cX9_rows 61 = .ok (.ior, 1) := dk_128 (dk_at dksX9_rows_2 13 rfl rfl)
theorem dX9_rows_62 : decode cX9_rows 62 = .ok (.istore 7, 2) := dk_54 7 (dk_at dksX9_rows_2 14 rfl rfl)
theorem dX9_rows_64 : decode cX9_rows 64 = .ok (.aload_n 0, 1) := dk_42 (dk_at dksX9_rows_2 16 rfl rfl)
theorem dX9_rows_65 : decode cX9_rows 65 = .ok (.getfield 40, 3) := dk_180 0 40 (dk_at dksX9_rows_2 17 rfl rfl)
theorem dX9_rows_68 : decode cX9_rows 68 = .ok (.iload 7, 2) := dk_21 7 (dk_at dksX9_rows_2 20 rfl rfl)
theorem dX9_rows_70 : decode cX9_rows 70 = .ok (.iload 5, 2) := dk_21 5 (dk_at dksX9_rows_2 22 rfl rfl)
theorem dX9_rows_72 : decode cX9_rows 72 = .ok (.aload_n 0, 1) := dk_42 (dk_at dksX9_rows_3 0 rfl rfl)
theorem dX9_rows_73 : decode cX9_rows 73 = .ok (.getfield 171, 3) := dk_180 0 171 (dk_at dksX9_rows_3 1 rfl rfl)
theorem dX9_rows_76 : decode cX9_rows 76 = .ok (.iadd, 1) := dk_96 (dk_at dksX9_rows_3 4 rfl rfl)
theorem dX9_rows_77 : decode cX9_rows 77 = .ok (.invokestatic 273, 3) := dk_184 1 17 (dk_at dksX9_rows_3 5 rfl rfl)
theorem dX9_rows_80 : decode cX9_rows 80 = .ok (.ifCond .eq 23, 3) := dk_153 0 23 (dk_at dksX9_rows_3 8 rfl rfl)
theorem dX9_rows_83 : decode cX9_rows 83 = .ok (.aload_n 0, 1) := dk_42 (dk_at dksX9_rows_3 11 rfl rfl)
theorem dX9_rows_84 : decode cX9_rows 84 = .ok (.aload_n 0, 1) := dk_42 (dk_at dksX9_rows_3 12 rfl rfl)
theorem dX9_rows_85 : decode cX9_rows 85 = .ok (.getfield 40, 3) := dk_180 0 40 (dk_at dksX9_rows_3 13 rfl rfl)
theorem dX9_rows_88 : decode cX9_rows 88 = .ok (.iload 7, 2) := dk_21 7 (dk_at dksX9_rows_3 16 rfl rfl)
theorem dX9_rows_90 : decode cX9_rows 90 = .ok (.iload_n 1, 1) := dk_27 (dk_at dksX9_rows_3 18 rfl rfl)
theorem dX9_rows_91 : decode cX9_rows 91 = .ok (.iconst 1, 1) := dk_4 (dk_at dksX9_rows_3 19 rfl rfl)
theorem dX9_rows_92 : decode cX9_rows 92 = .ok (.iadd, 1) := dk_96 (dk_at dksX9_rows_3 20 rfl rfl)
theorem dX9_rows_93 : decode cX9_rows 93 = .ok (.invokevirtual 277, 3) := dk_182 1 21 (dk_at dksX9_rows_3 21 rfl rfl)
theorem dX9_rows_96 : decode cX9_rows 96 = .ok (.iload_n 3, 1) := dk_29 (dk_at dksX9_rows_4 0 rfl rfl)
theorem dX9_rows_97 : decode cX9_rows 97 = .ok (.if_icmp .ne 6, 3) := dk_160 0 6 (dk_at dksX9_rows_4 1 rfl rfl)
theorem dX9_rows_100 : decode cX9_rows 100 = .ok (.iinc 4 1, 3) := dk_132 4 1 (dk_at dksX9_rows_4 4 rfl rfl)
theorem dX9_rows_103 : decode cX9_rows 103 = .ok (.iinc 6 1, 3) := dk_132 6 1 (dk_at dksX9_rows_4 7 rfl rfl)
theorem dX9_rows_106 : decode cX9_rows 106 = .ok (.goto (-60), 3) := dk_167 255 196 (dk_at dksX9_rows_4 10 rfl rfl)
theorem dX9_rows_109 : decode cX9_rows 109 = .ok (.iload 4, 2) := dk_21 4 (dk_at dksX9_rows_4 13 rfl rfl)
theorem dX9_rows_111 : decode cX9_rows 111 = .ok (.ireturn, 1) := dk_172 (dk_at dksX9_rows_4 15 rfl rfl)
abbrev cX9_square : ByteArray := prog_14_method_84_code
def yX9_square : MethodName := ⟨RX9, "square", "(I)I"⟩
def dkwX9_square_0 : List UInt8 := [42, 27, 182, 0, 233, 153, 0, 11, 42, 27, 182, 1, 74, 167, 0, 4, 2, 172]
abbrev dktX9_square_0 : List UInt8 := dkwX9_square_0 ++ []
theorem dksX9_square_0 : cX9_square.data.toList.drop 0 = dktX9_square_0 := by decide +kernel
theorem dX9_square_0 : decode cX9_square 0 = .ok (.aload_n 0, 1) := dk_42 (dk_at dksX9_square_0 0 rfl rfl)
theorem dX9_square_1 : decode cX9_square 1 = .ok (.iload_n 1, 1) := dk_27 (dk_at dksX9_square_0 1 rfl rfl)
theorem dX9_square_2 : decode cX9_square 2 = .ok (.invokevirtual 233, 3) := dk_182 0 233 (dk_at dksX9_square_0 2 rfl rfl)
theorem dX9_square_5 : decode cX9_square 5 = .ok (.ifCond .eq 11, 3) := dk_153 0 11 (dk_at dksX9_square_0 5 rfl rfl)
theorem dX9_square_8 : decode cX9_square 8 = .ok (.aload_n 0, 1) := dk_42 (dk_at dksX9_square_0 8 rfl rfl)
theorem dX9_square_9 : decode cX9_square 9 = .ok (.iload_n 1, 1) := dk_27 (dk_at dksX9_square_0 9 rfl rfl)
theorem dX9_square_10 : decode cX9_square 10 = .ok (.invokevirtual 330, 3) := dk_182 1 74 (dk_at dksX9_square_0 10 rfl rfl)
theorem dX9_square_13 : decode cX9_square 13 = .ok (.goto 4, 3) := dk_167 0 4 (dk_at dksX9_square_0 13 rfl rfl)
theorem dX9_square_16 : decode cX9_square 16 = .ok (.iconst (-1), 1) := dk_2 (dk_at dksX9_square_0 16 rfl rfl)
theorem dX9_square_17 : decode cX9_square 17 = .ok (.ireturn, 1) := dk_172 (dk_at dksX9_square_0 17 rfl rfl)
abbrev cX9_oddOf : ByteArray := prog_14_method_83_code
def yX9_oddOf : MethodName := ⟨RX9, "oddOf", "(I)I"⟩
def dkwX9_oddOf_3 : List UInt8 := [167, 0, 4, 3, 172]
abbrev dktX9_oddOf_3 : List UInt8 := dkwX9_oddOf_3 ++ []
def dkwX9_oddOf_2 : List UInt8 := [16, 16, 28, 96, 46, 104, 42, 180, 0, 40, 3, 29, 96, 46, 104, 54, 4, 21, 4, 156, 0, 7, 4]
abbrev dktX9_oddOf_2 : List UInt8 := dkwX9_oddOf_2 ++ dktX9_oddOf_3
def dkwX9_oddOf_1 : List UInt8 := [172, 42, 180, 0, 40, 3, 27, 96, 46, 42, 180, 0, 40, 16, 16, 27, 96, 46, 104, 42, 180, 0, 40]
abbrev dktX9_oddOf_1 : List UInt8 := dkwX9_oddOf_1 ++ dktX9_oddOf_2
def dkwX9_oddOf_0 : List UInt8 := [42, 27, 3, 182, 0, 236, 61, 42, 27, 4, 182, 0, 236, 62, 28, 155, 0, 7, 29, 156, 0, 6, 16, 254]
abbrev dktX9_oddOf_0 : List UInt8 := dkwX9_oddOf_0 ++ dktX9_oddOf_1
theorem dksX9_oddOf_0 : cX9_oddOf.data.toList.drop 0 = dktX9_oddOf_0 := by decide +kernel
theorem dksX9_oddOf_1 : cX9_oddOf.data.toList.drop 24 = dktX9_oddOf_1 := dk_seg dksX9_oddOf_0 24 rfl rfl
theorem dksX9_oddOf_2 : cX9_oddOf.data.toList.drop 47 = dktX9_oddOf_2 := dk_seg dksX9_oddOf_1 23 rfl rfl
theorem dksX9_oddOf_3 : cX9_oddOf.data.toList.drop 70 = dktX9_oddOf_3 := dk_seg dksX9_oddOf_2 23 rfl rfl
theorem dX9_oddOf_0 : decode cX9_oddOf 0 = .ok (.aload_n 0, 1) := dk_42 (dk_at dksX9_oddOf_0 0 rfl rfl)
theorem dX9_oddOf_1 : decode cX9_oddOf 1 = .ok (.iload_n 1, 1) := dk_27 (dk_at dksX9_oddOf_0 1 rfl rfl)
theorem dX9_oddOf_2 : decode cX9_oddOf 2 = .ok (.iconst 0, 1) := dk_3 (dk_at dksX9_oddOf_0 2 rfl rfl)
theorem dX9_oddOf_3 : decode cX9_oddOf 3 = .ok (.invokevirtual 236, 3) := dk_182 0 236 (dk_at dksX9_oddOf_0 3 rfl rfl)
theorem dX9_oddOf_6 : decode cX9_oddOf 6 = .ok (.istore_n 2, 1) := dk_61 (dk_at dksX9_oddOf_0 6 rfl rfl)
theorem dX9_oddOf_7 : decode cX9_oddOf 7 = .ok (.aload_n 0, 1) := dk_42 (dk_at dksX9_oddOf_0 7 rfl rfl)
theorem dX9_oddOf_8 : decode cX9_oddOf 8 = .ok (.iload_n 1, 1) := dk_27 (dk_at dksX9_oddOf_0 8 rfl rfl)
theorem dX9_oddOf_9 : decode cX9_oddOf 9 = .ok (.iconst 1, 1) := dk_4 (dk_at dksX9_oddOf_0 9 rfl rfl)
theorem dX9_oddOf_10 : decode cX9_oddOf 10 = .ok (.invokevirtual 236, 3) := dk_182 0 236 (dk_at dksX9_oddOf_0 10 rfl rfl)
theorem dX9_oddOf_13 : decode cX9_oddOf 13 = .ok (.istore_n 3, 1) := dk_62 (dk_at dksX9_oddOf_0 13 rfl rfl)
theorem dX9_oddOf_14 : decode cX9_oddOf 14 = .ok (.iload_n 2, 1) := dk_28 (dk_at dksX9_oddOf_0 14 rfl rfl)
theorem dX9_oddOf_15 : decode cX9_oddOf 15 = .ok (.ifCond .lt 7, 3) := dk_155 0 7 (dk_at dksX9_oddOf_0 15 rfl rfl)
theorem dX9_oddOf_18 : decode cX9_oddOf 18 = .ok (.iload_n 3, 1) := dk_29 (dk_at dksX9_oddOf_0 18 rfl rfl)
theorem dX9_oddOf_19 : decode cX9_oddOf 19 = .ok (.ifCond .ge 6, 3) := dk_156 0 6 (dk_at dksX9_oddOf_0 19 rfl rfl)
theorem dX9_oddOf_22 : decode cX9_oddOf 22 = .ok (.bipush (-2), 2) := dk_16 254 (dk_at dksX9_oddOf_0 22 rfl rfl)
theorem dX9_oddOf_24 : decode cX9_oddOf 24 = .ok (.ireturn, 1) := dk_172 (dk_at dksX9_oddOf_1 0 rfl rfl)
theorem dX9_oddOf_25 : decode cX9_oddOf 25 = .ok (.aload_n 0, 1) := dk_42 (dk_at dksX9_oddOf_1 1 rfl rfl)
theorem dX9_oddOf_26 : decode cX9_oddOf 26 = .ok (.getfield 40, 3) := dk_180 0 40 (dk_at dksX9_oddOf_1 2 rfl rfl)
theorem dX9_oddOf_29 : decode cX9_oddOf 29 = .ok (.iconst 0, 1) := dk_3 (dk_at dksX9_oddOf_1 5 rfl rfl)
theorem dX9_oddOf_30 : decode cX9_oddOf 30 = .ok (.iload_n 1, 1) := dk_27 (dk_at dksX9_oddOf_1 6 rfl rfl)
theorem dX9_oddOf_31 : decode cX9_oddOf 31 = .ok (.iadd, 1) := dk_96 (dk_at dksX9_oddOf_1 7 rfl rfl)
theorem dX9_oddOf_32 : decode cX9_oddOf 32 = .ok (.iaload, 1) := dk_46 (dk_at dksX9_oddOf_1 8 rfl rfl)
theorem dX9_oddOf_33 : decode cX9_oddOf 33 = .ok (.aload_n 0, 1) := dk_42 (dk_at dksX9_oddOf_1 9 rfl rfl)
theorem dX9_oddOf_34 : decode cX9_oddOf 34 = .ok (.getfield 40, 3) := dk_180 0 40 (dk_at dksX9_oddOf_1 10 rfl rfl)
theorem dX9_oddOf_37 : decode cX9_oddOf 37 = .ok (.bipush 16, 2) := dk_16 16 (dk_at dksX9_oddOf_1 13 rfl rfl)
theorem dX9_oddOf_39 : decode cX9_oddOf 39 = .ok (.iload_n 1, 1) := dk_27 (dk_at dksX9_oddOf_1 15 rfl rfl)
theorem dX9_oddOf_40 : decode cX9_oddOf 40 = .ok (.iadd, 1) := dk_96 (dk_at dksX9_oddOf_1 16 rfl rfl)
theorem dX9_oddOf_41 : decode cX9_oddOf 41 = .ok (.iaload, 1) := dk_46 (dk_at dksX9_oddOf_1 17 rfl rfl)
theorem dX9_oddOf_42 : decode cX9_oddOf 42 = .ok (.imul, 1) := dk_104 (dk_at dksX9_oddOf_1 18 rfl rfl)
theorem dX9_oddOf_43 : decode cX9_oddOf 43 = .ok (.aload_n 0, 1) := dk_42 (dk_at dksX9_oddOf_1 19 rfl rfl)
theorem dX9_oddOf_44 : decode cX9_oddOf 44 = .ok (.getfield 40, 3) := dk_180 0 40 (dk_at dksX9_oddOf_1 20 rfl rfl)
theorem dX9_oddOf_47 : decode cX9_oddOf 47 = .ok (.bipush 16, 2) := dk_16 16 (dk_at dksX9_oddOf_2 0 rfl rfl)
theorem dX9_oddOf_49 : decode cX9_oddOf 49 = .ok (.iload_n 2, 1) := dk_28 (dk_at dksX9_oddOf_2 2 rfl rfl)
theorem dX9_oddOf_50 : decode cX9_oddOf 50 = .ok (.iadd, 1) := dk_96 (dk_at dksX9_oddOf_2 3 rfl rfl)
theorem dX9_oddOf_51 : decode cX9_oddOf 51 = .ok (.iaload, 1) := dk_46 (dk_at dksX9_oddOf_2 4 rfl rfl)
theorem dX9_oddOf_52 : decode cX9_oddOf 52 = .ok (.imul, 1) := dk_104 (dk_at dksX9_oddOf_2 5 rfl rfl)
theorem dX9_oddOf_53 : decode cX9_oddOf 53 = .ok (.aload_n 0, 1) := dk_42 (dk_at dksX9_oddOf_2 6 rfl rfl)
theorem dX9_oddOf_54 : decode cX9_oddOf 54 = .ok (.getfield 40, 3) := dk_180 0 40 (dk_at dksX9_oddOf_2 7 rfl rfl)
theorem dX9_oddOf_57 : decode cX9_oddOf 57 = .ok (.iconst 0, 1) := dk_3 (dk_at dksX9_oddOf_2 10 rfl rfl)
theorem dX9_oddOf_58 : decode cX9_oddOf 58 = .ok (.iload_n 3, 1) := dk_29 (dk_at dksX9_oddOf_2 11 rfl rfl)
theorem dX9_oddOf_59 : decode cX9_oddOf 59 = .ok (.iadd, 1) := dk_96 (dk_at dksX9_oddOf_2 12 rfl rfl)
theorem dX9_oddOf_60 : decode cX9_oddOf 60 = .ok (.iaload, 1) := dk_46 (dk_at dksX9_oddOf_2 13 rfl rfl)
theorem dX9_oddOf_61 : decode cX9_oddOf 61 = .ok (.imul, 1) := dk_104 (dk_at dksX9_oddOf_2 14 rfl rfl)
theorem dX9_oddOf_62 : decode cX9_oddOf 62 = .ok (.istore 4, 2) := dk_54 4 (dk_at dksX9_oddOf_2 15 rfl rfl)
theorem dX9_oddOf_64 : decode cX9_oddOf 64 = .ok (.iload 4, 2) := dk_21 4 (dk_at dksX9_oddOf_2 17 rfl rfl)
theorem dX9_oddOf_66 : decode cX9_oddOf 66 = .ok (.ifCond .ge 7, 3) := dk_156 0 7 (dk_at dksX9_oddOf_2 19 rfl rfl)
theorem dX9_oddOf_69 : decode cX9_oddOf 69 = .ok (.iconst 1, 1) := dk_4 (dk_at dksX9_oddOf_2 22 rfl rfl)
theorem dX9_oddOf_70 : decode cX9_oddOf 70 = .ok (.goto 4, 3) := dk_167 0 4 (dk_at dksX9_oddOf_3 0 rfl rfl)
theorem dX9_oddOf_73 : decode cX9_oddOf 73 = .ok (.iconst 0, 1) := dk_3 (dk_at dksX9_oddOf_3 3 rfl rfl)
theorem dX9_oddOf_74 : decode cX9_oddOf 74 = .ok (.ireturn, 1) := dk_172 (dk_at dksX9_oddOf_3 4 rfl rfl)
abbrev cX9_cluster : ByteArray := prog_14_method_86_code
def yX9_cluster : MethodName := ⟨RX9, "cluster", "(I)I"⟩
def dkwX9_cluster_0 : List UInt8 := [42, 27, 182, 0, 233, 153, 0, 11, 42, 27, 182, 1, 77, 167, 0, 4, 2, 172]
abbrev dktX9_cluster_0 : List UInt8 := dkwX9_cluster_0 ++ []
theorem dksX9_cluster_0 : cX9_cluster.data.toList.drop 0 = dktX9_cluster_0 := by decide +kernel
theorem dX9_cluster_0 : decode cX9_cluster 0 = .ok (.aload_n 0, 1) := dk_42 (dk_at dksX9_cluster_0 0 rfl rfl)
theorem dX9_cluster_1 : decode cX9_cluster 1 = .ok (.iload_n 1, 1) := dk_27 (dk_at dksX9_cluster_0 1 rfl rfl)
theorem dX9_cluster_2 : decode cX9_cluster 2 = .ok (.invokevirtual 233, 3) := dk_182 0 233 (dk_at dksX9_cluster_0 2 rfl rfl)
theorem dX9_cluster_5 : decode cX9_cluster 5 = .ok (.ifCond .eq 11, 3) := dk_153 0 11 (dk_at dksX9_cluster_0 5 rfl rfl)
theorem dX9_cluster_8 : decode cX9_cluster 8 = .ok (.aload_n 0, 1) := dk_42 (dk_at dksX9_cluster_0 8 rfl rfl)
theorem dX9_cluster_9 : decode cX9_cluster 9 = .ok (.iload_n 1, 1) := dk_27 (dk_at dksX9_cluster_0 9 rfl rfl)
theorem dX9_cluster_10 : decode cX9_cluster 10 = .ok (.invokevirtual 333, 3) := dk_182 1 77 (dk_at dksX9_cluster_0 10 rfl rfl)
theorem dX9_cluster_13 : decode cX9_cluster 13 = .ok (.goto 4, 3) := dk_167 0 4 (dk_at dksX9_cluster_0 13 rfl rfl)
theorem dX9_cluster_16 : decode cX9_cluster 16 = .ok (.iconst (-1), 1) := dk_2 (dk_at dksX9_cluster_0 16 rfl rfl)
theorem dX9_cluster_17 : decode cX9_cluster 17 = .ok (.ireturn, 1) := dk_172 (dk_at dksX9_cluster_0 17 rfl rfl)
abbrev cX9_clusterOf : ByteArray := prog_14_method_85_code
def yX9_clusterOf : MethodName := ⟨RX9, "clusterOf", "(I)I"⟩
def dkwX9_clusterOf_5 : List UInt8 := [132, 4, 1, 167, 255, 150, 167, 255, 137, 28, 172]
abbrev dktX9_clusterOf_5 : List UInt8 := dkwX9_clusterOf_5 ++ []
def dkwX9_clusterOf_4 : List UInt8 := [154, 0, 12, 28, 21, 6, 184, 1, 45, 153, 0, 15, 28, 4, 21, 5, 120, 4, 21, 6, 120, 128, 128, 61]
abbrev dktX9_clusterOf_4 : List UInt8 := dkwX9_clusterOf_4 ++ dktX9_clusterOf_5
def dkwX9_clusterOf_3 : List UInt8 := [180, 0, 40, 16, 64, 46, 21, 6, 184, 1, 45, 159, 0, 6, 167, 0, 33, 28, 21, 5, 184, 1, 45]
abbrev dktX9_clusterOf_3 : List UInt8 := dkwX9_clusterOf_3 ++ dktX9_clusterOf_4
def dkwX9_clusterOf_2 : List UInt8 := [3, 182, 0, 236, 54, 6, 21, 6, 155, 0, 63, 42, 180, 0, 40, 16, 64, 46, 21, 5, 184, 1, 45, 42]
abbrev dktX9_clusterOf_2 : List UInt8 := dkwX9_clusterOf_2 ++ dktX9_clusterOf_3
def dkwX9_clusterOf_1 : List UInt8 := [162, 0, 101, 21, 4, 5, 108, 54, 5, 42, 21, 5, 21, 4, 5, 112, 4, 160, 0, 7, 4, 167, 0, 4]
abbrev dktX9_clusterOf_1 : List UInt8 := dkwX9_clusterOf_1 ++ dktX9_clusterOf_2
def dkwX9_clusterOf_0 : List UInt8 := [4, 27, 120, 61, 3, 62, 28, 29, 159, 0, 120, 28, 62, 3, 54, 4, 21, 4, 5, 42, 182, 0, 193, 104]
abbrev dktX9_clusterOf_0 : List UInt8 := dkwX9_clusterOf_0 ++ dktX9_clusterOf_1
theorem dksX9_clusterOf_0 : cX9_clusterOf.data.toList.drop 0 = dktX9_clusterOf_0 := by decide +kernel
theorem dksX9_clusterOf_1 : cX9_clusterOf.data.toList.drop 24 = dktX9_clusterOf_1 := dk_seg dksX9_clusterOf_0 24 rfl rfl
theorem dksX9_clusterOf_2 : cX9_clusterOf.data.toList.drop 48 = dktX9_clusterOf_2 := dk_seg dksX9_clusterOf_1 24 rfl rfl
theorem dksX9_clusterOf_3 : cX9_clusterOf.data.toList.drop 72 = dktX9_clusterOf_3 := dk_seg dksX9_clusterOf_2 24 rfl rfl
theorem dksX9_clusterOf_4 : cX9_clusterOf.data.toList.drop 95 = dktX9_clusterOf_4 := dk_seg dksX9_clusterOf_3 23 rfl rfl
theorem dksX9_clusterOf_5 : cX9_clusterOf.data.toList.drop 119 = dktX9_clusterOf_5 := dk_seg dksX9_clusterOf_4 24 rfl rfl
theorem dX9_clusterOf_0 : decode cX9_clusterOf 0 = .ok (.iconst 1, 1) := dk_4 (dk_at dksX9_clusterOf_0 0 rfl rfl)
theorem dX9_clusterOf_1 : decode cX9_clusterOf 1 = .ok (.iload_n 1, 1) := dk_27 (dk_at dksX9_clusterOf_0 1 rfl rfl)
theorem dX9_clusterOf_2 : decode cX9_clusterOf 2 = .ok (.ishl, 1) := dk_120 (dk_at dksX9_clusterOf_0 2 rfl rfl)
theorem dX9_clusterOf_3 : decode cX9_clusterOf 3 = .ok (.istore_n 2, 1) := dk_61 (dk_at dksX9_clusterOf_0 3 rfl rfl)
theorem dX9_clusterOf_4 : decode cX9_clusterOf 4 = .ok (.iconst 0, 1) := dk_3 (dk_at dksX9_clusterOf_0 4 rfl rfl)
theorem dX9_clusterOf_5 : decode cX9_clusterOf 5 = .ok (.istore_n 3, 1) := dk_62 (dk_at dksX9_clusterOf_0 5 rfl rfl)
theorem dX9_clusterOf_6 : decode cX9_clusterOf 6 = .ok (.iload_n 2, 1) := dk_28 (dk_at dksX9_clusterOf_0 6 rfl rfl)
theorem dX9_clusterOf_7 : decode cX9_clusterOf 7 = .ok (.iload_n 3, 1) := dk_29 (dk_at dksX9_clusterOf_0 7 rfl rfl)
theorem dX9_clusterOf_8 : decode cX9_clusterOf 8 = .ok (.if_icmp .eq 120, 3) := dk_159 0 120 (dk_at dksX9_clusterOf_0 8 rfl rfl)
theorem dX9_clusterOf_11 : decode cX9_clusterOf 11 = .ok (.iload_n 2, 1) := dk_28 (dk_at dksX9_clusterOf_0 11 rfl rfl)
theorem dX9_clusterOf_12 : decode cX9_clusterOf 12 = .ok (.istore_n 3, 1) := dk_62 (dk_at dksX9_clusterOf_0 12 rfl rfl)
theorem dX9_clusterOf_13 : decode cX9_clusterOf 13 = .ok (.iconst 0, 1) := dk_3 (dk_at dksX9_clusterOf_0 13 rfl rfl)
theorem dX9_clusterOf_14 : decode cX9_clusterOf 14 = .ok (.istore 4, 2) := dk_54 4 (dk_at dksX9_clusterOf_0 14 rfl rfl)
theorem dX9_clusterOf_16 : decode cX9_clusterOf 16 = .ok (.iload 4, 2) := dk_21 4 (dk_at dksX9_clusterOf_0 16 rfl rfl)
theorem dX9_clusterOf_18 : decode cX9_clusterOf 18 = .ok (.iconst 2, 1) := dk_5 (dk_at dksX9_clusterOf_0 18 rfl rfl)
theorem dX9_clusterOf_19 : decode cX9_clusterOf 19 = .ok (.aload_n 0, 1) := dk_42 (dk_at dksX9_clusterOf_0 19 rfl rfl)
theorem dX9_clusterOf_20 : decode cX9_clusterOf 20 = .ok (.invokevirtual 193, 3) := dk_182 0 193 (dk_at dksX9_clusterOf_0 20 rfl rfl)
theorem dX9_clusterOf_23 : decode cX9_clusterOf 23 = .ok (.imul, 1) := dk_104 (dk_at dksX9_clusterOf_0 23 rfl rfl)
theorem dX9_clusterOf_24 : decode cX9_clusterOf 24 = .ok (.if_icmp .ge 101, 3) := dk_162 0 101 (dk_at dksX9_clusterOf_1 0 rfl rfl)
theorem dX9_clusterOf_27 : decode cX9_clusterOf 27 = .ok (.iload 4, 2) := dk_21 4 (dk_at dksX9_clusterOf_1 3 rfl rfl)
theorem dX9_clusterOf_29 : decode cX9_clusterOf 29 = .ok (.iconst 2, 1) := dk_5 (dk_at dksX9_clusterOf_1 5 rfl rfl)
theorem dX9_clusterOf_30 : decode cX9_clusterOf 30 = .ok (.idiv, 1) := dk_108 (dk_at dksX9_clusterOf_1 6 rfl rfl)
theorem dX9_clusterOf_31 : decode cX9_clusterOf 31 = .ok (.istore 5, 2) := dk_54 5 (dk_at dksX9_clusterOf_1 7 rfl rfl)
theorem dX9_clusterOf_33 : decode cX9_clusterOf 33 = .ok (.aload_n 0, 1) := dk_42 (dk_at dksX9_clusterOf_1 9 rfl rfl)
theorem dX9_clusterOf_34 : decode cX9_clusterOf 34 = .ok (.iload 5, 2) := dk_21 5 (dk_at dksX9_clusterOf_1 10 rfl rfl)
theorem dX9_clusterOf_36 : decode cX9_clusterOf 36 = .ok (.iload 4, 2) := dk_21 4 (dk_at dksX9_clusterOf_1 12 rfl rfl)
theorem dX9_clusterOf_38 : decode cX9_clusterOf 38 = .ok (.iconst 2, 1) := dk_5 (dk_at dksX9_clusterOf_1 14 rfl rfl)
theorem dX9_clusterOf_39 : decode cX9_clusterOf 39 = .ok (.irem, 1) := dk_112 (dk_at dksX9_clusterOf_1 15 rfl rfl)
theorem dX9_clusterOf_40 : decode cX9_clusterOf 40 = .ok (.iconst 1, 1) := dk_4 (dk_at dksX9_clusterOf_1 16 rfl rfl)
theorem dX9_clusterOf_41 : decode cX9_clusterOf 41 = .ok (.if_icmp .ne 7, 3) := dk_160 0 7 (dk_at dksX9_clusterOf_1 17 rfl rfl)
theorem dX9_clusterOf_44 : decode cX9_clusterOf 44 = .ok (.iconst 1, 1) := dk_4 (dk_at dksX9_clusterOf_1 20 rfl rfl)
theorem dX9_clusterOf_45 : decode cX9_clusterOf 45 = .ok (.goto 4, 3) := dk_167 0 4 (dk_at dksX9_clusterOf_1 21 rfl rfl)
theorem dX9_clusterOf_48 : decode cX9_clusterOf 48 = .ok (.iconst 0, 1) := dk_3 (dk_at dksX9_clusterOf_2 0 rfl rfl)
theorem dX9_clusterOf_49 : decode cX9_clusterOf 49 = .ok (.invokevirtual 236, 3) := dk_182 0 236 (dk_at dksX9_clusterOf_2 1 rfl rfl)
theorem dX9_clusterOf_52 : decode cX9_clusterOf 52 = .ok (.istore 6, 2) := dk_54 6 (dk_at dksX9_clusterOf_2 4 rfl rfl)
theorem dX9_clusterOf_54 : decode cX9_clusterOf 54 = .ok (.iload 6, 2) := dk_21 6 (dk_at dksX9_clusterOf_2 6 rfl rfl)
theorem dX9_clusterOf_56 : decode cX9_clusterOf 56 = .ok (.ifCond .lt 63, 3) := dk_155 0 63 (dk_at dksX9_clusterOf_2 8 rfl rfl)
theorem dX9_clusterOf_59 : decode cX9_clusterOf 59 = .ok (.aload_n 0, 1) := dk_42 (dk_at dksX9_clusterOf_2 11 rfl rfl)
theorem dX9_clusterOf_60 : decode cX9_clusterOf 60 = .ok (.getfield 40, 3) := dk_180 0 40 (dk_at dksX9_clusterOf_2 12 rfl rfl)
theorem dX9_clusterOf_63 : decode cX9_clusterOf 63 = .ok (.bipush 64, 2) := dk_16 64 (dk_at dksX9_clusterOf_2 15 rfl rfl)
theorem dX9_clusterOf_65 : decode cX9_clusterOf 65 = .ok (.iaload, 1) := dk_46 (dk_at dksX9_clusterOf_2 17 rfl rfl)
theorem dX9_clusterOf_66 : decode cX9_clusterOf 66 = .ok (.iload 5, 2) := dk_21 5 (dk_at dksX9_clusterOf_2 18 rfl rfl)
theorem dX9_clusterOf_68 : decode cX9_clusterOf 68 = .ok (.invokestatic 301, 3) := dk_184 1 45 (dk_at dksX9_clusterOf_2 20 rfl rfl)
theorem dX9_clusterOf_71 : decode cX9_clusterOf 71 = .ok (.aload_n 0, 1) := dk_42 (dk_at dksX9_clusterOf_2 23 rfl rfl)
theorem dX9_clusterOf_72 : decode cX9_clusterOf 72 = .ok (.getfield 40, 3) := dk_180 0 40 (dk_at dksX9_clusterOf_3 0 rfl rfl)
theorem dX9_clusterOf_75 : decode cX9_clusterOf 75 = .ok (.bipush 64, 2) := dk_16 64 (dk_at dksX9_clusterOf_3 3 rfl rfl)
theorem dX9_clusterOf_77 : decode cX9_clusterOf 77 = .ok (.iaload, 1) := dk_46 (dk_at dksX9_clusterOf_3 5 rfl rfl)
theorem dX9_clusterOf_78 : decode cX9_clusterOf 78 = .ok (.iload 6, 2) := dk_21 6 (dk_at dksX9_clusterOf_3 6 rfl rfl)
theorem dX9_clusterOf_80 : decode cX9_clusterOf 80 = .ok (.invokestatic 301, 3) := dk_184 1 45 (dk_at dksX9_clusterOf_3 8 rfl rfl)
theorem dX9_clusterOf_83 : decode cX9_clusterOf 83 = .ok (.if_icmp .eq 6, 3) := dk_159 0 6 (dk_at dksX9_clusterOf_3 11 rfl rfl)
theorem dX9_clusterOf_86 : decode cX9_clusterOf 86 = .ok (.goto 33, 3) := dk_167 0 33 (dk_at dksX9_clusterOf_3 14 rfl rfl)
theorem dX9_clusterOf_89 : decode cX9_clusterOf 89 = .ok (.iload_n 2, 1) := dk_28 (dk_at dksX9_clusterOf_3 17 rfl rfl)
theorem dX9_clusterOf_90 : decode cX9_clusterOf 90 = .ok (.iload 5, 2) := dk_21 5 (dk_at dksX9_clusterOf_3 18 rfl rfl)
theorem dX9_clusterOf_92 : decode cX9_clusterOf 92 = .ok (.invokestatic 301, 3) := dk_184 1 45 (dk_at dksX9_clusterOf_3 20 rfl rfl)
theorem dX9_clusterOf_95 : decode cX9_clusterOf 95 = .ok (.ifCond .ne 12, 3) := dk_154 0 12 (dk_at dksX9_clusterOf_4 0 rfl rfl)
theorem dX9_clusterOf_98 : decode cX9_clusterOf 98 = .ok (.iload_n 2, 1) := dk_28 (dk_at dksX9_clusterOf_4 3 rfl rfl)
theorem dX9_clusterOf_99 : decode cX9_clusterOf 99 = .ok (.iload 6, 2) := dk_21 6 (dk_at dksX9_clusterOf_4 4 rfl rfl)
theorem dX9_clusterOf_101 : decode cX9_clusterOf 101 = .ok (.invokestatic 301, 3) := dk_184 1 45 (dk_at dksX9_clusterOf_4 6 rfl rfl)
theorem dX9_clusterOf_104 : decode cX9_clusterOf 104 = .ok (.ifCond .eq 15, 3) := dk_153 0 15 (dk_at dksX9_clusterOf_4 9 rfl rfl)
theorem dX9_clusterOf_107 : decode cX9_clusterOf 107 = .ok (.iload_n 2, 1) := dk_28 (dk_at dksX9_clusterOf_4 12 rfl rfl)
theorem dX9_clusterOf_108 : decode cX9_clusterOf 108 = .ok (.iconst 1, 1) := dk_4 (dk_at dksX9_clusterOf_4 13 rfl rfl)
theorem dX9_clusterOf_109 : decode cX9_clusterOf 109 = .ok (.iload 5, 2) := dk_21 5 (dk_at dksX9_clusterOf_4 14 rfl rfl)
theorem dX9_clusterOf_111 : decode cX9_clusterOf 111 = .ok (.ishl, 1) := dk_120 (dk_at dksX9_clusterOf_4 16 rfl rfl)
theorem dX9_clusterOf_112 : decode cX9_clusterOf 112 = .ok (.iconst 1, 1) := dk_4 (dk_at dksX9_clusterOf_4 17 rfl rfl)
theorem dX9_clusterOf_113 : decode cX9_clusterOf 113 = .ok (.iload 6, 2) := dk_21 6 (dk_at dksX9_clusterOf_4 18 rfl rfl)
theorem dX9_clusterOf_115 : decode cX9_clusterOf 115 = .ok (.ishl, 1) := dk_120 (dk_at dksX9_clusterOf_4 20 rfl rfl)
theorem dX9_clusterOf_116 : decode cX9_clusterOf 116 = .ok (.ior, 1) := dk_128 (dk_at dksX9_clusterOf_4 21 rfl rfl)
theorem dX9_clusterOf_117 : decode cX9_clusterOf 117 = .ok (.ior, 1) := dk_128 (dk_at dksX9_clusterOf_4 22 rfl rfl)
theorem dX9_clusterOf_118 : decode cX9_clusterOf 118 = .ok (.istore_n 2, 1) := dk_61 (dk_at dksX9_clusterOf_4 23 rfl rfl)
theorem dX9_clusterOf_119 : decode cX9_clusterOf 119 = .ok (.iinc 4 1, 3) := dk_132 4 1 (dk_at dksX9_clusterOf_5 0 rfl rfl)
theorem dX9_clusterOf_122 : decode cX9_clusterOf 122 = .ok (.goto (-106), 3) := dk_167 255 150 (dk_at dksX9_clusterOf_5 3 rfl rfl)
theorem dX9_clusterOf_125 : decode cX9_clusterOf 125 = .ok (.goto (-119), 3) := dk_167 255 137 (dk_at dksX9_clusterOf_5 6 rfl rfl)
theorem dX9_clusterOf_128 : decode cX9_clusterOf 128 = .ok (.iload_n 2, 1) := dk_28 (dk_at dksX9_clusterOf_5 9 rfl rfl)
theorem dX9_clusterOf_129 : decode cX9_clusterOf 129 = .ok (.ireturn, 1) := dk_172 (dk_at dksX9_clusterOf_5 10 rfl rfl)
abbrev cX9_wander : ByteArray := prog_14_method_87_code
def yX9_wander : MethodName := ⟨RX9, "wander", "(III)I"⟩
def dkwX9_wander_9 : List UInt8 := [4, 160, 0, 8, 21, 7, 167, 0, 5, 21, 8, 172]
abbrev dktX9_wander_9 : List UInt8 := dkwX9_wander_9 ++ []
def dkwX9_wander_8 : List UInt8 := [180, 0, 57, 21, 6, 46, 54, 7, 132, 9, 1, 167, 255, 138, 29, 154, 0, 8, 21, 6, 167, 0, 15, 29]
abbrev dktX9_wander_8 : List UInt8 := dkwX9_wander_8 ++ dktX9_wander_9
def dkwX9_wander_7 : List UInt8 := [21, 10, 120, 130, 54, 6, 132, 8, 1, 42, 180, 0, 57, 21, 6, 46, 21, 7, 162, 0, 12, 42]
abbrev dktX9_wander_7 : List UInt8 := dkwX9_wander_7 ++ dktX9_wander_8
def dkwX9_wander_6 : List UInt8 := [21, 11, 16, 100, 28, 42, 21, 6, 21, 10, 182, 1, 33, 104, 100, 161, 0, 6, 167, 0, 36, 21, 6, 4]
abbrev dktX9_wander_6 : List UInt8 := dkwX9_wander_6 ++ dktX9_wander_7
def dkwX9_wander_5 : List UInt8 := [20, 1, 1, 109, 20, 1, 80, 113, 136, 54, 11, 42, 180, 0, 40, 16, 48, 21, 10, 96, 46, 157, 0, 57]
abbrev dktX9_wander_5 : List UInt8 := dkwX9_wander_5 ++ dktX9_wander_6
def dkwX9_wander_4 : List UInt8 := [20, 1, 1, 109, 42, 182, 0, 193, 133, 113, 136, 54, 10, 22, 4, 184, 0, 253, 55, 4, 22, 4]
abbrev dktX9_wander_4 : List UInt8 := dkwX9_wander_4 ++ dktX9_wander_5
def dkwX9_wander_3 : List UInt8 := [46, 54, 7, 3, 54, 8, 3, 54, 9, 21, 9, 27, 162, 0, 118, 22, 4, 184, 0, 253, 55, 4, 22, 4]
abbrev dktX9_wander_3 : List UInt8 := dkwX9_wander_3 ++ dktX9_wander_4
def dkwX9_wander_2 : List UInt8 := [180, 0, 40, 16, 65, 46, 133, 55, 4, 42, 180, 0, 40, 16, 64, 46, 54, 6, 42, 180, 0, 57, 21, 6]
abbrev dktX9_wander_2 : List UInt8 := dkwX9_wander_2 ++ dktX9_wander_3
def dkwX9_wander_1 : List UInt8 := [184, 0, 213, 153, 0, 12, 29, 3, 5, 184, 0, 213, 154, 0, 7, 19, 1, 32, 172, 42, 182, 1, 5, 42]
abbrev dktX9_wander_1 : List UInt8 := dkwX9_wander_1 ++ dktX9_wander_2
def dkwX9_wander_0 : List UInt8 := [42, 182, 0, 193, 153, 0, 33, 27, 3, 17, 0, 200, 184, 0, 213, 153, 0, 22, 28, 3, 16, 100]
abbrev dktX9_wander_0 : List UInt8 := dkwX9_wander_0 ++ dktX9_wander_1
theorem dksX9_wander_0 : cX9_wander.data.toList.drop 0 = dktX9_wander_0 := by decide +kernel
theorem dksX9_wander_1 : cX9_wander.data.toList.drop 22 = dktX9_wander_1 := dk_seg dksX9_wander_0 22 rfl rfl
theorem dksX9_wander_2 : cX9_wander.data.toList.drop 46 = dktX9_wander_2 := dk_seg dksX9_wander_1 24 rfl rfl
theorem dksX9_wander_3 : cX9_wander.data.toList.drop 70 = dktX9_wander_3 := dk_seg dksX9_wander_2 24 rfl rfl
theorem dksX9_wander_4 : cX9_wander.data.toList.drop 94 = dktX9_wander_4 := dk_seg dksX9_wander_3 24 rfl rfl
theorem dksX9_wander_5 : cX9_wander.data.toList.drop 116 = dktX9_wander_5 := dk_seg dksX9_wander_4 22 rfl rfl
theorem dksX9_wander_6 : cX9_wander.data.toList.drop 140 = dktX9_wander_6 := dk_seg dksX9_wander_5 24 rfl rfl
theorem dksX9_wander_7 : cX9_wander.data.toList.drop 164 = dktX9_wander_7 := dk_seg dksX9_wander_6 24 rfl rfl
theorem dksX9_wander_8 : cX9_wander.data.toList.drop 186 = dktX9_wander_8 := dk_seg dksX9_wander_7 22 rfl rfl
theorem dksX9_wander_9 : cX9_wander.data.toList.drop 210 = dktX9_wander_9 := dk_seg dksX9_wander_8 24 rfl rfl
theorem dX9_wander_0 : decode cX9_wander 0 = .ok (.aload_n 0, 1) := dk_42 (dk_at dksX9_wander_0 0 rfl rfl)
theorem dX9_wander_1 : decode cX9_wander 1 = .ok (.invokevirtual 193, 3) := dk_182 0 193 (dk_at dksX9_wander_0 1 rfl rfl)
theorem dX9_wander_4 : decode cX9_wander 4 = .ok (.ifCond .eq 33, 3) := dk_153 0 33 (dk_at dksX9_wander_0 4 rfl rfl)
theorem dX9_wander_7 : decode cX9_wander 7 = .ok (.iload_n 1, 1) := dk_27 (dk_at dksX9_wander_0 7 rfl rfl)
theorem dX9_wander_8 : decode cX9_wander 8 = .ok (.iconst 0, 1) := dk_3 (dk_at dksX9_wander_0 8 rfl rfl)
theorem dX9_wander_9 : decode cX9_wander 9 = .ok (.sipush 200, 3) := dk_17 0 200 (dk_at dksX9_wander_0 9 rfl rfl)
theorem dX9_wander_12 : decode cX9_wander 12 = .ok (.invokestatic 213, 3) := dk_184 0 213 (dk_at dksX9_wander_0 12 rfl rfl)
theorem dX9_wander_15 : decode cX9_wander 15 = .ok (.ifCond .eq 22, 3) := dk_153 0 22 (dk_at dksX9_wander_0 15 rfl rfl)
theorem dX9_wander_18 : decode cX9_wander 18 = .ok (.iload_n 2, 1) := dk_28 (dk_at dksX9_wander_0 18 rfl rfl)
theorem dX9_wander_19 : decode cX9_wander 19 = .ok (.iconst 0, 1) := dk_3 (dk_at dksX9_wander_0 19 rfl rfl)
theorem dX9_wander_20 : decode cX9_wander 20 = .ok (.bipush 100, 2) := dk_16 100 (dk_at dksX9_wander_0 20 rfl rfl)
theorem dX9_wander_22 : decode cX9_wander 22 = .ok (.invokestatic 213, 3) := dk_184 0 213 (dk_at dksX9_wander_1 0 rfl rfl)
theorem dX9_wander_25 : decode cX9_wander 25 = .ok (.ifCond .eq 12, 3) := dk_153 0 12 (dk_at dksX9_wander_1 3 rfl rfl)
theorem dX9_wander_28 : decode cX9_wander 28 = .ok (.iload_n 3, 1) := dk_29 (dk_at dksX9_wander_1 6 rfl rfl)
theorem dX9_wander_29 : decode cX9_wander 29 = .ok (.iconst 0, 1) := dk_3 (dk_at dksX9_wander_1 7 rfl rfl)
theorem dX9_wander_30 : decode cX9_wander 30 = .ok (.iconst 2, 1) := dk_5 (dk_at dksX9_wander_1 8 rfl rfl)
theorem dX9_wander_31 : decode cX9_wander 31 = .ok (.invokestatic 213, 3) := dk_184 0 213 (dk_at dksX9_wander_1 9 rfl rfl)
theorem dX9_wander_34 : decode cX9_wander 34 = .ok (.ifCond .ne 7, 3) := dk_154 0 7 (dk_at dksX9_wander_1 12 rfl rfl)
theorem dX9_wander_37 : decode cX9_wander 37 = .ok (.ldc_w 288, 3) := dk_19 1 32 (dk_at dksX9_wander_1 15 rfl rfl)
theorem dX9_wander_40 : decode cX9_wander 40 = .ok (.ireturn, 1) := dk_172 (dk_at dksX9_wander_1 18 rfl rfl)
theorem dX9_wander_41 : decode cX9_wander 41 = .ok (.aload_n 0, 1) := dk_42 (dk_at dksX9_wander_1 19 rfl rfl)
theorem dX9_wander_42 : decode cX9_wander 42 = .ok (.invokevirtual 261, 3) := dk_182 1 5 (dk_at dksX9_wander_1 20 rfl rfl)
theorem dX9_wander_45 : decode cX9_wander 45 = .ok (.aload_n 0, 1) := dk_42 (dk_at dksX9_wander_1 23 rfl rfl)
theorem dX9_wander_46 : decode cX9_wander 46 = .ok (.getfield 40, 3) := dk_180 0 40 (dk_at dksX9_wander_2 0 rfl rfl)
theorem dX9_wander_49 : decode cX9_wander 49 = .ok (.bipush 65, 2) := dk_16 65 (dk_at dksX9_wander_2 3 rfl rfl)
theorem dX9_wander_51 : decode cX9_wander 51 = .ok (.iaload, 1) := dk_46 (dk_at dksX9_wander_2 5 rfl rfl)
theorem dX9_wander_52 : decode cX9_wander 52 = .ok (.i2l, 1) := dk_133 (dk_at dksX9_wander_2 6 rfl rfl)
theorem dX9_wander_53 : decode cX9_wander 53 = .ok (.lstore 4, 2) := dk_55 4 (dk_at dksX9_wander_2 7 rfl rfl)
theorem dX9_wander_55 : decode cX9_wander 55 = .ok (.aload_n 0, 1) := dk_42 (dk_at dksX9_wander_2 9 rfl rfl)
theorem dX9_wander_56 : decode cX9_wander 56 = .ok (.getfield 40, 3) := dk_180 0 40 (dk_at dksX9_wander_2 10 rfl rfl)
theorem dX9_wander_59 : decode cX9_wander 59 = .ok (.bipush 64, 2) := dk_16 64 (dk_at dksX9_wander_2 13 rfl rfl)
theorem dX9_wander_61 : decode cX9_wander 61 = .ok (.iaload, 1) := dk_46 (dk_at dksX9_wander_2 15 rfl rfl)
theorem dX9_wander_62 : decode cX9_wander 62 = .ok (.istore 6, 2) := dk_54 6 (dk_at dksX9_wander_2 16 rfl rfl)
theorem dX9_wander_64 : decode cX9_wander 64 = .ok (.aload_n 0, 1) := dk_42 (dk_at dksX9_wander_2 18 rfl rfl)
theorem dX9_wander_65 : decode cX9_wander 65 = .ok (.getfield 57, 3) := dk_180 0 57 (dk_at dksX9_wander_2 19 rfl rfl)
theorem dX9_wander_68 : decode cX9_wander 68 = .ok (.iload 6, 2) := dk_21 6 (dk_at dksX9_wander_2 22 rfl rfl)
theorem dX9_wander_70 : decode cX9_wander 70 = .ok (.iaload, 1) := dk_46 (dk_at dksX9_wander_3 0 rfl rfl)
theorem dX9_wander_71 : decode cX9_wander 71 = .ok (.istore 7, 2) := dk_54 7 (dk_at dksX9_wander_3 1 rfl rfl)
theorem dX9_wander_73 : decode cX9_wander 73 = .ok (.iconst 0, 1) := dk_3 (dk_at dksX9_wander_3 3 rfl rfl)
theorem dX9_wander_74 : decode cX9_wander 74 = .ok (.istore 8, 2) := dk_54 8 (dk_at dksX9_wander_3 4 rfl rfl)
theorem dX9_wander_76 : decode cX9_wander 76 = .ok (.iconst 0, 1) := dk_3 (dk_at dksX9_wander_3 6 rfl rfl)
theorem dX9_wander_77 : decode cX9_wander 77 = .ok (.istore 9, 2) := dk_54 9 (dk_at dksX9_wander_3 7 rfl rfl)
theorem dX9_wander_79 : decode cX9_wander 79 = .ok (.iload 9, 2) := dk_21 9 (dk_at dksX9_wander_3 9 rfl rfl)
theorem dX9_wander_81 : decode cX9_wander 81 = .ok (.iload_n 1, 1) := dk_27 (dk_at dksX9_wander_3 11 rfl rfl)
theorem dX9_wander_82 : decode cX9_wander 82 = .ok (.if_icmp .ge 118, 3) := dk_162 0 118 (dk_at dksX9_wander_3 12 rfl rfl)
theorem dX9_wander_85 : decode cX9_wander 85 = .ok (.lload 4, 2) := dk_22 4 (dk_at dksX9_wander_3 15 rfl rfl)
theorem dX9_wander_87 : decode cX9_wander 87 = .ok (.invokestatic 253, 3) := dk_184 0 253 (dk_at dksX9_wander_3 17 rfl rfl)
theorem dX9_wander_90 : decode cX9_wander 90 = .ok (.lstore 4, 2) := dk_55 4 (dk_at dksX9_wander_3 20 rfl rfl)
theorem dX9_wander_92 : decode cX9_wander 92 = .ok (.lload 4, 2) := dk_22 4 (dk_at dksX9_wander_3 22 rfl rfl)
theorem dX9_wander_94 : decode cX9_wander 94 = .ok (.ldc2_w 257, 3) := dk_20 1 1 (dk_at dksX9_wander_4 0 rfl rfl)
theorem dX9_wander_97 : decode cX9_wander 97 = .ok (.ldiv, 1) := dk_109 (dk_at dksX9_wander_4 3 rfl rfl)
theorem dX9_wander_98 : decode cX9_wander 98 = .ok (.aload_n 0, 1) := dk_42 (dk_at dksX9_wander_4 4 rfl rfl)
theorem dX9_wander_99 : decode cX9_wander 99 = .ok (.invokevirtual 193, 3) := dk_182 0 193 (dk_at dksX9_wander_4 5 rfl rfl)
theorem dX9_wander_102 : decode cX9_wander 102 = .ok (.i2l, 1) := dk_133 (dk_at dksX9_wander_4 8 rfl rfl)
theorem dX9_wander_103 : decode cX9_wander 103 = .ok (.lrem, 1) := dk_113 (dk_at dksX9_wander_4 9 rfl rfl)
theorem dX9_wander_104 : decode cX9_wander 104 = .ok (.l2i, 1) := dk_136 (dk_at dksX9_wander_4 10 rfl rfl)
theorem dX9_wander_105 : decode cX9_wander 105 = .ok (.istore 10, 2) := dk_54 10 (dk_at dksX9_wander_4 11 rfl rfl)
theorem dX9_wander_107 : decode cX9_wander 107 = .ok (.lload 4, 2) := dk_22 4 (dk_at dksX9_wander_4 13 rfl rfl)
theorem dX9_wander_109 : decode cX9_wander 109 = .ok (.invokestatic 253, 3) := dk_184 0 253 (dk_at dksX9_wander_4 15 rfl rfl)
theorem dX9_wander_112 : decode cX9_wander 112 = .ok (.lstore 4, 2) := dk_55 4 (dk_at dksX9_wander_4 18 rfl rfl)
theorem dX9_wander_114 : decode cX9_wander 114 = .ok (.lload 4, 2) := dk_22 4 (dk_at dksX9_wander_4 20 rfl rfl)
theorem dX9_wander_116 : decode cX9_wander 116 = .ok (.ldc2_w 257, 3) := dk_20 1 1 (dk_at dksX9_wander_5 0 rfl rfl)
theorem dX9_wander_119 : decode cX9_wander 119 = .ok (.ldiv, 1) := dk_109 (dk_at dksX9_wander_5 3 rfl rfl)
theorem dX9_wander_120 : decode cX9_wander 120 = .ok (.ldc2_w 336, 3) := dk_20 1 80 (dk_at dksX9_wander_5 4 rfl rfl)
theorem dX9_wander_123 : decode cX9_wander 123 = .ok (.lrem, 1) := dk_113 (dk_at dksX9_wander_5 7 rfl rfl)
theorem dX9_wander_124 : decode cX9_wander 124 = .ok (.l2i, 1) := dk_136 (dk_at dksX9_wander_5 8 rfl rfl)
theorem dX9_wander_125 : decode cX9_wander 125 = .ok (.istore 11, 2) := dk_54 11 (dk_at dksX9_wander_5 9 rfl rfl)
theorem dX9_wander_127 : decode cX9_wander 127 = .ok (.aload_n 0, 1) := dk_42 (dk_at dksX9_wander_5 11 rfl rfl)
theorem dX9_wander_128 : decode cX9_wander 128 = .ok (.getfield 40, 3) := dk_180 0 40 (dk_at dksX9_wander_5 12 rfl rfl)
theorem dX9_wander_131 : decode cX9_wander 131 = .ok (.bipush 48, 2) := dk_16 48 (dk_at dksX9_wander_5 15 rfl rfl)
theorem dX9_wander_133 : decode cX9_wander 133 = .ok (.iload 10, 2) := dk_21 10 (dk_at dksX9_wander_5 17 rfl rfl)
theorem dX9_wander_135 : decode cX9_wander 135 = .ok (.iadd, 1) := dk_96 (dk_at dksX9_wander_5 19 rfl rfl)
theorem dX9_wander_136 : decode cX9_wander 136 = .ok (.iaload, 1) := dk_46 (dk_at dksX9_wander_5 20 rfl rfl)
theorem dX9_wander_137 : decode cX9_wander 137 = .ok (.ifCond .gt 57, 3) := dk_157 0 57 (dk_at dksX9_wander_5 21 rfl rfl)
theorem dX9_wander_140 : decode cX9_wander 140 = .ok (.iload 11, 2) := dk_21 11 (dk_at dksX9_wander_6 0 rfl rfl)
theorem dX9_wander_142 : decode cX9_wander 142 = .ok (.bipush 100, 2) := dk_16 100 (dk_at dksX9_wander_6 2 rfl rfl)
theorem dX9_wander_144 : decode cX9_wander 144 = .ok (.iload_n 2, 1) := dk_28 (dk_at dksX9_wander_6 4 rfl rfl)
theorem dX9_wander_145 : decode cX9_wander 145 = .ok (.aload_n 0, 1) := dk_42 (dk_at dksX9_wander_6 5 rfl rfl)
theorem dX9_wander_146 : decode cX9_wander 146 = .ok (.iload 6, 2) := dk_21 6 (dk_at dksX9_wander_6 6 rfl rfl)
theorem dX9_wander_148 : decode cX9_wander 148 = .ok (.iload 10, 2) := dk_21 10 (dk_at dksX9_wander_6 8 rfl rfl)
theorem dX9_wander_150 : decode cX9_wander 150 = .ok (.invokevirtual 289, 3) := dk_182 1 33 (dk_at dksX9_wander_6 10 rfl rfl)
theorem dX9_wander_153 : decode cX9_wander 153 = .ok (.imul, 1) := dk_104 (dk_at dksX9_wander_6 13 rfl rfl)
theorem dX9_wander_154 : decode cX9_wander 154 = .ok (.isub, 1) := dk_100 (dk_at dksX9_wander_6 14 rfl rfl)
theorem dX9_wander_155 : decode cX9_wander 155 = .ok (.if_icmp .lt 6, 3) := dk_161 0 6 (dk_at dksX9_wander_6 15 rfl rfl)
theorem dX9_wander_158 : decode cX9_wander 158 = .ok (.goto 36, 3) := dk_167 0 36 (dk_at dksX9_wander_6 18 rfl rfl)
theorem dX9_wander_161 : decode cX9_wander 161 = .ok (.iload 6, 2) := dk_21 6 (dk_at dksX9_wander_6 21 rfl rfl)
theorem dX9_wander_163 : decode cX9_wander 163 = .ok (.iconst 1, 1) := dk_4 (dk_at dksX9_wander_6 23 rfl rfl)
theorem dX9_wander_164 : decode cX9_wander 164 = .ok (.iload 10, 2) := dk_21 10 (dk_at dksX9_wander_7 0 rfl rfl)
theorem dX9_wander_166 : decode cX9_wander 166 = .ok (.ishl, 1) := dk_120 (dk_at dksX9_wander_7 2 rfl rfl)
theorem dX9_wander_167 : decode cX9_wander 167 = .ok (.ixor, 1) := dk_130 (dk_at dksX9_wander_7 3 rfl rfl)
theorem dX9_wander_168 : decode cX9_wander 168 = .ok (.istore 6, 2) := dk_54 6 (dk_at dksX9_wander_7 4 rfl rfl)
theorem dX9_wander_170 : decode cX9_wander 170 = .ok (.iinc 8 1, 3) := dk_132 8 1 (dk_at dksX9_wander_7 6 rfl rfl)
theorem dX9_wander_173 : decode cX9_wander 173 = .ok (.aload_n 0, 1) := dk_42 (dk_at dksX9_wander_7 9 rfl rfl)
theorem dX9_wander_174 : decode cX9_wander 174 = .ok (.getfield 57, 3) := dk_180 0 57 (dk_at dksX9_wander_7 10 rfl rfl)
theorem dX9_wander_177 : decode cX9_wander 177 = .ok (.iload 6, 2) := dk_21 6 (dk_at dksX9_wander_7 13 rfl rfl)
theorem dX9_wander_179 : decode cX9_wander 179 = .ok (.iaload, 1) := dk_46 (dk_at dksX9_wander_7 15 rfl rfl)
theorem dX9_wander_180 : decode cX9_wander 180 = .ok (.iload 7, 2) := dk_21 7 (dk_at dksX9_wander_7 16 rfl rfl)
theorem dX9_wander_182 : decode cX9_wander 182 = .ok (.if_icmp .ge 12, 3) := dk_162 0 12 (dk_at dksX9_wander_7 18 rfl rfl)
theorem dX9_wander_185 : decode cX9_wander 185 = .ok (.aload_n 0, 1) := dk_42 (dk_at dksX9_wander_7 21 rfl rfl)
theorem dX9_wander_186 : decode cX9_wander 186 = .ok (.getfield 57, 3) := dk_180 0 57 (dk_at dksX9_wander_8 0 rfl rfl)
theorem dX9_wander_189 : decode cX9_wander 189 = .ok (.iload 6, 2) := dk_21 6 (dk_at dksX9_wander_8 3 rfl rfl)
theorem dX9_wander_191 : decode cX9_wander 191 = .ok (.iaload, 1) := dk_46 (dk_at dksX9_wander_8 5 rfl rfl)
theorem dX9_wander_192 : decode cX9_wander 192 = .ok (.istore 7, 2) := dk_54 7 (dk_at dksX9_wander_8 6 rfl rfl)
theorem dX9_wander_194 : decode cX9_wander 194 = .ok (.iinc 9 1, 3) := dk_132 9 1 (dk_at dksX9_wander_8 8 rfl rfl)
theorem dX9_wander_197 : decode cX9_wander 197 = .ok (.goto (-118), 3) := dk_167 255 138 (dk_at dksX9_wander_8 11 rfl rfl)
theorem dX9_wander_200 : decode cX9_wander 200 = .ok (.iload_n 3, 1) := dk_29 (dk_at dksX9_wander_8 14 rfl rfl)
theorem dX9_wander_201 : decode cX9_wander 201 = .ok (.ifCond .ne 8, 3) := dk_154 0 8 (dk_at dksX9_wander_8 15 rfl rfl)
theorem dX9_wander_204 : decode cX9_wander 204 = .ok (.iload 6, 2) := dk_21 6 (dk_at dksX9_wander_8 18 rfl rfl)
theorem dX9_wander_206 : decode cX9_wander 206 = .ok (.goto 15, 3) := dk_167 0 15 (dk_at dksX9_wander_8 20 rfl rfl)
theorem dX9_wander_209 : decode cX9_wander 209 = .ok (.iload_n 3, 1) := dk_29 (dk_at dksX9_wander_8 23 rfl rfl)
theorem dX9_wander_210 : decode cX9_wander 210 = .ok (.iconst 1, 1) := dk_4 (dk_at dksX9_wander_9 0 rfl rfl)
theorem dX9_wander_211 : decode cX9_wander 211 = .ok (.if_icmp .ne 8, 3) := dk_160 0 8 (dk_at dksX9_wander_9 1 rfl rfl)
theorem dX9_wander_214 : decode cX9_wander 214 = .ok (.iload 7, 2) := dk_21 7 (dk_at dksX9_wander_9 4 rfl rfl)
theorem dX9_wander_216 : decode cX9_wander 216 = .ok (.goto 5, 3) := dk_167 0 5 (dk_at dksX9_wander_9 6 rfl rfl)
theorem dX9_wander_219 : decode cX9_wander 219 = .ok (.iload 8, 2) := dk_21 8 (dk_at dksX9_wander_9 9 rfl rfl)
theorem dX9_wander_221 : decode cX9_wander 221 = .ok (.ireturn, 1) := dk_172 (dk_at dksX9_wander_9 11 rfl rfl)
abbrev cX9_count : ByteArray := prog_14_method_95_code
def yX9_count : MethodName := ⟨RX9, "count", "(I)I"⟩
def dkwX9_count_8 : List UInt8 := [172]
abbrev dktX9_count_8 : List UInt8 := dkwX9_count_8 ++ []
def dkwX9_count_7 : List UInt8 := [180, 0, 190, 153, 0, 7, 5, 167, 0, 4, 3, 96, 172, 42, 182, 1, 97, 172, 42, 182, 1, 100, 172, 2]
abbrev dktX9_count_7 : List UInt8 := dkwX9_count_7 ++ dktX9_count_8
def dkwX9_count_6 : List UInt8 := [42, 182, 1, 91, 172, 42, 182, 1, 94, 172, 42, 180, 0, 184, 153, 0, 7, 4, 167, 0, 4, 3, 42]
abbrev dktX9_count_6 : List UInt8 := dkwX9_count_6 ++ dktX9_count_7
def dkwX9_count_5 : List UInt8 := [42, 180, 0, 52, 5, 51, 153, 0, 7, 4, 167, 0, 4, 3, 96, 172, 42, 180, 0, 40, 16, 65, 46, 172]
abbrev dktX9_count_5 : List UInt8 := dkwX9_count_5 ++ dktX9_count_6
def dkwX9_count_4 : List UInt8 := [51, 153, 0, 7, 4, 167, 0, 4, 3, 42, 180, 0, 52, 4, 51, 153, 0, 7, 4, 167, 0, 4, 3, 96]
abbrev dktX9_count_4 : List UInt8 := dkwX9_count_4 ++ dktX9_count_5
def dkwX9_count_3 : List UInt8 := [182, 1, 85, 172, 42, 182, 1, 88, 172, 42, 180, 0, 94, 172, 42, 180, 0, 197, 172, 42, 180, 0, 52, 3]
abbrev dktX9_count_3 : List UInt8 := dkwX9_count_3 ++ dktX9_count_4
def dkwX9_count_2 : List UInt8 := [42, 180, 0, 171, 172, 42, 180, 0, 177, 172, 42, 180, 0, 40, 16, 64, 46, 172, 42, 182, 1, 82, 172, 42]
abbrev dktX9_count_2 : List UInt8 := dkwX9_count_2 ++ dktX9_count_3
def dkwX9_count_1 : List UInt8 := [170, 0, 0, 0, 0, 0, 217, 0, 0, 0, 0, 0, 0, 0, 14, 0, 0, 0, 75, 0, 0, 0, 80, 0, 0, 0, 85, 0, 0, 0, 93, 0, 0, 0, 98, 0, 0, 0, 103, 0, 0, 0, 108, 0, 0, 0, 113, 0, 0, 0, 118, 0, 0, 0, 163, 0, 0, 0, 171, 0, 0, 0, 176, 0, 0, 0, 181, 0, 0, 0, 207, 0, 0, 0, 212]
abbrev dktX9_count_1 : List UInt8 := dkwX9_count_1 ++ dktX9_count_2
def dkwX9_count_0 : List UInt8 := [27]
abbrev dktX9_count_0 : List UInt8 := dkwX9_count_0 ++ dktX9_count_1
theorem dksX9_count_0 : cX9_count.data.toList.drop 0 = dktX9_count_0 := by decide +kernel
theorem dksX9_count_1 : cX9_count.data.toList.drop 1 = dktX9_count_1 := dk_seg dksX9_count_0 1 rfl rfl
theorem dksX9_count_2 : cX9_count.data.toList.drop 76 = dktX9_count_2 := dk_seg dksX9_count_1 75 rfl rfl
theorem dksX9_count_3 : cX9_count.data.toList.drop 100 = dktX9_count_3 := dk_seg dksX9_count_2 24 rfl rfl
theorem dksX9_count_4 : cX9_count.data.toList.drop 124 = dktX9_count_4 := dk_seg dksX9_count_3 24 rfl rfl
theorem dksX9_count_5 : cX9_count.data.toList.drop 148 = dktX9_count_5 := dk_seg dksX9_count_4 24 rfl rfl
theorem dksX9_count_6 : cX9_count.data.toList.drop 172 = dktX9_count_6 := dk_seg dksX9_count_5 24 rfl rfl
theorem dksX9_count_7 : cX9_count.data.toList.drop 195 = dktX9_count_7 := dk_seg dksX9_count_6 23 rfl rfl
theorem dksX9_count_8 : cX9_count.data.toList.drop 219 = dktX9_count_8 := dk_seg dksX9_count_7 24 rfl rfl
theorem dX9_count_0 : decode cX9_count 0 = .ok (.iload_n 1, 1) := dk_27 (dk_at dksX9_count_0 0 rfl rfl)
theorem dX9_count_1 : decode cX9_count 1 = .ok (.tableswitch 217 0 14 #[75, 80, 85, 93, 98, 103, 108, 113, 118, 163, 171, 176, 181, 207, 212], 75) := by decide +kernel
theorem dX9_count_76 : decode cX9_count 76 = .ok (.aload_n 0, 1) := dk_42 (dk_at dksX9_count_2 0 rfl rfl)
theorem dX9_count_77 : decode cX9_count 77 = .ok (.getfield 171, 3) := dk_180 0 171 (dk_at dksX9_count_2 1 rfl rfl)
theorem dX9_count_80 : decode cX9_count 80 = .ok (.ireturn, 1) := dk_172 (dk_at dksX9_count_2 4 rfl rfl)
theorem dX9_count_81 : decode cX9_count 81 = .ok (.aload_n 0, 1) := dk_42 (dk_at dksX9_count_2 5 rfl rfl)
theorem dX9_count_82 : decode cX9_count 82 = .ok (.getfield 177, 3) := dk_180 0 177 (dk_at dksX9_count_2 6 rfl rfl)
theorem dX9_count_85 : decode cX9_count 85 = .ok (.ireturn, 1) := dk_172 (dk_at dksX9_count_2 9 rfl rfl)
theorem dX9_count_86 : decode cX9_count 86 = .ok (.aload_n 0, 1) := dk_42 (dk_at dksX9_count_2 10 rfl rfl)
theorem dX9_count_87 : decode cX9_count 87 = .ok (.getfield 40, 3) := dk_180 0 40 (dk_at dksX9_count_2 11 rfl rfl)
theorem dX9_count_90 : decode cX9_count 90 = .ok (.bipush 64, 2) := dk_16 64 (dk_at dksX9_count_2 14 rfl rfl)
theorem dX9_count_92 : decode cX9_count 92 = .ok (.iaload, 1) := dk_46 (dk_at dksX9_count_2 16 rfl rfl)
theorem dX9_count_93 : decode cX9_count 93 = .ok (.ireturn, 1) := dk_172 (dk_at dksX9_count_2 17 rfl rfl)
theorem dX9_count_94 : decode cX9_count 94 = .ok (.aload_n 0, 1) := dk_42 (dk_at dksX9_count_2 18 rfl rfl)
theorem dX9_count_95 : decode cX9_count 95 = .ok (.invokevirtual 338, 3) := dk_182 1 82 (dk_at dksX9_count_2 19 rfl rfl)
theorem dX9_count_98 : decode cX9_count 98 = .ok (.ireturn, 1) := dk_172 (dk_at dksX9_count_2 22 rfl rfl)
theorem dX9_count_99 : decode cX9_count 99 = .ok (.aload_n 0, 1) := dk_42 (dk_at dksX9_count_2 23 rfl rfl)
theorem dX9_count_100 : decode cX9_count 100 = .ok (.invokevirtual 341, 3) := dk_182 1 85 (dk_at dksX9_count_3 0 rfl rfl)
theorem dX9_count_103 : decode cX9_count 103 = .ok (.ireturn, 1) := dk_172 (dk_at dksX9_count_3 3 rfl rfl)
theorem dX9_count_104 : decode cX9_count 104 = .ok (.aload_n 0, 1) := dk_42 (dk_at dksX9_count_3 4 rfl rfl)
theorem dX9_count_105 : decode cX9_count 105 = .ok (.invokevirtual 344, 3) := dk_182 1 88 (dk_at dksX9_count_3 5 rfl rfl)
theorem dX9_count_108 : decode cX9_count 108 = .ok (.ireturn, 1) := dk_172 (dk_at dksX9_count_3 8 rfl rfl)
theorem dX9_count_109 : decode cX9_count 109 = .ok (.aload_n 0, 1) := dk_42 (dk_at dksX9_count_3 9 rfl rfl)
theorem dX9_count_110 : decode cX9_count 110 = .ok (.getfield 94, 3) := dk_180 0 94 (dk_at dksX9_count_3 10 rfl rfl)
theorem dX9_count_113 : decode cX9_count 113 = .ok (.ireturn, 1) := dk_172 (dk_at dksX9_count_3 13 rfl rfl)
theorem dX9_count_114 : decode cX9_count 114 = .ok (.aload_n 0, 1) := dk_42 (dk_at dksX9_count_3 14 rfl rfl)
theorem dX9_count_115 : decode cX9_count 115 = .ok (.getfield 197, 3) := dk_180 0 197 (dk_at dksX9_count_3 15 rfl rfl)
theorem dX9_count_118 : decode cX9_count 118 = .ok (.ireturn, 1) := dk_172 (dk_at dksX9_count_3 18 rfl rfl)
theorem dX9_count_119 : decode cX9_count 119 = .ok (.aload_n 0, 1) := dk_42 (dk_at dksX9_count_3 19 rfl rfl)
theorem dX9_count_120 : decode cX9_count 120 = .ok (.getfield 52, 3) := dk_180 0 52 (dk_at dksX9_count_3 20 rfl rfl)
theorem dX9_count_123 : decode cX9_count 123 = .ok (.iconst 0, 1) := dk_3 (dk_at dksX9_count_3 23 rfl rfl)
theorem dX9_count_124 : decode cX9_count 124 = .ok (.baload, 1) := dk_51 (dk_at dksX9_count_4 0 rfl rfl)
theorem dX9_count_125 : decode cX9_count 125 = .ok (.ifCond .eq 7, 3) := dk_153 0 7 (dk_at dksX9_count_4 1 rfl rfl)
theorem dX9_count_128 : decode cX9_count 128 = .ok (.iconst 1, 1) := dk_4 (dk_at dksX9_count_4 4 rfl rfl)
theorem dX9_count_129 : decode cX9_count 129 = .ok (.goto 4, 3) := dk_167 0 4 (dk_at dksX9_count_4 5 rfl rfl)
theorem dX9_count_132 : decode cX9_count 132 = .ok (.iconst 0, 1) := dk_3 (dk_at dksX9_count_4 8 rfl rfl)
theorem dX9_count_133 : decode cX9_count 133 = .ok (.aload_n 0, 1) := dk_42 (dk_at dksX9_count_4 9 rfl rfl)
theorem dX9_count_134 : decode cX9_count 134 = .ok (.getfield 52, 3) := dk_180 0 52 (dk_at dksX9_count_4 10 rfl rfl)
theorem dX9_count_137 : decode cX9_count 137 = .ok (.iconst 1, 1) := dk_4 (dk_at dksX9_count_4 13 rfl rfl)
theorem dX9_count_138 : decode cX9_count 138 = .ok (.baload, 1) := dk_51 (dk_at dksX9_count_4 14 rfl rfl)
theorem dX9_count_139 : decode cX9_count 139 = .ok (.ifCond .eq 7, 3) := dk_153 0 7 (dk_at dksX9_count_4 15 rfl rfl)
theorem dX9_count_142 : decode cX9_count 142 = .ok (.iconst 1, 1) := dk_4 (dk_at dksX9_count_4 18 rfl rfl)
theorem dX9_count_143 : decode cX9_count 143 = .ok (.goto 4, 3) := dk_167 0 4 (dk_at dksX9_count_4 19 rfl rfl)
theorem dX9_count_146 : decode cX9_count 146 = .ok (.iconst 0, 1) := dk_3 (dk_at dksX9_count_4 22 rfl rfl)
theorem dX9_count_147 : decode cX9_count 147 = .ok (.iadd, 1) := dk_96 (dk_at dksX9_count_4 23 rfl rfl)
theorem dX9_count_148 : decode cX9_count 148 = .ok (.aload_n 0, 1) := dk_42 (dk_at dksX9_count_5 0 rfl rfl)
theorem dX9_count_149 : decode cX9_count 149 = .ok (.getfield 52, 3) := dk_180 0 52 (dk_at dksX9_count_5 1 rfl rfl)
theorem dX9_count_152 : decode cX9_count 152 = .ok (.iconst 2, 1) := dk_5 (dk_at dksX9_count_5 4 rfl rfl)
theorem dX9_count_153 : decode cX9_count 153 = .ok (.baload, 1) := dk_51 (dk_at dksX9_count_5 5 rfl rfl)
theorem dX9_count_154 : decode cX9_count 154 = .ok (.ifCond .eq 7, 3) := dk_153 0 7 (dk_at dksX9_count_5 6 rfl rfl)
theorem dX9_count_157 : decode cX9_count 157 = .ok (.iconst 1, 1) := dk_4 (dk_at dksX9_count_5 9 rfl rfl)
theorem dX9_count_158 : decode cX9_count 158 = .ok (.goto 4, 3) := dk_167 0 4 (dk_at dksX9_count_5 10 rfl rfl)
theorem dX9_count_161 : decode cX9_count 161 = .ok (.iconst 0, 1) := dk_3 (dk_at dksX9_count_5 13 rfl rfl)
theorem dX9_count_162 : decode cX9_count 162 = .ok (.iadd, 1) := dk_96 (dk_at dksX9_count_5 14 rfl rfl)
theorem dX9_count_163 : decode cX9_count 163 = .ok (.ireturn, 1) := dk_172 (dk_at dksX9_count_5 15 rfl rfl)
theorem dX9_count_164 : decode cX9_count 164 = .ok (.aload_n 0, 1) := dk_42 (dk_at dksX9_count_5 16 rfl rfl)
theorem dX9_count_165 : decode cX9_count 165 = .ok (.getfield 40, 3) := dk_180 0 40 (dk_at dksX9_count_5 17 rfl rfl)
theorem dX9_count_168 : decode cX9_count 168 = .ok (.bipush 65, 2) := dk_16 65 (dk_at dksX9_count_5 20 rfl rfl)
theorem dX9_count_170 : decode cX9_count 170 = .ok (.iaload, 1) := dk_46 (dk_at dksX9_count_5 22 rfl rfl)
theorem dX9_count_171 : decode cX9_count 171 = .ok (.ireturn, 1) := dk_172 (dk_at dksX9_count_5 23 rfl rfl)
theorem dX9_count_172 : decode cX9_count 172 = .ok (.aload_n 0, 1) := dk_42 (dk_at dksX9_count_6 0 rfl rfl)
theorem dX9_count_173 : decode cX9_count 173 = .ok (.invokevirtual 347, 3) := dk_182 1 91 (dk_at dksX9_count_6 1 rfl rfl)
theorem dX9_count_176 : decode cX9_count 176 = .ok (.ireturn, 1) := dk_172 (dk_at dksX9_count_6 4 rfl rfl)
theorem dX9_count_177 : decode cX9_count 177 = .ok (.aload_n 0, 1) := dk_42 (dk_at dksX9_count_6 5 rfl rfl)
theorem dX9_count_178 : decode cX9_count 178 = .ok (.invokevirtual 350, 3) := dk_182 1 94 (dk_at dksX9_count_6 6 rfl rfl)
theorem dX9_count_181 : decode cX9_count 181 = .ok (.ireturn, 1) := dk_172 (dk_at dksX9_count_6 9 rfl rfl)
theorem dX9_count_182 : decode cX9_count 182 = .ok (.aload_n 0, 1) := dk_42 (dk_at dksX9_count_6 10 rfl rfl)
theorem dX9_count_183 : decode cX9_count 183 = .ok (.getfield 184, 3) := dk_180 0 184 (dk_at dksX9_count_6 11 rfl rfl)
theorem dX9_count_186 : decode cX9_count 186 = .ok (.ifCond .eq 7, 3) := dk_153 0 7 (dk_at dksX9_count_6 14 rfl rfl)
theorem dX9_count_189 : decode cX9_count 189 = .ok (.iconst 1, 1) := dk_4 (dk_at dksX9_count_6 17 rfl rfl)
theorem dX9_count_190 : decode cX9_count 190 = .ok (.goto 4, 3) := dk_167 0 4 (dk_at dksX9_count_6 18 rfl rfl)
theorem dX9_count_193 : decode cX9_count 193 = .ok (.iconst 0, 1) := dk_3 (dk_at dksX9_count_6 21 rfl rfl)
theorem dX9_count_194 : decode cX9_count 194 = .ok (.aload_n 0, 1) := dk_42 (dk_at dksX9_count_6 22 rfl rfl)
theorem dX9_count_195 : decode cX9_count 195 = .ok (.getfield 190, 3) := dk_180 0 190 (dk_at dksX9_count_7 0 rfl rfl)
theorem dX9_count_198 : decode cX9_count 198 = .ok (.ifCond .eq 7, 3) := dk_153 0 7 (dk_at dksX9_count_7 3 rfl rfl)
theorem dX9_count_201 : decode cX9_count 201 = .ok (.iconst 2, 1) := dk_5 (dk_at dksX9_count_7 6 rfl rfl)
theorem dX9_count_202 : decode cX9_count 202 = .ok (.goto 4, 3) := dk_167 0 4 (dk_at dksX9_count_7 7 rfl rfl)
theorem dX9_count_205 : decode cX9_count 205 = .ok (.iconst 0, 1) := dk_3 (dk_at dksX9_count_7 10 rfl rfl)
theorem dX9_count_206 : decode cX9_count 206 = .ok (.iadd, 1) := dk_96 (dk_at dksX9_count_7 11 rfl rfl)
theorem dX9_count_207 : decode cX9_count 207 = .ok (.ireturn, 1) := dk_172 (dk_at dksX9_count_7 12 rfl rfl)
theorem dX9_count_208 : decode cX9_count 208 = .ok (.aload_n 0, 1) := dk_42 (dk_at dksX9_count_7 13 rfl rfl)
theorem dX9_count_209 : decode cX9_count 209 = .ok (.invokevirtual 353, 3) := dk_182 1 97 (dk_at dksX9_count_7 14 rfl rfl)
theorem dX9_count_212 : decode cX9_count 212 = .ok (.ireturn, 1) := dk_172 (dk_at dksX9_count_7 17 rfl rfl)
theorem dX9_count_213 : decode cX9_count 213 = .ok (.aload_n 0, 1) := dk_42 (dk_at dksX9_count_7 18 rfl rfl)
theorem dX9_count_214 : decode cX9_count 214 = .ok (.invokevirtual 356, 3) := dk_182 1 100 (dk_at dksX9_count_7 19 rfl rfl)
theorem dX9_count_217 : decode cX9_count 217 = .ok (.ireturn, 1) := dk_172 (dk_at dksX9_count_7 22 rfl rfl)
theorem dX9_count_218 : decode cX9_count 218 = .ok (.iconst (-1), 1) := dk_2 (dk_at dksX9_count_7 23 rfl rfl)
theorem dX9_count_219 : decode cX9_count 219 = .ok (.ireturn, 1) := dk_172 (dk_at dksX9_count_8 0 rfl rfl)
abbrev cX9_lawfulMany : ByteArray := prog_14_method_88_code
def yX9_lawfulMany : MethodName := ⟨RX9, "lawfulMany", "()I"⟩
def dkwX9_lawfulMany_1 : List UInt8 := [132, 2, 1, 167, 255, 234, 27, 172]
abbrev dktX9_lawfulMany_1 : List UInt8 := dkwX9_lawfulMany_1 ++ []
def dkwX9_lawfulMany_0 : List UInt8 := [3, 60, 3, 61, 28, 42, 182, 1, 14, 162, 0, 20, 42, 28, 182, 1, 25, 153, 0, 6, 132, 1, 1]
abbrev dktX9_lawfulMany_0 : List UInt8 := dkwX9_lawfulMany_0 ++ dktX9_lawfulMany_1
theorem dksX9_lawfulMany_0 : cX9_lawfulMany.data.toList.drop 0 = dktX9_lawfulMany_0 := by decide +kernel
theorem dksX9_lawfulMany_1 : cX9_lawfulMany.data.toList.drop 23 = dktX9_lawfulMany_1 := dk_seg dksX9_lawfulMany_0 23 rfl rfl
theorem dX9_lawfulMany_0 : decode cX9_lawfulMany 0 = .ok (.iconst 0, 1) := dk_3 (dk_at dksX9_lawfulMany_0 0 rfl rfl)
theorem dX9_lawfulMany_1 : decode cX9_lawfulMany 1 = .ok (.istore_n 1, 1) := dk_60 (dk_at dksX9_lawfulMany_0 1 rfl rfl)
theorem dX9_lawfulMany_2 : decode cX9_lawfulMany 2 = .ok (.iconst 0, 1) := dk_3 (dk_at dksX9_lawfulMany_0 2 rfl rfl)
theorem dX9_lawfulMany_3 : decode cX9_lawfulMany 3 = .ok (.istore_n 2, 1) := dk_61 (dk_at dksX9_lawfulMany_0 3 rfl rfl)
theorem dX9_lawfulMany_4 : decode cX9_lawfulMany 4 = .ok (.iload_n 2, 1) := dk_28 (dk_at dksX9_lawfulMany_0 4 rfl rfl)
theorem dX9_lawfulMany_5 : decode cX9_lawfulMany 5 = .ok (.aload_n 0, 1) := dk_42 (dk_at dksX9_lawfulMany_0 5 rfl rfl)
theorem dX9_lawfulMany_6 : decode cX9_lawfulMany 6 = .ok (.invokevirtual 270, 3) := dk_182 1 14 (dk_at dksX9_lawfulMany_0 6 rfl rfl)
theorem dX9_lawfulMany_9 : decode cX9_lawfulMany 9 = .ok (.if_icmp .ge 20, 3) := dk_162 0 20 (dk_at dksX9_lawfulMany_0 9 rfl rfl)
theorem dX9_lawfulMany_12 : decode cX9_lawfulMany 12 = .ok (.aload_n 0, 1) := dk_42 (dk_at dksX9_lawfulMany_0 12 rfl rfl)
theorem dX9_lawfulMany_13 : decode cX9_lawfulMany 13 = .ok (.iload_n 2, 1) := dk_28 (dk_at dksX9_lawfulMany_0 13 rfl rfl)
theorem dX9_lawfulMany_14 : decode cX9_lawfulMany 14 = .ok (.invokevirtual 281, 3) := dk_182 1 25 (dk_at dksX9_lawfulMany_0 14 rfl rfl)
theorem dX9_lawfulMany_17 : decode cX9_lawfulMany 17 = .ok (.ifCond .eq 6, 3) := dk_153 0 6 (dk_at dksX9_lawfulMany_0 17 rfl rfl)
theorem dX9_lawfulMany_20 : decode cX9_lawfulMany 20 = .ok (.iinc 1 1, 3) := dk_132 1 1 (dk_at dksX9_lawfulMany_0 20 rfl rfl)
theorem dX9_lawfulMany_23 : decode cX9_lawfulMany 23 = .ok (.iinc 2 1, 3) := dk_132 2 1 (dk_at dksX9_lawfulMany_1 0 rfl rfl)
theorem dX9_lawfulMany_26 : decode cX9_lawfulMany 26 = .ok (.goto (-22), 3) := dk_167 255 234 (dk_at dksX9_lawfulMany_1 3 rfl rfl)
theorem dX9_lawfulMany_29 : decode cX9_lawfulMany 29 = .ok (.iload_n 1, 1) := dk_27 (dk_at dksX9_lawfulMany_1 6 rfl rfl)
theorem dX9_lawfulMany_30 : decode cX9_lawfulMany 30 = .ok (.ireturn, 1) := dk_172 (dk_at dksX9_lawfulMany_1 7 rfl rfl)
abbrev cX9_pinned : ByteArray := prog_14_method_89_code
def yX9_pinned : MethodName := ⟨RX9, "pinned", "()I"⟩
def dkwX9_pinned_1 : List UInt8 := [27, 4, 28, 120, 128, 60, 132, 2, 1, 167, 255, 227, 27, 172]
abbrev dktX9_pinned_1 : List UInt8 := dkwX9_pinned_1 ++ []
def dkwX9_pinned_0 : List UInt8 := [3, 60, 3, 61, 28, 42, 182, 0, 193, 162, 0, 27, 42, 180, 0, 40, 16, 48, 28, 96, 46, 158, 0, 9]
abbrev dktX9_pinned_0 : List UInt8 := dkwX9_pinned_0 ++ dktX9_pinned_1
theorem dksX9_pinned_0 : cX9_pinned.data.toList.drop 0 = dktX9_pinned_0 := by decide +kernel
theorem dksX9_pinned_1 : cX9_pinned.data.toList.drop 24 = dktX9_pinned_1 := dk_seg dksX9_pinned_0 24 rfl rfl
theorem dX9_pinned_0 : decode cX9_pinned 0 = .ok (.iconst 0, 1) := dk_3 (dk_at dksX9_pinned_0 0 rfl rfl)
theorem dX9_pinned_1 : decode cX9_pinned 1 = .ok (.istore_n 1, 1) := dk_60 (dk_at dksX9_pinned_0 1 rfl rfl)
theorem dX9_pinned_2 : decode cX9_pinned 2 = .ok (.iconst 0, 1) := dk_3 (dk_at dksX9_pinned_0 2 rfl rfl)
theorem dX9_pinned_3 : decode cX9_pinned 3 = .ok (.istore_n 2, 1) := dk_61 (dk_at dksX9_pinned_0 3 rfl rfl)
theorem dX9_pinned_4 : decode cX9_pinned 4 = .ok (.iload_n 2, 1) := dk_28 (dk_at dksX9_pinned_0 4 rfl rfl)
theorem dX9_pinned_5 : decode cX9_pinned 5 = .ok (.aload_n 0, 1) := dk_42 (dk_at dksX9_pinned_0 5 rfl rfl)
theorem dX9_pinned_6 : decode cX9_pinned 6 = .ok (.invokevirtual 193, 3) := dk_182 0 193 (dk_at dksX9_pinned_0 6 rfl rfl)
theorem dX9_pinned_9 : decode cX9_pinned 9 = .ok (.if_icmp .ge 27, 3) := dk_162 0 27 (dk_at dksX9_pinned_0 9 rfl rfl)
theorem dX9_pinned_12 : decode cX9_pinned 12 = .ok (.aload_n 0, 1) := dk_42 (dk_at dksX9_pinned_0 12 rfl rfl)
theorem dX9_pinned_13 : decode cX9_pinned 13 = .ok (.getfield 40, 3) := dk_180 0 40 (dk_at dksX9_pinned_0 13 rfl rfl)
theorem dX9_pinned_16 : decode cX9_pinned 16 = .ok (.bipush 48, 2) := dk_16 48 (dk_at dksX9_pinned_0 16 rfl rfl)
theorem dX9_pinned_18 : decode cX9_pinned 18 = .ok (.iload_n 2, 1) := dk_28 (dk_at dksX9_pinned_0 18 rfl rfl)
theorem dX9_pinned_19 : decode cX9_pinned 19 = .ok (.iadd, 1) := dk_96 (dk_at dksX9_pinned_0 19 rfl rfl)
theorem dX9_pinned_20 : decode cX9_pinned 20 = .ok (.iaload, 1) := dk_46 (dk_at dksX9_pinned_0 20 rfl rfl)
theorem dX9_pinned_21 : decode cX9_pinned 21 = .ok (.ifCond .le 9, 3) := dk_158 0 9 (dk_at dksX9_pinned_0 21 rfl rfl)
theorem dX9_pinned_24 : decode cX9_pinned 24 = .ok (.iload_n 1, 1) := dk_27 (dk_at dksX9_pinned_1 0 rfl rfl)
theorem dX9_pinned_25 : decode cX9_pinned 25 = .ok (.iconst 1, 1) := dk_4 (dk_at dksX9_pinned_1 1 rfl rfl)
theorem dX9_pinned_26 : decode cX9_pinned 26 = .ok (.iload_n 2, 1) := dk_28 (dk_at dksX9_pinned_1 2 rfl rfl)
theorem dX9_pinned_27 : decode cX9_pinned 27 = .ok (.ishl, 1) := dk_120 (dk_at dksX9_pinned_1 3 rfl rfl)
theorem dX9_pinned_28 : decode cX9_pinned 28 = .ok (.ior, 1) := dk_128 (dk_at dksX9_pinned_1 4 rfl rfl)
theorem dX9_pinned_29 : decode cX9_pinned 29 = .ok (.istore_n 1, 1) := dk_60 (dk_at dksX9_pinned_1 5 rfl rfl)
theorem dX9_pinned_30 : decode cX9_pinned 30 = .ok (.iinc 2 1, 3) := dk_132 2 1 (dk_at dksX9_pinned_1 6 rfl rfl)
theorem dX9_pinned_33 : decode cX9_pinned 33 = .ok (.goto (-29), 3) := dk_167 255 227 (dk_at dksX9_pinned_1 9 rfl rfl)
theorem dX9_pinned_36 : decode cX9_pinned 36 = .ok (.iload_n 1, 1) := dk_27 (dk_at dksX9_pinned_1 12 rfl rfl)
theorem dX9_pinned_37 : decode cX9_pinned 37 = .ok (.ireturn, 1) := dk_172 (dk_at dksX9_pinned_1 13 rfl rfl)
abbrev cX9_ties : ByteArray := prog_14_method_90_code
def yX9_ties : MethodName := ⟨RX9, "ties", "()I"⟩
def dkwX9_ties_2 : List UInt8 := [172]
abbrev dktX9_ties_2 : List UInt8 := dkwX9_ties_2 ++ []
def dkwX9_ties_1 : List UInt8 := [160, 0, 7, 4, 167, 0, 4, 3, 182, 0, 236, 155, 0, 6, 132, 1, 1, 132, 2, 1, 167, 255, 218, 27]
abbrev dktX9_ties_1 : List UInt8 := dkwX9_ties_1 ++ dktX9_ties_2
def dkwX9_ties_0 : List UInt8 := [3, 60, 3, 61, 28, 5, 42, 182, 0, 193, 104, 162, 0, 34, 42, 28, 5, 108, 28, 5, 112, 4]
abbrev dktX9_ties_0 : List UInt8 := dkwX9_ties_0 ++ dktX9_ties_1
theorem dksX9_ties_0 : cX9_ties.data.toList.drop 0 = dktX9_ties_0 := by decide +kernel
theorem dksX9_ties_1 : cX9_ties.data.toList.drop 22 = dktX9_ties_1 := dk_seg dksX9_ties_0 22 rfl rfl
theorem dksX9_ties_2 : cX9_ties.data.toList.drop 46 = dktX9_ties_2 := dk_seg dksX9_ties_1 24 rfl rfl
theorem dX9_ties_0 : decode cX9_ties 0 = .ok (.iconst 0, 1) := dk_3 (dk_at dksX9_ties_0 0 rfl rfl)
theorem dX9_ties_1 : decode cX9_ties 1 = .ok (.istore_n 1, 1) := dk_60 (dk_at dksX9_ties_0 1 rfl rfl)
theorem dX9_ties_2 : decode cX9_ties 2 = .ok (.iconst 0, 1) := dk_3 (dk_at dksX9_ties_0 2 rfl rfl)
theorem dX9_ties_3 : decode cX9_ties 3 = .ok (.istore_n 2, 1) := dk_61 (dk_at dksX9_ties_0 3 rfl rfl)
theorem dX9_ties_4 : decode cX9_ties 4 = .ok (.iload_n 2, 1) := dk_28 (dk_at dksX9_ties_0 4 rfl rfl)
theorem dX9_ties_5 : decode cX9_ties 5 = .ok (.iconst 2, 1) := dk_5 (dk_at dksX9_ties_0 5 rfl rfl)
theorem dX9_ties_6 : decode cX9_ties 6 = .ok (.aload_n 0, 1) := dk_42 (dk_at dksX9_ties_0 6 rfl rfl)
theorem dX9_ties_7 : decode cX9_ties 7 = .ok (.invokevirtual 193, 3) := dk_182 0 193 (dk_at dksX9_ties_0 7 rfl rfl)
theorem dX9_ties_10 : decode cX9_ties 10 = .ok (.imul, 1) := dk_104 (dk_at dksX9_ties_0 10 rfl rfl)
theorem dX9_ties_11 : decode cX9_ties 11 = .ok (.if_icmp .ge 34, 3) := dk_162 0 34 (dk_at dksX9_ties_0 11 rfl rfl)
theorem dX9_ties_14 : decode cX9_ties 14 = .ok (.aload_n 0, 1) := dk_42 (dk_at dksX9_ties_0 14 rfl rfl)
theorem dX9_ties_15 : decode cX9_ties 15 = .ok (.iload_n 2, 1) := dk_28 (dk_at dksX9_ties_0 15 rfl rfl)
theorem dX9_ties_16 : decode cX9_ties 16 = .ok (.iconst 2, 1) := dk_5 (dk_at dksX9_ties_0 16 rfl rfl)
theorem dX9_ties_17 : decode cX9_ties 17 = .ok (.idiv, 1) := dk_108 (dk_at dksX9_ties_0 17 rfl rfl)
theorem dX9_ties_18 : decode cX9_ties 18 = .ok (.iload_n 2, 1) := dk_28 (dk_at dksX9_ties_0 18 rfl rfl)
theorem dX9_ties_19 : decode cX9_ties 19 = .ok (.iconst 2, 1) := dk_5 (dk_at dksX9_ties_0 19 rfl rfl)
theorem dX9_ties_20 : decode cX9_ties 20 = .ok (.irem, 1) := dk_112 (dk_at dksX9_ties_0 20 rfl rfl)
theorem dX9_ties_21 : decode cX9_ties 21 = .ok (.iconst 1, 1) := dk_4 (dk_at dksX9_ties_0 21 rfl rfl)
theorem dX9_ties_22 : decode cX9_ties 22 = .ok (.if_icmp .ne 7, 3) := dk_160 0 7 (dk_at dksX9_ties_1 0 rfl rfl)
theorem dX9_ties_25 : decode cX9_ties 25 = .ok (.iconst 1, 1) := dk_4 (dk_at dksX9_ties_1 3 rfl rfl)
theorem dX9_ties_26 : decode cX9_ties 26 = .ok (.goto 4, 3) := dk_167 0 4 (dk_at dksX9_ties_1 4 rfl rfl)
theorem dX9_ties_29 : decode cX9_ties 29 = .ok (.iconst 0, 1) := dk_3 (dk_at dksX9_ties_1 7 rfl rfl)
theorem dX9_ties_30 : decode cX9_ties 30 = .ok (.invokevirtual 236, 3) := dk_182 0 236 (dk_at dksX9_ties_1 8 rfl rfl)
theorem dX9_ties_33 : decode cX9_ties 33 = .ok (.ifCond .lt 6, 3) := dk_155 0 6 (dk_at dksX9_ties_1 11 rfl rfl)
theorem dX9_ties_36 : decode cX9_ties 36 = .ok (.iinc 1 1, 3) := dk_132 1 1 (dk_at dksX9_ties_1 14 rfl rfl)
theorem dX9_ties_39 : decode cX9_ties 39 = .ok (.iinc 2 1, 3) := dk_132 2 1 (dk_at dksX9_ties_1 17 rfl rfl)
theorem dX9_ties_42 : decode cX9_ties 42 = .ok (.goto (-38), 3) := dk_167 255 218 (dk_at dksX9_ties_1 20 rfl rfl)
theorem dX9_ties_45 : decode cX9_ties 45 = .ok (.iload_n 1, 1) := dk_27 (dk_at dksX9_ties_1 23 rfl rfl)
theorem dX9_ties_46 : decode cX9_ties 46 = .ok (.ireturn, 1) := dk_172 (dk_at dksX9_ties_2 0 rfl rfl)
abbrev cX9_clusters : ByteArray := prog_14_method_91_code
def yX9_clusters : MethodName := ⟨RX9, "clusters", "()I"⟩
def dkwX9_clusters_1 : List UInt8 := [154, 0, 6, 132, 1, 1, 132, 2, 1, 167, 255, 228, 27, 172]
abbrev dktX9_clusters_1 : List UInt8 := dkwX9_clusters_1 ++ []
def dkwX9_clusters_0 : List UInt8 := [3, 60, 3, 61, 28, 42, 182, 0, 193, 162, 0, 26, 42, 28, 182, 1, 77, 4, 28, 120, 4, 100, 126]
abbrev dktX9_clusters_0 : List UInt8 := dkwX9_clusters_0 ++ dktX9_clusters_1
theorem dksX9_clusters_0 : cX9_clusters.data.toList.drop 0 = dktX9_clusters_0 := by decide +kernel
theorem dksX9_clusters_1 : cX9_clusters.data.toList.drop 23 = dktX9_clusters_1 := dk_seg dksX9_clusters_0 23 rfl rfl
theorem dX9_clusters_0 : decode cX9_clusters 0 = .ok (.iconst 0, 1) := dk_3 (dk_at dksX9_clusters_0 0 rfl rfl)
theorem dX9_clusters_1 : decode cX9_clusters 1 = .ok (.istore_n 1, 1) := dk_60 (dk_at dksX9_clusters_0 1 rfl rfl)
theorem dX9_clusters_2 : decode cX9_clusters 2 = .ok (.iconst 0, 1) := dk_3 (dk_at dksX9_clusters_0 2 rfl rfl)
theorem dX9_clusters_3 : decode cX9_clusters 3 = .ok (.istore_n 2, 1) := dk_61 (dk_at dksX9_clusters_0 3 rfl rfl)
theorem dX9_clusters_4 : decode cX9_clusters 4 = .ok (.iload_n 2, 1) := dk_28 (dk_at dksX9_clusters_0 4 rfl rfl)
theorem dX9_clusters_5 : decode cX9_clusters 5 = .ok (.aload_n 0, 1) := dk_42 (dk_at dksX9_clusters_0 5 rfl rfl)
theorem dX9_clusters_6 : decode cX9_clusters 6 = .ok (.invokevirtual 193, 3) := dk_182 0 193 (dk_at dksX9_clusters_0 6 rfl rfl)
theorem dX9_clusters_9 : decode cX9_clusters 9 = .ok (.if_icmp .ge 26, 3) := dk_162 0 26 (dk_at dksX9_clusters_0 9 rfl rfl)
theorem dX9_clusters_12 : decode cX9_clusters 12 = .ok (.aload_n 0, 1) := dk_42 (dk_at dksX9_clusters_0 12 rfl rfl)
theorem dX9_clusters_13 : decode cX9_clusters 13 = .ok (.iload_n 2, 1) := dk_28 (dk_at dksX9_clusters_0 13 rfl rfl)
theorem dX9_clusters_14 : decode cX9_clusters 14 = .ok (.invokevirtual 333, 3) := dk_182 1 77 (dk_at dksX9_clusters_0 14 rfl rfl)
theorem dX9_clusters_17 : decode cX9_clusters 17 = .ok (.iconst 1, 1) := dk_4 (dk_at dksX9_clusters_0 17 rfl rfl)
theorem dX9_clusters_18 : decode cX9_clusters 18 = .ok (.iload_n 2, 1) := dk_28 (dk_at dksX9_clusters_0 18 rfl rfl)
theorem dX9_clusters_19 : decode cX9_clusters 19 = .ok (.ishl, 1) := dk_120 (dk_at dksX9_clusters_0 19 rfl rfl)
theorem dX9_clusters_20 : decode cX9_clusters 20 = .ok (.iconst 1, 1) := dk_4 (dk_at dksX9_clusters_0 20 rfl rfl)
theorem dX9_clusters_21 : decode cX9_clusters 21 = .ok (.isub, 1) := dk_100 (dk_at dksX9_clusters_0 21 rfl rfl)
theorem dX9_clusters_22 : decode cX9_clusters 22 = .ok (.iand, 1) := dk_126 (dk_at dksX9_clusters_0 22 rfl rfl)
theorem dX9_clusters_23 : decode cX9_clusters 23 = .ok (.ifCond .ne 6, 3) := dk_154 0 6 (dk_at dksX9_clusters_1 0 rfl rfl)
theorem dX9_clusters_26 : decode cX9_clusters 26 = .ok (.iinc 1 1, 3) := dk_132 1 1 (dk_at dksX9_clusters_1 3 rfl rfl)
theorem dX9_clusters_29 : decode cX9_clusters 29 = .ok (.iinc 2 1, 3) := dk_132 2 1 (dk_at dksX9_clusters_1 6 rfl rfl)
theorem dX9_clusters_32 : decode cX9_clusters 32 = .ok (.goto (-28), 3) := dk_167 255 228 (dk_at dksX9_clusters_1 9 rfl rfl)
theorem dX9_clusters_35 : decode cX9_clusters 35 = .ok (.iload_n 1, 1) := dk_27 (dk_at dksX9_clusters_1 12 rfl rfl)
theorem dX9_clusters_36 : decode cX9_clusters 36 = .ok (.ireturn, 1) := dk_172 (dk_at dksX9_clusters_1 13 rfl rfl)
abbrev cX9_greatest : ByteArray := prog_14_method_92_code
def yX9_greatest : MethodName := ⟨RX9, "greatest", "()I"⟩
def dkwX9_greatest_1 : List UInt8 := [42, 28, 182, 1, 77, 184, 1, 36, 60, 132, 2, 1, 167, 255, 224, 27, 172]
abbrev dktX9_greatest_1 : List UInt8 := dkwX9_greatest_1 ++ []
def dkwX9_greatest_0 : List UInt8 := [3, 60, 3, 61, 28, 42, 182, 0, 193, 162, 0, 30, 42, 28, 182, 1, 77, 184, 1, 36, 27, 164, 0, 12]
abbrev dktX9_greatest_0 : List UInt8 := dkwX9_greatest_0 ++ dktX9_greatest_1
theorem dksX9_greatest_0 : cX9_greatest.data.toList.drop 0 = dktX9_greatest_0 := by decide +kernel
theorem dksX9_greatest_1 : cX9_greatest.data.toList.drop 24 = dktX9_greatest_1 := dk_seg dksX9_greatest_0 24 rfl rfl
theorem dX9_greatest_0 : decode cX9_greatest 0 = .ok (.iconst 0, 1) := dk_3 (dk_at dksX9_greatest_0 0 rfl rfl)
theorem dX9_greatest_1 : decode cX9_greatest 1 = .ok (.istore_n 1, 1) := dk_60 (dk_at dksX9_greatest_0 1 rfl rfl)
theorem dX9_greatest_2 : decode cX9_greatest 2 = .ok (.iconst 0, 1) := dk_3 (dk_at dksX9_greatest_0 2 rfl rfl)
theorem dX9_greatest_3 : decode cX9_greatest 3 = .ok (.istore_n 2, 1) := dk_61 (dk_at dksX9_greatest_0 3 rfl rfl)
theorem dX9_greatest_4 : decode cX9_greatest 4 = .ok (.iload_n 2, 1) := dk_28 (dk_at dksX9_greatest_0 4 rfl rfl)
theorem dX9_greatest_5 : decode cX9_greatest 5 = .ok (.aload_n 0, 1) := dk_42 (dk_at dksX9_greatest_0 5 rfl rfl)
theorem dX9_greatest_6 : decode cX9_greatest 6 = .ok (.invokevirtual 193, 3) := dk_182 0 193 (dk_at dksX9_greatest_0 6 rfl rfl)
theorem dX9_greatest_9 : decode cX9_greatest 9 = .ok (.if_icmp .ge 30, 3) := dk_162 0 30 (dk_at dksX9_greatest_0 9 rfl rfl)
theorem dX9_greatest_12 : decode cX9_greatest 12 = .ok (.aload_n 0, 1) := dk_42 (dk_at dksX9_greatest_0 12 rfl rfl)
theorem dX9_greatest_13 : decode cX9_greatest 13 = .ok (.iload_n 2, 1) := dk_28 (dk_at dksX9_greatest_0 13 rfl rfl)
theorem dX9_greatest_14 : decode cX9_greatest 14 = .ok (.invokevirtual 333, 3) := dk_182 1 77 (dk_at dksX9_greatest_0 14 rfl rfl)
theorem dX9_greatest_17 : decode cX9_greatest 17 = .ok (.invokestatic 292, 3) := dk_184 1 36 (dk_at dksX9_greatest_0 17 rfl rfl)
theorem dX9_greatest_20 : decode cX9_greatest 20 = .ok (.iload_n 1, 1) := dk_27 (dk_at dksX9_greatest_0 20 rfl rfl)
theorem dX9_greatest_21 : decode cX9_greatest 21 = .ok (.if_icmp .le 12, 3) := dk_164 0 12 (dk_at dksX9_greatest_0 21 rfl rfl)
theorem dX9_greatest_24 : decode cX9_greatest 24 = .ok (.aload_n 0, 1) := dk_42 (dk_at dksX9_greatest_1 0 rfl rfl)
theorem dX9_greatest_25 : decode cX9_greatest 25 = .ok (.iload_n 2, 1) := dk_28 (dk_at dksX9_greatest_1 1 rfl rfl)
theorem dX9_greatest_26 : decode cX9_greatest 26 = .ok (.invokevirtual 333, 3) := dk_182 1 77 (dk_at dksX9_greatest_1 2 rfl rfl)
theorem dX9_greatest_29 : decode cX9_greatest 29 = .ok (.invokestatic 292, 3) := dk_184 1 36 (dk_at dksX9_greatest_1 5 rfl rfl)
theorem dX9_greatest_32 : decode cX9_greatest 32 = .ok (.istore_n 1, 1) := dk_60 (dk_at dksX9_greatest_1 8 rfl rfl)
theorem dX9_greatest_33 : decode cX9_greatest 33 = .ok (.iinc 2 1, 3) := dk_132 2 1 (dk_at dksX9_greatest_1 9 rfl rfl)
theorem dX9_greatest_36 : decode cX9_greatest 36 = .ok (.goto (-32), 3) := dk_167 255 224 (dk_at dksX9_greatest_1 12 rfl rfl)
theorem dX9_greatest_39 : decode cX9_greatest 39 = .ok (.iload_n 1, 1) := dk_27 (dk_at dksX9_greatest_1 15 rfl rfl)
theorem dX9_greatest_40 : decode cX9_greatest 40 = .ok (.ireturn, 1) := dk_172 (dk_at dksX9_greatest_1 16 rfl rfl)
abbrev cX9_fewestBroken : ByteArray := prog_14_method_93_code
def yX9_fewestBroken : MethodName := ⟨RX9, "fewestBroken", "()I"⟩
def dkwX9_fewestBroken_2 : List UInt8 := [156, 0, 7, 3, 167, 0, 4, 27, 172]
abbrev dktX9_fewestBroken_2 : List UInt8 := dkwX9_fewestBroken_2 ++ []
def dkwX9_fewestBroken_1 : List UInt8 := [28, 182, 1, 49, 62, 27, 155, 0, 8, 29, 27, 162, 0, 5, 29, 60, 132, 2, 1, 167, 255, 217, 27]
abbrev dktX9_fewestBroken_1 : List UInt8 := dkwX9_fewestBroken_1 ++ dktX9_fewestBroken_2
def dkwX9_fewestBroken_0 : List UInt8 := [2, 60, 3, 61, 28, 42, 182, 1, 14, 162, 0, 37, 42, 28, 182, 1, 25, 154, 0, 6, 167, 0, 20, 42]
abbrev dktX9_fewestBroken_0 : List UInt8 := dkwX9_fewestBroken_0 ++ dktX9_fewestBroken_1
theorem dksX9_fewestBroken_0 : cX9_fewestBroken.data.toList.drop 0 = dktX9_fewestBroken_0 := by decide +kernel
theorem dksX9_fewestBroken_1 : cX9_fewestBroken.data.toList.drop 24 = dktX9_fewestBroken_1 := dk_seg dksX9_fewestBroken_0 24 rfl rfl
theorem dksX9_fewestBroken_2 : cX9_fewestBroken.data.toList.drop 47 = dktX9_fewestBroken_2 := dk_seg dksX9_fewestBroken_1 23 rfl rfl
theorem dX9_fewestBroken_0 : decode cX9_fewestBroken 0 = .ok (.iconst (-1), 1) := dk_2 (dk_at dksX9_fewestBroken_0 0 rfl rfl)
theorem dX9_fewestBroken_1 : decode cX9_fewestBroken 1 = .ok (.istore_n 1, 1) := dk_60 (dk_at dksX9_fewestBroken_0 1 rfl rfl)
theorem dX9_fewestBroken_2 : decode cX9_fewestBroken 2 = .ok (.iconst 0, 1) := dk_3 (dk_at dksX9_fewestBroken_0 2 rfl rfl)
theorem dX9_fewestBroken_3 : decode cX9_fewestBroken 3 = .ok (.istore_n 2, 1) := dk_61 (dk_at dksX9_fewestBroken_0 3 rfl rfl)
theorem dX9_fewestBroken_4 : decode cX9_fewestBroken 4 = .ok (.iload_n 2, 1) := dk_28 (dk_at dksX9_fewestBroken_0 4 rfl rfl)
theorem dX9_fewestBroken_5 : decode cX9_fewestBroken 5 = .ok (.aload_n 0, 1) := dk_42 (dk_at dksX9_fewestBroken_0 5 rfl rfl)
theorem dX9_fewestBroken_6 : decode cX9_fewestBroken 6 = .ok (.invokevirtual 270, 3) := dk_182 1 14 (dk_at dksX9_fewestBroken_0 6 rfl rfl)
theorem dX9_fewestBroken_9 : decode cX9_fewestBroken 9 = .ok (.if_icmp .ge 37, 3) := dk_162 0 37 (dk_at dksX9_fewestBroken_0 9 rfl rfl)
theorem dX9_fewestBroken_12 : decode cX9_fewestBroken 12 = .ok (.aload_n 0, 1) := dk_42 (dk_at dksX9_fewestBroken_0 12 rfl rfl)
theorem dX9_fewestBroken_13 : decode cX9_fewestBroken 13 = .ok (.iload_n 2, 1) := dk_28 (dk_at dksX9_fewestBroken_0 13 rfl rfl)
theorem dX9_fewestBroken_14 : decode cX9_fewestBroken 14 = .ok (.invokevirtual 281, 3) := dk_182 1 25 (dk_at dksX9_fewestBroken_0 14 rfl rfl)
theorem dX9_fewestBroken_17 : decode cX9_fewestBroken 17 = .ok (.ifCond .ne 6, 3) := dk_154 0 6 (dk_at dksX9_fewestBroken_0 17 rfl rfl)
theorem dX9_fewestBroken_20 : decode cX9_fewestBroken 20 = .ok (.goto 20, 3) := dk_167 0 20 (dk_at dksX9_fewestBroken_0 20 rfl rfl)
theorem dX9_fewestBroken_23 : decode cX9_fewestBroken 23 = .ok (.aload_n 0, 1) := dk_42 (dk_at dksX9_fewestBroken_0 23 rfl rfl)
theorem dX9_fewestBroken_24 : decode cX9_fewestBroken 24 = .ok (.iload_n 2, 1) := dk_28 (dk_at dksX9_fewestBroken_1 0 rfl rfl)
theorem dX9_fewestBroken_25 : decode cX9_fewestBroken 25 = .ok (.invokevirtual 305, 3) := dk_182 1 49 (dk_at dksX9_fewestBroken_1 1 rfl rfl)
theorem dX9_fewestBroken_28 : decode cX9_fewestBroken 28 = .ok (.istore_n 3, 1) := dk_62 (dk_at dksX9_fewestBroken_1 4 rfl rfl)
theorem dX9_fewestBroken_29 : decode cX9_fewestBroken 29 = .ok (.iload_n 1, 1) := dk_27 (dk_at dksX9_fewestBroken_1 5 rfl rfl)
theorem dX9_fewestBroken_30 : decode cX9_fewestBroken 30 = .ok (.ifCond .lt 8, 3) := dk_155 0 8 (dk_at dksX9_fewestBroken_1 6 rfl rfl)
theorem dX9_fewestBroken_33 : decode cX9_fewestBroken 33 = .ok (.iload_n 3, 1) := dk_29 (dk_at dksX9_fewestBroken_1 9 rfl rfl)
theorem dX9_fewestBroken_34 : decode cX9_fewestBroken 34 = .ok (.iload_n 1, 1) := dk_27 (dk_at dksX9_fewestBroken_1 10 rfl rfl)
theorem dX9_fewestBroken_35 : decode cX9_fewestBroken 35 = .ok (.if_icmp .ge 5, 3) := dk_162 0 5 (dk_at dksX9_fewestBroken_1 11 rfl rfl)
theorem dX9_fewestBroken_38 : decode cX9_fewestBroken 38 = .ok (.iload_n 3, 1) := dk_29 (dk_at dksX9_fewestBroken_1 14 rfl rfl)
theorem dX9_fewestBroken_39 : decode cX9_fewestBroken 39 = .ok (.istore_n 1, 1) := dk_60 (dk_at dksX9_fewestBroken_1 15 rfl rfl)
theorem dX9_fewestBroken_40 : decode cX9_fewestBroken 40 = .ok (.iinc 2 1, 3) := dk_132 2 1 (dk_at dksX9_fewestBroken_1 16 rfl rfl)
theorem dX9_fewestBroken_43 : decode cX9_fewestBroken 43 = .ok (.goto (-39), 3) := dk_167 255 217 (dk_at dksX9_fewestBroken_1 19 rfl rfl)
theorem dX9_fewestBroken_46 : decode cX9_fewestBroken 46 = .ok (.iload_n 1, 1) := dk_27 (dk_at dksX9_fewestBroken_1 22 rfl rfl)
theorem dX9_fewestBroken_47 : decode cX9_fewestBroken 47 = .ok (.ifCond .ge 7, 3) := dk_156 0 7 (dk_at dksX9_fewestBroken_2 0 rfl rfl)
theorem dX9_fewestBroken_50 : decode cX9_fewestBroken 50 = .ok (.iconst 0, 1) := dk_3 (dk_at dksX9_fewestBroken_2 3 rfl rfl)
theorem dX9_fewestBroken_51 : decode cX9_fewestBroken 51 = .ok (.goto 4, 3) := dk_167 0 4 (dk_at dksX9_fewestBroken_2 4 rfl rfl)
theorem dX9_fewestBroken_54 : decode cX9_fewestBroken 54 = .ok (.iload_n 1, 1) := dk_27 (dk_at dksX9_fewestBroken_2 7 rfl rfl)
theorem dX9_fewestBroken_55 : decode cX9_fewestBroken 55 = .ok (.ireturn, 1) := dk_172 (dk_at dksX9_fewestBroken_2 8 rfl rfl)
abbrev cX9_odds : ByteArray := prog_14_method_94_code
def yX9_odds : MethodName := ⟨RX9, "odds", "()I"⟩
def dkwX9_odds_1 : List UInt8 := [132, 2, 1, 167, 255, 233, 27, 172]
abbrev dktX9_odds_1 : List UInt8 := dkwX9_odds_1 ++ []
def dkwX9_odds_0 : List UInt8 := [3, 60, 3, 61, 28, 42, 182, 0, 193, 162, 0, 21, 42, 28, 182, 1, 74, 4, 160, 0, 6, 132, 1, 1]
abbrev dktX9_odds_0 : List UInt8 := dkwX9_odds_0 ++ dktX9_odds_1
theorem dksX9_odds_0 : cX9_odds.data.toList.drop 0 = dktX9_odds_0 := by decide +kernel
theorem dksX9_odds_1 : cX9_odds.data.toList.drop 24 = dktX9_odds_1 := dk_seg dksX9_odds_0 24 rfl rfl
theorem dX9_odds_0 : decode cX9_odds 0 = .ok (.iconst 0, 1) := dk_3 (dk_at dksX9_odds_0 0 rfl rfl)
theorem dX9_odds_1 : decode cX9_odds 1 = .ok (.istore_n 1, 1) := dk_60 (dk_at dksX9_odds_0 1 rfl rfl)
theorem dX9_odds_2 : decode cX9_odds 2 = .ok (.iconst 0, 1) := dk_3 (dk_at dksX9_odds_0 2 rfl rfl)
theorem dX9_odds_3 : decode cX9_odds 3 = .ok (.istore_n 2, 1) := dk_61 (dk_at dksX9_odds_0 3 rfl rfl)
theorem dX9_odds_4 : decode cX9_odds 4 = .ok (.iload_n 2, 1) := dk_28 (dk_at dksX9_odds_0 4 rfl rfl)
theorem dX9_odds_5 : decode cX9_odds 5 = .ok (.aload_n 0, 1) := dk_42 (dk_at dksX9_odds_0 5 rfl rfl)
theorem dX9_odds_6 : decode cX9_odds 6 = .ok (.invokevirtual 193, 3) := dk_182 0 193 (dk_at dksX9_odds_0 6 rfl rfl)
theorem dX9_odds_9 : decode cX9_odds 9 = .ok (.if_icmp .ge 21, 3) := dk_162 0 21 (dk_at dksX9_odds_0 9 rfl rfl)
theorem dX9_odds_12 : decode cX9_odds 12 = .ok (.aload_n 0, 1) := dk_42 (dk_at dksX9_odds_0 12 rfl rfl)
theorem dX9_odds_13 : decode cX9_odds 13 = .ok (.iload_n 2, 1) := dk_28 (dk_at dksX9_odds_0 13 rfl rfl)
theorem dX9_odds_14 : decode cX9_odds 14 = .ok (.invokevirtual 330, 3) := dk_182 1 74 (dk_at dksX9_odds_0 14 rfl rfl)
theorem dX9_odds_17 : decode cX9_odds 17 = .ok (.iconst 1, 1) := dk_4 (dk_at dksX9_odds_0 17 rfl rfl)
theorem dX9_odds_18 : decode cX9_odds 18 = .ok (.if_icmp .ne 6, 3) := dk_160 0 6 (dk_at dksX9_odds_0 18 rfl rfl)
theorem dX9_odds_21 : decode cX9_odds 21 = .ok (.iinc 1 1, 3) := dk_132 1 1 (dk_at dksX9_odds_0 21 rfl rfl)
theorem dX9_odds_24 : decode cX9_odds 24 = .ok (.iinc 2 1, 3) := dk_132 2 1 (dk_at dksX9_odds_1 0 rfl rfl)
theorem dX9_odds_27 : decode cX9_odds 27 = .ok (.goto (-23), 3) := dk_167 255 233 (dk_at dksX9_odds_1 3 rfl rfl)
theorem dX9_odds_30 : decode cX9_odds 30 = .ok (.iload_n 1, 1) := dk_27 (dk_at dksX9_odds_1 6 rfl rfl)
theorem dX9_odds_31 : decode cX9_odds 31 = .ok (.ireturn, 1) := dk_172 (dk_at dksX9_odds_1 7 rfl rfl)
theorem q124 : (Jvm.Cond.initialized "SpinStripModel") ∈ lw_all := lw_g (lw_at lw_m1 17 rfl) rfl
theorem q884 : (Jvm.Cond.selects "SpinStripModel" ({ cls := "java/lang/Object", name := "getClass", desc := "()Ljava/lang/Class;" } : Jvm.MethodName) ({ cls := "java/lang/Object", name := "getClass", desc := "()Ljava/lang/Class;" } : Jvm.MethodName)) ∈ lw_all := lw_g (lw_at lw_m4 57 rfl) rfl
theorem q1872 : (Jvm.Cond.instantiable "SpinStripModel" (45 : Nat)) ∈ lw_all := lw_g (lw_at lw_m8 85 rfl) rfl
theorem q1874 : (Jvm.Cond.instanceMethod ({ cls := "SpinStripModel", name := "<init>", desc := "()V" } : Jvm.MethodName)) ∈ lw_all := lw_g (lw_at lw_m8 87 rfl) rfl
theorem q1875 : (Jvm.Cond.code ({ cls := "SpinStripModel", name := "<init>", desc := "()V" } : Jvm.MethodName) prog_14_method_2_code (1 : Nat) (Option.none : Option Jvm.ClassFile.FieldType)) ∈ lw_all := lw_g (lw_at lw_m8 88 rfl) rfl
theorem q1876 : (Jvm.Cond.methodLink "SpinStripModel" (7 : Nat) ({ cls := "java/lang/Object", name := "<init>", desc := "()V" } : Jvm.MethodName)) ∈ lw_all := lw_g (lw_at lw_m8 89 rfl) rfl
theorem q1877 : (Jvm.Cond.constant "SpinStripModel" (56 : Nat) (65536 : Int32)) ∈ lw_all := lw_g (lw_at lw_m8 90 rfl) rfl
theorem q1878 : (Jvm.Cond.methodLink "SpinStripModel" (90 : Nat) ({ cls := "SpinStripModel", name := "letters", desc := "(IIIIIII)J" } : Jvm.MethodName)) ∈ lw_all := lw_g (lw_at lw_m8 91 rfl) rfl
theorem q1879 : (Jvm.Cond.static ({ cls := "SpinStripModel", name := "letters", desc := "(IIIIIII)J" } : Jvm.MethodName)) ∈ lw_all := lw_g (lw_at lw_m8 92 rfl) rfl
theorem q1880 : (Jvm.Cond.code ({ cls := "SpinStripModel", name := "letters", desc := "(IIIIIII)J" } : Jvm.MethodName) prog_14_method_10_code (7 : Nat) (Option.some Jvm.ClassFile.FieldType.long)) ∈ lw_all := lw_g (lw_at lw_m8 93 rfl) rfl
theorem q1881 : (Jvm.Cond.methodLink "SpinStripModel" (106 : Nat) ({ cls := "SpinStripModel", name := "appends", desc := "(JI)J" } : Jvm.MethodName)) ∈ lw_all := lw_g (lw_at lw_m8 94 rfl) rfl
theorem q1882 : (Jvm.Cond.static ({ cls := "SpinStripModel", name := "appends", desc := "(JI)J" } : Jvm.MethodName)) ∈ lw_all := lw_g (lw_at lw_m8 95 rfl) rfl
theorem q1883 : (Jvm.Cond.code ({ cls := "SpinStripModel", name := "appends", desc := "(JI)J" } : Jvm.MethodName) prog_14_method_9_code (3 : Nat) (Option.some Jvm.ClassFile.FieldType.long)) ∈ lw_all := lw_g (lw_at lw_m8 96 rfl) rfl
theorem q1884 : (Jvm.Cond.constantLong "SpinStripModel" (104 : Nat) (27 : Int64)) ∈ lw_all := lw_g (lw_at lw_m8 97 rfl) rfl
theorem q1885 : (Jvm.Cond.fieldLink "SpinStripModel" (13 : Nat) "SpinStripModel" "tape" "[B") ∈ lw_all := lw_g (lw_at lw_m8 98 rfl) rfl
theorem q1886 : (Jvm.Cond.fieldLink "SpinStripModel" (94 : Nat) "SpinStripModel" "taped" "I") ∈ lw_all := lw_g (lw_at lw_m8 99 rfl) rfl
theorem q1887 : (Jvm.Cond.fieldLink "SpinStripModel" (17 : Nat) "SpinStripModel" "text" "[B") ∈ lw_all := lw_g (lw_at lw_m8 100 rfl) rfl
theorem q1888 : (Jvm.Cond.fieldLink "SpinStripModel" (101 : Nat) "SpinStripModel" "size" "I") ∈ lw_all := lw_g (lw_at lw_m8 101 rfl) rfl
theorem q1889 : (Jvm.Cond.fieldLink "SpinStripModel" (20 : Nat) "SpinStripModel" "tKind" "[I") ∈ lw_all := lw_g (lw_at lw_m8 102 rfl) rfl
theorem q1890 : (Jvm.Cond.fieldLink "SpinStripModel" (24 : Nat) "SpinStripModel" "tPlace" "[I") ∈ lw_all := lw_g (lw_at lw_m8 103 rfl) rfl
theorem q1891 : (Jvm.Cond.fieldLink "SpinStripModel" (27 : Nat) "SpinStripModel" "tValue" "[I") ∈ lw_all := lw_g (lw_at lw_m8 104 rfl) rfl
theorem q1892 : (Jvm.Cond.fieldLink "SpinStripModel" (30 : Nat) "SpinStripModel" "tName" "[J") ∈ lw_all := lw_g (lw_at lw_m8 105 rfl) rfl
theorem q1893 : (Jvm.Cond.fieldLink "SpinStripModel" (34 : Nat) "SpinStripModel" "keys" "[J") ∈ lw_all := lw_g (lw_at lw_m8 106 rfl) rfl
theorem q1894 : (Jvm.Cond.fieldLink "SpinStripModel" (110 : Nat) "SpinStripModel" "tokens" "I") ∈ lw_all := lw_g (lw_at lw_m8 107 rfl) rfl
theorem q1895 : (Jvm.Cond.fieldLink "SpinStripModel" (135 : Nat) "SpinStripModel" "t" "I") ∈ lw_all := lw_g (lw_at lw_m8 108 rfl) rfl
theorem q1896 : (Jvm.Cond.fieldLink "SpinStripModel" (132 : Nat) "SpinStripModel" "fault" "I") ∈ lw_all := lw_g (lw_at lw_m8 109 rfl) rfl
theorem q1897 : (Jvm.Cond.fieldLink "SpinStripModel" (138 : Nat) "SpinStripModel" "faultPlace" "I") ∈ lw_all := lw_g (lw_at lw_m8 110 rfl) rfl
theorem q1898 : (Jvm.Cond.fieldLink "SpinStripModel" (141 : Nat) "SpinStripModel" "worst" "I") ∈ lw_all := lw_g (lw_at lw_m8 111 rfl) rfl
theorem q1899 : (Jvm.Cond.fieldLink "SpinStripModel" (144 : Nat) "SpinStripModel" "worstPlace" "I") ∈ lw_all := lw_g (lw_at lw_m8 112 rfl) rfl
theorem q1900 : (Jvm.Cond.fieldLink "SpinStripModel" (37 : Nat) "SpinStripModel" "place" "I") ∈ lw_all := lw_g (lw_at lw_m8 113 rfl) rfl
theorem q1901 : (Jvm.Cond.fieldLink "SpinStripModel" (171 : Nat) "SpinStripModel" "wide" "I") ∈ lw_all := lw_g (lw_at lw_m8 114 rfl) rfl
theorem q1902 : (Jvm.Cond.fieldLink "SpinStripModel" (177 : Nat) "SpinStripModel" "far" "I") ∈ lw_all := lw_g (lw_at lw_m8 115 rfl) rfl
theorem q1903 : (Jvm.Cond.fieldLink "SpinStripModel" (184 : Nat) "SpinStripModel" "ringAcross" "Z") ∈ lw_all := lw_g (lw_at lw_m8 116 rfl) rfl
theorem q1904 : (Jvm.Cond.fieldLink "SpinStripModel" (190 : Nat) "SpinStripModel" "ringAlong" "Z") ∈ lw_all := lw_g (lw_at lw_m8 117 rfl) rfl
theorem q1905 : (Jvm.Cond.fieldLink "SpinStripModel" (40 : Nat) "SpinStripModel" "now" "[I") ∈ lw_all := lw_g (lw_at lw_m8 118 rfl) rfl
theorem q1906 : (Jvm.Cond.fieldLink "SpinStripModel" (168 : Nat) "SpinStripModel" "newWide" "I") ∈ lw_all := lw_g (lw_at lw_m8 119 rfl) rfl
theorem q1907 : (Jvm.Cond.fieldLink "SpinStripModel" (174 : Nat) "SpinStripModel" "newFar" "I") ∈ lw_all := lw_g (lw_at lw_m8 120 rfl) rfl
theorem q1908 : (Jvm.Cond.fieldLink "SpinStripModel" (180 : Nat) "SpinStripModel" "newRingAcross" "Z") ∈ lw_all := lw_g (lw_at lw_m8 121 rfl) rfl
theorem q1909 : (Jvm.Cond.fieldLink "SpinStripModel" (187 : Nat) "SpinStripModel" "newRingAlong" "Z") ∈ lw_all := lw_g (lw_at lw_m8 122 rfl) rfl
theorem q1910 : (Jvm.Cond.fieldLink "SpinStripModel" (43 : Nat) "SpinStripModel" "fresh" "[I") ∈ lw_all := lw_g (lw_at lw_m8 123 rfl) rfl
theorem q1911 : (Jvm.Cond.fieldLink "SpinStripModel" (46 : Nat) "SpinStripModel" "earlier" "[I") ∈ lw_all := lw_g (lw_at lw_m8 124 rfl) rfl
theorem q1912 : (Jvm.Cond.fieldLink "SpinStripModel" (230 : Nat) "SpinStripModel" "earliest" "I") ∈ lw_all := lw_g (lw_at lw_m8 125 rfl) rfl
theorem q1913 : (Jvm.Cond.fieldLink "SpinStripModel" (197 : Nat) "SpinStripModel" "undos" "I") ∈ lw_all := lw_g (lw_at lw_m8 126 rfl) rfl
theorem q1914 : (Jvm.Cond.fieldLink "SpinStripModel" (49 : Nat) "SpinStripModel" "held" "[I") ∈ lw_all := lw_g (lw_at lw_m8 127 rfl) rfl
theorem q1915 : (Jvm.Cond.fieldLink "SpinStripModel" (52 : Nat) "SpinStripModel" "isHeld" "[Z") ∈ lw_all := lw_g (lw_at lw_m8 128 rfl) rfl
theorem q1916 : (Jvm.Cond.fieldLink "SpinStripModel" (200 : Nat) "SpinStripModel" "isKnown" "Z") ∈ lw_all := lw_g (lw_at lw_m8 129 rfl) rfl
theorem q1917 : (Jvm.Cond.fieldLink "SpinStripModel" (57 : Nat) "SpinStripModel" "energyOf" "[I") ∈ lw_all := lw_g (lw_at lw_m8 130 rfl) rfl
theorem q1918 : (Jvm.Cond.fieldLink "SpinStripModel" (60 : Nat) "SpinStripModel" "levelMany" "[I") ∈ lw_all := lw_g (lw_at lw_m8 131 rfl) rfl
theorem q1919 : (Jvm.Cond.fieldLink "SpinStripModel" (285 : Nat) "SpinStripModel" "levels" "I") ∈ lw_all := lw_g (lw_at lw_m8 132 rfl) rfl
theorem q1920 : (Jvm.Cond.fieldLink "SpinStripModel" (63 : Nat) "SpinStripModel" "levelAt" "[I") ∈ lw_all := lw_g (lw_at lw_m8 133 rfl) rfl
theorem q1921 : (Jvm.Cond.fieldLink "SpinStripModel" (66 : Nat) "SpinStripModel" "other" "[I") ∈ lw_all := lw_g (lw_at lw_m8 134 rfl) rfl
theorem q1922 : (Jvm.Cond.fieldLink "SpinStripModel" (69 : Nat) "SpinStripModel" "otherMany" "[I") ∈ lw_all := lw_g (lw_at lw_m8 135 rfl) rfl
theorem q1923 : (Jvm.Cond.fieldLink "SpinStripModel" (72 : Nat) "SpinStripModel" "both" "[J") ∈ lw_all := lw_g (lw_at lw_m8 136 rfl) rfl
theorem q1924 : (Jvm.Cond.fieldLink "SpinStripModel" (75 : Nat) "SpinStripModel" "hillOf" "[I") ∈ lw_all := lw_g (lw_at lw_m8 137 rfl) rfl
theorem q1925 : (Jvm.Cond.fieldLink "SpinStripModel" (78 : Nat) "SpinStripModel" "isWet" "[Z") ∈ lw_all := lw_g (lw_at lw_m8 138 rfl) rfl
theorem q1926 : (Jvm.Cond.fieldLink "SpinStripModel" (81 : Nat) "SpinStripModel" "waiting" "[I") ∈ lw_all := lw_g (lw_at lw_m8 139 rfl) rfl
theorem q1927 : (Jvm.Cond.fieldLink "SpinStripModel" (84 : Nat) "SpinStripModel" "downOf" "[J") ∈ lw_all := lw_g (lw_at lw_m8 140 rfl) rfl
theorem q1928 : (Jvm.Cond.fieldLink "SpinStripModel" (87 : Nat) "SpinStripModel" "grounds" "[I") ∈ lw_all := lw_g (lw_at lw_m8 141 rfl) rfl
theorem q1929 : (Jvm.Cond.lays "SpinStripModel" "SpinStripModel" "thrown" "I") ∈ lw_all := lw_g (lw_at lw_m8 142 rfl) rfl
theorem q1930 : (Jvm.Cond.soleField "SpinStripModel" "thrown") ∈ lw_all := lw_g (lw_at lw_m8 143 rfl) rfl
theorem q1931 : (Jvm.Cond.laysFinal "SpinStripModel" "SpinStripModel" "tape" "[B") ∈ lw_all := lw_g (lw_at lw_m8 144 rfl) rfl
theorem q1932 : (Jvm.Cond.soleField "SpinStripModel" "tape") ∈ lw_all := lw_g (lw_at lw_m8 145 rfl) rfl
theorem q1933 : (Jvm.Cond.lays "SpinStripModel" "SpinStripModel" "taped" "I") ∈ lw_all := lw_g (lw_at lw_m8 146 rfl) rfl
theorem q1934 : (Jvm.Cond.soleField "SpinStripModel" "taped") ∈ lw_all := lw_g (lw_at lw_m8 147 rfl) rfl
theorem q1935 : (Jvm.Cond.laysFinal "SpinStripModel" "SpinStripModel" "text" "[B") ∈ lw_all := lw_g (lw_at lw_m8 148 rfl) rfl
theorem q1936 : (Jvm.Cond.soleField "SpinStripModel" "text") ∈ lw_all := lw_g (lw_at lw_m8 149 rfl) rfl
theorem q1937 : (Jvm.Cond.lays "SpinStripModel" "SpinStripModel" "size" "I") ∈ lw_all := lw_g (lw_at lw_m8 150 rfl) rfl
theorem q1938 : (Jvm.Cond.soleField "SpinStripModel" "size") ∈ lw_all := lw_g (lw_at lw_m8 151 rfl) rfl
theorem q1939 : (Jvm.Cond.laysFinal "SpinStripModel" "SpinStripModel" "tKind" "[I") ∈ lw_all := lw_g (lw_at lw_m8 152 rfl) rfl
theorem q1940 : (Jvm.Cond.soleField "SpinStripModel" "tKind") ∈ lw_all := lw_g (lw_at lw_m8 153 rfl) rfl
theorem q1941 : (Jvm.Cond.laysFinal "SpinStripModel" "SpinStripModel" "tPlace" "[I") ∈ lw_all := lw_g (lw_at lw_m8 154 rfl) rfl
theorem q1942 : (Jvm.Cond.soleField "SpinStripModel" "tPlace") ∈ lw_all := lw_g (lw_at lw_m8 155 rfl) rfl
theorem q1943 : (Jvm.Cond.laysFinal "SpinStripModel" "SpinStripModel" "tValue" "[I") ∈ lw_all := lw_g (lw_at lw_m8 156 rfl) rfl
theorem q1944 : (Jvm.Cond.soleField "SpinStripModel" "tValue") ∈ lw_all := lw_g (lw_at lw_m8 157 rfl) rfl
theorem q1945 : (Jvm.Cond.laysFinal "SpinStripModel" "SpinStripModel" "tName" "[J") ∈ lw_all := lw_g (lw_at lw_m8 158 rfl) rfl
theorem q1946 : (Jvm.Cond.soleField "SpinStripModel" "tName") ∈ lw_all := lw_g (lw_at lw_m8 159 rfl) rfl
theorem q1947 : (Jvm.Cond.laysFinal "SpinStripModel" "SpinStripModel" "keys" "[J") ∈ lw_all := lw_g (lw_at lw_m8 160 rfl) rfl
theorem q1948 : (Jvm.Cond.soleField "SpinStripModel" "keys") ∈ lw_all := lw_g (lw_at lw_m8 161 rfl) rfl
theorem q1949 : (Jvm.Cond.lays "SpinStripModel" "SpinStripModel" "tokens" "I") ∈ lw_all := lw_g (lw_at lw_m8 162 rfl) rfl
theorem q1950 : (Jvm.Cond.soleField "SpinStripModel" "tokens") ∈ lw_all := lw_g (lw_at lw_m8 163 rfl) rfl
theorem q1951 : (Jvm.Cond.lays "SpinStripModel" "SpinStripModel" "t" "I") ∈ lw_all := lw_g (lw_at lw_m8 164 rfl) rfl
theorem q1952 : (Jvm.Cond.soleField "SpinStripModel" "t") ∈ lw_all := lw_g (lw_at lw_m8 165 rfl) rfl
theorem q1953 : (Jvm.Cond.lays "SpinStripModel" "SpinStripModel" "fault" "I") ∈ lw_all := lw_g (lw_at lw_m8 166 rfl) rfl
theorem q1954 : (Jvm.Cond.soleField "SpinStripModel" "fault") ∈ lw_all := lw_g (lw_at lw_m8 167 rfl) rfl
theorem q1955 : (Jvm.Cond.lays "SpinStripModel" "SpinStripModel" "faultPlace" "I") ∈ lw_all := lw_g (lw_at lw_m8 168 rfl) rfl
theorem q1956 : (Jvm.Cond.soleField "SpinStripModel" "faultPlace") ∈ lw_all := lw_g (lw_at lw_m8 169 rfl) rfl
theorem q1957 : (Jvm.Cond.lays "SpinStripModel" "SpinStripModel" "worst" "I") ∈ lw_all := lw_g (lw_at lw_m8 170 rfl) rfl
theorem q1958 : (Jvm.Cond.soleField "SpinStripModel" "worst") ∈ lw_all := lw_g (lw_at lw_m8 171 rfl) rfl
theorem q1959 : (Jvm.Cond.lays "SpinStripModel" "SpinStripModel" "worstPlace" "I") ∈ lw_all := lw_g (lw_at lw_m8 172 rfl) rfl
theorem q1960 : (Jvm.Cond.soleField "SpinStripModel" "worstPlace") ∈ lw_all := lw_g (lw_at lw_m8 173 rfl) rfl
theorem q1961 : (Jvm.Cond.lays "SpinStripModel" "SpinStripModel" "place" "I") ∈ lw_all := lw_g (lw_at lw_m8 174 rfl) rfl
theorem q1962 : (Jvm.Cond.soleField "SpinStripModel" "place") ∈ lw_all := lw_g (lw_at lw_m8 175 rfl) rfl
theorem q1963 : (Jvm.Cond.lays "SpinStripModel" "SpinStripModel" "wide" "I") ∈ lw_all := lw_g (lw_at lw_m8 176 rfl) rfl
theorem q1964 : (Jvm.Cond.soleField "SpinStripModel" "wide") ∈ lw_all := lw_g (lw_at lw_m8 177 rfl) rfl
theorem q1965 : (Jvm.Cond.lays "SpinStripModel" "SpinStripModel" "far" "I") ∈ lw_all := lw_g (lw_at lw_m8 178 rfl) rfl
theorem q1966 : (Jvm.Cond.soleField "SpinStripModel" "far") ∈ lw_all := lw_g (lw_at lw_m8 179 rfl) rfl
theorem q1967 : (Jvm.Cond.lays "SpinStripModel" "SpinStripModel" "ringAcross" "Z") ∈ lw_all := lw_g (lw_at lw_m8 180 rfl) rfl
theorem q1968 : (Jvm.Cond.soleField "SpinStripModel" "ringAcross") ∈ lw_all := lw_g (lw_at lw_m8 181 rfl) rfl
theorem q1969 : (Jvm.Cond.lays "SpinStripModel" "SpinStripModel" "ringAlong" "Z") ∈ lw_all := lw_g (lw_at lw_m8 182 rfl) rfl
theorem q1970 : (Jvm.Cond.soleField "SpinStripModel" "ringAlong") ∈ lw_all := lw_g (lw_at lw_m8 183 rfl) rfl
theorem q1971 : (Jvm.Cond.laysFinal "SpinStripModel" "SpinStripModel" "now" "[I") ∈ lw_all := lw_g (lw_at lw_m8 184 rfl) rfl
theorem q1972 : (Jvm.Cond.soleField "SpinStripModel" "now") ∈ lw_all := lw_g (lw_at lw_m8 185 rfl) rfl
theorem q1973 : (Jvm.Cond.lays "SpinStripModel" "SpinStripModel" "newWide" "I") ∈ lw_all := lw_g (lw_at lw_m8 186 rfl) rfl
theorem q1974 : (Jvm.Cond.soleField "SpinStripModel" "newWide") ∈ lw_all := lw_g (lw_at lw_m8 187 rfl) rfl
theorem q1975 : (Jvm.Cond.lays "SpinStripModel" "SpinStripModel" "newFar" "I") ∈ lw_all := lw_g (lw_at lw_m8 188 rfl) rfl
theorem q1976 : (Jvm.Cond.soleField "SpinStripModel" "newFar") ∈ lw_all := lw_g (lw_at lw_m8 189 rfl) rfl
theorem q1977 : (Jvm.Cond.lays "SpinStripModel" "SpinStripModel" "newRingAcross" "Z") ∈ lw_all := lw_g (lw_at lw_m8 190 rfl) rfl
theorem q1978 : (Jvm.Cond.soleField "SpinStripModel" "newRingAcross") ∈ lw_all := lw_g (lw_at lw_m8 191 rfl) rfl
theorem q1979 : (Jvm.Cond.lays "SpinStripModel" "SpinStripModel" "newRingAlong" "Z") ∈ lw_all := lw_g (lw_at lw_m8 192 rfl) rfl
theorem q1980 : (Jvm.Cond.soleField "SpinStripModel" "newRingAlong") ∈ lw_all := lw_g (lw_at lw_m8 193 rfl) rfl
theorem q1981 : (Jvm.Cond.laysFinal "SpinStripModel" "SpinStripModel" "fresh" "[I") ∈ lw_all := lw_g (lw_at lw_m8 194 rfl) rfl
theorem q1982 : (Jvm.Cond.soleField "SpinStripModel" "fresh") ∈ lw_all := lw_g (lw_at lw_m8 195 rfl) rfl
theorem q1983 : (Jvm.Cond.laysFinal "SpinStripModel" "SpinStripModel" "earlier" "[I") ∈ lw_all := lw_g (lw_at lw_m8 196 rfl) rfl
theorem q1984 : (Jvm.Cond.soleField "SpinStripModel" "earlier") ∈ lw_all := lw_g (lw_at lw_m8 197 rfl) rfl
theorem q1985 : (Jvm.Cond.lays "SpinStripModel" "SpinStripModel" "earliest" "I") ∈ lw_all := lw_g (lw_at lw_m8 198 rfl) rfl
theorem q1986 : (Jvm.Cond.soleField "SpinStripModel" "earliest") ∈ lw_all := lw_g (lw_at lw_m8 199 rfl) rfl
theorem q1987 : (Jvm.Cond.lays "SpinStripModel" "SpinStripModel" "undos" "I") ∈ lw_all := lw_g (lw_at lw_m8 200 rfl) rfl
theorem q1988 : (Jvm.Cond.soleField "SpinStripModel" "undos") ∈ lw_all := lw_g (lw_at lw_m8 201 rfl) rfl
theorem q1989 : (Jvm.Cond.laysFinal "SpinStripModel" "SpinStripModel" "held" "[I") ∈ lw_all := lw_g (lw_at lw_m8 202 rfl) rfl
theorem q1990 : (Jvm.Cond.soleField "SpinStripModel" "held") ∈ lw_all := lw_g (lw_at lw_m8 203 rfl) rfl
theorem q1991 : (Jvm.Cond.laysFinal "SpinStripModel" "SpinStripModel" "isHeld" "[Z") ∈ lw_all := lw_g (lw_at lw_m8 204 rfl) rfl
theorem q1992 : (Jvm.Cond.soleField "SpinStripModel" "isHeld") ∈ lw_all := lw_g (lw_at lw_m8 205 rfl) rfl
theorem q1993 : (Jvm.Cond.lays "SpinStripModel" "SpinStripModel" "isKnown" "Z") ∈ lw_all := lw_g (lw_at lw_m8 206 rfl) rfl
theorem q1994 : (Jvm.Cond.soleField "SpinStripModel" "isKnown") ∈ lw_all := lw_g (lw_at lw_m8 207 rfl) rfl
theorem q1995 : (Jvm.Cond.laysFinal "SpinStripModel" "SpinStripModel" "energyOf" "[I") ∈ lw_all := lw_g (lw_at lw_m8 208 rfl) rfl
theorem q1996 : (Jvm.Cond.soleField "SpinStripModel" "energyOf") ∈ lw_all := lw_g (lw_at lw_m8 209 rfl) rfl
theorem q1997 : (Jvm.Cond.laysFinal "SpinStripModel" "SpinStripModel" "levelMany" "[I") ∈ lw_all := lw_g (lw_at lw_m8 210 rfl) rfl
theorem q1998 : (Jvm.Cond.soleField "SpinStripModel" "levelMany") ∈ lw_all := lw_g (lw_at lw_m8 211 rfl) rfl
theorem q1999 : (Jvm.Cond.lays "SpinStripModel" "SpinStripModel" "levels" "I") ∈ lw_all := lw_g (lw_at lw_m8 212 rfl) rfl
theorem q2000 : (Jvm.Cond.soleField "SpinStripModel" "levels") ∈ lw_all := lw_g (lw_at lw_m8 213 rfl) rfl
theorem q2001 : (Jvm.Cond.laysFinal "SpinStripModel" "SpinStripModel" "levelAt" "[I") ∈ lw_all := lw_g (lw_at lw_m8 214 rfl) rfl
theorem q2002 : (Jvm.Cond.soleField "SpinStripModel" "levelAt") ∈ lw_all := lw_g (lw_at lw_m8 215 rfl) rfl
theorem q2003 : (Jvm.Cond.laysFinal "SpinStripModel" "SpinStripModel" "other" "[I") ∈ lw_all := lw_g (lw_at lw_m8 216 rfl) rfl
theorem q2004 : (Jvm.Cond.soleField "SpinStripModel" "other") ∈ lw_all := lw_g (lw_at lw_m8 217 rfl) rfl
theorem q2005 : (Jvm.Cond.laysFinal "SpinStripModel" "SpinStripModel" "otherMany" "[I") ∈ lw_all := lw_g (lw_at lw_m8 218 rfl) rfl
theorem q2006 : (Jvm.Cond.soleField "SpinStripModel" "otherMany") ∈ lw_all := lw_g (lw_at lw_m8 219 rfl) rfl
theorem q2007 : (Jvm.Cond.laysFinal "SpinStripModel" "SpinStripModel" "both" "[J") ∈ lw_all := lw_g (lw_at lw_m8 220 rfl) rfl
theorem q2008 : (Jvm.Cond.soleField "SpinStripModel" "both") ∈ lw_all := lw_g (lw_at lw_m8 221 rfl) rfl
theorem q2009 : (Jvm.Cond.laysFinal "SpinStripModel" "SpinStripModel" "hillOf" "[I") ∈ lw_all := lw_g (lw_at lw_m8 222 rfl) rfl
theorem q2010 : (Jvm.Cond.soleField "SpinStripModel" "hillOf") ∈ lw_all := lw_g (lw_at lw_m8 223 rfl) rfl
theorem q2011 : (Jvm.Cond.laysFinal "SpinStripModel" "SpinStripModel" "isWet" "[Z") ∈ lw_all := lw_g (lw_at lw_m8 224 rfl) rfl
theorem q2012 : (Jvm.Cond.soleField "SpinStripModel" "isWet") ∈ lw_all := lw_g (lw_at lw_m8 225 rfl) rfl
theorem q2013 : (Jvm.Cond.laysFinal "SpinStripModel" "SpinStripModel" "waiting" "[I") ∈ lw_all := lw_g (lw_at lw_m8 226 rfl) rfl
theorem q2014 : (Jvm.Cond.soleField "SpinStripModel" "waiting") ∈ lw_all := lw_g (lw_at lw_m8 227 rfl) rfl
theorem q2015 : (Jvm.Cond.laysFinal "SpinStripModel" "SpinStripModel" "downOf" "[J") ∈ lw_all := lw_g (lw_at lw_m8 228 rfl) rfl
theorem q2016 : (Jvm.Cond.soleField "SpinStripModel" "downOf") ∈ lw_all := lw_g (lw_at lw_m8 229 rfl) rfl
theorem q2017 : (Jvm.Cond.laysFinal "SpinStripModel" "SpinStripModel" "grounds" "[I") ∈ lw_all := lw_g (lw_at lw_m8 230 rfl) rfl
theorem q2018 : (Jvm.Cond.soleField "SpinStripModel" "grounds") ∈ lw_all := lw_g (lw_at lw_m8 231 rfl) rfl
theorem q2019 : (Jvm.Cond.superclass "SpinStripModel" "java/lang/Object") ∈ lw_all := lw_g (lw_at lw_m8 232 rfl) rfl
theorem q2021 : (Jvm.Cond.instanceMethod ({ cls := "SpinStripModel", name := "feed", desc := "(IIIII)I" } : Jvm.MethodName)) ∈ lw_all := lw_g (lw_at lw_m8 234 rfl) rfl
theorem q2022 : (Jvm.Cond.selects "SpinStripModel" ({ cls := "SpinStripModel", name := "feed", desc := "(IIIII)I" } : Jvm.MethodName) ({ cls := "SpinStripModel", name := "feed", desc := "(IIIII)I" } : Jvm.MethodName)) ∈ lw_all := lw_g (lw_at lw_m8 235 rfl) rfl
theorem q2023 : (Jvm.Cond.code ({ cls := "SpinStripModel", name := "feed", desc := "(IIIII)I" } : Jvm.MethodName) prog_14_method_3_code (6 : Nat) (Option.some Jvm.ClassFile.FieldType.int)) ∈ lw_all := lw_g (lw_at lw_m8 236 rfl) rfl
theorem q2024 : (Jvm.Cond.methodLink "SpinStripModel" (97 : Nat) ({ cls := "SpinStripModel", name := "lays", desc := "(I)V" } : Jvm.MethodName)) ∈ lw_all := lw_g (lw_at lw_m8 237 rfl) rfl
theorem q2025 : (Jvm.Cond.privateMethod ({ cls := "SpinStripModel", name := "lays", desc := "(I)V" } : Jvm.MethodName)) ∈ lw_tbl := lw_at lw_m8 238 rfl
theorem q2026 : (Jvm.Cond.instanceMethod ({ cls := "SpinStripModel", name := "lays", desc := "(I)V" } : Jvm.MethodName)) ∈ lw_all := lw_g (lw_at lw_m8 239 rfl) rfl
theorem q2027 : (Jvm.Cond.code ({ cls := "SpinStripModel", name := "lays", desc := "(I)V" } : Jvm.MethodName) prog_14_method_4_code (3 : Nat) (Option.none : Option Jvm.ClassFile.FieldType)) ∈ lw_all := lw_g (lw_at lw_m9 0 rfl) rfl
theorem q2029 : (Jvm.Cond.instanceMethod ({ cls := "SpinStripModel", name := "back", desc := "(I)I" } : Jvm.MethodName)) ∈ lw_all := lw_g (lw_at lw_m9 2 rfl) rfl
theorem q2030 : (Jvm.Cond.selects "SpinStripModel" ({ cls := "SpinStripModel", name := "back", desc := "(I)I" } : Jvm.MethodName) ({ cls := "SpinStripModel", name := "back", desc := "(I)I" } : Jvm.MethodName)) ∈ lw_all := lw_g (lw_at lw_m9 3 rfl) rfl
theorem q2031 : (Jvm.Cond.code ({ cls := "SpinStripModel", name := "back", desc := "(I)I" } : Jvm.MethodName) prog_14_method_5_code (2 : Nat) (Option.some Jvm.ClassFile.FieldType.int)) ∈ lw_all := lw_g (lw_at lw_m9 4 rfl) rfl
theorem q2033 : (Jvm.Cond.instanceMethod ({ cls := "SpinStripModel", name := "read", desc := "()I" } : Jvm.MethodName)) ∈ lw_all := lw_g (lw_at lw_m9 6 rfl) rfl
theorem q2034 : (Jvm.Cond.selects "SpinStripModel" ({ cls := "SpinStripModel", name := "read", desc := "()I" } : Jvm.MethodName) ({ cls := "SpinStripModel", name := "read", desc := "()I" } : Jvm.MethodName)) ∈ lw_all := lw_g (lw_at lw_m9 7 rfl) rfl
theorem q2035 : (Jvm.Cond.code ({ cls := "SpinStripModel", name := "read", desc := "()I" } : Jvm.MethodName) prog_14_method_19_code (2 : Nat) (Option.some Jvm.ClassFile.FieldType.int)) ∈ lw_all := lw_g (lw_at lw_m9 8 rfl) rfl
theorem q2036 : (Jvm.Cond.methodLink "SpinStripModel" (156 : Nat) ({ cls := "SpinStripModel", name := "cutsText", desc := "()V" } : Jvm.MethodName)) ∈ lw_all := lw_g (lw_at lw_m9 9 rfl) rfl
theorem q2037 : (Jvm.Cond.privateMethod ({ cls := "SpinStripModel", name := "cutsText", desc := "()V" } : Jvm.MethodName)) ∈ lw_tbl := lw_at lw_m9 10 rfl
theorem q2038 : (Jvm.Cond.instanceMethod ({ cls := "SpinStripModel", name := "cutsText", desc := "()V" } : Jvm.MethodName)) ∈ lw_all := lw_g (lw_at lw_m9 11 rfl) rfl
theorem q2039 : (Jvm.Cond.code ({ cls := "SpinStripModel", name := "cutsText", desc := "()V" } : Jvm.MethodName) prog_14_method_12_code (8 : Nat) (Option.none : Option Jvm.ClassFile.FieldType)) ∈ lw_all := lw_g (lw_at lw_m9 12 rfl) rfl
theorem q2040 : (Jvm.Cond.methodLink "SpinStripModel" (113 : Nat) ({ cls := "SpinStripModel", name := "byteAt", desc := "(I)I" } : Jvm.MethodName)) ∈ lw_all := lw_g (lw_at lw_m9 13 rfl) rfl
theorem q2041 : (Jvm.Cond.privateMethod ({ cls := "SpinStripModel", name := "byteAt", desc := "(I)I" } : Jvm.MethodName)) ∈ lw_tbl := lw_at lw_m9 14 rfl
theorem q2042 : (Jvm.Cond.instanceMethod ({ cls := "SpinStripModel", name := "byteAt", desc := "(I)I" } : Jvm.MethodName)) ∈ lw_all := lw_g (lw_at lw_m9 15 rfl) rfl
theorem q2043 : (Jvm.Cond.code ({ cls := "SpinStripModel", name := "byteAt", desc := "(I)I" } : Jvm.MethodName) prog_14_method_6_code (2 : Nat) (Option.some Jvm.ClassFile.FieldType.int)) ∈ lw_all := lw_g (lw_at lw_m9 16 rfl) rfl
theorem q2044 : (Jvm.Cond.methodLink "SpinStripModel" (117 : Nat) ({ cls := "SpinStripModel", name := "token", desc := "(IIIJ)V" } : Jvm.MethodName)) ∈ lw_all := lw_g (lw_at lw_m9 17 rfl) rfl
theorem q2045 : (Jvm.Cond.privateMethod ({ cls := "SpinStripModel", name := "token", desc := "(IIIJ)V" } : Jvm.MethodName)) ∈ lw_tbl := lw_at lw_m9 18 rfl
theorem q2046 : (Jvm.Cond.instanceMethod ({ cls := "SpinStripModel", name := "token", desc := "(IIIJ)V" } : Jvm.MethodName)) ∈ lw_all := lw_g (lw_at lw_m9 19 rfl) rfl
theorem q2047 : (Jvm.Cond.code ({ cls := "SpinStripModel", name := "token", desc := "(IIIJ)V" } : Jvm.MethodName) prog_14_method_11_code (6 : Nat) (Option.none : Option Jvm.ClassFile.FieldType)) ∈ lw_all := lw_g (lw_at lw_m9 20 rfl) rfl
theorem q2048 : (Jvm.Cond.methodLink "SpinStripModel" (121 : Nat) ({ cls := "SpinStripModel", name := "isLetter", desc := "(I)Z" } : Jvm.MethodName)) ∈ lw_all := lw_g (lw_at lw_m9 21 rfl) rfl
theorem q2049 : (Jvm.Cond.static ({ cls := "SpinStripModel", name := "isLetter", desc := "(I)Z" } : Jvm.MethodName)) ∈ lw_all := lw_g (lw_at lw_m9 22 rfl) rfl
theorem q2050 : (Jvm.Cond.code ({ cls := "SpinStripModel", name := "isLetter", desc := "(I)Z" } : Jvm.MethodName) prog_14_method_8_code (1 : Nat) (Option.some Jvm.ClassFile.FieldType.boolean)) ∈ lw_all := lw_g (lw_at lw_m9 23 rfl) rfl
theorem q2051 : (Jvm.Cond.methodLink "SpinStripModel" (125 : Nat) ({ cls := "SpinStripModel", name := "isDigit", desc := "(I)Z" } : Jvm.MethodName)) ∈ lw_all := lw_g (lw_at lw_m9 24 rfl) rfl
theorem q2052 : (Jvm.Cond.static ({ cls := "SpinStripModel", name := "isDigit", desc := "(I)Z" } : Jvm.MethodName)) ∈ lw_all := lw_g (lw_at lw_m9 25 rfl) rfl
theorem q2053 : (Jvm.Cond.code ({ cls := "SpinStripModel", name := "isDigit", desc := "(I)Z" } : Jvm.MethodName) prog_14_method_7_code (1 : Nat) (Option.some Jvm.ClassFile.FieldType.boolean)) ∈ lw_all := lw_g (lw_at lw_m9 26 rfl) rfl
theorem q2054 : (Jvm.Cond.methodLink "SpinStripModel" (128 : Nat) ({ cls := "SpinStripModel", name := "sign", desc := "(II)I" } : Jvm.MethodName)) ∈ lw_all := lw_g (lw_at lw_m9 27 rfl) rfl
theorem q2055 : (Jvm.Cond.privateMethod ({ cls := "SpinStripModel", name := "sign", desc := "(II)I" } : Jvm.MethodName)) ∈ lw_tbl := lw_at lw_m9 28 rfl
theorem q2056 : (Jvm.Cond.instanceMethod ({ cls := "SpinStripModel", name := "sign", desc := "(II)I" } : Jvm.MethodName)) ∈ lw_all := lw_g (lw_at lw_m9 29 rfl) rfl
theorem q2057 : (Jvm.Cond.code ({ cls := "SpinStripModel", name := "sign", desc := "(II)I" } : Jvm.MethodName) prog_14_method_13_code (3 : Nat) (Option.some Jvm.ClassFile.FieldType.int)) ∈ lw_all := lw_g (lw_at lw_m9 30 rfl) rfl
theorem q2058 : (Jvm.Cond.methodLink "SpinStripModel" (159 : Nat) ({ cls := "SpinStripModel", name := "must", desc := "(I)V" } : Jvm.MethodName)) ∈ lw_all := lw_g (lw_at lw_m9 31 rfl) rfl
theorem q2059 : (Jvm.Cond.privateMethod ({ cls := "SpinStripModel", name := "must", desc := "(I)V" } : Jvm.MethodName)) ∈ lw_tbl := lw_at lw_m9 32 rfl
theorem q2060 : (Jvm.Cond.instanceMethod ({ cls := "SpinStripModel", name := "must", desc := "(I)V" } : Jvm.MethodName)) ∈ lw_all := lw_g (lw_at lw_m9 33 rfl) rfl
theorem q2061 : (Jvm.Cond.code ({ cls := "SpinStripModel", name := "must", desc := "(I)V" } : Jvm.MethodName) prog_14_method_18_code (2 : Nat) (Option.none : Option Jvm.ClassFile.FieldType)) ∈ lw_all := lw_g (lw_at lw_m9 34 rfl) rfl
theorem q2062 : (Jvm.Cond.methodLink "SpinStripModel" (150 : Nat) ({ cls := "SpinStripModel", name := "is", desc := "(I)Z" } : Jvm.MethodName)) ∈ lw_all := lw_g (lw_at lw_m9 35 rfl) rfl
theorem q2063 : (Jvm.Cond.privateMethod ({ cls := "SpinStripModel", name := "is", desc := "(I)Z" } : Jvm.MethodName)) ∈ lw_tbl := lw_at lw_m9 36 rfl
theorem q2064 : (Jvm.Cond.instanceMethod ({ cls := "SpinStripModel", name := "is", desc := "(I)Z" } : Jvm.MethodName)) ∈ lw_all := lw_g (lw_at lw_m9 37 rfl) rfl
theorem q2065 : (Jvm.Cond.code ({ cls := "SpinStripModel", name := "is", desc := "(I)Z" } : Jvm.MethodName) prog_14_method_14_code (2 : Nat) (Option.some Jvm.ClassFile.FieldType.boolean)) ∈ lw_all := lw_g (lw_at lw_m9 38 rfl) rfl
theorem q2066 : (Jvm.Cond.methodLink "SpinStripModel" (153 : Nat) ({ cls := "SpinStripModel", name := "passes", desc := "()V" } : Jvm.MethodName)) ∈ lw_all := lw_g (lw_at lw_m9 39 rfl) rfl
theorem q2067 : (Jvm.Cond.privateMethod ({ cls := "SpinStripModel", name := "passes", desc := "()V" } : Jvm.MethodName)) ∈ lw_tbl := lw_at lw_m9 40 rfl
theorem q2068 : (Jvm.Cond.instanceMethod ({ cls := "SpinStripModel", name := "passes", desc := "()V" } : Jvm.MethodName)) ∈ lw_all := lw_g (lw_at lw_m9 41 rfl) rfl
theorem q2069 : (Jvm.Cond.code ({ cls := "SpinStripModel", name := "passes", desc := "()V" } : Jvm.MethodName) prog_14_method_17_code (1 : Nat) (Option.none : Option Jvm.ClassFile.FieldType)) ∈ lw_all := lw_g (lw_at lw_m9 42 rfl) rfl
theorem q2070 : (Jvm.Cond.methodLink "SpinStripModel" (147 : Nat) ({ cls := "SpinStripModel", name := "fail", desc := "(I)V" } : Jvm.MethodName)) ∈ lw_all := lw_g (lw_at lw_m9 43 rfl) rfl
theorem q2071 : (Jvm.Cond.privateMethod ({ cls := "SpinStripModel", name := "fail", desc := "(I)V" } : Jvm.MethodName)) ∈ lw_tbl := lw_at lw_m9 44 rfl
theorem q2072 : (Jvm.Cond.instanceMethod ({ cls := "SpinStripModel", name := "fail", desc := "(I)V" } : Jvm.MethodName)) ∈ lw_all := lw_g (lw_at lw_m9 45 rfl) rfl
theorem q2073 : (Jvm.Cond.code ({ cls := "SpinStripModel", name := "fail", desc := "(I)V" } : Jvm.MethodName) prog_14_method_15_code (2 : Nat) (Option.none : Option Jvm.ClassFile.FieldType)) ∈ lw_all := lw_g (lw_at lw_m9 46 rfl) rfl
theorem q2074 : (Jvm.Cond.methodLink "SpinStripModel" (162 : Nat) ({ cls := "SpinStripModel", name := "line", desc := "()V" } : Jvm.MethodName)) ∈ lw_all := lw_g (lw_at lw_m9 47 rfl) rfl
theorem q2075 : (Jvm.Cond.privateMethod ({ cls := "SpinStripModel", name := "line", desc := "()V" } : Jvm.MethodName)) ∈ lw_tbl := lw_at lw_m9 48 rfl
theorem q2076 : (Jvm.Cond.instanceMethod ({ cls := "SpinStripModel", name := "line", desc := "()V" } : Jvm.MethodName)) ∈ lw_all := lw_g (lw_at lw_m9 49 rfl) rfl
theorem q2077 : (Jvm.Cond.code ({ cls := "SpinStripModel", name := "line", desc := "()V" } : Jvm.MethodName) prog_14_method_23_code (2 : Nat) (Option.none : Option Jvm.ClassFile.FieldType)) ∈ lw_all := lw_g (lw_at lw_m9 50 rfl) rfl
theorem q2078 : (Jvm.Cond.methodLink "SpinStripModel" (203 : Nat) ({ cls := "SpinStripModel", name := "mustJ", desc := "()V" } : Jvm.MethodName)) ∈ lw_all := lw_g (lw_at lw_m9 51 rfl) rfl
theorem q2079 : (Jvm.Cond.privateMethod ({ cls := "SpinStripModel", name := "mustJ", desc := "()V" } : Jvm.MethodName)) ∈ lw_tbl := lw_at lw_m9 52 rfl
theorem q2080 : (Jvm.Cond.instanceMethod ({ cls := "SpinStripModel", name := "mustJ", desc := "()V" } : Jvm.MethodName)) ∈ lw_all := lw_g (lw_at lw_m9 53 rfl) rfl
theorem q2081 : (Jvm.Cond.code ({ cls := "SpinStripModel", name := "mustJ", desc := "()V" } : Jvm.MethodName) prog_14_method_22_code (1 : Nat) (Option.none : Option Jvm.ClassFile.FieldType)) ∈ lw_all := lw_g (lw_at lw_m9 54 rfl) rfl
theorem q2082 : (Jvm.Cond.methodLink "SpinStripModel" (206 : Nat) ({ cls := "SpinStripModel", name := "mustWay", desc := "()V" } : Jvm.MethodName)) ∈ lw_all := lw_g (lw_at lw_m9 55 rfl) rfl
theorem q2083 : (Jvm.Cond.privateMethod ({ cls := "SpinStripModel", name := "mustWay", desc := "()V" } : Jvm.MethodName)) ∈ lw_tbl := lw_at lw_m9 56 rfl
theorem q2084 : (Jvm.Cond.instanceMethod ({ cls := "SpinStripModel", name := "mustWay", desc := "()V" } : Jvm.MethodName)) ∈ lw_all := lw_g (lw_at lw_m9 57 rfl) rfl
theorem q2085 : (Jvm.Cond.code ({ cls := "SpinStripModel", name := "mustWay", desc := "()V" } : Jvm.MethodName) prog_14_method_21_code (1 : Nat) (Option.none : Option Jvm.ClassFile.FieldType)) ∈ lw_all := lw_g (lw_at lw_m9 58 rfl) rfl
theorem q2086 : (Jvm.Cond.methodLink "SpinStripModel" (165 : Nat) ({ cls := "SpinStripModel", name := "means", desc := "()V" } : Jvm.MethodName)) ∈ lw_all := lw_g (lw_at lw_m9 59 rfl) rfl
theorem q2087 : (Jvm.Cond.privateMethod ({ cls := "SpinStripModel", name := "means", desc := "()V" } : Jvm.MethodName)) ∈ lw_tbl := lw_at lw_m9 60 rfl
theorem q2088 : (Jvm.Cond.instanceMethod ({ cls := "SpinStripModel", name := "means", desc := "()V" } : Jvm.MethodName)) ∈ lw_all := lw_g (lw_at lw_m9 61 rfl) rfl
theorem q2089 : (Jvm.Cond.code ({ cls := "SpinStripModel", name := "means", desc := "()V" } : Jvm.MethodName) prog_14_method_25_code (2 : Nat) (Option.none : Option Jvm.ClassFile.FieldType)) ∈ lw_all := lw_g (lw_at lw_m9 62 rfl) rfl
theorem q2090 : (Jvm.Cond.methodLink "SpinStripModel" (213 : Nat) ({ cls := "SpinStripModel", name := "in", desc := "(III)Z" } : Jvm.MethodName)) ∈ lw_all := lw_g (lw_at lw_m9 63 rfl) rfl
theorem q2091 : (Jvm.Cond.static ({ cls := "SpinStripModel", name := "in", desc := "(III)Z" } : Jvm.MethodName)) ∈ lw_all := lw_g (lw_at lw_m9 64 rfl) rfl
theorem q2092 : (Jvm.Cond.code ({ cls := "SpinStripModel", name := "in", desc := "(III)Z" } : Jvm.MethodName) prog_14_method_28_code (3 : Nat) (Option.some Jvm.ClassFile.FieldType.boolean)) ∈ lw_all := lw_g (lw_at lw_m9 65 rfl) rfl
theorem q2093 : (Jvm.Cond.methodLink "SpinStripModel" (209 : Nat) ({ cls := "SpinStripModel", name := "wrong", desc := "(II)V" } : Jvm.MethodName)) ∈ lw_all := lw_g (lw_at lw_m9 66 rfl) rfl
theorem q2094 : (Jvm.Cond.privateMethod ({ cls := "SpinStripModel", name := "wrong", desc := "(II)V" } : Jvm.MethodName)) ∈ lw_tbl := lw_at lw_m9 67 rfl
theorem q2095 : (Jvm.Cond.instanceMethod ({ cls := "SpinStripModel", name := "wrong", desc := "(II)V" } : Jvm.MethodName)) ∈ lw_all := lw_g (lw_at lw_m9 68 rfl) rfl
theorem q2096 : (Jvm.Cond.code ({ cls := "SpinStripModel", name := "wrong", desc := "(II)V" } : Jvm.MethodName) prog_14_method_16_code (4 : Nat) (Option.none : Option Jvm.ClassFile.FieldType)) ∈ lw_all := lw_g (lw_at lw_m9 69 rfl) rfl
theorem q2097 : (Jvm.Cond.methodLink "SpinStripModel" (217 : Nat) ({ cls := "SpinStripModel", name := "meansAll", desc := "(I)V" } : Jvm.MethodName)) ∈ lw_all := lw_g (lw_at lw_m9 70 rfl) rfl
theorem q2098 : (Jvm.Cond.privateMethod ({ cls := "SpinStripModel", name := "meansAll", desc := "(I)V" } : Jvm.MethodName)) ∈ lw_tbl := lw_at lw_m9 71 rfl
theorem q2099 : (Jvm.Cond.instanceMethod ({ cls := "SpinStripModel", name := "meansAll", desc := "(I)V" } : Jvm.MethodName)) ∈ lw_all := lw_g (lw_at lw_m9 72 rfl) rfl
theorem q2100 : (Jvm.Cond.code ({ cls := "SpinStripModel", name := "meansAll", desc := "(I)V" } : Jvm.MethodName) prog_14_method_26_code (5 : Nat) (Option.none : Option Jvm.ClassFile.FieldType)) ∈ lw_all := lw_g (lw_at lw_m9 73 rfl) rfl
theorem q2101 : (Jvm.Cond.methodLink "SpinStripModel" (223 : Nat) ({ cls := "SpinStripModel", name := "jAt", desc := "(I)I" } : Jvm.MethodName)) ∈ lw_all := lw_g (lw_at lw_m9 74 rfl) rfl
theorem q2102 : (Jvm.Cond.privateMethod ({ cls := "SpinStripModel", name := "jAt", desc := "(I)I" } : Jvm.MethodName)) ∈ lw_tbl := lw_at lw_m9 75 rfl
theorem q2103 : (Jvm.Cond.instanceMethod ({ cls := "SpinStripModel", name := "jAt", desc := "(I)I" } : Jvm.MethodName)) ∈ lw_all := lw_g (lw_at lw_m9 76 rfl) rfl
theorem q2104 : (Jvm.Cond.code ({ cls := "SpinStripModel", name := "jAt", desc := "(I)I" } : Jvm.MethodName) prog_14_method_24_code (3 : Nat) (Option.some Jvm.ClassFile.FieldType.int)) ∈ lw_all := lw_g (lw_at lw_m9 77 rfl) rfl
theorem q2105 : (Jvm.Cond.methodLink "SpinStripModel" (220 : Nat) ({ cls := "SpinStripModel", name := "meansOne", desc := "(I)V" } : Jvm.MethodName)) ∈ lw_all := lw_g (lw_at lw_m9 78 rfl) rfl
theorem q2106 : (Jvm.Cond.privateMethod ({ cls := "SpinStripModel", name := "meansOne", desc := "(I)V" } : Jvm.MethodName)) ∈ lw_tbl := lw_at lw_m9 79 rfl
theorem q2107 : (Jvm.Cond.instanceMethod ({ cls := "SpinStripModel", name := "meansOne", desc := "(I)V" } : Jvm.MethodName)) ∈ lw_all := lw_g (lw_at lw_m9 80 rfl) rfl
theorem q2108 : (Jvm.Cond.code ({ cls := "SpinStripModel", name := "meansOne", desc := "(I)V" } : Jvm.MethodName) prog_14_method_27_code (7 : Nat) (Option.none : Option Jvm.ClassFile.FieldType)) ∈ lw_all := lw_g (lw_at lw_m9 81 rfl) rfl
theorem q2109 : (Jvm.Cond.methodLink "SpinStripModel" (226 : Nat) ({ cls := "SpinStripModel", name := "leads", desc := "(IZIIZ)I" } : Jvm.MethodName)) ∈ lw_all := lw_g (lw_at lw_m9 82 rfl) rfl
theorem q2110 : (Jvm.Cond.static ({ cls := "SpinStripModel", name := "leads", desc := "(IZIIZ)I" } : Jvm.MethodName)) ∈ lw_all := lw_g (lw_at lw_m9 83 rfl) rfl
theorem q2111 : (Jvm.Cond.code ({ cls := "SpinStripModel", name := "leads", desc := "(IZIIZ)I" } : Jvm.MethodName) prog_14_method_31_code (7 : Nat) (Option.some Jvm.ClassFile.FieldType.int)) ∈ lw_all := lw_g (lw_at lw_m9 84 rfl) rfl
theorem q2112 : (Jvm.Cond.methodLink "SpinStripModel" (193 : Nat) ({ cls := "SpinStripModel", name := "sites", desc := "()I" } : Jvm.MethodName)) ∈ lw_all := lw_g (lw_at lw_m9 85 rfl) rfl
theorem q2113 : (Jvm.Cond.privateMethod ({ cls := "SpinStripModel", name := "sites", desc := "()I" } : Jvm.MethodName)) ∈ lw_tbl := lw_at lw_m9 86 rfl
theorem q2114 : (Jvm.Cond.instanceMethod ({ cls := "SpinStripModel", name := "sites", desc := "()I" } : Jvm.MethodName)) ∈ lw_all := lw_g (lw_at lw_m9 87 rfl) rfl
theorem q2115 : (Jvm.Cond.code ({ cls := "SpinStripModel", name := "sites", desc := "()I" } : Jvm.MethodName) prog_14_method_32_code (1 : Nat) (Option.some Jvm.ClassFile.FieldType.int)) ∈ lw_all := lw_g (lw_at lw_m9 88 rfl) rfl
theorem q2117 : (Jvm.Cond.instanceMethod ({ cls := "SpinStripModel", name := "place", desc := "()I" } : Jvm.MethodName)) ∈ lw_all := lw_g (lw_at lw_m9 90 rfl) rfl
theorem q2118 : (Jvm.Cond.selects "SpinStripModel" ({ cls := "SpinStripModel", name := "place", desc := "()I" } : Jvm.MethodName) ({ cls := "SpinStripModel", name := "place", desc := "()I" } : Jvm.MethodName)) ∈ lw_all := lw_g (lw_at lw_m9 91 rfl) rfl
theorem q2119 : (Jvm.Cond.code ({ cls := "SpinStripModel", name := "place", desc := "()I" } : Jvm.MethodName) prog_14_method_20_code (1 : Nat) (Option.some Jvm.ClassFile.FieldType.int)) ∈ lw_all := lw_g (lw_at lw_m9 92 rfl) rfl
theorem q2121 : (Jvm.Cond.instanceMethod ({ cls := "SpinStripModel", name := "tie", desc := "(IZI)Z" } : Jvm.MethodName)) ∈ lw_all := lw_g (lw_at lw_m9 94 rfl) rfl
theorem q2122 : (Jvm.Cond.selects "SpinStripModel" ({ cls := "SpinStripModel", name := "tie", desc := "(IZI)Z" } : Jvm.MethodName) ({ cls := "SpinStripModel", name := "tie", desc := "(IZI)Z" } : Jvm.MethodName)) ∈ lw_all := lw_g (lw_at lw_m9 95 rfl) rfl
theorem q2123 : (Jvm.Cond.code ({ cls := "SpinStripModel", name := "tie", desc := "(IZI)Z" } : Jvm.MethodName) prog_14_method_37_code (4 : Nat) (Option.some Jvm.ClassFile.FieldType.boolean)) ∈ lw_all := lw_g (lw_at lw_m9 96 rfl) rfl
theorem q2124 : (Jvm.Cond.methodLink "SpinStripModel" (233 : Nat) ({ cls := "SpinStripModel", name := "isSite", desc := "(I)Z" } : Jvm.MethodName)) ∈ lw_all := lw_g (lw_at lw_m9 97 rfl) rfl
theorem q2125 : (Jvm.Cond.privateMethod ({ cls := "SpinStripModel", name := "isSite", desc := "(I)Z" } : Jvm.MethodName)) ∈ lw_tbl := lw_at lw_m9 98 rfl
theorem q2126 : (Jvm.Cond.instanceMethod ({ cls := "SpinStripModel", name := "isSite", desc := "(I)Z" } : Jvm.MethodName)) ∈ lw_all := lw_g (lw_at lw_m9 99 rfl) rfl
theorem q2127 : (Jvm.Cond.code ({ cls := "SpinStripModel", name := "isSite", desc := "(I)Z" } : Jvm.MethodName) prog_14_method_33_code (2 : Nat) (Option.some Jvm.ClassFile.FieldType.boolean)) ∈ lw_all := lw_g (lw_at lw_m9 100 rfl) rfl
theorem q2128 : (Jvm.Cond.methodLink "SpinStripModel" (236 : Nat) ({ cls := "SpinStripModel", name := "tieTo", desc := "(IZ)I" } : Jvm.MethodName)) ∈ lw_all := lw_g (lw_at lw_m9 101 rfl) rfl
theorem q2129 : (Jvm.Cond.privateMethod ({ cls := "SpinStripModel", name := "tieTo", desc := "(IZ)I" } : Jvm.MethodName)) ∈ lw_tbl := lw_at lw_m9 102 rfl
theorem q2130 : (Jvm.Cond.instanceMethod ({ cls := "SpinStripModel", name := "tieTo", desc := "(IZ)I" } : Jvm.MethodName)) ∈ lw_all := lw_g (lw_at lw_m9 103 rfl) rfl
theorem q2131 : (Jvm.Cond.code ({ cls := "SpinStripModel", name := "tieTo", desc := "(IZ)I" } : Jvm.MethodName) prog_14_method_34_code (3 : Nat) (Option.some Jvm.ClassFile.FieldType.int)) ∈ lw_all := lw_g (lw_at lw_m9 104 rfl) rfl
theorem q2132 : (Jvm.Cond.methodLink "SpinStripModel" (240 : Nat) ({ cls := "SpinStripModel", name := "jOf", desc := "([IIZ)I" } : Jvm.MethodName)) ∈ lw_all := lw_g (lw_at lw_m9 105 rfl) rfl
theorem q2133 : (Jvm.Cond.static ({ cls := "SpinStripModel", name := "jOf", desc := "([IIZ)I" } : Jvm.MethodName)) ∈ lw_all := lw_g (lw_at lw_m9 106 rfl) rfl
theorem q2134 : (Jvm.Cond.code ({ cls := "SpinStripModel", name := "jOf", desc := "([IIZ)I" } : Jvm.MethodName) prog_14_method_35_code (3 : Nat) (Option.some Jvm.ClassFile.FieldType.int)) ∈ lw_all := lw_g (lw_at lw_m9 107 rfl) rfl
theorem q2135 : (Jvm.Cond.methodLink "SpinStripModel" (244 : Nat) ({ cls := "SpinStripModel", name := "marks", desc := "()V" } : Jvm.MethodName)) ∈ lw_all := lw_g (lw_at lw_m9 108 rfl) rfl
theorem q2136 : (Jvm.Cond.privateMethod ({ cls := "SpinStripModel", name := "marks", desc := "()V" } : Jvm.MethodName)) ∈ lw_tbl := lw_at lw_m9 109 rfl
theorem q2137 : (Jvm.Cond.instanceMethod ({ cls := "SpinStripModel", name := "marks", desc := "()V" } : Jvm.MethodName)) ∈ lw_all := lw_g (lw_at lw_m9 110 rfl) rfl
theorem q2138 : (Jvm.Cond.code ({ cls := "SpinStripModel", name := "marks", desc := "()V" } : Jvm.MethodName) prog_14_method_36_code (3 : Nat) (Option.none : Option Jvm.ClassFile.FieldType)) ∈ lw_all := lw_g (lw_at lw_m9 111 rfl) rfl
theorem q2140 : (Jvm.Cond.instanceMethod ({ cls := "SpinStripModel", name := "pull", desc := "(II)Z" } : Jvm.MethodName)) ∈ lw_all := lw_g (lw_at lw_m9 113 rfl) rfl
theorem q2141 : (Jvm.Cond.selects "SpinStripModel" ({ cls := "SpinStripModel", name := "pull", desc := "(II)Z" } : Jvm.MethodName) ({ cls := "SpinStripModel", name := "pull", desc := "(II)Z" } : Jvm.MethodName)) ∈ lw_all := lw_g (lw_at lw_m9 114 rfl) rfl
theorem q2142 : (Jvm.Cond.code ({ cls := "SpinStripModel", name := "pull", desc := "(II)Z" } : Jvm.MethodName) prog_14_method_38_code (3 : Nat) (Option.some Jvm.ClassFile.FieldType.boolean)) ∈ lw_all := lw_g (lw_at lw_m9 115 rfl) rfl
theorem q2144 : (Jvm.Cond.instanceMethod ({ cls := "SpinStripModel", name := "pin", desc := "(II)Z" } : Jvm.MethodName)) ∈ lw_all := lw_g (lw_at lw_m9 117 rfl) rfl
theorem q2145 : (Jvm.Cond.selects "SpinStripModel" ({ cls := "SpinStripModel", name := "pin", desc := "(II)Z" } : Jvm.MethodName) ({ cls := "SpinStripModel", name := "pin", desc := "(II)Z" } : Jvm.MethodName)) ∈ lw_all := lw_g (lw_at lw_m9 118 rfl) rfl
theorem q2146 : (Jvm.Cond.code ({ cls := "SpinStripModel", name := "pin", desc := "(II)Z" } : Jvm.MethodName) prog_14_method_39_code (3 : Nat) (Option.some Jvm.ClassFile.FieldType.boolean)) ∈ lw_all := lw_g (lw_at lw_m9 119 rfl) rfl
theorem q2148 : (Jvm.Cond.instanceMethod ({ cls := "SpinStripModel", name := "glass", desc := "(I)Z" } : Jvm.MethodName)) ∈ lw_all := lw_g (lw_at lw_m9 121 rfl) rfl
theorem q2149 : (Jvm.Cond.selects "SpinStripModel" ({ cls := "SpinStripModel", name := "glass", desc := "(I)Z" } : Jvm.MethodName) ({ cls := "SpinStripModel", name := "glass", desc := "(I)Z" } : Jvm.MethodName)) ∈ lw_all := lw_g (lw_at lw_m9 122 rfl) rfl
theorem q2150 : (Jvm.Cond.code ({ cls := "SpinStripModel", name := "glass", desc := "(I)Z" } : Jvm.MethodName) prog_14_method_41_code (7 : Nat) (Option.some Jvm.ClassFile.FieldType.boolean)) ∈ lw_all := lw_g (lw_at lw_m9 123 rfl) rfl
theorem q2151 : (Jvm.Cond.methodLink "SpinStripModel" (253 : Nat) ({ cls := "SpinStripModel", name := "nextOf", desc := "(J)J" } : Jvm.MethodName)) ∈ lw_all := lw_g (lw_at lw_m9 124 rfl) rfl
theorem q2152 : (Jvm.Cond.static ({ cls := "SpinStripModel", name := "nextOf", desc := "(J)J" } : Jvm.MethodName)) ∈ lw_all := lw_g (lw_at lw_m9 125 rfl) rfl
theorem q2153 : (Jvm.Cond.code ({ cls := "SpinStripModel", name := "nextOf", desc := "(J)J" } : Jvm.MethodName) prog_14_method_40_code (2 : Nat) (Option.some Jvm.ClassFile.FieldType.long)) ∈ lw_all := lw_g (lw_at lw_m9 126 rfl) rfl
theorem q2154 : (Jvm.Cond.constantLong "SpinStripModel" (247 : Nat) (1103515245 : Int64)) ∈ lw_all := lw_g (lw_at lw_m9 127 rfl) rfl
theorem q2155 : (Jvm.Cond.constantLong "SpinStripModel" (249 : Nat) (12345 : Int64)) ∈ lw_all := lw_g (lw_at lw_m9 128 rfl) rfl
theorem q2156 : (Jvm.Cond.constantLong "SpinStripModel" (251 : Nat) (2147483648 : Int64)) ∈ lw_all := lw_g (lw_at lw_m9 129 rfl) rfl
theorem q2157 : (Jvm.Cond.constantLong "SpinStripModel" (257 : Nat) (65536 : Int64)) ∈ lw_all := lw_g (lw_at lw_m9 130 rfl) rfl
theorem q2158 : (Jvm.Cond.constantLong "SpinStripModel" (259 : Nat) (2 : Int64)) ∈ lw_all := lw_g (lw_at lw_m9 131 rfl) rfl
theorem q2160 : (Jvm.Cond.instanceMethod ({ cls := "SpinStripModel", name := "turn", desc := "(I)Z" } : Jvm.MethodName)) ∈ lw_all := lw_g (lw_at lw_m9 133 rfl) rfl
theorem q2161 : (Jvm.Cond.selects "SpinStripModel" ({ cls := "SpinStripModel", name := "turn", desc := "(I)Z" } : Jvm.MethodName) ({ cls := "SpinStripModel", name := "turn", desc := "(I)Z" } : Jvm.MethodName)) ∈ lw_all := lw_g (lw_at lw_m9 134 rfl) rfl
theorem q2162 : (Jvm.Cond.code ({ cls := "SpinStripModel", name := "turn", desc := "(I)Z" } : Jvm.MethodName) prog_14_method_42_code (2 : Nat) (Option.some Jvm.ClassFile.FieldType.boolean)) ∈ lw_all := lw_g (lw_at lw_m9 135 rfl) rfl
theorem q2164 : (Jvm.Cond.instanceMethod ({ cls := "SpinStripModel", name := "fall", desc := "()I" } : Jvm.MethodName)) ∈ lw_all := lw_g (lw_at lw_m9 137 rfl) rfl
theorem q2165 : (Jvm.Cond.selects "SpinStripModel" ({ cls := "SpinStripModel", name := "fall", desc := "()I" } : Jvm.MethodName) ({ cls := "SpinStripModel", name := "fall", desc := "()I" } : Jvm.MethodName)) ∈ lw_all := lw_g (lw_at lw_m9 138 rfl) rfl
theorem q2166 : (Jvm.Cond.code ({ cls := "SpinStripModel", name := "fall", desc := "()I" } : Jvm.MethodName) prog_14_method_43_code (2 : Nat) (Option.some Jvm.ClassFile.FieldType.int)) ∈ lw_all := lw_g (lw_at lw_m9 139 rfl) rfl
theorem q2167 : (Jvm.Cond.methodLink "SpinStripModel" (261 : Nat) ({ cls := "SpinStripModel", name := "knows", desc := "()V" } : Jvm.MethodName)) ∈ lw_all := lw_g (lw_at lw_m9 140 rfl) rfl
theorem q2168 : (Jvm.Cond.privateMethod ({ cls := "SpinStripModel", name := "knows", desc := "()V" } : Jvm.MethodName)) ∈ lw_tbl := lw_at lw_m9 141 rfl
theorem q2169 : (Jvm.Cond.instanceMethod ({ cls := "SpinStripModel", name := "knows", desc := "()V" } : Jvm.MethodName)) ∈ lw_all := lw_g (lw_at lw_m9 142 rfl) rfl
theorem q2170 : (Jvm.Cond.code ({ cls := "SpinStripModel", name := "knows", desc := "()V" } : Jvm.MethodName) prog_14_method_52_code (2 : Nat) (Option.none : Option Jvm.ClassFile.FieldType)) ∈ lw_all := lw_g (lw_at lw_m9 143 rfl) rfl
theorem q2171 : (Jvm.Cond.methodLink "SpinStripModel" (270 : Nat) ({ cls := "SpinStripModel", name := "states", desc := "()I" } : Jvm.MethodName)) ∈ lw_all := lw_g (lw_at lw_m9 144 rfl) rfl
theorem q2172 : (Jvm.Cond.privateMethod ({ cls := "SpinStripModel", name := "states", desc := "()I" } : Jvm.MethodName)) ∈ lw_tbl := lw_at lw_m9 145 rfl
theorem q2173 : (Jvm.Cond.instanceMethod ({ cls := "SpinStripModel", name := "states", desc := "()I" } : Jvm.MethodName)) ∈ lw_all := lw_g (lw_at lw_m9 146 rfl) rfl
theorem q2174 : (Jvm.Cond.code ({ cls := "SpinStripModel", name := "states", desc := "()I" } : Jvm.MethodName) prog_14_method_49_code (1 : Nat) (Option.some Jvm.ClassFile.FieldType.int)) ∈ lw_all := lw_g (lw_at lw_m9 147 rfl) rfl
theorem q2175 : (Jvm.Cond.methodLink "SpinStripModel" (281 : Nat) ({ cls := "SpinStripModel", name := "isLawful", desc := "(I)Z" } : Jvm.MethodName)) ∈ lw_all := lw_g (lw_at lw_m9 148 rfl) rfl
theorem q2176 : (Jvm.Cond.privateMethod ({ cls := "SpinStripModel", name := "isLawful", desc := "(I)Z" } : Jvm.MethodName)) ∈ lw_tbl := lw_at lw_m9 149 rfl
theorem q2177 : (Jvm.Cond.instanceMethod ({ cls := "SpinStripModel", name := "isLawful", desc := "(I)Z" } : Jvm.MethodName)) ∈ lw_all := lw_g (lw_at lw_m9 150 rfl) rfl
theorem q2178 : (Jvm.Cond.code ({ cls := "SpinStripModel", name := "isLawful", desc := "(I)Z" } : Jvm.MethodName) prog_14_method_50_code (2 : Nat) (Option.some Jvm.ClassFile.FieldType.boolean)) ∈ lw_all := lw_g (lw_at lw_m9 151 rfl) rfl
theorem q2179 : (Jvm.Cond.methodLink "SpinStripModel" (273 : Nat) ({ cls := "SpinStripModel", name := "isLawfulBy", desc := "([III)Z" } : Jvm.MethodName)) ∈ lw_all := lw_g (lw_at lw_m9 152 rfl) rfl
theorem q2180 : (Jvm.Cond.static ({ cls := "SpinStripModel", name := "isLawfulBy", desc := "([III)Z" } : Jvm.MethodName)) ∈ lw_all := lw_g (lw_at lw_m9 153 rfl) rfl
theorem q2181 : (Jvm.Cond.code ({ cls := "SpinStripModel", name := "isLawfulBy", desc := "([III)Z" } : Jvm.MethodName) prog_14_method_48_code (4 : Nat) (Option.some Jvm.ClassFile.FieldType.boolean)) ∈ lw_all := lw_g (lw_at lw_m9 154 rfl) rfl
theorem q2182 : (Jvm.Cond.methodLink "SpinStripModel" (277 : Nat) ({ cls := "SpinStripModel", name := "energy", desc := "([III)I" } : Jvm.MethodName)) ∈ lw_all := lw_g (lw_at lw_m9 155 rfl) rfl
theorem q2183 : (Jvm.Cond.privateMethod ({ cls := "SpinStripModel", name := "energy", desc := "([III)I" } : Jvm.MethodName)) ∈ lw_tbl := lw_at lw_m9 156 rfl
theorem q2184 : (Jvm.Cond.instanceMethod ({ cls := "SpinStripModel", name := "energy", desc := "([III)I" } : Jvm.MethodName)) ∈ lw_all := lw_g (lw_at lw_m9 157 rfl) rfl
theorem q2185 : (Jvm.Cond.code ({ cls := "SpinStripModel", name := "energy", desc := "([III)I" } : Jvm.MethodName) prog_14_method_47_code (8 : Nat) (Option.some Jvm.ClassFile.FieldType.int)) ∈ lw_all := lw_g (lw_at lw_m9 158 rfl) rfl
theorem q2186 : (Jvm.Cond.constant "SpinStripModel" (284 : Nat) (100000 : Int32)) ∈ lw_all := lw_g (lw_at lw_m9 159 rfl) rfl
theorem q2187 : (Jvm.Cond.methodLink "SpinStripModel" (264 : Nat) ({ cls := "SpinStripModel", name := "fallTurns", desc := "(I)I" } : Jvm.MethodName)) ∈ lw_all := lw_g (lw_at lw_m9 160 rfl) rfl
theorem q2188 : (Jvm.Cond.privateMethod ({ cls := "SpinStripModel", name := "fallTurns", desc := "(I)I" } : Jvm.MethodName)) ∈ lw_tbl := lw_at lw_m9 161 rfl
theorem q2189 : (Jvm.Cond.instanceMethod ({ cls := "SpinStripModel", name := "fallTurns", desc := "(I)I" } : Jvm.MethodName)) ∈ lw_all := lw_g (lw_at lw_m9 162 rfl) rfl
theorem q2190 : (Jvm.Cond.code ({ cls := "SpinStripModel", name := "fallTurns", desc := "(I)I" } : Jvm.MethodName) prog_14_method_69_code (5 : Nat) (Option.some Jvm.ClassFile.FieldType.int)) ∈ lw_all := lw_g (lw_at lw_m9 163 rfl) rfl
theorem q2191 : (Jvm.Cond.methodLink "SpinStripModel" (321 : Nat) ({ cls := "SpinStripModel", name := "steepest", desc := "(I)I" } : Jvm.MethodName)) ∈ lw_all := lw_g (lw_at lw_m9 164 rfl) rfl
theorem q2192 : (Jvm.Cond.privateMethod ({ cls := "SpinStripModel", name := "steepest", desc := "(I)I" } : Jvm.MethodName)) ∈ lw_tbl := lw_at lw_m9 165 rfl
theorem q2193 : (Jvm.Cond.instanceMethod ({ cls := "SpinStripModel", name := "steepest", desc := "(I)I" } : Jvm.MethodName)) ∈ lw_all := lw_g (lw_at lw_m9 166 rfl) rfl
theorem q2194 : (Jvm.Cond.code ({ cls := "SpinStripModel", name := "steepest", desc := "(I)I" } : Jvm.MethodName) prog_14_method_67_code (6 : Nat) (Option.some Jvm.ClassFile.FieldType.int)) ∈ lw_all := lw_g (lw_at lw_m9 167 rfl) rfl
theorem q2195 : (Jvm.Cond.methodLink "SpinStripModel" (267 : Nat) ({ cls := "SpinStripModel", name := "fallEnd", desc := "(I)I" } : Jvm.MethodName)) ∈ lw_all := lw_g (lw_at lw_m9 168 rfl) rfl
theorem q2196 : (Jvm.Cond.privateMethod ({ cls := "SpinStripModel", name := "fallEnd", desc := "(I)I" } : Jvm.MethodName)) ∈ lw_tbl := lw_at lw_m9 169 rfl
theorem q2197 : (Jvm.Cond.instanceMethod ({ cls := "SpinStripModel", name := "fallEnd", desc := "(I)I" } : Jvm.MethodName)) ∈ lw_all := lw_g (lw_at lw_m9 170 rfl) rfl
theorem q2198 : (Jvm.Cond.code ({ cls := "SpinStripModel", name := "fallEnd", desc := "(I)I" } : Jvm.MethodName) prog_14_method_68_code (4 : Nat) (Option.some Jvm.ClassFile.FieldType.int)) ∈ lw_all := lw_g (lw_at lw_m9 171 rfl) rfl
theorem q2200 : (Jvm.Cond.instanceMethod ({ cls := "SpinStripModel", name := "undo", desc := "()Z" } : Jvm.MethodName)) ∈ lw_all := lw_g (lw_at lw_m9 173 rfl) rfl
theorem q2201 : (Jvm.Cond.selects "SpinStripModel" ({ cls := "SpinStripModel", name := "undo", desc := "()Z" } : Jvm.MethodName) ({ cls := "SpinStripModel", name := "undo", desc := "()Z" } : Jvm.MethodName)) ∈ lw_all := lw_g (lw_at lw_m9 174 rfl) rfl
theorem q2202 : (Jvm.Cond.code ({ cls := "SpinStripModel", name := "undo", desc := "()Z" } : Jvm.MethodName) prog_14_method_44_code (3 : Nat) (Option.some Jvm.ClassFile.FieldType.boolean)) ∈ lw_all := lw_g (lw_at lw_m9 175 rfl) rfl
theorem q2204 : (Jvm.Cond.instanceMethod ({ cls := "SpinStripModel", name := "hold", desc := "(I)Z" } : Jvm.MethodName)) ∈ lw_all := lw_g (lw_at lw_m9 177 rfl) rfl
theorem q2205 : (Jvm.Cond.selects "SpinStripModel" ({ cls := "SpinStripModel", name := "hold", desc := "(I)Z" } : Jvm.MethodName) ({ cls := "SpinStripModel", name := "hold", desc := "(I)Z" } : Jvm.MethodName)) ∈ lw_all := lw_g (lw_at lw_m9 178 rfl) rfl
theorem q2206 : (Jvm.Cond.code ({ cls := "SpinStripModel", name := "hold", desc := "(I)Z" } : Jvm.MethodName) prog_14_method_45_code (3 : Nat) (Option.some Jvm.ClassFile.FieldType.boolean)) ∈ lw_all := lw_g (lw_at lw_m9 179 rfl) rfl
theorem q2208 : (Jvm.Cond.instanceMethod ({ cls := "SpinStripModel", name := "restore", desc := "(I)Z" } : Jvm.MethodName)) ∈ lw_all := lw_g (lw_at lw_m9 181 rfl) rfl
theorem q2209 : (Jvm.Cond.selects "SpinStripModel" ({ cls := "SpinStripModel", name := "restore", desc := "(I)Z" } : Jvm.MethodName) ({ cls := "SpinStripModel", name := "restore", desc := "(I)Z" } : Jvm.MethodName)) ∈ lw_all := lw_g (lw_at lw_m9 182 rfl) rfl
theorem q2210 : (Jvm.Cond.code ({ cls := "SpinStripModel", name := "restore", desc := "(I)Z" } : Jvm.MethodName) prog_14_method_46_code (3 : Nat) (Option.some Jvm.ClassFile.FieldType.boolean)) ∈ lw_all := lw_g (lw_at lw_m9 183 rfl) rfl
theorem q2212 : (Jvm.Cond.instanceMethod ({ cls := "SpinStripModel", name := "site", desc := "(II)I" } : Jvm.MethodName)) ∈ lw_all := lw_g (lw_at lw_m9 185 rfl) rfl
theorem q2213 : (Jvm.Cond.selects "SpinStripModel" ({ cls := "SpinStripModel", name := "site", desc := "(II)I" } : Jvm.MethodName) ({ cls := "SpinStripModel", name := "site", desc := "(II)I" } : Jvm.MethodName)) ∈ lw_all := lw_g (lw_at lw_m9 186 rfl) rfl
theorem q2214 : (Jvm.Cond.code ({ cls := "SpinStripModel", name := "site", desc := "(II)I" } : Jvm.MethodName) prog_14_method_54_code (3 : Nat) (Option.some Jvm.ClassFile.FieldType.int)) ∈ lw_all := lw_g (lw_at lw_m9 187 rfl) rfl
theorem q2215 : (Jvm.Cond.constant "SpinStripModel" (288 : Nat) (-100000 : Int32)) ∈ lw_all := lw_g (lw_at lw_m9 188 rfl) rfl
theorem q2216 : (Jvm.Cond.methodLink "SpinStripModel" (289 : Nat) ({ cls := "SpinStripModel", name := "costOf", desc := "(II)I" } : Jvm.MethodName)) ∈ lw_all := lw_g (lw_at lw_m9 189 rfl) rfl
theorem q2217 : (Jvm.Cond.privateMethod ({ cls := "SpinStripModel", name := "costOf", desc := "(II)I" } : Jvm.MethodName)) ∈ lw_tbl := lw_at lw_m9 190 rfl
theorem q2218 : (Jvm.Cond.instanceMethod ({ cls := "SpinStripModel", name := "costOf", desc := "(II)I" } : Jvm.MethodName)) ∈ lw_all := lw_g (lw_at lw_m9 191 rfl) rfl
theorem q2219 : (Jvm.Cond.code ({ cls := "SpinStripModel", name := "costOf", desc := "(II)I" } : Jvm.MethodName) prog_14_method_53_code (3 : Nat) (Option.some Jvm.ClassFile.FieldType.int)) ∈ lw_all := lw_g (lw_at lw_m9 192 rfl) rfl
theorem q2221 : (Jvm.Cond.instanceMethod ({ cls := "SpinStripModel", name := "level", desc := "(II)I" } : Jvm.MethodName)) ∈ lw_all := lw_g (lw_at lw_m9 194 rfl) rfl
theorem q2222 : (Jvm.Cond.selects "SpinStripModel" ({ cls := "SpinStripModel", name := "level", desc := "(II)I" } : Jvm.MethodName) ({ cls := "SpinStripModel", name := "level", desc := "(II)I" } : Jvm.MethodName)) ∈ lw_all := lw_g (lw_at lw_m9 195 rfl) rfl
theorem q2223 : (Jvm.Cond.code ({ cls := "SpinStripModel", name := "level", desc := "(II)I" } : Jvm.MethodName) prog_14_method_57_code (3 : Nat) (Option.some Jvm.ClassFile.FieldType.int)) ∈ lw_all := lw_g (lw_at lw_m9 196 rfl) rfl
theorem q2224 : (Jvm.Cond.methodLink "SpinStripModel" (295 : Nat) ({ cls := "SpinStripModel", name := "leastOf", desc := "(I)I" } : Jvm.MethodName)) ∈ lw_all := lw_g (lw_at lw_m9 197 rfl) rfl
theorem q2225 : (Jvm.Cond.privateMethod ({ cls := "SpinStripModel", name := "leastOf", desc := "(I)I" } : Jvm.MethodName)) ∈ lw_tbl := lw_at lw_m9 198 rfl
theorem q2226 : (Jvm.Cond.instanceMethod ({ cls := "SpinStripModel", name := "leastOf", desc := "(I)I" } : Jvm.MethodName)) ∈ lw_all := lw_g (lw_at lw_m9 199 rfl) rfl
theorem q2227 : (Jvm.Cond.code ({ cls := "SpinStripModel", name := "leastOf", desc := "(I)I" } : Jvm.MethodName) prog_14_method_55_code (3 : Nat) (Option.some Jvm.ClassFile.FieldType.int)) ∈ lw_all := lw_g (lw_at lw_m9 200 rfl) rfl
theorem q2228 : (Jvm.Cond.methodLink "SpinStripModel" (298 : Nat) ({ cls := "SpinStripModel", name := "upsOf", desc := "(II)I" } : Jvm.MethodName)) ∈ lw_all := lw_g (lw_at lw_m9 201 rfl) rfl
theorem q2229 : (Jvm.Cond.privateMethod ({ cls := "SpinStripModel", name := "upsOf", desc := "(II)I" } : Jvm.MethodName)) ∈ lw_tbl := lw_at lw_m9 202 rfl
theorem q2230 : (Jvm.Cond.instanceMethod ({ cls := "SpinStripModel", name := "upsOf", desc := "(II)I" } : Jvm.MethodName)) ∈ lw_all := lw_g (lw_at lw_m9 203 rfl) rfl
theorem q2231 : (Jvm.Cond.code ({ cls := "SpinStripModel", name := "upsOf", desc := "(II)I" } : Jvm.MethodName) prog_14_method_56_code (5 : Nat) (Option.some Jvm.ClassFile.FieldType.int)) ∈ lw_all := lw_g (lw_at lw_m9 204 rfl) rfl
theorem q2232 : (Jvm.Cond.methodLink "SpinStripModel" (292 : Nat) ({ cls := "SpinStripModel", name := "bitsOf", desc := "(I)I" } : Jvm.MethodName)) ∈ lw_all := lw_g (lw_at lw_m9 205 rfl) rfl
theorem q2233 : (Jvm.Cond.static ({ cls := "SpinStripModel", name := "bitsOf", desc := "(I)I" } : Jvm.MethodName)) ∈ lw_all := lw_g (lw_at lw_m9 206 rfl) rfl
theorem q2234 : (Jvm.Cond.code ({ cls := "SpinStripModel", name := "bitsOf", desc := "(I)I" } : Jvm.MethodName) prog_14_method_30_code (3 : Nat) (Option.some Jvm.ClassFile.FieldType.int)) ∈ lw_all := lw_g (lw_at lw_m9 207 rfl) rfl
theorem q2236 : (Jvm.Cond.instanceMethod ({ cls := "SpinStripModel", name := "both", desc := "(II)I" } : Jvm.MethodName)) ∈ lw_all := lw_g (lw_at lw_m9 209 rfl) rfl
theorem q2237 : (Jvm.Cond.selects "SpinStripModel" ({ cls := "SpinStripModel", name := "both", desc := "(II)I" } : Jvm.MethodName) ({ cls := "SpinStripModel", name := "both", desc := "(II)I" } : Jvm.MethodName)) ∈ lw_all := lw_g (lw_at lw_m9 210 rfl) rfl
theorem q2238 : (Jvm.Cond.code ({ cls := "SpinStripModel", name := "both", desc := "(II)I" } : Jvm.MethodName) prog_14_method_58_code (5 : Nat) (Option.some Jvm.ClassFile.FieldType.int)) ∈ lw_all := lw_g (lw_at lw_m9 211 rfl) rfl
theorem q2240 : (Jvm.Cond.instanceMethod ({ cls := "SpinStripModel", name := "broken", desc := "(I)I" } : Jvm.MethodName)) ∈ lw_all := lw_g (lw_at lw_m9 213 rfl) rfl
theorem q2241 : (Jvm.Cond.selects "SpinStripModel" ({ cls := "SpinStripModel", name := "broken", desc := "(I)I" } : Jvm.MethodName) ({ cls := "SpinStripModel", name := "broken", desc := "(I)I" } : Jvm.MethodName)) ∈ lw_all := lw_g (lw_at lw_m9 214 rfl) rfl
theorem q2242 : (Jvm.Cond.code ({ cls := "SpinStripModel", name := "broken", desc := "(I)I" } : Jvm.MethodName) prog_14_method_60_code (4 : Nat) (Option.some Jvm.ClassFile.FieldType.int)) ∈ lw_all := lw_g (lw_at lw_m9 215 rfl) rfl
theorem q2243 : (Jvm.Cond.methodLink "SpinStripModel" (305 : Nat) ({ cls := "SpinStripModel", name := "brokenOf", desc := "(I)I" } : Jvm.MethodName)) ∈ lw_all := lw_g (lw_at lw_m9 216 rfl) rfl
theorem q2244 : (Jvm.Cond.privateMethod ({ cls := "SpinStripModel", name := "brokenOf", desc := "(I)I" } : Jvm.MethodName)) ∈ lw_tbl := lw_at lw_m9 217 rfl
theorem q2245 : (Jvm.Cond.instanceMethod ({ cls := "SpinStripModel", name := "brokenOf", desc := "(I)I" } : Jvm.MethodName)) ∈ lw_all := lw_g (lw_at lw_m9 218 rfl) rfl
theorem q2246 : (Jvm.Cond.code ({ cls := "SpinStripModel", name := "brokenOf", desc := "(I)I" } : Jvm.MethodName) prog_14_method_59_code (8 : Nat) (Option.some Jvm.ClassFile.FieldType.int)) ∈ lw_all := lw_g (lw_at lw_m9 219 rfl) rfl
theorem q2247 : (Jvm.Cond.methodLink "SpinStripModel" (301 : Nat) ({ cls := "SpinStripModel", name := "has", desc := "(II)Z" } : Jvm.MethodName)) ∈ lw_all := lw_g (lw_at lw_m9 220 rfl) rfl
theorem q2248 : (Jvm.Cond.static ({ cls := "SpinStripModel", name := "has", desc := "(II)Z" } : Jvm.MethodName)) ∈ lw_all := lw_g (lw_at lw_m9 221 rfl) rfl
theorem q2249 : (Jvm.Cond.code ({ cls := "SpinStripModel", name := "has", desc := "(II)Z" } : Jvm.MethodName) prog_14_method_29_code (2 : Nat) (Option.some Jvm.ClassFile.FieldType.boolean)) ∈ lw_all := lw_g (lw_at lw_m9 222 rfl) rfl
theorem q2251 : (Jvm.Cond.instanceMethod ({ cls := "SpinStripModel", name := "ground", desc := "(I)I" } : Jvm.MethodName)) ∈ lw_all := lw_g (lw_at lw_m9 224 rfl) rfl
theorem q2252 : (Jvm.Cond.selects "SpinStripModel" ({ cls := "SpinStripModel", name := "ground", desc := "(I)I" } : Jvm.MethodName) ({ cls := "SpinStripModel", name := "ground", desc := "(I)I" } : Jvm.MethodName)) ∈ lw_all := lw_g (lw_at lw_m9 225 rfl) rfl
theorem q2253 : (Jvm.Cond.code ({ cls := "SpinStripModel", name := "ground", desc := "(I)I" } : Jvm.MethodName) prog_14_method_61_code (2 : Nat) (Option.some Jvm.ClassFile.FieldType.int)) ∈ lw_all := lw_g (lw_at lw_m9 226 rfl) rfl
theorem q2255 : (Jvm.Cond.instanceMethod ({ cls := "SpinStripModel", name := "pair", desc := "(IIII)I" } : Jvm.MethodName)) ∈ lw_all := lw_g (lw_at lw_m9 228 rfl) rfl
theorem q2256 : (Jvm.Cond.selects "SpinStripModel" ({ cls := "SpinStripModel", name := "pair", desc := "(IIII)I" } : Jvm.MethodName) ({ cls := "SpinStripModel", name := "pair", desc := "(IIII)I" } : Jvm.MethodName)) ∈ lw_all := lw_g (lw_at lw_m9 229 rfl) rfl
theorem q2257 : (Jvm.Cond.code ({ cls := "SpinStripModel", name := "pair", desc := "(IIII)I" } : Jvm.MethodName) prog_14_method_63_code (7 : Nat) (Option.some Jvm.ClassFile.FieldType.int)) ∈ lw_all := lw_g (lw_at lw_m9 230 rfl) rfl
theorem q2258 : (Jvm.Cond.methodLink "SpinStripModel" (308 : Nat) ({ cls := "SpinStripModel", name := "part", desc := "(III)I" } : Jvm.MethodName)) ∈ lw_all := lw_g (lw_at lw_m9 231 rfl) rfl
theorem q2259 : (Jvm.Cond.static ({ cls := "SpinStripModel", name := "part", desc := "(III)I" } : Jvm.MethodName)) ∈ lw_all := lw_g (lw_at lw_m9 232 rfl) rfl
theorem q2260 : (Jvm.Cond.code ({ cls := "SpinStripModel", name := "part", desc := "(III)I" } : Jvm.MethodName) prog_14_method_62_code (6 : Nat) (Option.some Jvm.ClassFile.FieldType.int)) ∈ lw_all := lw_g (lw_at lw_m9 233 rfl) rfl
theorem q2262 : (Jvm.Cond.instanceMethod ({ cls := "SpinStripModel", name := "mean", desc := "(II)I" } : Jvm.MethodName)) ∈ lw_all := lw_g (lw_at lw_m9 235 rfl) rfl
theorem q2263 : (Jvm.Cond.selects "SpinStripModel" ({ cls := "SpinStripModel", name := "mean", desc := "(II)I" } : Jvm.MethodName) ({ cls := "SpinStripModel", name := "mean", desc := "(II)I" } : Jvm.MethodName)) ∈ lw_all := lw_g (lw_at lw_m9 236 rfl) rfl
theorem q2264 : (Jvm.Cond.code ({ cls := "SpinStripModel", name := "mean", desc := "(II)I" } : Jvm.MethodName) prog_14_method_64_code (5 : Nat) (Option.some Jvm.ClassFile.FieldType.int)) ∈ lw_all := lw_g (lw_at lw_m9 237 rfl) rfl
theorem q2266 : (Jvm.Cond.instanceMethod ({ cls := "SpinStripModel", name := "value", desc := "(I)I" } : Jvm.MethodName)) ∈ lw_all := lw_g (lw_at lw_m9 239 rfl) rfl
theorem q2267 : (Jvm.Cond.selects "SpinStripModel" ({ cls := "SpinStripModel", name := "value", desc := "(I)I" } : Jvm.MethodName) ({ cls := "SpinStripModel", name := "value", desc := "(I)I" } : Jvm.MethodName)) ∈ lw_all := lw_g (lw_at lw_m10 0 rfl) rfl
theorem q2268 : (Jvm.Cond.code ({ cls := "SpinStripModel", name := "value", desc := "(I)I" } : Jvm.MethodName) prog_14_method_65_code (8 : Nat) (Option.some Jvm.ClassFile.FieldType.int)) ∈ lw_all := lw_g (lw_at lw_m10 1 rfl) rfl
theorem q2269 : (Jvm.Cond.constant "SpinStripModel" (312 : Nat) (1000002 : Int32)) ∈ lw_all := lw_g (lw_at lw_m10 2 rfl) rfl
theorem q2270 : (Jvm.Cond.constantLong "SpinStripModel" (313 : Nat) (1000003 : Int64)) ∈ lw_all := lw_g (lw_at lw_m10 3 rfl) rfl
theorem q2272 : (Jvm.Cond.instanceMethod ({ cls := "SpinStripModel", name := "joined", desc := "(III)J" } : Jvm.MethodName)) ∈ lw_all := lw_g (lw_at lw_m10 5 rfl) rfl
theorem q2273 : (Jvm.Cond.selects "SpinStripModel" ({ cls := "SpinStripModel", name := "joined", desc := "(III)J" } : Jvm.MethodName) ({ cls := "SpinStripModel", name := "joined", desc := "(III)J" } : Jvm.MethodName)) ∈ lw_all := lw_g (lw_at lw_m10 6 rfl) rfl
theorem q2274 : (Jvm.Cond.code ({ cls := "SpinStripModel", name := "joined", desc := "(III)J" } : Jvm.MethodName) prog_14_method_66_code (6 : Nat) (Option.some Jvm.ClassFile.FieldType.long)) ∈ lw_all := lw_g (lw_at lw_m10 7 rfl) rfl
theorem q2275 : (Jvm.Cond.constantLong "SpinStripModel" (315 : Nat) (-100000 : Int64)) ∈ lw_all := lw_g (lw_at lw_m10 8 rfl) rfl
theorem q2276 : (Jvm.Cond.methodLink "SpinStripModel" (317 : Nat) ({ cls := "SpinStripModel", name := "laysMany", desc := "([I[I)V" } : Jvm.MethodName)) ∈ lw_all := lw_g (lw_at lw_m10 9 rfl) rfl
theorem q2277 : (Jvm.Cond.privateMethod ({ cls := "SpinStripModel", name := "laysMany", desc := "([I[I)V" } : Jvm.MethodName)) ∈ lw_tbl := lw_at lw_m10 10 rfl
theorem q2278 : (Jvm.Cond.instanceMethod ({ cls := "SpinStripModel", name := "laysMany", desc := "([I[I)V" } : Jvm.MethodName)) ∈ lw_all := lw_g (lw_at lw_m10 11 rfl) rfl
theorem q2279 : (Jvm.Cond.code ({ cls := "SpinStripModel", name := "laysMany", desc := "([I[I)V" } : Jvm.MethodName) prog_14_method_51_code (4 : Nat) (Option.none : Option Jvm.ClassFile.FieldType)) ∈ lw_all := lw_g (lw_at lw_m10 12 rfl) rfl
theorem q2281 : (Jvm.Cond.instanceMethod ({ cls := "SpinStripModel", name := "state", desc := "(II)I" } : Jvm.MethodName)) ∈ lw_all := lw_g (lw_at lw_m10 14 rfl) rfl
theorem q2282 : (Jvm.Cond.selects "SpinStripModel" ({ cls := "SpinStripModel", name := "state", desc := "(II)I" } : Jvm.MethodName) ({ cls := "SpinStripModel", name := "state", desc := "(II)I" } : Jvm.MethodName)) ∈ lw_all := lw_g (lw_at lw_m10 15 rfl) rfl
theorem q2283 : (Jvm.Cond.code ({ cls := "SpinStripModel", name := "state", desc := "(II)I" } : Jvm.MethodName) prog_14_method_71_code (3 : Nat) (Option.some Jvm.ClassFile.FieldType.int)) ∈ lw_all := lw_g (lw_at lw_m10 16 rfl) rfl
theorem q2284 : (Jvm.Cond.methodLink "SpinStripModel" (324 : Nat) ({ cls := "SpinStripModel", name := "levelOf", desc := "(I)I" } : Jvm.MethodName)) ∈ lw_all := lw_g (lw_at lw_m10 17 rfl) rfl
theorem q2285 : (Jvm.Cond.privateMethod ({ cls := "SpinStripModel", name := "levelOf", desc := "(I)I" } : Jvm.MethodName)) ∈ lw_tbl := lw_at lw_m10 18 rfl
theorem q2286 : (Jvm.Cond.instanceMethod ({ cls := "SpinStripModel", name := "levelOf", desc := "(I)I" } : Jvm.MethodName)) ∈ lw_all := lw_g (lw_at lw_m10 19 rfl) rfl
theorem q2287 : (Jvm.Cond.code ({ cls := "SpinStripModel", name := "levelOf", desc := "(I)I" } : Jvm.MethodName) prog_14_method_70_code (3 : Nat) (Option.some Jvm.ClassFile.FieldType.int)) ∈ lw_all := lw_g (lw_at lw_m10 20 rfl) rfl
theorem q2289 : (Jvm.Cond.instanceMethod ({ cls := "SpinStripModel", name := "stuck", desc := "(Z)I" } : Jvm.MethodName)) ∈ lw_all := lw_g (lw_at lw_m10 22 rfl) rfl
theorem q2290 : (Jvm.Cond.selects "SpinStripModel" ({ cls := "SpinStripModel", name := "stuck", desc := "(Z)I" } : Jvm.MethodName) ({ cls := "SpinStripModel", name := "stuck", desc := "(Z)I" } : Jvm.MethodName)) ∈ lw_all := lw_g (lw_at lw_m10 23 rfl) rfl
theorem q2291 : (Jvm.Cond.code ({ cls := "SpinStripModel", name := "stuck", desc := "(Z)I" } : Jvm.MethodName) prog_14_method_72_code (4 : Nat) (Option.some Jvm.ClassFile.FieldType.int)) ∈ lw_all := lw_g (lw_at lw_m10 24 rfl) rfl
theorem q2293 : (Jvm.Cond.instanceMethod ({ cls := "SpinStripModel", name := "basin", desc := "(I)I" } : Jvm.MethodName)) ∈ lw_all := lw_g (lw_at lw_m10 26 rfl) rfl
theorem q2294 : (Jvm.Cond.selects "SpinStripModel" ({ cls := "SpinStripModel", name := "basin", desc := "(I)I" } : Jvm.MethodName) ({ cls := "SpinStripModel", name := "basin", desc := "(I)I" } : Jvm.MethodName)) ∈ lw_all := lw_g (lw_at lw_m10 27 rfl) rfl
theorem q2295 : (Jvm.Cond.code ({ cls := "SpinStripModel", name := "basin", desc := "(I)I" } : Jvm.MethodName) prog_14_method_73_code (4 : Nat) (Option.some Jvm.ClassFile.FieldType.int)) ∈ lw_all := lw_g (lw_at lw_m10 28 rfl) rfl
theorem q2297 : (Jvm.Cond.instanceMethod ({ cls := "SpinStripModel", name := "hill", desc := "(I)I" } : Jvm.MethodName)) ∈ lw_all := lw_g (lw_at lw_m10 30 rfl) rfl
theorem q2298 : (Jvm.Cond.selects "SpinStripModel" ({ cls := "SpinStripModel", name := "hill", desc := "(I)I" } : Jvm.MethodName) ({ cls := "SpinStripModel", name := "hill", desc := "(I)I" } : Jvm.MethodName)) ∈ lw_all := lw_g (lw_at lw_m10 31 rfl) rfl
theorem q2299 : (Jvm.Cond.code ({ cls := "SpinStripModel", name := "hill", desc := "(I)I" } : Jvm.MethodName) prog_14_method_75_code (3 : Nat) (Option.some Jvm.ClassFile.FieldType.int)) ∈ lw_all := lw_g (lw_at lw_m10 32 rfl) rfl
theorem q2300 : (Jvm.Cond.methodLink "SpinStripModel" (327 : Nat) ({ cls := "SpinStripModel", name := "laysHills", desc := "()V" } : Jvm.MethodName)) ∈ lw_all := lw_g (lw_at lw_m10 33 rfl) rfl
theorem q2301 : (Jvm.Cond.privateMethod ({ cls := "SpinStripModel", name := "laysHills", desc := "()V" } : Jvm.MethodName)) ∈ lw_tbl := lw_at lw_m10 34 rfl
theorem q2302 : (Jvm.Cond.instanceMethod ({ cls := "SpinStripModel", name := "laysHills", desc := "()V" } : Jvm.MethodName)) ∈ lw_all := lw_g (lw_at lw_m10 35 rfl) rfl
theorem q2303 : (Jvm.Cond.code ({ cls := "SpinStripModel", name := "laysHills", desc := "()V" } : Jvm.MethodName) prog_14_method_74_code (5 : Nat) (Option.none : Option Jvm.ClassFile.FieldType)) ∈ lw_all := lw_g (lw_at lw_m10 36 rfl) rfl
theorem q2305 : (Jvm.Cond.instanceMethod ({ cls := "SpinStripModel", name := "pass", desc := "(II)I" } : Jvm.MethodName)) ∈ lw_all := lw_g (lw_at lw_m10 38 rfl) rfl
theorem q2306 : (Jvm.Cond.selects "SpinStripModel" ({ cls := "SpinStripModel", name := "pass", desc := "(II)I" } : Jvm.MethodName) ({ cls := "SpinStripModel", name := "pass", desc := "(II)I" } : Jvm.MethodName)) ∈ lw_all := lw_g (lw_at lw_m10 39 rfl) rfl
theorem q2307 : (Jvm.Cond.code ({ cls := "SpinStripModel", name := "pass", desc := "(II)I" } : Jvm.MethodName) prog_14_method_76_code (4 : Nat) (Option.some Jvm.ClassFile.FieldType.int)) ∈ lw_all := lw_g (lw_at lw_m10 40 rfl) rfl
theorem q2309 : (Jvm.Cond.instanceMethod ({ cls := "SpinStripModel", name := "lakes", desc := "(I)I" } : Jvm.MethodName)) ∈ lw_all := lw_g (lw_at lw_m10 42 rfl) rfl
theorem q2310 : (Jvm.Cond.selects "SpinStripModel" ({ cls := "SpinStripModel", name := "lakes", desc := "(I)I" } : Jvm.MethodName) ({ cls := "SpinStripModel", name := "lakes", desc := "(I)I" } : Jvm.MethodName)) ∈ lw_all := lw_g (lw_at lw_m10 43 rfl) rfl
theorem q2311 : (Jvm.Cond.code ({ cls := "SpinStripModel", name := "lakes", desc := "(I)I" } : Jvm.MethodName) prog_14_method_77_code (8 : Nat) (Option.some Jvm.ClassFile.FieldType.int)) ∈ lw_all := lw_g (lw_at lw_m10 44 rfl) rfl
theorem q2313 : (Jvm.Cond.instanceMethod ({ cls := "SpinStripModel", name := "down", desc := "(I)J" } : Jvm.MethodName)) ∈ lw_all := lw_g (lw_at lw_m10 46 rfl) rfl
theorem q2314 : (Jvm.Cond.selects "SpinStripModel" ({ cls := "SpinStripModel", name := "down", desc := "(I)J" } : Jvm.MethodName) ({ cls := "SpinStripModel", name := "down", desc := "(I)J" } : Jvm.MethodName)) ∈ lw_all := lw_g (lw_at lw_m10 47 rfl) rfl
theorem q2315 : (Jvm.Cond.code ({ cls := "SpinStripModel", name := "down", desc := "(I)J" } : Jvm.MethodName) prog_14_method_78_code (5 : Nat) (Option.some Jvm.ClassFile.FieldType.long)) ∈ lw_all := lw_g (lw_at lw_m10 48 rfl) rfl
theorem q2317 : (Jvm.Cond.instanceMethod ({ cls := "SpinStripModel", name := "nearest", desc := "(II)I" } : Jvm.MethodName)) ∈ lw_all := lw_g (lw_at lw_m10 50 rfl) rfl
theorem q2318 : (Jvm.Cond.selects "SpinStripModel" ({ cls := "SpinStripModel", name := "nearest", desc := "(II)I" } : Jvm.MethodName) ({ cls := "SpinStripModel", name := "nearest", desc := "(II)I" } : Jvm.MethodName)) ∈ lw_all := lw_g (lw_at lw_m10 51 rfl) rfl
theorem q2319 : (Jvm.Cond.code ({ cls := "SpinStripModel", name := "nearest", desc := "(II)I" } : Jvm.MethodName) prog_14_method_79_code (5 : Nat) (Option.some Jvm.ClassFile.FieldType.int)) ∈ lw_all := lw_g (lw_at lw_m10 52 rfl) rfl
theorem q2321 : (Jvm.Cond.instanceMethod ({ cls := "SpinStripModel", name := "stiff", desc := "(II)I" } : Jvm.MethodName)) ∈ lw_all := lw_g (lw_at lw_m10 54 rfl) rfl
theorem q2322 : (Jvm.Cond.selects "SpinStripModel" ({ cls := "SpinStripModel", name := "stiff", desc := "(II)I" } : Jvm.MethodName) ({ cls := "SpinStripModel", name := "stiff", desc := "(II)I" } : Jvm.MethodName)) ∈ lw_all := lw_g (lw_at lw_m10 55 rfl) rfl
theorem q2323 : (Jvm.Cond.code ({ cls := "SpinStripModel", name := "stiff", desc := "(II)I" } : Jvm.MethodName) prog_14_method_80_code (6 : Nat) (Option.some Jvm.ClassFile.FieldType.int)) ∈ lw_all := lw_g (lw_at lw_m10 56 rfl) rfl
theorem q2325 : (Jvm.Cond.instanceMethod ({ cls := "SpinStripModel", name := "overlap", desc := "(I)I" } : Jvm.MethodName)) ∈ lw_all := lw_g (lw_at lw_m10 58 rfl) rfl
theorem q2326 : (Jvm.Cond.selects "SpinStripModel" ({ cls := "SpinStripModel", name := "overlap", desc := "(I)I" } : Jvm.MethodName) ({ cls := "SpinStripModel", name := "overlap", desc := "(I)I" } : Jvm.MethodName)) ∈ lw_all := lw_g (lw_at lw_m10 59 rfl) rfl
theorem q2327 : (Jvm.Cond.code ({ cls := "SpinStripModel", name := "overlap", desc := "(I)I" } : Jvm.MethodName) prog_14_method_81_code (6 : Nat) (Option.some Jvm.ClassFile.FieldType.int)) ∈ lw_all := lw_g (lw_at lw_m10 60 rfl) rfl
theorem q2329 : (Jvm.Cond.instanceMethod ({ cls := "SpinStripModel", name := "rows", desc := "(III)I" } : Jvm.MethodName)) ∈ lw_all := lw_g (lw_at lw_m10 62 rfl) rfl
theorem q2330 : (Jvm.Cond.selects "SpinStripModel" ({ cls := "SpinStripModel", name := "rows", desc := "(III)I" } : Jvm.MethodName) ({ cls := "SpinStripModel", name := "rows", desc := "(III)I" } : Jvm.MethodName)) ∈ lw_all := lw_g (lw_at lw_m10 63 rfl) rfl
theorem q2331 : (Jvm.Cond.code ({ cls := "SpinStripModel", name := "rows", desc := "(III)I" } : Jvm.MethodName) prog_14_method_82_code (8 : Nat) (Option.some Jvm.ClassFile.FieldType.int)) ∈ lw_all := lw_g (lw_at lw_m10 64 rfl) rfl
theorem q2333 : (Jvm.Cond.instanceMethod ({ cls := "SpinStripModel", name := "square", desc := "(I)I" } : Jvm.MethodName)) ∈ lw_all := lw_g (lw_at lw_m10 66 rfl) rfl
theorem q2334 : (Jvm.Cond.selects "SpinStripModel" ({ cls := "SpinStripModel", name := "square", desc := "(I)I" } : Jvm.MethodName) ({ cls := "SpinStripModel", name := "square", desc := "(I)I" } : Jvm.MethodName)) ∈ lw_all := lw_g (lw_at lw_m10 67 rfl) rfl
theorem q2335 : (Jvm.Cond.code ({ cls := "SpinStripModel", name := "square", desc := "(I)I" } : Jvm.MethodName) prog_14_method_84_code (2 : Nat) (Option.some Jvm.ClassFile.FieldType.int)) ∈ lw_all := lw_g (lw_at lw_m10 68 rfl) rfl
theorem q2336 : (Jvm.Cond.methodLink "SpinStripModel" (330 : Nat) ({ cls := "SpinStripModel", name := "oddOf", desc := "(I)I" } : Jvm.MethodName)) ∈ lw_all := lw_g (lw_at lw_m10 69 rfl) rfl
theorem q2337 : (Jvm.Cond.privateMethod ({ cls := "SpinStripModel", name := "oddOf", desc := "(I)I" } : Jvm.MethodName)) ∈ lw_tbl := lw_at lw_m10 70 rfl
theorem q2338 : (Jvm.Cond.instanceMethod ({ cls := "SpinStripModel", name := "oddOf", desc := "(I)I" } : Jvm.MethodName)) ∈ lw_all := lw_g (lw_at lw_m10 71 rfl) rfl
theorem q2339 : (Jvm.Cond.code ({ cls := "SpinStripModel", name := "oddOf", desc := "(I)I" } : Jvm.MethodName) prog_14_method_83_code (5 : Nat) (Option.some Jvm.ClassFile.FieldType.int)) ∈ lw_all := lw_g (lw_at lw_m10 72 rfl) rfl
theorem q2341 : (Jvm.Cond.instanceMethod ({ cls := "SpinStripModel", name := "cluster", desc := "(I)I" } : Jvm.MethodName)) ∈ lw_all := lw_g (lw_at lw_m10 74 rfl) rfl
theorem q2342 : (Jvm.Cond.selects "SpinStripModel" ({ cls := "SpinStripModel", name := "cluster", desc := "(I)I" } : Jvm.MethodName) ({ cls := "SpinStripModel", name := "cluster", desc := "(I)I" } : Jvm.MethodName)) ∈ lw_all := lw_g (lw_at lw_m10 75 rfl) rfl
theorem q2343 : (Jvm.Cond.code ({ cls := "SpinStripModel", name := "cluster", desc := "(I)I" } : Jvm.MethodName) prog_14_method_86_code (2 : Nat) (Option.some Jvm.ClassFile.FieldType.int)) ∈ lw_all := lw_g (lw_at lw_m10 76 rfl) rfl
theorem q2344 : (Jvm.Cond.methodLink "SpinStripModel" (333 : Nat) ({ cls := "SpinStripModel", name := "clusterOf", desc := "(I)I" } : Jvm.MethodName)) ∈ lw_all := lw_g (lw_at lw_m10 77 rfl) rfl
theorem q2345 : (Jvm.Cond.privateMethod ({ cls := "SpinStripModel", name := "clusterOf", desc := "(I)I" } : Jvm.MethodName)) ∈ lw_tbl := lw_at lw_m10 78 rfl
theorem q2346 : (Jvm.Cond.instanceMethod ({ cls := "SpinStripModel", name := "clusterOf", desc := "(I)I" } : Jvm.MethodName)) ∈ lw_all := lw_g (lw_at lw_m10 79 rfl) rfl
theorem q2347 : (Jvm.Cond.code ({ cls := "SpinStripModel", name := "clusterOf", desc := "(I)I" } : Jvm.MethodName) prog_14_method_85_code (7 : Nat) (Option.some Jvm.ClassFile.FieldType.int)) ∈ lw_all := lw_g (lw_at lw_m10 80 rfl) rfl
theorem q2349 : (Jvm.Cond.instanceMethod ({ cls := "SpinStripModel", name := "wander", desc := "(III)I" } : Jvm.MethodName)) ∈ lw_all := lw_g (lw_at lw_m10 82 rfl) rfl
theorem q2350 : (Jvm.Cond.selects "SpinStripModel" ({ cls := "SpinStripModel", name := "wander", desc := "(III)I" } : Jvm.MethodName) ({ cls := "SpinStripModel", name := "wander", desc := "(III)I" } : Jvm.MethodName)) ∈ lw_all := lw_g (lw_at lw_m10 83 rfl) rfl
theorem q2351 : (Jvm.Cond.code ({ cls := "SpinStripModel", name := "wander", desc := "(III)I" } : Jvm.MethodName) prog_14_method_87_code (12 : Nat) (Option.some Jvm.ClassFile.FieldType.int)) ∈ lw_all := lw_g (lw_at lw_m10 84 rfl) rfl
theorem q2352 : (Jvm.Cond.constantLong "SpinStripModel" (336 : Nat) (100 : Int64)) ∈ lw_all := lw_g (lw_at lw_m10 85 rfl) rfl
theorem q2354 : (Jvm.Cond.instanceMethod ({ cls := "SpinStripModel", name := "count", desc := "(I)I" } : Jvm.MethodName)) ∈ lw_all := lw_g (lw_at lw_m10 87 rfl) rfl
theorem q2355 : (Jvm.Cond.selects "SpinStripModel" ({ cls := "SpinStripModel", name := "count", desc := "(I)I" } : Jvm.MethodName) ({ cls := "SpinStripModel", name := "count", desc := "(I)I" } : Jvm.MethodName)) ∈ lw_all := lw_g (lw_at lw_m10 88 rfl) rfl
theorem q2356 : (Jvm.Cond.code ({ cls := "SpinStripModel", name := "count", desc := "(I)I" } : Jvm.MethodName) prog_14_method_95_code (2 : Nat) (Option.some Jvm.ClassFile.FieldType.int)) ∈ lw_all := lw_g (lw_at lw_m10 89 rfl) rfl
theorem q2357 : (Jvm.Cond.methodLink "SpinStripModel" (338 : Nat) ({ cls := "SpinStripModel", name := "lawfulMany", desc := "()I" } : Jvm.MethodName)) ∈ lw_all := lw_g (lw_at lw_m10 90 rfl) rfl
theorem q2358 : (Jvm.Cond.privateMethod ({ cls := "SpinStripModel", name := "lawfulMany", desc := "()I" } : Jvm.MethodName)) ∈ lw_tbl := lw_at lw_m10 91 rfl
theorem q2359 : (Jvm.Cond.instanceMethod ({ cls := "SpinStripModel", name := "lawfulMany", desc := "()I" } : Jvm.MethodName)) ∈ lw_all := lw_g (lw_at lw_m10 92 rfl) rfl
theorem q2360 : (Jvm.Cond.code ({ cls := "SpinStripModel", name := "lawfulMany", desc := "()I" } : Jvm.MethodName) prog_14_method_88_code (3 : Nat) (Option.some Jvm.ClassFile.FieldType.int)) ∈ lw_all := lw_g (lw_at lw_m10 93 rfl) rfl
theorem q2361 : (Jvm.Cond.methodLink "SpinStripModel" (341 : Nat) ({ cls := "SpinStripModel", name := "pinned", desc := "()I" } : Jvm.MethodName)) ∈ lw_all := lw_g (lw_at lw_m10 94 rfl) rfl
theorem q2362 : (Jvm.Cond.privateMethod ({ cls := "SpinStripModel", name := "pinned", desc := "()I" } : Jvm.MethodName)) ∈ lw_tbl := lw_at lw_m10 95 rfl
theorem q2363 : (Jvm.Cond.instanceMethod ({ cls := "SpinStripModel", name := "pinned", desc := "()I" } : Jvm.MethodName)) ∈ lw_all := lw_g (lw_at lw_m10 96 rfl) rfl
theorem q2364 : (Jvm.Cond.code ({ cls := "SpinStripModel", name := "pinned", desc := "()I" } : Jvm.MethodName) prog_14_method_89_code (3 : Nat) (Option.some Jvm.ClassFile.FieldType.int)) ∈ lw_all := lw_g (lw_at lw_m10 97 rfl) rfl
theorem q2365 : (Jvm.Cond.methodLink "SpinStripModel" (344 : Nat) ({ cls := "SpinStripModel", name := "ties", desc := "()I" } : Jvm.MethodName)) ∈ lw_all := lw_g (lw_at lw_m10 98 rfl) rfl
theorem q2366 : (Jvm.Cond.privateMethod ({ cls := "SpinStripModel", name := "ties", desc := "()I" } : Jvm.MethodName)) ∈ lw_tbl := lw_at lw_m10 99 rfl
theorem q2367 : (Jvm.Cond.instanceMethod ({ cls := "SpinStripModel", name := "ties", desc := "()I" } : Jvm.MethodName)) ∈ lw_all := lw_g (lw_at lw_m10 100 rfl) rfl
theorem q2368 : (Jvm.Cond.code ({ cls := "SpinStripModel", name := "ties", desc := "()I" } : Jvm.MethodName) prog_14_method_90_code (3 : Nat) (Option.some Jvm.ClassFile.FieldType.int)) ∈ lw_all := lw_g (lw_at lw_m10 101 rfl) rfl
theorem q2369 : (Jvm.Cond.methodLink "SpinStripModel" (347 : Nat) ({ cls := "SpinStripModel", name := "clusters", desc := "()I" } : Jvm.MethodName)) ∈ lw_all := lw_g (lw_at lw_m10 102 rfl) rfl
theorem q2370 : (Jvm.Cond.privateMethod ({ cls := "SpinStripModel", name := "clusters", desc := "()I" } : Jvm.MethodName)) ∈ lw_tbl := lw_at lw_m10 103 rfl
theorem q2371 : (Jvm.Cond.instanceMethod ({ cls := "SpinStripModel", name := "clusters", desc := "()I" } : Jvm.MethodName)) ∈ lw_all := lw_g (lw_at lw_m10 104 rfl) rfl
theorem q2372 : (Jvm.Cond.code ({ cls := "SpinStripModel", name := "clusters", desc := "()I" } : Jvm.MethodName) prog_14_method_91_code (3 : Nat) (Option.some Jvm.ClassFile.FieldType.int)) ∈ lw_all := lw_g (lw_at lw_m10 105 rfl) rfl
theorem q2373 : (Jvm.Cond.methodLink "SpinStripModel" (350 : Nat) ({ cls := "SpinStripModel", name := "greatest", desc := "()I" } : Jvm.MethodName)) ∈ lw_all := lw_g (lw_at lw_m10 106 rfl) rfl
theorem q2374 : (Jvm.Cond.privateMethod ({ cls := "SpinStripModel", name := "greatest", desc := "()I" } : Jvm.MethodName)) ∈ lw_tbl := lw_at lw_m10 107 rfl
theorem q2375 : (Jvm.Cond.instanceMethod ({ cls := "SpinStripModel", name := "greatest", desc := "()I" } : Jvm.MethodName)) ∈ lw_all := lw_g (lw_at lw_m10 108 rfl) rfl
theorem q2376 : (Jvm.Cond.code ({ cls := "SpinStripModel", name := "greatest", desc := "()I" } : Jvm.MethodName) prog_14_method_92_code (3 : Nat) (Option.some Jvm.ClassFile.FieldType.int)) ∈ lw_all := lw_g (lw_at lw_m10 109 rfl) rfl
theorem q2377 : (Jvm.Cond.methodLink "SpinStripModel" (353 : Nat) ({ cls := "SpinStripModel", name := "fewestBroken", desc := "()I" } : Jvm.MethodName)) ∈ lw_all := lw_g (lw_at lw_m10 110 rfl) rfl
theorem q2378 : (Jvm.Cond.privateMethod ({ cls := "SpinStripModel", name := "fewestBroken", desc := "()I" } : Jvm.MethodName)) ∈ lw_tbl := lw_at lw_m10 111 rfl
theorem q2379 : (Jvm.Cond.instanceMethod ({ cls := "SpinStripModel", name := "fewestBroken", desc := "()I" } : Jvm.MethodName)) ∈ lw_all := lw_g (lw_at lw_m10 112 rfl) rfl
theorem q2380 : (Jvm.Cond.code ({ cls := "SpinStripModel", name := "fewestBroken", desc := "()I" } : Jvm.MethodName) prog_14_method_93_code (4 : Nat) (Option.some Jvm.ClassFile.FieldType.int)) ∈ lw_all := lw_g (lw_at lw_m10 113 rfl) rfl
theorem q2381 : (Jvm.Cond.methodLink "SpinStripModel" (356 : Nat) ({ cls := "SpinStripModel", name := "odds", desc := "()I" } : Jvm.MethodName)) ∈ lw_all := lw_g (lw_at lw_m10 114 rfl) rfl
theorem q2382 : (Jvm.Cond.privateMethod ({ cls := "SpinStripModel", name := "odds", desc := "()I" } : Jvm.MethodName)) ∈ lw_tbl := lw_at lw_m10 115 rfl
theorem q2383 : (Jvm.Cond.instanceMethod ({ cls := "SpinStripModel", name := "odds", desc := "()I" } : Jvm.MethodName)) ∈ lw_all := lw_g (lw_at lw_m10 116 rfl) rfl
theorem q2384 : (Jvm.Cond.code ({ cls := "SpinStripModel", name := "odds", desc := "()I" } : Jvm.MethodName) prog_14_method_94_code (3 : Nat) (Option.some Jvm.ClassFile.FieldType.int)) ∈ lw_all := lw_g (lw_at lw_m10 117 rfl) rfl
theorem q2400 : (Jvm.Cond.castable "SpinStripModel" "java/lang/Object") ∈ lw_tbl := lw_at lw_m10 133 rfl
theorem in_X9 : ∀ w ∈ wsX90, w ∈ lw_all := lw_in wsX90 [1929, 1931, 1933, 1935, 1937, 1939, 1941, 1943, 1945, 1947, 1949, 1951, 1953, 1955, 1957, 1959, 1961, 1963, 1965, 1967, 1969, 1971, 1973, 1975, 1977, 1979, 1981, 1983, 1985, 1987, 1989, 1991, 1993, 1995, 1997, 1999, 2001, 2003, 2005, 2007, 2009, 2011, 2013, 2015, 2017] (by decide +kernel) (by decide +kernel)

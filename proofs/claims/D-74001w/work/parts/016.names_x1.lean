/-! SpinStrip$Fault -/
set_option maxRecDepth 100000
def RX1 : String := "SpinStrip$Fault"
def TX1 : u_T := fun k => match k with
  | 0 => ("java/lang/Throwable", "cause", "Ljava/lang/Throwable;", false)
  | 1 => ("java/lang/Throwable", "stackTrace", "[Ljava/lang/StackTraceElement;", false)
  | 2 => ("java/lang/Throwable", "suppressedExceptions", "Ljava/util/List;", false)
  | 3 => ("java/lang/Throwable", "detailMessage", "Ljava/lang/String;", false)
  | 4 => ("java/lang/Throwable", "backtrace", "Ljava/lang/Object;", false)
  | 5 => ("java/lang/Throwable", "depth", "I", false)
  | 6 => ("SpinStrip$Fault", "number", "I", false)
  | _ => ("SpinStrip$Fault", "place", "I", false)
def tyX1 : Nat → FieldType := fun k => match k with
  | 0 => .object "java/lang/Throwable"
  | 1 => .array (.object "java/lang/StackTraceElement")
  | 2 => .object "java/util/List"
  | 3 => .object "java/lang/String"
  | 4 => .object "java/lang/Object"
  | 5 => .int
  | 6 => .int
  | _ => .int
abbrev wsX10 : List Cond := u_ws RX1 TX1 8
theorem nmX1 : ∀ a, a < 8 → ∀ b, b < 8 → a ≠ b → (TX1 a).2.1 ≠ (TX1 b).2.1 := by decide +kernel
theorem tyX1_ok : ∀ k, k < 8 → parseFieldDescriptor (TX1 k).2.2.1 = some (tyX1 k) := by decide +kernel
abbrev cX1_init : ByteArray := prog_3_method_1_code
def yX1_init : MethodName := ⟨RX1, "<init>", "()V"⟩
def dkwX1_init_0 : List UInt8 := [42, 18, 1, 1, 3, 3, 183, 0, 3, 177]
abbrev dktX1_init_0 : List UInt8 := dkwX1_init_0 ++ []
theorem dksX1_init_0 : cX1_init.data.toList.drop 0 = dktX1_init_0 := by decide +kernel
theorem dX1_init_0 : decode cX1_init 0 = .ok (.aload_n 0, 1) := dk_42 (dk_at dksX1_init_0 0 rfl rfl)
theorem dX1_init_1 : decode cX1_init 1 = .ok (.ldc 1, 2) := dk_18 1 (dk_at dksX1_init_0 1 rfl rfl)
theorem dX1_init_3 : decode cX1_init 3 = .ok (.aconst_null, 1) := dk_1 (dk_at dksX1_init_0 3 rfl rfl)
theorem dX1_init_4 : decode cX1_init 4 = .ok (.iconst 0, 1) := dk_3 (dk_at dksX1_init_0 4 rfl rfl)
theorem dX1_init_5 : decode cX1_init 5 = .ok (.iconst 0, 1) := dk_3 (dk_at dksX1_init_0 5 rfl rfl)
theorem dX1_init_6 : decode cX1_init 6 = .ok (.invokespecial 3, 3) := dk_183 0 3 (dk_at dksX1_init_0 6 rfl rfl)
theorem dX1_init_9 : decode cX1_init 9 = .ok (.return_, 1) := dk_177 (dk_at dksX1_init_0 9 rfl rfl)
abbrev cX1_of : ByteArray := prog_3_method_2_code
def yX1_of : MethodName := ⟨RX1, "of", "(II)LSpinStrip$Fault;"⟩
def dkwX1_of_0 : List UInt8 := [42, 27, 181, 0, 9, 42, 28, 181, 0, 15, 42, 176]
abbrev dktX1_of_0 : List UInt8 := dkwX1_of_0 ++ []
theorem dksX1_of_0 : cX1_of.data.toList.drop 0 = dktX1_of_0 := by decide +kernel
theorem dX1_of_0 : decode cX1_of 0 = .ok (.aload_n 0, 1) := dk_42 (dk_at dksX1_of_0 0 rfl rfl)
theorem dX1_of_1 : decode cX1_of 1 = .ok (.iload_n 1, 1) := dk_27 (dk_at dksX1_of_0 1 rfl rfl)
theorem dX1_of_2 : decode cX1_of 2 = .ok (.putfield 9, 3) := dk_181 0 9 (dk_at dksX1_of_0 2 rfl rfl)
theorem dX1_of_5 : decode cX1_of 5 = .ok (.aload_n 0, 1) := dk_42 (dk_at dksX1_of_0 5 rfl rfl)
theorem dX1_of_6 : decode cX1_of 6 = .ok (.iload_n 2, 1) := dk_28 (dk_at dksX1_of_0 6 rfl rfl)
theorem dX1_of_7 : decode cX1_of 7 = .ok (.putfield 15, 3) := dk_181 0 15 (dk_at dksX1_of_0 7 rfl rfl)
theorem dX1_of_10 : decode cX1_of 10 = .ok (.aload_n 0, 1) := dk_42 (dk_at dksX1_of_0 10 rfl rfl)
theorem dX1_of_11 : decode cX1_of 11 = .ok (.areturn, 1) := dk_176 (dk_at dksX1_of_0 11 rfl rfl)
theorem q112 : (Jvm.Cond.initialized "SpinStrip$Fault") ∈ lw_all := lw_g (lw_at lw_m1 5 rfl) rfl
theorem q158 : (Jvm.Cond.instantiable "SpinStrip$Fault" (8 : Nat)) ∈ lw_all := lw_g (lw_at lw_m1 51 rfl) rfl
theorem q159 : (Jvm.Cond.castable "SpinStrip$Fault" "SpinStrip$Fault") ∈ lw_tbl := lw_at lw_m1 52 rfl
theorem q166 : (Jvm.Cond.selects "SpinStrip$Fault" ({ cls := "java/lang/Throwable", name := "fillInStackTrace", desc := "(I)Ljava/lang/Throwable;" } : Jvm.MethodName) ({ cls := "java/lang/Throwable", name := "fillInStackTrace", desc := "(I)Ljava/lang/Throwable;" } : Jvm.MethodName)) ∈ lw_all := lw_g (lw_at lw_m1 59 rfl) rfl
theorem q167 : (Jvm.Cond.selects "SpinStrip$Fault" ({ cls := "java/lang/Throwable", name := "fillInStackTrace", desc := "()Ljava/lang/Throwable;" } : Jvm.MethodName) ({ cls := "java/lang/Throwable", name := "fillInStackTrace", desc := "()Ljava/lang/Throwable;" } : Jvm.MethodName)) ∈ lw_all := lw_g (lw_at lw_m1 60 rfl) rfl
theorem q168 : (Jvm.Cond.lays "SpinStrip$Fault" "java/lang/Throwable" "cause" "Ljava/lang/Throwable;") ∈ lw_all := lw_g (lw_at lw_m1 61 rfl) rfl
theorem q170 : (Jvm.Cond.lays "SpinStrip$Fault" "java/lang/Throwable" "stackTrace" "[Ljava/lang/StackTraceElement;") ∈ lw_all := lw_g (lw_at lw_m1 63 rfl) rfl
theorem q172 : (Jvm.Cond.lays "SpinStrip$Fault" "java/lang/Throwable" "suppressedExceptions" "Ljava/util/List;") ∈ lw_all := lw_g (lw_at lw_m1 65 rfl) rfl
theorem q174 : (Jvm.Cond.lays "SpinStrip$Fault" "java/lang/Throwable" "detailMessage" "Ljava/lang/String;") ∈ lw_all := lw_g (lw_at lw_m1 67 rfl) rfl
theorem q176 : (Jvm.Cond.lays "SpinStrip$Fault" "java/lang/Throwable" "backtrace" "Ljava/lang/Object;") ∈ lw_all := lw_g (lw_at lw_m1 69 rfl) rfl
theorem q197 : (Jvm.Cond.instanceMethod ({ cls := "SpinStrip$Fault", name := "<init>", desc := "()V" } : Jvm.MethodName)) ∈ lw_all := lw_g (lw_at lw_m1 90 rfl) rfl
theorem q198 : (Jvm.Cond.code ({ cls := "SpinStrip$Fault", name := "<init>", desc := "()V" } : Jvm.MethodName) prog_3_method_1_code (1 : Nat) (Option.none : Option Jvm.ClassFile.FieldType)) ∈ lw_all := lw_g (lw_at lw_m1 91 rfl) rfl
theorem q199 : (Jvm.Cond.stringRef "SpinStrip$Fault" (1 : Nat) "") ∈ lw_tbl := lw_at lw_m1 92 rfl
theorem q200 : (Jvm.Cond.methodLink "SpinStrip$Fault" (3 : Nat) ({ cls := "java/lang/RuntimeException", name := "<init>", desc := "(Ljava/lang/String;Ljava/lang/Throwable;ZZ)V" } : Jvm.MethodName)) ∈ lw_all := lw_g (lw_at lw_m1 93 rfl) rfl
theorem q209 : (Jvm.Cond.fieldLink "SpinStrip$Fault" (9 : Nat) "SpinStrip$Fault" "number" "I") ∈ lw_all := lw_g (lw_at lw_m1 102 rfl) rfl
theorem q211 : (Jvm.Cond.fieldLink "SpinStrip$Fault" (15 : Nat) "SpinStrip$Fault" "place" "I") ∈ lw_all := lw_g (lw_at lw_m1 104 rfl) rfl
theorem q218 : (Jvm.Cond.lays "SpinStrip$Fault" "SpinStrip$Fault" "number" "I") ∈ lw_all := lw_g (lw_at lw_m1 111 rfl) rfl
theorem q219 : (Jvm.Cond.soleField "SpinStrip$Fault" "number") ∈ lw_all := lw_g (lw_at lw_m1 112 rfl) rfl
theorem q220 : (Jvm.Cond.lays "SpinStrip$Fault" "SpinStrip$Fault" "place" "I") ∈ lw_all := lw_g (lw_at lw_m1 113 rfl) rfl
theorem q221 : (Jvm.Cond.soleField "SpinStrip$Fault" "place") ∈ lw_all := lw_g (lw_at lw_m1 114 rfl) rfl
theorem q226 : (Jvm.Cond.lays "SpinStrip$Fault" "java/lang/Throwable" "depth" "I") ∈ lw_all := lw_g (lw_at lw_m1 119 rfl) rfl
theorem q229 : (Jvm.Cond.superclass "SpinStrip$Fault" "java/lang/RuntimeException") ∈ lw_all := lw_g (lw_at lw_m1 122 rfl) rfl
theorem q691 : (Jvm.Cond.instanceMethod ({ cls := "SpinStrip$Fault", name := "of", desc := "(II)LSpinStrip$Fault;" } : Jvm.MethodName)) ∈ lw_all := lw_g (lw_at lw_m3 104 rfl) rfl
theorem q692 : (Jvm.Cond.selects "SpinStrip$Fault" ({ cls := "SpinStrip$Fault", name := "of", desc := "(II)LSpinStrip$Fault;" } : Jvm.MethodName) ({ cls := "SpinStrip$Fault", name := "of", desc := "(II)LSpinStrip$Fault;" } : Jvm.MethodName)) ∈ lw_all := lw_g (lw_at lw_m3 105 rfl) rfl
theorem q693 : (Jvm.Cond.code ({ cls := "SpinStrip$Fault", name := "of", desc := "(II)LSpinStrip$Fault;" } : Jvm.MethodName) prog_3_method_2_code (3 : Nat) (Option.some (Jvm.ClassFile.FieldType.object "SpinStrip$Fault"))) ∈ lw_all := lw_g (lw_at lw_m3 106 rfl) rfl
theorem q874 : (Jvm.Cond.selects "SpinStrip$Fault" ({ cls := "java/lang/Object", name := "getClass", desc := "()Ljava/lang/Class;" } : Jvm.MethodName) ({ cls := "java/lang/Object", name := "getClass", desc := "()Ljava/lang/Class;" } : Jvm.MethodName)) ∈ lw_all := lw_g (lw_at lw_m4 47 rfl) rfl
theorem q2391 : (Jvm.Cond.castable "SpinStrip$Fault" "java/lang/Object") ∈ lw_tbl := lw_at lw_m10 124 rfl
theorem in_X1 : ∀ w ∈ wsX10, w ∈ lw_all := lw_in wsX10 [168, 170, 172, 174, 176, 226, 218, 220] (by decide +kernel) (by decide +kernel)
/-! SpinStrip$Tokens -/
set_option maxRecDepth 100000
def RX2 : String := "SpinStrip$Tokens"
def TX2 : u_T := fun k => match k with
  | 0 => ("SpinStrip$Tokens", "words", "[Ljava/lang/String;", true)
  | 1 => ("SpinStrip$Tokens", "tape", "[B", true)
  | 2 => ("SpinStrip$Tokens", "taped", "I", false)
  | 3 => ("SpinStrip$Tokens", "sort", "[B", true)
  | 4 => ("SpinStrip$Tokens", "from", "[S", true)
  | 5 => ("SpinStrip$Tokens", "to", "[S", true)
  | 6 => ("SpinStrip$Tokens", "what", "[S", true)
  | _ => ("SpinStrip$Tokens", "many", "I", false)
def tyX2 : Nat → FieldType := fun k => match k with
  | 0 => .array (.object "java/lang/String")
  | 1 => .array .byte
  | 2 => .int
  | 3 => .array .byte
  | 4 => .array .short
  | 5 => .array .short
  | 6 => .array .short
  | _ => .int
abbrev wsX20 : List Cond := u_ws RX2 TX2 8
theorem nmX2 : ∀ a, a < 8 → ∀ b, b < 8 → a ≠ b → (TX2 a).2.1 ≠ (TX2 b).2.1 := by decide +kernel
theorem tyX2_ok : ∀ k, k < 8 → parseFieldDescriptor (TX2 k).2.2.1 = some (tyX2 k) := by decide +kernel
abbrev cX2_init : ByteArray := prog_12_method_1_code
def yX2_init : MethodName := ⟨RX2, "<init>", "()V"⟩
def dkwX2_init_5 : List UInt8 := [181, 0, 53, 177]
abbrev dktX2_init_5 : List UInt8 := dkwX2_init_5 ++ []
def dkwX2_init_4 : List UInt8 := [17, 7, 209, 188, 9, 181, 0, 46, 42, 17, 7, 209, 188, 9, 181, 0, 50, 42, 17, 7, 209, 188, 9]
abbrev dktX2_init_4 : List UInt8 := dkwX2_init_4 ++ dktX2_init_5
def dkwX2_init_3 : List UInt8 := [181, 0, 33, 42, 17, 7, 208, 188, 8, 181, 0, 39, 42, 17, 7, 209, 188, 8, 181, 0, 43, 42]
abbrev dktX2_init_3 : List UInt8 := dkwX2_init_3 ++ dktX2_init_4
def dkwX2_init_2 : List UInt8 := [16, 7, 18, 25, 83, 89, 16, 8, 18, 27, 83, 89, 16, 9, 18, 29, 83, 89, 16, 10, 18, 31, 83]
abbrev dktX2_init_2 : List UInt8 := dkwX2_init_2 ++ dktX2_init_3
def dkwX2_init_1 : List UInt8 := [83, 89, 6, 18, 17, 83, 89, 7, 18, 19, 83, 89, 8, 18, 21, 83, 89, 16, 6, 18, 23, 83, 89]
abbrev dktX2_init_1 : List UInt8 := dkwX2_init_1 ++ dktX2_init_2
def dkwX2_init_0 : List UInt8 := [42, 183, 0, 3, 42, 16, 11, 189, 0, 9, 89, 3, 18, 11, 83, 89, 4, 18, 13, 83, 89, 5, 18, 15]
abbrev dktX2_init_0 : List UInt8 := dkwX2_init_0 ++ dktX2_init_1
theorem dksX2_init_0 : cX2_init.data.toList.drop 0 = dktX2_init_0 := by decide +kernel
theorem dksX2_init_1 : cX2_init.data.toList.drop 24 = dktX2_init_1 := dk_seg dksX2_init_0 24 rfl rfl
theorem dksX2_init_2 : cX2_init.data.toList.drop 47 = dktX2_init_2 := dk_seg dksX2_init_1 23 rfl rfl
theorem dksX2_init_3 : cX2_init.data.toList.drop 70 = dktX2_init_3 := dk_seg dksX2_init_2 23 rfl rfl
theorem dksX2_init_4 : cX2_init.data.toList.drop 92 = dktX2_init_4 := dk_seg dksX2_init_3 22 rfl rfl
theorem dksX2_init_5 : cX2_init.data.toList.drop 115 = dktX2_init_5 := dk_seg dksX2_init_4 23 rfl rfl
theorem dX2_init_0 : decode cX2_init 0 = .ok (.aload_n 0, 1) := dk_42 (dk_at dksX2_init_0 0 rfl rfl)
theorem dX2_init_1 : decode cX2_init 1 = .ok (.invokespecial 3, 3) := dk_183 0 3 (dk_at dksX2_init_0 1 rfl rfl)
theorem dX2_init_4 : decode cX2_init 4 = .ok (.aload_n 0, 1) := dk_42 (dk_at dksX2_init_0 4 rfl rfl)
theorem dX2_init_5 : decode cX2_init 5 = .ok (.bipush 11, 2) := dk_16 11 (dk_at dksX2_init_0 5 rfl rfl)
theorem dX2_init_7 : decode cX2_init 7 = .ok (.anewarray 9, 3) := dk_189 0 9 (dk_at dksX2_init_0 7 rfl rfl)
theorem dX2_init_10 : decode cX2_init 10 = .ok (.dup, 1) := dk_89 (dk_at dksX2_init_0 10 rfl rfl)
theorem dX2_init_11 : decode cX2_init 11 = .ok (.iconst 0, 1) := dk_3 (dk_at dksX2_init_0 11 rfl rfl)
theorem dX2_init_12 : decode cX2_init 12 = .ok (.ldc 11, 2) := dk_18 11 (dk_at dksX2_init_0 12 rfl rfl)
theorem dX2_init_14 : decode cX2_init 14 = .ok (.aastore, 1) := dk_83 (dk_at dksX2_init_0 14 rfl rfl)
theorem dX2_init_15 : decode cX2_init 15 = .ok (.dup, 1) := dk_89 (dk_at dksX2_init_0 15 rfl rfl)
theorem dX2_init_16 : decode cX2_init 16 = .ok (.iconst 1, 1) := dk_4 (dk_at dksX2_init_0 16 rfl rfl)
theorem dX2_init_17 : decode cX2_init 17 = .ok (.ldc 13, 2) := dk_18 13 (dk_at dksX2_init_0 17 rfl rfl)
theorem dX2_init_19 : decode cX2_init 19 = .ok (.aastore, 1) := dk_83 (dk_at dksX2_init_0 19 rfl rfl)
theorem dX2_init_20 : decode cX2_init 20 = .ok (.dup, 1) := dk_89 (dk_at dksX2_init_0 20 rfl rfl)
theorem dX2_init_21 : decode cX2_init 21 = .ok (.iconst 2, 1) := dk_5 (dk_at dksX2_init_0 21 rfl rfl)
theorem dX2_init_22 : decode cX2_init 22 = .ok (.ldc 15, 2) := dk_18 15 (dk_at dksX2_init_0 22 rfl rfl)
theorem dX2_init_24 : decode cX2_init 24 = .ok (.aastore, 1) := dk_83 (dk_at dksX2_init_1 0 rfl rfl)
theorem dX2_init_25 : decode cX2_init 25 = .ok (.dup, 1) := dk_89 (dk_at dksX2_init_1 1 rfl rfl)
theorem dX2_init_26 : decode cX2_init 26 = .ok (.iconst 3, 1) := dk_6 (dk_at dksX2_init_1 2 rfl rfl)
theorem dX2_init_27 : decode cX2_init 27 = .ok (.ldc 17, 2) := dk_18 17 (dk_at dksX2_init_1 3 rfl rfl)
theorem dX2_init_29 : decode cX2_init 29 = .ok (.aastore, 1) := dk_83 (dk_at dksX2_init_1 5 rfl rfl)
theorem dX2_init_30 : decode cX2_init 30 = .ok (.dup, 1) := dk_89 (dk_at dksX2_init_1 6 rfl rfl)
theorem dX2_init_31 : decode cX2_init 31 = .ok (.iconst 4, 1) := dk_7 (dk_at dksX2_init_1 7 rfl rfl)
theorem dX2_init_32 : decode cX2_init 32 = .ok (.ldc 19, 2) := dk_18 19 (dk_at dksX2_init_1 8 rfl rfl)
theorem dX2_init_34 : decode cX2_init 34 = .ok (.aastore, 1) := dk_83 (dk_at dksX2_init_1 10 rfl rfl)
theorem dX2_init_35 : decode cX2_init 35 = .ok (.dup, 1) := dk_89 (dk_at dksX2_init_1 11 rfl rfl)
theorem dX2_init_36 : decode cX2_init 36 = .ok (.iconst 5, 1) := dk_8 (dk_at dksX2_init_1 12 rfl rfl)
theorem dX2_init_37 : decode cX2_init 37 = .ok (.ldc 21, 2) := dk_18 21 (dk_at dksX2_init_1 13 rfl rfl)
theorem dX2_init_39 : decode cX2_init 39 = .ok (.aastore, 1) := dk_83 (dk_at dksX2_init_1 15 rfl rfl)
theorem dX2_init_40 : decode cX2_init 40 = .ok (.dup, 1) := dk_89 (dk_at dksX2_init_1 16 rfl rfl)
theorem dX2_init_41 : decode cX2_init 41 = .ok (.bipush 6, 2) := dk_16 6 (dk_at dksX2_init_1 17 rfl rfl)
theorem dX2_init_43 : decode cX2_init 43 = .ok (.ldc 23, 2) := dk_18 23 (dk_at dksX2_init_1 19 rfl rfl)
theorem dX2_init_45 : decode cX2_init 45 = .ok (.aastore, 1) := dk_83 (dk_at dksX2_init_1 21 rfl rfl)
theorem dX2_init_46 : decode cX2_init 46 = .ok (.dup, 1) := dk_89 (dk_at dksX2_init_1 22 rfl rfl)
theorem dX2_init_47 : decode cX2_init 47 = .ok (.bipush 7, 2) := dk_16 7 (dk_at dksX2_init_2 0 rfl rfl)
theorem dX2_init_49 : decode cX2_init 49 = .ok (.ldc 25, 2) := dk_18 25 (dk_at dksX2_init_2 2 rfl rfl)
theorem dX2_init_51 : decode cX2_init 51 = .ok (.aastore, 1) := dk_83 (dk_at dksX2_init_2 4 rfl rfl)
theorem dX2_init_52 : decode cX2_init 52 = .ok (.dup, 1) := dk_89 (dk_at dksX2_init_2 5 rfl rfl)
theorem dX2_init_53 : decode cX2_init 53 = .ok (.bipush 8, 2) := dk_16 8 (dk_at dksX2_init_2 6 rfl rfl)
theorem dX2_init_55 : decode cX2_init 55 = .ok (.ldc 27, 2) := dk_18 27 (dk_at dksX2_init_2 8 rfl rfl)
theorem dX2_init_57 : decode cX2_init 57 = .ok (.aastore, 1) := dk_83 (dk_at dksX2_init_2 10 rfl rfl)
theorem dX2_init_58 : decode cX2_init 58 = .ok (.dup, 1) := dk_89 (dk_at dksX2_init_2 11 rfl rfl)
theorem dX2_init_59 : decode cX2_init 59 = .ok (.bipush 9, 2) := dk_16 9 (dk_at dksX2_init_2 12 rfl rfl)
theorem dX2_init_61 : decode cX2_init 61 = .ok (.ldc 29, 2) := dk_18 29 (dk_at dksX2_init_2 14 rfl rfl)
theorem dX2_init_63 : decode cX2_init 63 = .ok (.aastore, 1) := dk_83 (dk_at dksX2_init_2 16 rfl rfl)
theorem dX2_init_64 : decode cX2_init 64 = .ok (.dup, 1) := dk_89 (dk_at dksX2_init_2 17 rfl rfl)
theorem dX2_init_65 : decode cX2_init 65 = .ok (.bipush 10, 2) := dk_16 10 (dk_at dksX2_init_2 18 rfl rfl)
theorem dX2_init_67 : decode cX2_init 67 = .ok (.ldc 31, 2) := dk_18 31 (dk_at dksX2_init_2 20 rfl rfl)
theorem dX2_init_69 : decode cX2_init 69 = .ok (.aastore, 1) := dk_83 (dk_at dksX2_init_2 22 rfl rfl)
theorem dX2_init_70 : decode cX2_init 70 = .ok (.putfield 33, 3) := dk_181 0 33 (dk_at dksX2_init_3 0 rfl rfl)
theorem dX2_init_73 : decode cX2_init 73 = .ok (.aload_n 0, 1) := dk_42 (dk_at dksX2_init_3 3 rfl rfl)
theorem dX2_init_74 : decode cX2_init 74 = .ok (.sipush 2000, 3) := dk_17 7 208 (dk_at dksX2_init_3 4 rfl rfl)
theorem dX2_init_77 : decode cX2_init 77 = .ok (.newarray .byte, 2) := dk_188_8 (dk_at dksX2_init_3 7 rfl rfl)
theorem dX2_init_79 : decode cX2_init 79 = .ok (.putfield 39, 3) := dk_181 0 39 (dk_at dksX2_init_3 9 rfl rfl)
theorem dX2_init_82 : decode cX2_init 82 = .ok (.aload_n 0, 1) := dk_42 (dk_at dksX2_init_3 12 rfl rfl)
theorem dX2_init_83 : decode cX2_init 83 = .ok (.sipush 2001, 3) := dk_17 7 209 (dk_at dksX2_init_3 13 rfl rfl)
theorem dX2_init_86 : decode cX2_init 86 = .ok (.newarray .byte, 2) := dk_188_8 (dk_at dksX2_init_3 16 rfl rfl)
theorem dX2_init_88 : decode cX2_init 88 = .ok (.putfield 43, 3) := dk_181 0 43 (dk_at dksX2_init_3 18 rfl rfl)
theorem dX2_init_91 : decode cX2_init 91 = .ok (.aload_n 0, 1) := dk_42 (dk_at dksX2_init_3 21 rfl rfl)
theorem dX2_init_92 : decode cX2_init 92 = .ok (.sipush 2001, 3) := dk_17 7 209 (dk_at dksX2_init_4 0 rfl rfl)
theorem dX2_init_95 : decode cX2_init 95 = .ok (.newarray .short, 2) := dk_188_9 (dk_at dksX2_init_4 3 rfl rfl)
theorem dX2_init_97 : decode cX2_init 97 = .ok (.putfield 46, 3) := dk_181 0 46 (dk_at dksX2_init_4 5 rfl rfl)
theorem dX2_init_100 : decode cX2_init 100 = .ok (.aload_n 0, 1) := dk_42 (dk_at dksX2_init_4 8 rfl rfl)
theorem dX2_init_101 : decode cX2_init 101 = .ok (.sipush 2001, 3) := dk_17 7 209 (dk_at dksX2_init_4 9 rfl rfl)
theorem dX2_init_104 : decode cX2_init 104 = .ok (.newarray .short, 2) := dk_188_9 (dk_at dksX2_init_4 12 rfl rfl)
theorem dX2_init_106 : decode cX2_init 106 = .ok (.putfield 50, 3) := dk_181 0 50 (dk_at dksX2_init_4 14 rfl rfl)
theorem dX2_init_109 : decode cX2_init 109 = .ok (.aload_n 0, 1) := dk_42 (dk_at dksX2_init_4 17 rfl rfl)
theorem dX2_init_110 : decode cX2_init 110 = .ok (.sipush 2001, 3) := dk_17 7 209 (dk_at dksX2_init_4 18 rfl rfl)
theorem dX2_init_113 : decode cX2_init 113 = .ok (.newarray .short, 2) := dk_188_9 (dk_at dksX2_init_4 21 rfl rfl)
theorem dX2_init_115 : decode cX2_init 115 = .ok (.putfield 53, 3) := dk_181 0 53 (dk_at dksX2_init_5 0 rfl rfl)
theorem dX2_init_118 : decode cX2_init 118 = .ok (.return_, 1) := dk_177 (dk_at dksX2_init_5 3 rfl rfl)
abbrev cX2_read : ByteArray := prog_12_method_7_code
def yX2_read : MethodName := ⟨RX2, "read", "()V"⟩
def dkwX2_read_8 : List UInt8 := [61, 21, 4, 60, 167, 255, 75, 28, 153, 0, 11, 42, 6, 27, 27, 3, 182, 0, 86, 177]
abbrev dktX2_read_8 : List UInt8 := dkwX2_read_8 ++ []
def dkwX2_read_7 : List UInt8 := [54, 5, 42, 21, 5, 27, 21, 4, 21, 6, 182, 0, 86, 21, 5, 7, 159, 0, 7, 4, 167, 0, 4, 3]
abbrev dktX2_read_7 : List UInt8 := dkwX2_read_7 ++ dktX2_read_8
def dkwX2_read_6 : List UInt8 := [4, 54, 5, 167, 0, 22, 29, 16, 59, 159, 0, 9, 29, 16, 45, 160, 0, 7, 5, 167, 0, 4, 7]
abbrev dktX2_read_6 : List UInt8 := dkwX2_read_6 ++ dktX2_read_7
def dkwX2_read_5 : List UInt8 := [182, 0, 83, 153, 0, 9, 132, 4, 1, 167, 255, 244, 21, 4, 27, 100, 7, 164, 0, 7, 7, 167, 0, 4]
abbrev dktX2_read_5 : List UInt8 := dkwX2_read_5 ++ dktX2_read_6
def dkwX2_read_4 : List UInt8 := [21, 4, 182, 0, 79, 54, 6, 3, 54, 5, 167, 0, 63, 42, 27, 182, 0, 83, 153, 0, 36, 42, 21, 4]
abbrev dktX2_read_4 : List UInt8 := dkwX2_read_4 ++ dktX2_read_5
def dkwX2_read_3 : List UInt8 := [182, 0, 75, 153, 0, 33, 42, 21, 4, 182, 0, 75, 153, 0, 9, 132, 4, 1, 167, 255, 244, 42, 27]
abbrev dktX2_read_3 : List UInt8 := dkwX2_read_3 ++ dktX2_read_4
def dkwX2_read_2 : List UInt8 := [16, 10, 159, 0, 9, 29, 16, 13, 160, 0, 9, 132, 1, 1, 167, 255, 205, 29, 54, 6, 42, 27]
abbrev dktX2_read_2 : List UInt8 := dkwX2_read_2 ++ dktX2_read_3
def dkwX2_read_1 : List UInt8 := [180, 0, 39, 27, 51, 62, 27, 4, 96, 54, 4, 29, 16, 32, 159, 0, 21, 29, 16, 9, 159, 0, 15, 29]
abbrev dktX2_read_1 : List UInt8 := dkwX2_read_1 ++ dktX2_read_2
def dkwX2_read_0 : List UInt8 := [42, 3, 181, 0, 64, 3, 60, 4, 61, 27, 42, 180, 0, 56, 162, 0, 179, 28, 153, 0, 175, 42]
abbrev dktX2_read_0 : List UInt8 := dkwX2_read_0 ++ dktX2_read_1
theorem dksX2_read_0 : cX2_read.data.toList.drop 0 = dktX2_read_0 := by decide +kernel
theorem dksX2_read_1 : cX2_read.data.toList.drop 22 = dktX2_read_1 := dk_seg dksX2_read_0 22 rfl rfl
theorem dksX2_read_2 : cX2_read.data.toList.drop 46 = dktX2_read_2 := dk_seg dksX2_read_1 24 rfl rfl
theorem dksX2_read_3 : cX2_read.data.toList.drop 68 = dktX2_read_3 := dk_seg dksX2_read_2 22 rfl rfl
theorem dksX2_read_4 : cX2_read.data.toList.drop 91 = dktX2_read_4 := dk_seg dksX2_read_3 23 rfl rfl
theorem dksX2_read_5 : cX2_read.data.toList.drop 115 = dktX2_read_5 := dk_seg dksX2_read_4 24 rfl rfl
theorem dksX2_read_6 : cX2_read.data.toList.drop 139 = dktX2_read_6 := dk_seg dksX2_read_5 24 rfl rfl
theorem dksX2_read_7 : cX2_read.data.toList.drop 162 = dktX2_read_7 := dk_seg dksX2_read_6 23 rfl rfl
theorem dksX2_read_8 : cX2_read.data.toList.drop 186 = dktX2_read_8 := dk_seg dksX2_read_7 24 rfl rfl
theorem dX2_read_0 : decode cX2_read 0 = .ok (.aload_n 0, 1) := dk_42 (dk_at dksX2_read_0 0 rfl rfl)
theorem dX2_read_1 : decode cX2_read 1 = .ok (.iconst 0, 1) := dk_3 (dk_at dksX2_read_0 1 rfl rfl)
theorem dX2_read_2 : decode cX2_read 2 = .ok (.putfield 64, 3) := dk_181 0 64 (dk_at dksX2_read_0 2 rfl rfl)
theorem dX2_read_5 : decode cX2_read 5 = .ok (.iconst 0, 1) := dk_3 (dk_at dksX2_read_0 5 rfl rfl)
theorem dX2_read_6 : decode cX2_read 6 = .ok (.istore_n 1, 1) := dk_60 (dk_at dksX2_read_0 6 rfl rfl)
theorem dX2_read_7 : decode cX2_read 7 = .ok (.iconst 1, 1) := dk_4 (dk_at dksX2_read_0 7 rfl rfl)
theorem dX2_read_8 : decode cX2_read 8 = .ok (.istore_n 2, 1) := dk_61 (dk_at dksX2_read_0 8 rfl rfl)
theorem dX2_read_9 : decode cX2_read 9 = .ok (.iload_n 1, 1) := dk_27 (dk_at dksX2_read_0 9 rfl rfl)
theorem dX2_read_10 : decode cX2_read 10 = .ok (.aload_n 0, 1) := dk_42 (dk_at dksX2_read_0 10 rfl rfl)
theorem dX2_read_11 : decode cX2_read 11 = .ok (.getfield 56, 3) := dk_180 0 56 (dk_at dksX2_read_0 11 rfl rfl)
theorem dX2_read_14 : decode cX2_read 14 = .ok (.if_icmp .ge 179, 3) := dk_162 0 179 (dk_at dksX2_read_0 14 rfl rfl)
theorem dX2_read_17 : decode cX2_read 17 = .ok (.iload_n 2, 1) := dk_28 (dk_at dksX2_read_0 17 rfl rfl)
theorem dX2_read_18 : decode cX2_read 18 = .ok (.ifCond .eq 175, 3) := dk_153 0 175 (dk_at dksX2_read_0 18 rfl rfl)
theorem dX2_read_21 : decode cX2_read 21 = .ok (.aload_n 0, 1) := dk_42 (dk_at dksX2_read_0 21 rfl rfl)
theorem dX2_read_22 : decode cX2_read 22 = .ok (.getfield 39, 3) := dk_180 0 39 (dk_at dksX2_read_1 0 rfl rfl)
theorem dX2_read_25 : decode cX2_read 25 = .ok (.iload_n 1, 1) := dk_27 (dk_at dksX2_read_1 3 rfl rfl)
theorem dX2_read_26 : decode cX2_read 26 = .ok (.baload, 1) := dk_51 (dk_at dksX2_read_1 4 rfl rfl)
theorem dX2_read_27 : decode cX2_read 27 = .ok (.istore_n 3, 1) := dk_62 (dk_at dksX2_read_1 5 rfl rfl)
theorem dX2_read_28 : decode cX2_read 28 = .ok (.iload_n 1, 1) := dk_27 (dk_at dksX2_read_1 6 rfl rfl)
theorem dX2_read_29 : decode cX2_read 29 = .ok (.iconst 1, 1) := dk_4 (dk_at dksX2_read_1 7 rfl rfl)
theorem dX2_read_30 : decode cX2_read 30 = .ok (.iadd, 1) := dk_96 (dk_at dksX2_read_1 8 rfl rfl)
theorem dX2_read_31 : decode cX2_read 31 = .ok (.istore 4, 2) := dk_54 4 (dk_at dksX2_read_1 9 rfl rfl)
theorem dX2_read_33 : decode cX2_read 33 = .ok (.iload_n 3, 1) := dk_29 (dk_at dksX2_read_1 11 rfl rfl)
theorem dX2_read_34 : decode cX2_read 34 = .ok (.bipush 32, 2) := dk_16 32 (dk_at dksX2_read_1 12 rfl rfl)
theorem dX2_read_36 : decode cX2_read 36 = .ok (.if_icmp .eq 21, 3) := dk_159 0 21 (dk_at dksX2_read_1 14 rfl rfl)
theorem dX2_read_39 : decode cX2_read 39 = .ok (.iload_n 3, 1) := dk_29 (dk_at dksX2_read_1 17 rfl rfl)
theorem dX2_read_40 : decode cX2_read 40 = .ok (.bipush 9, 2) := dk_16 9 (dk_at dksX2_read_1 18 rfl rfl)
theorem dX2_read_42 : decode cX2_read 42 = .ok (.if_icmp .eq 15, 3) := dk_159 0 15 (dk_at dksX2_read_1 20 rfl rfl)
theorem dX2_read_45 : decode cX2_read 45 = .ok (.iload_n 3, 1) := dk_29 (dk_at dksX2_read_1 23 rfl rfl)
theorem dX2_read_46 : decode cX2_read 46 = .ok (.bipush 10, 2) := dk_16 10 (dk_at dksX2_read_2 0 rfl rfl)
theorem dX2_read_48 : decode cX2_read 48 = .ok (.if_icmp .eq 9, 3) := dk_159 0 9 (dk_at dksX2_read_2 2 rfl rfl)
theorem dX2_read_51 : decode cX2_read 51 = .ok (.iload_n 3, 1) := dk_29 (dk_at dksX2_read_2 5 rfl rfl)
theorem dX2_read_52 : decode cX2_read 52 = .ok (.bipush 13, 2) := dk_16 13 (dk_at dksX2_read_2 6 rfl rfl)
theorem dX2_read_54 : decode cX2_read 54 = .ok (.if_icmp .ne 9, 3) := dk_160 0 9 (dk_at dksX2_read_2 8 rfl rfl)
theorem dX2_read_57 : decode cX2_read 57 = .ok (.iinc 1 1, 3) := dk_132 1 1 (dk_at dksX2_read_2 11 rfl rfl)
theorem dX2_read_60 : decode cX2_read 60 = .ok (.goto (-51), 3) := dk_167 255 205 (dk_at dksX2_read_2 14 rfl rfl)
theorem dX2_read_63 : decode cX2_read 63 = .ok (.iload_n 3, 1) := dk_29 (dk_at dksX2_read_2 17 rfl rfl)
theorem dX2_read_64 : decode cX2_read 64 = .ok (.istore 6, 2) := dk_54 6 (dk_at dksX2_read_2 18 rfl rfl)
theorem dX2_read_66 : decode cX2_read 66 = .ok (.aload_n 0, 1) := dk_42 (dk_at dksX2_read_2 20 rfl rfl)
theorem dX2_read_67 : decode cX2_read 67 = .ok (.iload_n 1, 1) := dk_27 (dk_at dksX2_read_2 21 rfl rfl)
theorem dX2_read_68 : decode cX2_read 68 = .ok (.invokevirtual 75, 3) := dk_182 0 75 (dk_at dksX2_read_3 0 rfl rfl)
theorem dX2_read_71 : decode cX2_read 71 = .ok (.ifCond .eq 33, 3) := dk_153 0 33 (dk_at dksX2_read_3 3 rfl rfl)
theorem dX2_read_74 : decode cX2_read 74 = .ok (.aload_n 0, 1) := dk_42 (dk_at dksX2_read_3 6 rfl rfl)
theorem dX2_read_75 : decode cX2_read 75 = .ok (.iload 4, 2) := dk_21 4 (dk_at dksX2_read_3 7 rfl rfl)
theorem dX2_read_77 : decode cX2_read 77 = .ok (.invokevirtual 75, 3) := dk_182 0 75 (dk_at dksX2_read_3 9 rfl rfl)
theorem dX2_read_80 : decode cX2_read 80 = .ok (.ifCond .eq 9, 3) := dk_153 0 9 (dk_at dksX2_read_3 12 rfl rfl)
theorem dX2_read_83 : decode cX2_read 83 = .ok (.iinc 4 1, 3) := dk_132 4 1 (dk_at dksX2_read_3 15 rfl rfl)
theorem dX2_read_86 : decode cX2_read 86 = .ok (.goto (-12), 3) := dk_167 255 244 (dk_at dksX2_read_3 18 rfl rfl)
theorem dX2_read_89 : decode cX2_read 89 = .ok (.aload_n 0, 1) := dk_42 (dk_at dksX2_read_3 21 rfl rfl)
theorem dX2_read_90 : decode cX2_read 90 = .ok (.iload_n 1, 1) := dk_27 (dk_at dksX2_read_3 22 rfl rfl)
theorem dX2_read_91 : decode cX2_read 91 = .ok (.iload 4, 2) := dk_21 4 (dk_at dksX2_read_4 0 rfl rfl)
theorem dX2_read_93 : decode cX2_read 93 = .ok (.invokevirtual 79, 3) := dk_182 0 79 (dk_at dksX2_read_4 2 rfl rfl)
theorem dX2_read_96 : decode cX2_read 96 = .ok (.istore 6, 2) := dk_54 6 (dk_at dksX2_read_4 5 rfl rfl)
theorem dX2_read_98 : decode cX2_read 98 = .ok (.iconst 0, 1) := dk_3 (dk_at dksX2_read_4 7 rfl rfl)
theorem dX2_read_99 : decode cX2_read 99 = .ok (.istore 5, 2) := dk_54 5 (dk_at dksX2_read_4 8 rfl rfl)
theorem dX2_read_101 : decode cX2_read 101 = .ok (.goto 63, 3) := dk_167 0 63 (dk_at dksX2_read_4 10 rfl rfl)
theorem dX2_read_104 : decode cX2_read 104 = .ok (.aload_n 0, 1) := dk_42 (dk_at dksX2_read_4 13 rfl rfl)
theorem dX2_read_105 : decode cX2_read 105 = .ok (.iload_n 1, 1) := dk_27 (dk_at dksX2_read_4 14 rfl rfl)
theorem dX2_read_106 : decode cX2_read 106 = .ok (.invokevirtual 83, 3) := dk_182 0 83 (dk_at dksX2_read_4 15 rfl rfl)
theorem dX2_read_109 : decode cX2_read 109 = .ok (.ifCond .eq 36, 3) := dk_153 0 36 (dk_at dksX2_read_4 18 rfl rfl)
theorem dX2_read_112 : decode cX2_read 112 = .ok (.aload_n 0, 1) := dk_42 (dk_at dksX2_read_4 21 rfl rfl)
theorem dX2_read_113 : decode cX2_read 113 = .ok (.iload 4, 2) := dk_21 4 (dk_at dksX2_read_4 22 rfl rfl)
theorem dX2_read_115 : decode cX2_read 115 = .ok (.invokevirtual 83, 3) := dk_182 0 83 (dk_at dksX2_read_5 0 rfl rfl)
theorem dX2_read_118 : decode cX2_read 118 = .ok (.ifCond .eq 9, 3) := dk_153 0 9 (dk_at dksX2_read_5 3 rfl rfl)
theorem dX2_read_121 : decode cX2_read 121 = .ok (.iinc 4 1, 3) := dk_132 4 1 (dk_at dksX2_read_5 6 rfl rfl)
theorem dX2_read_124 : decode cX2_read 124 = .ok (.goto (-12), 3) := dk_167 255 244 (dk_at dksX2_read_5 9 rfl rfl)
theorem dX2_read_127 : decode cX2_read 127 = .ok (.iload 4, 2) := dk_21 4 (dk_at dksX2_read_5 12 rfl rfl)
theorem dX2_read_129 : decode cX2_read 129 = .ok (.iload_n 1, 1) := dk_27 (dk_at dksX2_read_5 14 rfl rfl)
theorem dX2_read_130 : decode cX2_read 130 = .ok (.isub, 1) := dk_100 (dk_at dksX2_read_5 15 rfl rfl)
theorem dX2_read_131 : decode cX2_read 131 = .ok (.iconst 4, 1) := dk_7 (dk_at dksX2_read_5 16 rfl rfl)
theorem dX2_read_132 : decode cX2_read 132 = .ok (.if_icmp .le 7, 3) := dk_164 0 7 (dk_at dksX2_read_5 17 rfl rfl)
theorem dX2_read_135 : decode cX2_read 135 = .ok (.iconst 4, 1) := dk_7 (dk_at dksX2_read_5 20 rfl rfl)
theorem dX2_read_136 : decode cX2_read 136 = .ok (.goto 4, 3) := dk_167 0 4 (dk_at dksX2_read_5 21 rfl rfl)
theorem dX2_read_139 : decode cX2_read 139 = .ok (.iconst 1, 1) := dk_4 (dk_at dksX2_read_6 0 rfl rfl)
theorem dX2_read_140 : decode cX2_read 140 = .ok (.istore 5, 2) := dk_54 5 (dk_at dksX2_read_6 1 rfl rfl)
theorem dX2_read_142 : decode cX2_read 142 = .ok (.goto 22, 3) := dk_167 0 22 (dk_at dksX2_read_6 3 rfl rfl)
theorem dX2_read_145 : decode cX2_read 145 = .ok (.iload_n 3, 1) := dk_29 (dk_at dksX2_read_6 6 rfl rfl)
theorem dX2_read_146 : decode cX2_read 146 = .ok (.bipush 59, 2) := dk_16 59 (dk_at dksX2_read_6 7 rfl rfl)
theorem dX2_read_148 : decode cX2_read 148 = .ok (.if_icmp .eq 9, 3) := dk_159 0 9 (dk_at dksX2_read_6 9 rfl rfl)
theorem dX2_read_151 : decode cX2_read 151 = .ok (.iload_n 3, 1) := dk_29 (dk_at dksX2_read_6 12 rfl rfl)
theorem dX2_read_152 : decode cX2_read 152 = .ok (.bipush 45, 2) := dk_16 45 (dk_at dksX2_read_6 13 rfl rfl)
theorem dX2_read_154 : decode cX2_read 154 = .ok (.if_icmp .ne 7, 3) := dk_160 0 7 (dk_at dksX2_read_6 15 rfl rfl)
theorem dX2_read_157 : decode cX2_read 157 = .ok (.iconst 2, 1) := dk_5 (dk_at dksX2_read_6 18 rfl rfl)
theorem dX2_read_158 : decode cX2_read 158 = .ok (.goto 4, 3) := dk_167 0 4 (dk_at dksX2_read_6 19 rfl rfl)
theorem dX2_read_161 : decode cX2_read 161 = .ok (.iconst 4, 1) := dk_7 (dk_at dksX2_read_6 22 rfl rfl)
theorem dX2_read_162 : decode cX2_read 162 = .ok (.istore 5, 2) := dk_54 5 (dk_at dksX2_read_7 0 rfl rfl)
theorem dX2_read_164 : decode cX2_read 164 = .ok (.aload_n 0, 1) := dk_42 (dk_at dksX2_read_7 2 rfl rfl)
theorem dX2_read_165 : decode cX2_read 165 = .ok (.iload 5, 2) := dk_21 5 (dk_at dksX2_read_7 3 rfl rfl)
theorem dX2_read_167 : decode cX2_read 167 = .ok (.iload_n 1, 1) := dk_27 (dk_at dksX2_read_7 5 rfl rfl)
theorem dX2_read_168 : decode cX2_read 168 = .ok (.iload 4, 2) := dk_21 4 (dk_at dksX2_read_7 6 rfl rfl)
theorem dX2_read_170 : decode cX2_read 170 = .ok (.iload 6, 2) := dk_21 6 (dk_at dksX2_read_7 8 rfl rfl)
theorem dX2_read_172 : decode cX2_read 172 = .ok (.invokevirtual 86, 3) := dk_182 0 86 (dk_at dksX2_read_7 10 rfl rfl)
theorem dX2_read_175 : decode cX2_read 175 = .ok (.iload 5, 2) := dk_21 5 (dk_at dksX2_read_7 13 rfl rfl)
theorem dX2_read_177 : decode cX2_read 177 = .ok (.iconst 4, 1) := dk_7 (dk_at dksX2_read_7 15 rfl rfl)
theorem dX2_read_178 : decode cX2_read 178 = .ok (.if_icmp .eq 7, 3) := dk_159 0 7 (dk_at dksX2_read_7 16 rfl rfl)
theorem dX2_read_181 : decode cX2_read 181 = .ok (.iconst 1, 1) := dk_4 (dk_at dksX2_read_7 19 rfl rfl)
theorem dX2_read_182 : decode cX2_read 182 = .ok (.goto 4, 3) := dk_167 0 4 (dk_at dksX2_read_7 20 rfl rfl)
theorem dX2_read_185 : decode cX2_read 185 = .ok (.iconst 0, 1) := dk_3 (dk_at dksX2_read_7 23 rfl rfl)
theorem dX2_read_186 : decode cX2_read 186 = .ok (.istore_n 2, 1) := dk_61 (dk_at dksX2_read_8 0 rfl rfl)
theorem dX2_read_187 : decode cX2_read 187 = .ok (.iload 4, 2) := dk_21 4 (dk_at dksX2_read_8 1 rfl rfl)
theorem dX2_read_189 : decode cX2_read 189 = .ok (.istore_n 1, 1) := dk_60 (dk_at dksX2_read_8 3 rfl rfl)
theorem dX2_read_190 : decode cX2_read 190 = .ok (.goto (-181), 3) := dk_167 255 75 (dk_at dksX2_read_8 4 rfl rfl)
theorem dX2_read_193 : decode cX2_read 193 = .ok (.iload_n 2, 1) := dk_28 (dk_at dksX2_read_8 7 rfl rfl)
theorem dX2_read_194 : decode cX2_read 194 = .ok (.ifCond .eq 11, 3) := dk_153 0 11 (dk_at dksX2_read_8 8 rfl rfl)
theorem dX2_read_197 : decode cX2_read 197 = .ok (.aload_n 0, 1) := dk_42 (dk_at dksX2_read_8 11 rfl rfl)
theorem dX2_read_198 : decode cX2_read 198 = .ok (.iconst 3, 1) := dk_6 (dk_at dksX2_read_8 12 rfl rfl)
theorem dX2_read_199 : decode cX2_read 199 = .ok (.iload_n 1, 1) := dk_27 (dk_at dksX2_read_8 13 rfl rfl)
theorem dX2_read_200 : decode cX2_read 200 = .ok (.iload_n 1, 1) := dk_27 (dk_at dksX2_read_8 14 rfl rfl)
theorem dX2_read_201 : decode cX2_read 201 = .ok (.iconst 0, 1) := dk_3 (dk_at dksX2_read_8 15 rfl rfl)
theorem dX2_read_202 : decode cX2_read 202 = .ok (.invokevirtual 86, 3) := dk_182 0 86 (dk_at dksX2_read_8 16 rfl rfl)
theorem dX2_read_205 : decode cX2_read 205 = .ok (.return_, 1) := dk_177 (dk_at dksX2_read_8 19 rfl rfl)
abbrev cX2_isLetter : ByteArray := prog_12_method_4_code
def yX2_isLetter : MethodName := ⟨RX2, "isLetter", "(I)Z"⟩
def dkwX2_isLetter_1 : List UInt8 := [3, 172]
abbrev dktX2_isLetter_1 : List UInt8 := dkwX2_isLetter_1 ++ []
def dkwX2_isLetter_0 : List UInt8 := [42, 27, 182, 0, 60, 16, 97, 161, 0, 17, 42, 27, 182, 0, 60, 16, 122, 163, 0, 7, 4, 167, 0, 4]
abbrev dktX2_isLetter_0 : List UInt8 := dkwX2_isLetter_0 ++ dktX2_isLetter_1
theorem dksX2_isLetter_0 : cX2_isLetter.data.toList.drop 0 = dktX2_isLetter_0 := by decide +kernel
theorem dksX2_isLetter_1 : cX2_isLetter.data.toList.drop 24 = dktX2_isLetter_1 := dk_seg dksX2_isLetter_0 24 rfl rfl
theorem dX2_isLetter_0 : decode cX2_isLetter 0 = .ok (.aload_n 0, 1) := dk_42 (dk_at dksX2_isLetter_0 0 rfl rfl)
theorem dX2_isLetter_1 : decode cX2_isLetter 1 = .ok (.iload_n 1, 1) := dk_27 (dk_at dksX2_isLetter_0 1 rfl rfl)
theorem dX2_isLetter_2 : decode cX2_isLetter 2 = .ok (.invokevirtual 60, 3) := dk_182 0 60 (dk_at dksX2_isLetter_0 2 rfl rfl)
theorem dX2_isLetter_5 : decode cX2_isLetter 5 = .ok (.bipush 97, 2) := dk_16 97 (dk_at dksX2_isLetter_0 5 rfl rfl)
theorem dX2_isLetter_7 : decode cX2_isLetter 7 = .ok (.if_icmp .lt 17, 3) := dk_161 0 17 (dk_at dksX2_isLetter_0 7 rfl rfl)
theorem dX2_isLetter_10 : decode cX2_isLetter 10 = .ok (.aload_n 0, 1) := dk_42 (dk_at dksX2_isLetter_0 10 rfl rfl)
theorem dX2_isLetter_11 : decode cX2_isLetter 11 = .ok (.iload_n 1, 1) := dk_27 (dk_at dksX2_isLetter_0 11 rfl rfl)
theorem dX2_isLetter_12 : decode cX2_isLetter 12 = .ok (.invokevirtual 60, 3) := dk_182 0 60 (dk_at dksX2_isLetter_0 12 rfl rfl)
theorem dX2_isLetter_15 : decode cX2_isLetter 15 = .ok (.bipush 122, 2) := dk_16 122 (dk_at dksX2_isLetter_0 15 rfl rfl)
theorem dX2_isLetter_17 : decode cX2_isLetter 17 = .ok (.if_icmp .gt 7, 3) := dk_163 0 7 (dk_at dksX2_isLetter_0 17 rfl rfl)
theorem dX2_isLetter_20 : decode cX2_isLetter 20 = .ok (.iconst 1, 1) := dk_4 (dk_at dksX2_isLetter_0 20 rfl rfl)
theorem dX2_isLetter_21 : decode cX2_isLetter 21 = .ok (.goto 4, 3) := dk_167 0 4 (dk_at dksX2_isLetter_0 21 rfl rfl)
theorem dX2_isLetter_24 : decode cX2_isLetter 24 = .ok (.iconst 0, 1) := dk_3 (dk_at dksX2_isLetter_1 0 rfl rfl)
theorem dX2_isLetter_25 : decode cX2_isLetter 25 = .ok (.ireturn, 1) := dk_172 (dk_at dksX2_isLetter_1 1 rfl rfl)
abbrev cX2_at : ByteArray := prog_12_method_2_code
def yX2_at : MethodName := ⟨RX2, "at", "(I)I"⟩
def dkwX2_at_0 : List UInt8 := [27, 42, 180, 0, 56, 162, 0, 12, 42, 180, 0, 39, 27, 51, 167, 0, 4, 3, 172]
abbrev dktX2_at_0 : List UInt8 := dkwX2_at_0 ++ []
theorem dksX2_at_0 : cX2_at.data.toList.drop 0 = dktX2_at_0 := by decide +kernel
theorem dX2_at_0 : decode cX2_at 0 = .ok (.iload_n 1, 1) := dk_27 (dk_at dksX2_at_0 0 rfl rfl)
theorem dX2_at_1 : decode cX2_at 1 = .ok (.aload_n 0, 1) := dk_42 (dk_at dksX2_at_0 1 rfl rfl)
theorem dX2_at_2 : decode cX2_at 2 = .ok (.getfield 56, 3) := dk_180 0 56 (dk_at dksX2_at_0 2 rfl rfl)
theorem dX2_at_5 : decode cX2_at 5 = .ok (.if_icmp .ge 12, 3) := dk_162 0 12 (dk_at dksX2_at_0 5 rfl rfl)
theorem dX2_at_8 : decode cX2_at 8 = .ok (.aload_n 0, 1) := dk_42 (dk_at dksX2_at_0 8 rfl rfl)
theorem dX2_at_9 : decode cX2_at 9 = .ok (.getfield 39, 3) := dk_180 0 39 (dk_at dksX2_at_0 9 rfl rfl)
theorem dX2_at_12 : decode cX2_at 12 = .ok (.iload_n 1, 1) := dk_27 (dk_at dksX2_at_0 12 rfl rfl)
theorem dX2_at_13 : decode cX2_at 13 = .ok (.baload, 1) := dk_51 (dk_at dksX2_at_0 13 rfl rfl)
theorem dX2_at_14 : decode cX2_at 14 = .ok (.goto 4, 3) := dk_167 0 4 (dk_at dksX2_at_0 14 rfl rfl)
theorem dX2_at_17 : decode cX2_at 17 = .ok (.iconst 0, 1) := dk_3 (dk_at dksX2_at_0 17 rfl rfl)
theorem dX2_at_18 : decode cX2_at 18 = .ok (.ireturn, 1) := dk_172 (dk_at dksX2_at_0 18 rfl rfl)
abbrev cX2_word : ByteArray := prog_12_method_6_code
def yX2_word : MethodName := ⟨RX2, "word", "(II)I"⟩
def dkwX2_word_4 : List UInt8 := [167, 255, 165, 2, 172]
abbrev dktX2_word_4 : List UInt8 := dkwX2_word_4 ++ []
def dkwX2_word_3 : List UInt8 := [167, 0, 4, 3, 54, 4, 132, 5, 1, 167, 255, 212, 21, 4, 153, 0, 5, 29, 172, 132, 3, 1]
abbrev dktX2_word_3 : List UInt8 := dkwX2_word_3 ++ dktX2_word_4
def dkwX2_word_2 : List UInt8 := [42, 180, 0, 33, 29, 50, 21, 5, 27, 100, 182, 0, 71, 42, 180, 0, 39, 21, 5, 51, 160, 0, 7, 4]
abbrev dktX2_word_2 : List UInt8 := dkwX2_word_2 ++ dktX2_word_3
def dkwX2_word_1 : List UInt8 := [160, 0, 7, 4, 167, 0, 4, 3, 54, 4, 27, 54, 5, 21, 5, 28, 162, 0, 44, 21, 4, 153, 0, 39]
abbrev dktX2_word_1 : List UInt8 := dkwX2_word_1 ++ dktX2_word_2
def dkwX2_word_0 : List UInt8 := [3, 62, 29, 42, 180, 0, 33, 190, 162, 0, 88, 42, 180, 0, 33, 29, 50, 182, 0, 67, 28, 27, 100]
abbrev dktX2_word_0 : List UInt8 := dkwX2_word_0 ++ dktX2_word_1
theorem dksX2_word_0 : cX2_word.data.toList.drop 0 = dktX2_word_0 := by decide +kernel
theorem dksX2_word_1 : cX2_word.data.toList.drop 23 = dktX2_word_1 := dk_seg dksX2_word_0 23 rfl rfl
theorem dksX2_word_2 : cX2_word.data.toList.drop 47 = dktX2_word_2 := dk_seg dksX2_word_1 24 rfl rfl
theorem dksX2_word_3 : cX2_word.data.toList.drop 71 = dktX2_word_3 := dk_seg dksX2_word_2 24 rfl rfl
theorem dksX2_word_4 : cX2_word.data.toList.drop 93 = dktX2_word_4 := dk_seg dksX2_word_3 22 rfl rfl
theorem dX2_word_0 : decode cX2_word 0 = .ok (.iconst 0, 1) := dk_3 (dk_at dksX2_word_0 0 rfl rfl)
theorem dX2_word_1 : decode cX2_word 1 = .ok (.istore_n 3, 1) := dk_62 (dk_at dksX2_word_0 1 rfl rfl)
theorem dX2_word_2 : decode cX2_word 2 = .ok (.iload_n 3, 1) := dk_29 (dk_at dksX2_word_0 2 rfl rfl)
theorem dX2_word_3 : decode cX2_word 3 = .ok (.aload_n 0, 1) := dk_42 (dk_at dksX2_word_0 3 rfl rfl)
theorem dX2_word_4 : decode cX2_word 4 = .ok (.getfield 33, 3) := dk_180 0 33 (dk_at dksX2_word_0 4 rfl rfl)
theorem dX2_word_7 : decode cX2_word 7 = .ok (.arraylength, 1) := dk_190 (dk_at dksX2_word_0 7 rfl rfl)
theorem dX2_word_8 : decode cX2_word 8 = .ok (.if_icmp .ge 88, 3) := dk_162 0 88 (dk_at dksX2_word_0 8 rfl rfl)
theorem dX2_word_11 : decode cX2_word 11 = .ok (.aload_n 0, 1) := dk_42 (dk_at dksX2_word_0 11 rfl rfl)
theorem dX2_word_12 : decode cX2_word 12 = .ok (.getfield 33, 3) := dk_180 0 33 (dk_at dksX2_word_0 12 rfl rfl)
theorem dX2_word_15 : decode cX2_word 15 = .ok (.iload_n 3, 1) := dk_29 (dk_at dksX2_word_0 15 rfl rfl)
theorem dX2_word_16 : decode cX2_word 16 = .ok (.aaload, 1) := dk_50 (dk_at dksX2_word_0 16 rfl rfl)
theorem dX2_word_17 : decode cX2_word 17 = .ok (.invokevirtual 67, 3) := dk_182 0 67 (dk_at dksX2_word_0 17 rfl rfl)
theorem dX2_word_20 : decode cX2_word 20 = .ok (.iload_n 2, 1) := dk_28 (dk_at dksX2_word_0 20 rfl rfl)
theorem dX2_word_21 : decode cX2_word 21 = .ok (.iload_n 1, 1) := dk_27 (dk_at dksX2_word_0 21 rfl rfl)
theorem dX2_word_22 : decode cX2_word 22 = .ok (.isub, 1) := dk_100 (dk_at dksX2_word_0 22 rfl rfl)
theorem dX2_word_23 : decode cX2_word 23 = .ok (.if_icmp .ne 7, 3) := dk_160 0 7 (dk_at dksX2_word_1 0 rfl rfl)
theorem dX2_word_26 : decode cX2_word 26 = .ok (.iconst 1, 1) := dk_4 (dk_at dksX2_word_1 3 rfl rfl)
theorem dX2_word_27 : decode cX2_word 27 = .ok (.goto 4, 3) := dk_167 0 4 (dk_at dksX2_word_1 4 rfl rfl)
theorem dX2_word_30 : decode cX2_word 30 = .ok (.iconst 0, 1) := dk_3 (dk_at dksX2_word_1 7 rfl rfl)
theorem dX2_word_31 : decode cX2_word 31 = .ok (.istore 4, 2) := dk_54 4 (dk_at dksX2_word_1 8 rfl rfl)
theorem dX2_word_33 : decode cX2_word 33 = .ok (.iload_n 1, 1) := dk_27 (dk_at dksX2_word_1 10 rfl rfl)
theorem dX2_word_34 : decode cX2_word 34 = .ok (.istore 5, 2) := dk_54 5 (dk_at dksX2_word_1 11 rfl rfl)
theorem dX2_word_36 : decode cX2_word 36 = .ok (.iload 5, 2) := dk_21 5 (dk_at dksX2_word_1 13 rfl rfl)
theorem dX2_word_38 : decode cX2_word 38 = .ok (.iload_n 2, 1) := dk_28 (dk_at dksX2_word_1 15 rfl rfl)
theorem dX2_word_39 : decode cX2_word 39 = .ok (.if_icmp .ge 44, 3) := dk_162 0 44 (dk_at dksX2_word_1 16 rfl rfl)
theorem dX2_word_42 : decode cX2_word 42 = .ok (.iload 4, 2) := dk_21 4 (dk_at dksX2_word_1 19 rfl rfl)
theorem dX2_word_44 : decode cX2_word 44 = .ok (.ifCond .eq 39, 3) := dk_153 0 39 (dk_at dksX2_word_1 21 rfl rfl)
theorem dX2_word_47 : decode cX2_word 47 = .ok (.aload_n 0, 1) := dk_42 (dk_at dksX2_word_2 0 rfl rfl)
theorem dX2_word_48 : decode cX2_word 48 = .ok (.getfield 33, 3) := dk_180 0 33 (dk_at dksX2_word_2 1 rfl rfl)
theorem dX2_word_51 : decode cX2_word 51 = .ok (.iload_n 3, 1) := dk_29 (dk_at dksX2_word_2 4 rfl rfl)
theorem dX2_word_52 : decode cX2_word 52 = .ok (.aaload, 1) := dk_50 (dk_at dksX2_word_2 5 rfl rfl)
theorem dX2_word_53 : decode cX2_word 53 = .ok (.iload 5, 2) := dk_21 5 (dk_at dksX2_word_2 6 rfl rfl)
theorem dX2_word_55 : decode cX2_word 55 = .ok (.iload_n 1, 1) := dk_27 (dk_at dksX2_word_2 8 rfl rfl)
theorem dX2_word_56 : decode cX2_word 56 = .ok (.isub, 1) := dk_100 (dk_at dksX2_word_2 9 rfl rfl)
theorem dX2_word_57 : decode cX2_word 57 = .ok (.invokevirtual 71, 3) := dk_182 0 71 (dk_at dksX2_word_2 10 rfl rfl)
theorem dX2_word_60 : decode cX2_word 60 = .ok (.aload_n 0, 1) := dk_42 (dk_at dksX2_word_2 13 rfl rfl)
theorem dX2_word_61 : decode cX2_word 61 = .ok (.getfield 39, 3) := dk_180 0 39 (dk_at dksX2_word_2 14 rfl rfl)
theorem dX2_word_64 : decode cX2_word 64 = .ok (.iload 5, 2) := dk_21 5 (dk_at dksX2_word_2 17 rfl rfl)
theorem dX2_word_66 : decode cX2_word 66 = .ok (.baload, 1) := dk_51 (dk_at dksX2_word_2 19 rfl rfl)
theorem dX2_word_67 : decode cX2_word 67 = .ok (.if_icmp .ne 7, 3) := dk_160 0 7 (dk_at dksX2_word_2 20 rfl rfl)
theorem dX2_word_70 : decode cX2_word 70 = .ok (.iconst 1, 1) := dk_4 (dk_at dksX2_word_2 23 rfl rfl)
theorem dX2_word_71 : decode cX2_word 71 = .ok (.goto 4, 3) := dk_167 0 4 (dk_at dksX2_word_3 0 rfl rfl)
theorem dX2_word_74 : decode cX2_word 74 = .ok (.iconst 0, 1) := dk_3 (dk_at dksX2_word_3 3 rfl rfl)
theorem dX2_word_75 : decode cX2_word 75 = .ok (.istore 4, 2) := dk_54 4 (dk_at dksX2_word_3 4 rfl rfl)
theorem dX2_word_77 : decode cX2_word 77 = .ok (.iinc 5 1, 3) := dk_132 5 1 (dk_at dksX2_word_3 6 rfl rfl)
theorem dX2_word_80 : decode cX2_word 80 = .ok (.goto (-44), 3) := dk_167 255 212 (dk_at dksX2_word_3 9 rfl rfl)
theorem dX2_word_83 : decode cX2_word 83 = .ok (.iload 4, 2) := dk_21 4 (dk_at dksX2_word_3 12 rfl rfl)
theorem dX2_word_85 : decode cX2_word 85 = .ok (.ifCond .eq 5, 3) := dk_153 0 5 (dk_at dksX2_word_3 14 rfl rfl)
theorem dX2_word_88 : decode cX2_word 88 = .ok (.iload_n 3, 1) := dk_29 (dk_at dksX2_word_3 17 rfl rfl)
theorem dX2_word_89 : decode cX2_word 89 = .ok (.ireturn, 1) := dk_172 (dk_at dksX2_word_3 18 rfl rfl)
theorem dX2_word_90 : decode cX2_word 90 = .ok (.iinc 3 1, 3) := dk_132 3 1 (dk_at dksX2_word_3 19 rfl rfl)
theorem dX2_word_93 : decode cX2_word 93 = .ok (.goto (-91), 3) := dk_167 255 165 (dk_at dksX2_word_4 0 rfl rfl)
theorem dX2_word_96 : decode cX2_word 96 = .ok (.iconst (-1), 1) := dk_2 (dk_at dksX2_word_4 3 rfl rfl)
theorem dX2_word_97 : decode cX2_word 97 = .ok (.ireturn, 1) := dk_172 (dk_at dksX2_word_4 4 rfl rfl)
abbrev cX2_isDigit : ByteArray := prog_12_method_3_code
def yX2_isDigit : MethodName := ⟨RX2, "isDigit", "(I)Z"⟩
def dkwX2_isDigit_1 : List UInt8 := [3, 172]
abbrev dktX2_isDigit_1 : List UInt8 := dkwX2_isDigit_1 ++ []
def dkwX2_isDigit_0 : List UInt8 := [42, 27, 182, 0, 60, 16, 48, 161, 0, 17, 42, 27, 182, 0, 60, 16, 57, 163, 0, 7, 4, 167, 0, 4]
abbrev dktX2_isDigit_0 : List UInt8 := dkwX2_isDigit_0 ++ dktX2_isDigit_1
theorem dksX2_isDigit_0 : cX2_isDigit.data.toList.drop 0 = dktX2_isDigit_0 := by decide +kernel
theorem dksX2_isDigit_1 : cX2_isDigit.data.toList.drop 24 = dktX2_isDigit_1 := dk_seg dksX2_isDigit_0 24 rfl rfl
theorem dX2_isDigit_0 : decode cX2_isDigit 0 = .ok (.aload_n 0, 1) := dk_42 (dk_at dksX2_isDigit_0 0 rfl rfl)
theorem dX2_isDigit_1 : decode cX2_isDigit 1 = .ok (.iload_n 1, 1) := dk_27 (dk_at dksX2_isDigit_0 1 rfl rfl)
theorem dX2_isDigit_2 : decode cX2_isDigit 2 = .ok (.invokevirtual 60, 3) := dk_182 0 60 (dk_at dksX2_isDigit_0 2 rfl rfl)
theorem dX2_isDigit_5 : decode cX2_isDigit 5 = .ok (.bipush 48, 2) := dk_16 48 (dk_at dksX2_isDigit_0 5 rfl rfl)
theorem dX2_isDigit_7 : decode cX2_isDigit 7 = .ok (.if_icmp .lt 17, 3) := dk_161 0 17 (dk_at dksX2_isDigit_0 7 rfl rfl)
theorem dX2_isDigit_10 : decode cX2_isDigit 10 = .ok (.aload_n 0, 1) := dk_42 (dk_at dksX2_isDigit_0 10 rfl rfl)
theorem dX2_isDigit_11 : decode cX2_isDigit 11 = .ok (.iload_n 1, 1) := dk_27 (dk_at dksX2_isDigit_0 11 rfl rfl)
theorem dX2_isDigit_12 : decode cX2_isDigit 12 = .ok (.invokevirtual 60, 3) := dk_182 0 60 (dk_at dksX2_isDigit_0 12 rfl rfl)
theorem dX2_isDigit_15 : decode cX2_isDigit 15 = .ok (.bipush 57, 2) := dk_16 57 (dk_at dksX2_isDigit_0 15 rfl rfl)
theorem dX2_isDigit_17 : decode cX2_isDigit 17 = .ok (.if_icmp .gt 7, 3) := dk_163 0 7 (dk_at dksX2_isDigit_0 17 rfl rfl)
theorem dX2_isDigit_20 : decode cX2_isDigit 20 = .ok (.iconst 1, 1) := dk_4 (dk_at dksX2_isDigit_0 20 rfl rfl)
theorem dX2_isDigit_21 : decode cX2_isDigit 21 = .ok (.goto 4, 3) := dk_167 0 4 (dk_at dksX2_isDigit_0 21 rfl rfl)
theorem dX2_isDigit_24 : decode cX2_isDigit 24 = .ok (.iconst 0, 1) := dk_3 (dk_at dksX2_isDigit_1 0 rfl rfl)
theorem dX2_isDigit_25 : decode cX2_isDigit 25 = .ok (.ireturn, 1) := dk_172 (dk_at dksX2_isDigit_1 1 rfl rfl)
abbrev cX2_add : ByteArray := prog_12_method_5_code
def yX2_add : MethodName := ⟨RX2, "add", "(IIII)V"⟩
def dkwX2_add_2 : List UInt8 := [180, 0, 64, 4, 96, 181, 0, 64, 177]
abbrev dktX2_add_2 : List UInt8 := dkwX2_add_2 ++ []
def dkwX2_add_1 : List UInt8 := [180, 0, 50, 42, 180, 0, 64, 29, 147, 86, 42, 180, 0, 53, 42, 180, 0, 64, 21, 4, 147, 86, 42, 89]
abbrev dktX2_add_1 : List UInt8 := dkwX2_add_1 ++ dktX2_add_2
def dkwX2_add_0 : List UInt8 := [42, 180, 0, 43, 42, 180, 0, 64, 27, 145, 84, 42, 180, 0, 46, 42, 180, 0, 64, 28, 147, 86, 42]
abbrev dktX2_add_0 : List UInt8 := dkwX2_add_0 ++ dktX2_add_1
theorem dksX2_add_0 : cX2_add.data.toList.drop 0 = dktX2_add_0 := by decide +kernel
theorem dksX2_add_1 : cX2_add.data.toList.drop 23 = dktX2_add_1 := dk_seg dksX2_add_0 23 rfl rfl
theorem dksX2_add_2 : cX2_add.data.toList.drop 47 = dktX2_add_2 := dk_seg dksX2_add_1 24 rfl rfl
theorem dX2_add_0 : decode cX2_add 0 = .ok (.aload_n 0, 1) := dk_42 (dk_at dksX2_add_0 0 rfl rfl)
theorem dX2_add_1 : decode cX2_add 1 = .ok (.getfield 43, 3) := dk_180 0 43 (dk_at dksX2_add_0 1 rfl rfl)
theorem dX2_add_4 : decode cX2_add 4 = .ok (.aload_n 0, 1) := dk_42 (dk_at dksX2_add_0 4 rfl rfl)
theorem dX2_add_5 : decode cX2_add 5 = .ok (.getfield 64, 3) := dk_180 0 64 (dk_at dksX2_add_0 5 rfl rfl)
theorem dX2_add_8 : decode cX2_add 8 = .ok (.iload_n 1, 1) := dk_27 (dk_at dksX2_add_0 8 rfl rfl)
theorem dX2_add_9 : decode cX2_add 9 = .ok (.i2b, 1) := dk_145 (dk_at dksX2_add_0 9 rfl rfl)
theorem dX2_add_10 : decode cX2_add 10 = .ok (.bastore, 1) := dk_84 (dk_at dksX2_add_0 10 rfl rfl)
theorem dX2_add_11 : decode cX2_add 11 = .ok (.aload_n 0, 1) := dk_42 (dk_at dksX2_add_0 11 rfl rfl)
theorem dX2_add_12 : decode cX2_add 12 = .ok (.getfield 46, 3) := dk_180 0 46 (dk_at dksX2_add_0 12 rfl rfl)
theorem dX2_add_15 : decode cX2_add 15 = .ok (.aload_n 0, 1) := dk_42 (dk_at dksX2_add_0 15 rfl rfl)
theorem dX2_add_16 : decode cX2_add 16 = .ok (.getfield 64, 3) := dk_180 0 64 (dk_at dksX2_add_0 16 rfl rfl)
theorem dX2_add_19 : decode cX2_add 19 = .ok (.iload_n 2, 1) := dk_28 (dk_at dksX2_add_0 19 rfl rfl)
theorem dX2_add_20 : decode cX2_add 20 = .ok (.i2s, 1) := dk_147 (dk_at dksX2_add_0 20 rfl rfl)
theorem dX2_add_21 : decode cX2_add 21 = .ok (.sastore, 1) := dk_86 (dk_at dksX2_add_0 21 rfl rfl)
theorem dX2_add_22 : decode cX2_add 22 = .ok (.aload_n 0, 1) := dk_42 (dk_at dksX2_add_0 22 rfl rfl)
theorem dX2_add_23 : decode cX2_add 23 = .ok (.getfield 50, 3) := dk_180 0 50 (dk_at dksX2_add_1 0 rfl rfl)
theorem dX2_add_26 : decode cX2_add 26 = .ok (.aload_n 0, 1) := dk_42 (dk_at dksX2_add_1 3 rfl rfl)
theorem dX2_add_27 : decode cX2_add 27 = .ok (.getfield 64, 3) := dk_180 0 64 (dk_at dksX2_add_1 4 rfl rfl)
theorem dX2_add_30 : decode cX2_add 30 = .ok (.iload_n 3, 1) := dk_29 (dk_at dksX2_add_1 7 rfl rfl)
theorem dX2_add_31 : decode cX2_add 31 = .ok (.i2s, 1) := dk_147 (dk_at dksX2_add_1 8 rfl rfl)
theorem dX2_add_32 : decode cX2_add 32 = .ok (.sastore, 1) := dk_86 (dk_at dksX2_add_1 9 rfl rfl)
theorem dX2_add_33 : decode cX2_add 33 = .ok (.aload_n 0, 1) := dk_42 (dk_at dksX2_add_1 10 rfl rfl)
theorem dX2_add_34 : decode cX2_add 34 = .ok (.getfield 53, 3) := dk_180 0 53 (dk_at dksX2_add_1 11 rfl rfl)
theorem dX2_add_37 : decode cX2_add 37 = .ok (.aload_n 0, 1) := dk_42 (dk_at dksX2_add_1 14 rfl rfl)
theorem dX2_add_38 : decode cX2_add 38 = .ok (.getfield 64, 3) := dk_180 0 64 (dk_at dksX2_add_1 15 rfl rfl)
theorem dX2_add_41 : decode cX2_add 41 = .ok (.iload 4, 2) := dk_21 4 (dk_at dksX2_add_1 18 rfl rfl)
theorem dX2_add_43 : decode cX2_add 43 = .ok (.i2s, 1) := dk_147 (dk_at dksX2_add_1 20 rfl rfl)
theorem dX2_add_44 : decode cX2_add 44 = .ok (.sastore, 1) := dk_86 (dk_at dksX2_add_1 21 rfl rfl)
theorem dX2_add_45 : decode cX2_add 45 = .ok (.aload_n 0, 1) := dk_42 (dk_at dksX2_add_1 22 rfl rfl)
theorem dX2_add_46 : decode cX2_add 46 = .ok (.dup, 1) := dk_89 (dk_at dksX2_add_1 23 rfl rfl)
theorem dX2_add_47 : decode cX2_add 47 = .ok (.getfield 64, 3) := dk_180 0 64 (dk_at dksX2_add_2 0 rfl rfl)
theorem dX2_add_50 : decode cX2_add 50 = .ok (.iconst 1, 1) := dk_4 (dk_at dksX2_add_2 3 rfl rfl)
theorem dX2_add_51 : decode cX2_add 51 = .ok (.iadd, 1) := dk_96 (dk_at dksX2_add_2 4 rfl rfl)
theorem dX2_add_52 : decode cX2_add 52 = .ok (.putfield 64, 3) := dk_181 0 64 (dk_at dksX2_add_2 5 rfl rfl)
theorem dX2_add_55 : decode cX2_add 55 = .ok (.return_, 1) := dk_177 (dk_at dksX2_add_2 8 rfl rfl)
abbrev cX2_isWord : ByteArray := prog_12_method_9_code
def yX2_isWord : MethodName := ⟨RX2, "isWord", "(II)Z"⟩
def dkwX2_isWord_1 : List UInt8 := [172]
abbrev dktX2_isWord_1 : List UInt8 := dkwX2_isWord_1 ++ []
def dkwX2_isWord_0 : List UInt8 := [42, 180, 0, 43, 27, 51, 154, 0, 17, 42, 180, 0, 53, 27, 53, 28, 160, 0, 7, 4, 167, 0, 4, 3]
abbrev dktX2_isWord_0 : List UInt8 := dkwX2_isWord_0 ++ dktX2_isWord_1
theorem dksX2_isWord_0 : cX2_isWord.data.toList.drop 0 = dktX2_isWord_0 := by decide +kernel
theorem dksX2_isWord_1 : cX2_isWord.data.toList.drop 24 = dktX2_isWord_1 := dk_seg dksX2_isWord_0 24 rfl rfl
theorem dX2_isWord_0 : decode cX2_isWord 0 = .ok (.aload_n 0, 1) := dk_42 (dk_at dksX2_isWord_0 0 rfl rfl)
theorem dX2_isWord_1 : decode cX2_isWord 1 = .ok (.getfield 43, 3) := dk_180 0 43 (dk_at dksX2_isWord_0 1 rfl rfl)
theorem dX2_isWord_4 : decode cX2_isWord 4 = .ok (.iload_n 1, 1) := dk_27 (dk_at dksX2_isWord_0 4 rfl rfl)
theorem dX2_isWord_5 : decode cX2_isWord 5 = .ok (.baload, 1) := dk_51 (dk_at dksX2_isWord_0 5 rfl rfl)
theorem dX2_isWord_6 : decode cX2_isWord 6 = .ok (.ifCond .ne 17, 3) := dk_154 0 17 (dk_at dksX2_isWord_0 6 rfl rfl)
theorem dX2_isWord_9 : decode cX2_isWord 9 = .ok (.aload_n 0, 1) := dk_42 (dk_at dksX2_isWord_0 9 rfl rfl)
theorem dX2_isWord_10 : decode cX2_isWord 10 = .ok (.getfield 53, 3) := dk_180 0 53 (dk_at dksX2_isWord_0 10 rfl rfl)
theorem dX2_isWord_13 : decode cX2_isWord 13 = .ok (.iload_n 1, 1) := dk_27 (dk_at dksX2_isWord_0 13 rfl rfl)
theorem dX2_isWord_14 : decode cX2_isWord 14 = .ok (.saload, 1) := dk_53 (dk_at dksX2_isWord_0 14 rfl rfl)
theorem dX2_isWord_15 : decode cX2_isWord 15 = .ok (.iload_n 2, 1) := dk_28 (dk_at dksX2_isWord_0 15 rfl rfl)
theorem dX2_isWord_16 : decode cX2_isWord 16 = .ok (.if_icmp .ne 7, 3) := dk_160 0 7 (dk_at dksX2_isWord_0 16 rfl rfl)
theorem dX2_isWord_19 : decode cX2_isWord 19 = .ok (.iconst 1, 1) := dk_4 (dk_at dksX2_isWord_0 19 rfl rfl)
theorem dX2_isWord_20 : decode cX2_isWord 20 = .ok (.goto 4, 3) := dk_167 0 4 (dk_at dksX2_isWord_0 20 rfl rfl)
theorem dX2_isWord_23 : decode cX2_isWord 23 = .ok (.iconst 0, 1) := dk_3 (dk_at dksX2_isWord_0 23 rfl rfl)
theorem dX2_isWord_24 : decode cX2_isWord 24 = .ok (.ireturn, 1) := dk_172 (dk_at dksX2_isWord_1 0 rfl rfl)
abbrev cX2_isSign : ByteArray := prog_12_method_8_code
def yX2_isSign : MethodName := ⟨RX2, "isSign", "(II)Z"⟩
def dkwX2_isSign_1 : List UInt8 := [3, 172]
abbrev dktX2_isSign_1 : List UInt8 := dkwX2_isSign_1 ++ []
def dkwX2_isSign_0 : List UInt8 := [42, 180, 0, 43, 27, 51, 5, 160, 0, 17, 42, 180, 0, 53, 27, 53, 28, 160, 0, 7, 4, 167, 0, 4]
abbrev dktX2_isSign_0 : List UInt8 := dkwX2_isSign_0 ++ dktX2_isSign_1
theorem dksX2_isSign_0 : cX2_isSign.data.toList.drop 0 = dktX2_isSign_0 := by decide +kernel
theorem dksX2_isSign_1 : cX2_isSign.data.toList.drop 24 = dktX2_isSign_1 := dk_seg dksX2_isSign_0 24 rfl rfl
theorem dX2_isSign_0 : decode cX2_isSign 0 = .ok (.aload_n 0, 1) := dk_42 (dk_at dksX2_isSign_0 0 rfl rfl)
theorem dX2_isSign_1 : decode cX2_isSign 1 = .ok (.getfield 43, 3) := dk_180 0 43 (dk_at dksX2_isSign_0 1 rfl rfl)
theorem dX2_isSign_4 : decode cX2_isSign 4 = .ok (.iload_n 1, 1) := dk_27 (dk_at dksX2_isSign_0 4 rfl rfl)
theorem dX2_isSign_5 : decode cX2_isSign 5 = .ok (.baload, 1) := dk_51 (dk_at dksX2_isSign_0 5 rfl rfl)
theorem dX2_isSign_6 : decode cX2_isSign 6 = .ok (.iconst 2, 1) := dk_5 (dk_at dksX2_isSign_0 6 rfl rfl)
theorem dX2_isSign_7 : decode cX2_isSign 7 = .ok (.if_icmp .ne 17, 3) := dk_160 0 17 (dk_at dksX2_isSign_0 7 rfl rfl)
theorem dX2_isSign_10 : decode cX2_isSign 10 = .ok (.aload_n 0, 1) := dk_42 (dk_at dksX2_isSign_0 10 rfl rfl)
theorem dX2_isSign_11 : decode cX2_isSign 11 = .ok (.getfield 53, 3) := dk_180 0 53 (dk_at dksX2_isSign_0 11 rfl rfl)
theorem dX2_isSign_14 : decode cX2_isSign 14 = .ok (.iload_n 1, 1) := dk_27 (dk_at dksX2_isSign_0 14 rfl rfl)
theorem dX2_isSign_15 : decode cX2_isSign 15 = .ok (.saload, 1) := dk_53 (dk_at dksX2_isSign_0 15 rfl rfl)
theorem dX2_isSign_16 : decode cX2_isSign 16 = .ok (.iload_n 2, 1) := dk_28 (dk_at dksX2_isSign_0 16 rfl rfl)
theorem dX2_isSign_17 : decode cX2_isSign 17 = .ok (.if_icmp .ne 7, 3) := dk_160 0 7 (dk_at dksX2_isSign_0 17 rfl rfl)
theorem dX2_isSign_20 : decode cX2_isSign 20 = .ok (.iconst 1, 1) := dk_4 (dk_at dksX2_isSign_0 20 rfl rfl)
theorem dX2_isSign_21 : decode cX2_isSign 21 = .ok (.goto 4, 3) := dk_167 0 4 (dk_at dksX2_isSign_0 21 rfl rfl)
theorem dX2_isSign_24 : decode cX2_isSign 24 = .ok (.iconst 0, 1) := dk_3 (dk_at dksX2_isSign_1 0 rfl rfl)
theorem dX2_isSign_25 : decode cX2_isSign 25 = .ok (.ireturn, 1) := dk_172 (dk_at dksX2_isSign_1 1 rfl rfl)
abbrev cX2_number : ByteArray := prog_12_method_10_code
def yX2_number : MethodName := ⟨RX2, "number", "(I)I"⟩
def dkwX2_number_1 : List UInt8 := [180, 0, 39, 29, 51, 96, 16, 48, 100, 61, 132, 3, 1, 167, 255, 228, 28, 172]
abbrev dktX2_number_1 : List UInt8 := dkwX2_number_1 ++ []
def dkwX2_number_0 : List UInt8 := [3, 61, 42, 180, 0, 46, 27, 53, 62, 29, 42, 180, 0, 50, 27, 53, 162, 0, 24, 16, 10, 28, 104, 42]
abbrev dktX2_number_0 : List UInt8 := dkwX2_number_0 ++ dktX2_number_1
theorem dksX2_number_0 : cX2_number.data.toList.drop 0 = dktX2_number_0 := by decide +kernel
theorem dksX2_number_1 : cX2_number.data.toList.drop 24 = dktX2_number_1 := dk_seg dksX2_number_0 24 rfl rfl
theorem dX2_number_0 : decode cX2_number 0 = .ok (.iconst 0, 1) := dk_3 (dk_at dksX2_number_0 0 rfl rfl)
theorem dX2_number_1 : decode cX2_number 1 = .ok (.istore_n 2, 1) := dk_61 (dk_at dksX2_number_0 1 rfl rfl)
theorem dX2_number_2 : decode cX2_number 2 = .ok (.aload_n 0, 1) := dk_42 (dk_at dksX2_number_0 2 rfl rfl)
theorem dX2_number_3 : decode cX2_number 3 = .ok (.getfield 46, 3) := dk_180 0 46 (dk_at dksX2_number_0 3 rfl rfl)
theorem dX2_number_6 : decode cX2_number 6 = .ok (.iload_n 1, 1) := dk_27 (dk_at dksX2_number_0 6 rfl rfl)
theorem dX2_number_7 : decode cX2_number 7 = .ok (.saload, 1) := dk_53 (dk_at dksX2_number_0 7 rfl rfl)
theorem dX2_number_8 : decode cX2_number 8 = .ok (.istore_n 3, 1) := dk_62 (dk_at dksX2_number_0 8 rfl rfl)
theorem dX2_number_9 : decode cX2_number 9 = .ok (.iload_n 3, 1) := dk_29 (dk_at dksX2_number_0 9 rfl rfl)
theorem dX2_number_10 : decode cX2_number 10 = .ok (.aload_n 0, 1) := dk_42 (dk_at dksX2_number_0 10 rfl rfl)
theorem dX2_number_11 : decode cX2_number 11 = .ok (.getfield 50, 3) := dk_180 0 50 (dk_at dksX2_number_0 11 rfl rfl)
theorem dX2_number_14 : decode cX2_number 14 = .ok (.iload_n 1, 1) := dk_27 (dk_at dksX2_number_0 14 rfl rfl)
theorem dX2_number_15 : decode cX2_number 15 = .ok (.saload, 1) := dk_53 (dk_at dksX2_number_0 15 rfl rfl)
theorem dX2_number_16 : decode cX2_number 16 = .ok (.if_icmp .ge 24, 3) := dk_162 0 24 (dk_at dksX2_number_0 16 rfl rfl)
theorem dX2_number_19 : decode cX2_number 19 = .ok (.bipush 10, 2) := dk_16 10 (dk_at dksX2_number_0 19 rfl rfl)
theorem dX2_number_21 : decode cX2_number 21 = .ok (.iload_n 2, 1) := dk_28 (dk_at dksX2_number_0 21 rfl rfl)
theorem dX2_number_22 : decode cX2_number 22 = .ok (.imul, 1) := dk_104 (dk_at dksX2_number_0 22 rfl rfl)
theorem dX2_number_23 : decode cX2_number 23 = .ok (.aload_n 0, 1) := dk_42 (dk_at dksX2_number_0 23 rfl rfl)
theorem dX2_number_24 : decode cX2_number 24 = .ok (.getfield 39, 3) := dk_180 0 39 (dk_at dksX2_number_1 0 rfl rfl)
theorem dX2_number_27 : decode cX2_number 27 = .ok (.iload_n 3, 1) := dk_29 (dk_at dksX2_number_1 3 rfl rfl)
theorem dX2_number_28 : decode cX2_number 28 = .ok (.baload, 1) := dk_51 (dk_at dksX2_number_1 4 rfl rfl)
theorem dX2_number_29 : decode cX2_number 29 = .ok (.iadd, 1) := dk_96 (dk_at dksX2_number_1 5 rfl rfl)
theorem dX2_number_30 : decode cX2_number 30 = .ok (.bipush 48, 2) := dk_16 48 (dk_at dksX2_number_1 6 rfl rfl)
theorem dX2_number_32 : decode cX2_number 32 = .ok (.isub, 1) := dk_100 (dk_at dksX2_number_1 8 rfl rfl)
theorem dX2_number_33 : decode cX2_number 33 = .ok (.istore_n 2, 1) := dk_61 (dk_at dksX2_number_1 9 rfl rfl)
theorem dX2_number_34 : decode cX2_number 34 = .ok (.iinc 3 1, 3) := dk_132 3 1 (dk_at dksX2_number_1 10 rfl rfl)
theorem dX2_number_37 : decode cX2_number 37 = .ok (.goto (-28), 3) := dk_167 255 228 (dk_at dksX2_number_1 13 rfl rfl)
theorem dX2_number_40 : decode cX2_number 40 = .ok (.iload_n 2, 1) := dk_28 (dk_at dksX2_number_1 16 rfl rfl)
theorem dX2_number_41 : decode cX2_number 41 = .ok (.ireturn, 1) := dk_172 (dk_at dksX2_number_1 17 rfl rfl)
theorem q113 : (Jvm.Cond.initialized "SpinStrip$Tokens") ∈ lw_all := lw_g (lw_at lw_m1 6 rfl) rfl
theorem q232 : (Jvm.Cond.instantiable "SpinStrip$Tokens" (8 : Nat)) ∈ lw_all := lw_g (lw_at lw_m1 125 rfl) rfl
theorem q234 : (Jvm.Cond.instanceMethod ({ cls := "SpinStrip$Tokens", name := "<init>", desc := "()V" } : Jvm.MethodName)) ∈ lw_all := lw_g (lw_at lw_m1 127 rfl) rfl
theorem q235 : (Jvm.Cond.code ({ cls := "SpinStrip$Tokens", name := "<init>", desc := "()V" } : Jvm.MethodName) prog_12_method_1_code (1 : Nat) (Option.none : Option Jvm.ClassFile.FieldType)) ∈ lw_all := lw_g (lw_at lw_m1 128 rfl) rfl
theorem q236 : (Jvm.Cond.methodLink "SpinStrip$Tokens" (3 : Nat) ({ cls := "java/lang/Object", name := "<init>", desc := "()V" } : Jvm.MethodName)) ∈ lw_all := lw_g (lw_at lw_m1 129 rfl) rfl
theorem q237 : (Jvm.Cond.classLink "SpinStrip$Tokens" (9 : Nat) "java/lang/String") ∈ lw_all := lw_g (lw_at lw_m1 130 rfl) rfl
theorem q239 : (Jvm.Cond.stringRef "SpinStrip$Tokens" (11 : Nat) "strip") ∈ lw_tbl := lw_at lw_m1 132 rfl
theorem q240 : (Jvm.Cond.stringRef "SpinStrip$Tokens" (13 : Nat) "across") ∈ lw_tbl := lw_at lw_m1 133 rfl
theorem q241 : (Jvm.Cond.stringRef "SpinStrip$Tokens" (15 : Nat) "along") ∈ lw_tbl := lw_at lw_m1 134 rfl
theorem q242 : (Jvm.Cond.stringRef "SpinStrip$Tokens" (17 : Nat) "field") ∈ lw_tbl := lw_at lw_m1 135 rfl
theorem q243 : (Jvm.Cond.stringRef "SpinStrip$Tokens" (19 : Nat) "ring") ∈ lw_tbl := lw_at lw_m1 136 rfl
theorem q244 : (Jvm.Cond.stringRef "SpinStrip$Tokens" (21 : Nat) "tie") ∈ lw_tbl := lw_at lw_m1 137 rfl
theorem q245 : (Jvm.Cond.stringRef "SpinStrip$Tokens" (23 : Nat) "pull") ∈ lw_tbl := lw_at lw_m1 138 rfl
theorem q246 : (Jvm.Cond.stringRef "SpinStrip$Tokens" (25 : Nat) "pin") ∈ lw_tbl := lw_at lw_m1 139 rfl
theorem q247 : (Jvm.Cond.stringRef "SpinStrip$Tokens" (27 : Nat) "up") ∈ lw_tbl := lw_at lw_m1 140 rfl
theorem q248 : (Jvm.Cond.stringRef "SpinStrip$Tokens" (29 : Nat) "down") ∈ lw_tbl := lw_at lw_m1 141 rfl
theorem q249 : (Jvm.Cond.stringRef "SpinStrip$Tokens" (31 : Nat) "seed") ∈ lw_tbl := lw_at lw_m1 142 rfl
theorem q250 : (Jvm.Cond.fieldLink "SpinStrip$Tokens" (33 : Nat) "SpinStrip$Tokens" "words" "[Ljava/lang/String;") ∈ lw_all := lw_g (lw_at lw_m1 143 rfl) rfl
theorem q251 : (Jvm.Cond.fieldLink "SpinStrip$Tokens" (39 : Nat) "SpinStrip$Tokens" "tape" "[B") ∈ lw_all := lw_g (lw_at lw_m1 144 rfl) rfl
theorem q253 : (Jvm.Cond.fieldLink "SpinStrip$Tokens" (56 : Nat) "SpinStrip$Tokens" "taped" "I") ∈ lw_all := lw_g (lw_at lw_m1 146 rfl) rfl
theorem q255 : (Jvm.Cond.fieldLink "SpinStrip$Tokens" (43 : Nat) "SpinStrip$Tokens" "sort" "[B") ∈ lw_all := lw_g (lw_at lw_m1 148 rfl) rfl
theorem q257 : (Jvm.Cond.fieldLink "SpinStrip$Tokens" (46 : Nat) "SpinStrip$Tokens" "from" "[S") ∈ lw_all := lw_g (lw_at lw_m1 150 rfl) rfl
theorem q259 : (Jvm.Cond.fieldLink "SpinStrip$Tokens" (50 : Nat) "SpinStrip$Tokens" "to" "[S") ∈ lw_all := lw_g (lw_at lw_m1 152 rfl) rfl
theorem q260 : (Jvm.Cond.fieldLink "SpinStrip$Tokens" (53 : Nat) "SpinStrip$Tokens" "what" "[S") ∈ lw_all := lw_g (lw_at lw_m1 153 rfl) rfl
theorem q262 : (Jvm.Cond.fieldLink "SpinStrip$Tokens" (64 : Nat) "SpinStrip$Tokens" "many" "I") ∈ lw_all := lw_g (lw_at lw_m1 155 rfl) rfl
theorem q263 : (Jvm.Cond.laysFinal "SpinStrip$Tokens" "SpinStrip$Tokens" "words" "[Ljava/lang/String;") ∈ lw_all := lw_g (lw_at lw_m1 156 rfl) rfl
theorem q264 : (Jvm.Cond.soleField "SpinStrip$Tokens" "words") ∈ lw_all := lw_g (lw_at lw_m1 157 rfl) rfl
theorem q265 : (Jvm.Cond.laysFinal "SpinStrip$Tokens" "SpinStrip$Tokens" "tape" "[B") ∈ lw_all := lw_g (lw_at lw_m1 158 rfl) rfl
theorem q266 : (Jvm.Cond.soleField "SpinStrip$Tokens" "tape") ∈ lw_all := lw_g (lw_at lw_m1 159 rfl) rfl
theorem q267 : (Jvm.Cond.lays "SpinStrip$Tokens" "SpinStrip$Tokens" "taped" "I") ∈ lw_all := lw_g (lw_at lw_m1 160 rfl) rfl
theorem q268 : (Jvm.Cond.soleField "SpinStrip$Tokens" "taped") ∈ lw_all := lw_g (lw_at lw_m1 161 rfl) rfl
theorem q269 : (Jvm.Cond.laysFinal "SpinStrip$Tokens" "SpinStrip$Tokens" "sort" "[B") ∈ lw_all := lw_g (lw_at lw_m1 162 rfl) rfl
theorem q270 : (Jvm.Cond.soleField "SpinStrip$Tokens" "sort") ∈ lw_all := lw_g (lw_at lw_m1 163 rfl) rfl
theorem q271 : (Jvm.Cond.laysFinal "SpinStrip$Tokens" "SpinStrip$Tokens" "from" "[S") ∈ lw_all := lw_g (lw_at lw_m1 164 rfl) rfl
theorem q272 : (Jvm.Cond.soleField "SpinStrip$Tokens" "from") ∈ lw_all := lw_g (lw_at lw_m1 165 rfl) rfl
theorem q273 : (Jvm.Cond.laysFinal "SpinStrip$Tokens" "SpinStrip$Tokens" "to" "[S") ∈ lw_all := lw_g (lw_at lw_m1 166 rfl) rfl
theorem q274 : (Jvm.Cond.soleField "SpinStrip$Tokens" "to") ∈ lw_all := lw_g (lw_at lw_m1 167 rfl) rfl
theorem q275 : (Jvm.Cond.laysFinal "SpinStrip$Tokens" "SpinStrip$Tokens" "what" "[S") ∈ lw_all := lw_g (lw_at lw_m1 168 rfl) rfl
theorem q276 : (Jvm.Cond.soleField "SpinStrip$Tokens" "what") ∈ lw_all := lw_g (lw_at lw_m1 169 rfl) rfl
theorem q277 : (Jvm.Cond.lays "SpinStrip$Tokens" "SpinStrip$Tokens" "many" "I") ∈ lw_all := lw_g (lw_at lw_m1 170 rfl) rfl
theorem q278 : (Jvm.Cond.soleField "SpinStrip$Tokens" "many") ∈ lw_all := lw_g (lw_at lw_m1 171 rfl) rfl
theorem q279 : (Jvm.Cond.superclass "SpinStrip$Tokens" "java/lang/Object") ∈ lw_all := lw_g (lw_at lw_m1 172 rfl) rfl
theorem q607 : (Jvm.Cond.instanceMethod ({ cls := "SpinStrip$Tokens", name := "read", desc := "()V" } : Jvm.MethodName)) ∈ lw_all := lw_g (lw_at lw_m3 20 rfl) rfl
theorem q608 : (Jvm.Cond.selects "SpinStrip$Tokens" ({ cls := "SpinStrip$Tokens", name := "read", desc := "()V" } : Jvm.MethodName) ({ cls := "SpinStrip$Tokens", name := "read", desc := "()V" } : Jvm.MethodName)) ∈ lw_all := lw_g (lw_at lw_m3 21 rfl) rfl
theorem q609 : (Jvm.Cond.code ({ cls := "SpinStrip$Tokens", name := "read", desc := "()V" } : Jvm.MethodName) prog_12_method_7_code (7 : Nat) (Option.none : Option Jvm.ClassFile.FieldType)) ∈ lw_all := lw_g (lw_at lw_m3 22 rfl) rfl
theorem q610 : (Jvm.Cond.methodLink "SpinStrip$Tokens" (75 : Nat) ({ cls := "SpinStrip$Tokens", name := "isLetter", desc := "(I)Z" } : Jvm.MethodName)) ∈ lw_all := lw_g (lw_at lw_m3 23 rfl) rfl
theorem q611 : (Jvm.Cond.privateMethod ({ cls := "SpinStrip$Tokens", name := "isLetter", desc := "(I)Z" } : Jvm.MethodName)) ∈ lw_tbl := lw_at lw_m3 24 rfl
theorem q612 : (Jvm.Cond.instanceMethod ({ cls := "SpinStrip$Tokens", name := "isLetter", desc := "(I)Z" } : Jvm.MethodName)) ∈ lw_all := lw_g (lw_at lw_m3 25 rfl) rfl
theorem q613 : (Jvm.Cond.code ({ cls := "SpinStrip$Tokens", name := "isLetter", desc := "(I)Z" } : Jvm.MethodName) prog_12_method_4_code (2 : Nat) (Option.some Jvm.ClassFile.FieldType.boolean)) ∈ lw_all := lw_g (lw_at lw_m3 26 rfl) rfl
theorem q614 : (Jvm.Cond.methodLink "SpinStrip$Tokens" (60 : Nat) ({ cls := "SpinStrip$Tokens", name := "at", desc := "(I)I" } : Jvm.MethodName)) ∈ lw_all := lw_g (lw_at lw_m3 27 rfl) rfl
theorem q615 : (Jvm.Cond.privateMethod ({ cls := "SpinStrip$Tokens", name := "at", desc := "(I)I" } : Jvm.MethodName)) ∈ lw_tbl := lw_at lw_m3 28 rfl
theorem q616 : (Jvm.Cond.instanceMethod ({ cls := "SpinStrip$Tokens", name := "at", desc := "(I)I" } : Jvm.MethodName)) ∈ lw_all := lw_g (lw_at lw_m3 29 rfl) rfl
theorem q617 : (Jvm.Cond.code ({ cls := "SpinStrip$Tokens", name := "at", desc := "(I)I" } : Jvm.MethodName) prog_12_method_2_code (2 : Nat) (Option.some Jvm.ClassFile.FieldType.int)) ∈ lw_all := lw_g (lw_at lw_m3 30 rfl) rfl
theorem q618 : (Jvm.Cond.methodLink "SpinStrip$Tokens" (79 : Nat) ({ cls := "SpinStrip$Tokens", name := "word", desc := "(II)I" } : Jvm.MethodName)) ∈ lw_all := lw_g (lw_at lw_m3 31 rfl) rfl
theorem q619 : (Jvm.Cond.privateMethod ({ cls := "SpinStrip$Tokens", name := "word", desc := "(II)I" } : Jvm.MethodName)) ∈ lw_tbl := lw_at lw_m3 32 rfl
theorem q620 : (Jvm.Cond.instanceMethod ({ cls := "SpinStrip$Tokens", name := "word", desc := "(II)I" } : Jvm.MethodName)) ∈ lw_all := lw_g (lw_at lw_m3 33 rfl) rfl
theorem q621 : (Jvm.Cond.code ({ cls := "SpinStrip$Tokens", name := "word", desc := "(II)I" } : Jvm.MethodName) prog_12_method_6_code (6 : Nat) (Option.some Jvm.ClassFile.FieldType.int)) ∈ lw_all := lw_g (lw_at lw_m3 34 rfl) rfl
theorem q622 : (Jvm.Cond.methodLink "SpinStrip$Tokens" (67 : Nat) ({ cls := "java/lang/String", name := "length", desc := "()I" } : Jvm.MethodName)) ∈ lw_all := lw_g (lw_at lw_m3 35 rfl) rfl
theorem q632 : (Jvm.Cond.methodLink "SpinStrip$Tokens" (71 : Nat) ({ cls := "java/lang/String", name := "charAt", desc := "(I)C" } : Jvm.MethodName)) ∈ lw_all := lw_g (lw_at lw_m3 45 rfl) rfl
theorem q670 : (Jvm.Cond.methodLink "SpinStrip$Tokens" (83 : Nat) ({ cls := "SpinStrip$Tokens", name := "isDigit", desc := "(I)Z" } : Jvm.MethodName)) ∈ lw_all := lw_g (lw_at lw_m3 83 rfl) rfl
theorem q671 : (Jvm.Cond.privateMethod ({ cls := "SpinStrip$Tokens", name := "isDigit", desc := "(I)Z" } : Jvm.MethodName)) ∈ lw_tbl := lw_at lw_m3 84 rfl
theorem q672 : (Jvm.Cond.instanceMethod ({ cls := "SpinStrip$Tokens", name := "isDigit", desc := "(I)Z" } : Jvm.MethodName)) ∈ lw_all := lw_g (lw_at lw_m3 85 rfl) rfl
theorem q673 : (Jvm.Cond.code ({ cls := "SpinStrip$Tokens", name := "isDigit", desc := "(I)Z" } : Jvm.MethodName) prog_12_method_3_code (2 : Nat) (Option.some Jvm.ClassFile.FieldType.boolean)) ∈ lw_all := lw_g (lw_at lw_m3 86 rfl) rfl
theorem q674 : (Jvm.Cond.methodLink "SpinStrip$Tokens" (86 : Nat) ({ cls := "SpinStrip$Tokens", name := "add", desc := "(IIII)V" } : Jvm.MethodName)) ∈ lw_all := lw_g (lw_at lw_m3 87 rfl) rfl
theorem q675 : (Jvm.Cond.privateMethod ({ cls := "SpinStrip$Tokens", name := "add", desc := "(IIII)V" } : Jvm.MethodName)) ∈ lw_tbl := lw_at lw_m3 88 rfl
theorem q676 : (Jvm.Cond.instanceMethod ({ cls := "SpinStrip$Tokens", name := "add", desc := "(IIII)V" } : Jvm.MethodName)) ∈ lw_all := lw_g (lw_at lw_m3 89 rfl) rfl
theorem q677 : (Jvm.Cond.code ({ cls := "SpinStrip$Tokens", name := "add", desc := "(IIII)V" } : Jvm.MethodName) prog_12_method_5_code (5 : Nat) (Option.none : Option Jvm.ClassFile.FieldType)) ∈ lw_all := lw_g (lw_at lw_m3 90 rfl) rfl
theorem q695 : (Jvm.Cond.instanceMethod ({ cls := "SpinStrip$Tokens", name := "isWord", desc := "(II)Z" } : Jvm.MethodName)) ∈ lw_all := lw_g (lw_at lw_m3 108 rfl) rfl
theorem q696 : (Jvm.Cond.selects "SpinStrip$Tokens" ({ cls := "SpinStrip$Tokens", name := "isWord", desc := "(II)Z" } : Jvm.MethodName) ({ cls := "SpinStrip$Tokens", name := "isWord", desc := "(II)Z" } : Jvm.MethodName)) ∈ lw_all := lw_g (lw_at lw_m3 109 rfl) rfl
theorem q697 : (Jvm.Cond.code ({ cls := "SpinStrip$Tokens", name := "isWord", desc := "(II)Z" } : Jvm.MethodName) prog_12_method_9_code (3 : Nat) (Option.some Jvm.ClassFile.FieldType.boolean)) ∈ lw_all := lw_g (lw_at lw_m3 110 rfl) rfl
theorem q715 : (Jvm.Cond.instanceMethod ({ cls := "SpinStrip$Tokens", name := "isSign", desc := "(II)Z" } : Jvm.MethodName)) ∈ lw_all := lw_g (lw_at lw_m3 128 rfl) rfl
theorem q716 : (Jvm.Cond.selects "SpinStrip$Tokens" ({ cls := "SpinStrip$Tokens", name := "isSign", desc := "(II)Z" } : Jvm.MethodName) ({ cls := "SpinStrip$Tokens", name := "isSign", desc := "(II)Z" } : Jvm.MethodName)) ∈ lw_all := lw_g (lw_at lw_m3 129 rfl) rfl
theorem q717 : (Jvm.Cond.code ({ cls := "SpinStrip$Tokens", name := "isSign", desc := "(II)Z" } : Jvm.MethodName) prog_12_method_8_code (3 : Nat) (Option.some Jvm.ClassFile.FieldType.boolean)) ∈ lw_all := lw_g (lw_at lw_m3 130 rfl) rfl
theorem q735 : (Jvm.Cond.instanceMethod ({ cls := "SpinStrip$Tokens", name := "number", desc := "(I)I" } : Jvm.MethodName)) ∈ lw_all := lw_g (lw_at lw_m3 148 rfl) rfl
theorem q736 : (Jvm.Cond.selects "SpinStrip$Tokens" ({ cls := "SpinStrip$Tokens", name := "number", desc := "(I)I" } : Jvm.MethodName) ({ cls := "SpinStrip$Tokens", name := "number", desc := "(I)I" } : Jvm.MethodName)) ∈ lw_all := lw_g (lw_at lw_m3 149 rfl) rfl
theorem q737 : (Jvm.Cond.code ({ cls := "SpinStrip$Tokens", name := "number", desc := "(I)I" } : Jvm.MethodName) prog_12_method_10_code (4 : Nat) (Option.some Jvm.ClassFile.FieldType.int)) ∈ lw_all := lw_g (lw_at lw_m3 150 rfl) rfl
theorem q883 : (Jvm.Cond.selects "SpinStrip$Tokens" ({ cls := "java/lang/Object", name := "getClass", desc := "()Ljava/lang/Class;" } : Jvm.MethodName) ({ cls := "java/lang/Object", name := "getClass", desc := "()Ljava/lang/Class;" } : Jvm.MethodName)) ∈ lw_all := lw_g (lw_at lw_m4 56 rfl) rfl
theorem q2392 : (Jvm.Cond.castable "SpinStrip$Tokens" "java/lang/Object") ∈ lw_tbl := lw_at lw_m10 125 rfl
theorem in_X2 : ∀ w ∈ wsX20, w ∈ lw_all := lw_in wsX20 [263, 265, 267, 269, 271, 273, 275, 277] (by decide +kernel) (by decide +kernel)
/-! SpinStrip$Parser -/
set_option maxRecDepth 100000
def RX3 : String := "SpinStrip$Parser"
def TX3 : u_T := fun k => match k with
  | 0 => ("SpinStrip$Parser", "t", "LSpinStrip$Tokens;", true)
  | 1 => ("SpinStrip$Parser", "fault", "LSpinStrip$Fault;", true)
  | 2 => ("SpinStrip$Parser", "strip", "LSpinStrip$Strip;", true)
  | 3 => ("SpinStrip$Parser", "at", "I", false)
  | 4 => ("SpinStrip$Parser", "worst", "I", false)
  | _ => ("SpinStrip$Parser", "worstToken", "I", false)
def tyX3 : Nat → FieldType := fun k => match k with
  | 0 => .object "SpinStrip$Tokens"
  | 1 => .object "SpinStrip$Fault"
  | 2 => .object "SpinStrip$Strip"
  | 3 => .int
  | 4 => .int
  | _ => .int
abbrev wsX30 : List Cond := u_ws RX3 TX3 6
theorem nmX3 : ∀ a, a < 6 → ∀ b, b < 6 → a ≠ b → (TX3 a).2.1 ≠ (TX3 b).2.1 := by decide +kernel
theorem tyX3_ok : ∀ k, k < 6 → parseFieldDescriptor (TX3 k).2.2.1 = some (tyX3 k) := by decide +kernel
abbrev cX3_init : ByteArray := prog_8_method_1_code
def yX3_init : MethodName := ⟨RX3, "<init>", "(LSpinStrip$Tokens;LSpinStrip$Fault;)V"⟩
def dkwX3_init_1 : List UInt8 := [181, 0, 22, 177]
abbrev dktX3_init_1 : List UInt8 := dkwX3_init_1 ++ []
def dkwX3_init_0 : List UInt8 := [42, 183, 0, 3, 42, 187, 0, 9, 89, 183, 0, 11, 181, 0, 12, 42, 43, 181, 0, 18, 42, 44]
abbrev dktX3_init_0 : List UInt8 := dkwX3_init_0 ++ dktX3_init_1
theorem dksX3_init_0 : cX3_init.data.toList.drop 0 = dktX3_init_0 := by decide +kernel
theorem dksX3_init_1 : cX3_init.data.toList.drop 22 = dktX3_init_1 := dk_seg dksX3_init_0 22 rfl rfl
theorem dX3_init_0 : decode cX3_init 0 = .ok (.aload_n 0, 1) := dk_42 (dk_at dksX3_init_0 0 rfl rfl)
theorem dX3_init_1 : decode cX3_init 1 = .ok (.invokespecial 3, 3) := dk_183 0 3 (dk_at dksX3_init_0 1 rfl rfl)
theorem dX3_init_4 : decode cX3_init 4 = .ok (.aload_n 0, 1) := dk_42 (dk_at dksX3_init_0 4 rfl rfl)
theorem dX3_init_5 : decode cX3_init 5 = .ok (.new 9, 3) := dk_187 0 9 (dk_at dksX3_init_0 5 rfl rfl)
theorem dX3_init_8 : decode cX3_init 8 = .ok (.dup, 1) := dk_89 (dk_at dksX3_init_0 8 rfl rfl)
theorem dX3_init_9 : decode cX3_init 9 = .ok (.invokespecial 11, 3) := dk_183 0 11 (dk_at dksX3_init_0 9 rfl rfl)
theorem dX3_init_12 : decode cX3_init 12 = .ok (.putfield 12, 3) := dk_181 0 12 (dk_at dksX3_init_0 12 rfl rfl)
theorem dX3_init_15 : decode cX3_init 15 = .ok (.aload_n 0, 1) := dk_42 (dk_at dksX3_init_0 15 rfl rfl)
theorem dX3_init_16 : decode cX3_init 16 = .ok (.aload_n 1, 1) := dk_43 (dk_at dksX3_init_0 16 rfl rfl)
theorem dX3_init_17 : decode cX3_init 17 = .ok (.putfield 18, 3) := dk_181 0 18 (dk_at dksX3_init_0 17 rfl rfl)
theorem dX3_init_20 : decode cX3_init 20 = .ok (.aload_n 0, 1) := dk_42 (dk_at dksX3_init_0 20 rfl rfl)
theorem dX3_init_21 : decode cX3_init 21 = .ok (.aload_n 2, 1) := dk_44 (dk_at dksX3_init_0 21 rfl rfl)
theorem dX3_init_22 : decode cX3_init 22 = .ok (.putfield 22, 3) := dk_181 0 22 (dk_at dksX3_init_1 0 rfl rfl)
theorem dX3_init_25 : decode cX3_init 25 = .ok (.return_, 1) := dk_177 (dk_at dksX3_init_1 3 rfl rfl)
abbrev cX3_read : ByteArray := prog_8_method_12_code
def yX3_read : MethodName := ⟨RX3, "read", "()V"⟩
def dkwX3_read_8 : List UInt8 := [182, 0, 42, 191, 42, 180, 0, 12, 42, 180, 0, 12, 180, 0, 105, 181, 0, 124, 177]
abbrev dktX3_read_8 : List UInt8 := dkwX3_read_8 ++ []
def dkwX3_read_7 : List UInt8 := [182, 0, 42, 191, 42, 182, 0, 121, 42, 180, 0, 45, 153, 0, 16, 42, 42, 180, 0, 45, 42, 180, 0, 48]
abbrev dktX3_read_7 : List UInt8 := dkwX3_read_7 ++ dktX3_read_8
def dkwX3_read_6 : List UInt8 := [3, 79, 132, 1, 1, 167, 255, 217, 42, 180, 0, 45, 153, 0, 16, 42, 42, 180, 0, 45, 42, 180, 0, 48]
abbrev dktX3_read_6 : List UInt8 := dkwX3_read_6 ++ dktX3_read_7
def dkwX3_read_5 : List UInt8 := [180, 0, 111, 27, 3, 79, 42, 180, 0, 12, 180, 0, 115, 27, 3, 79, 42, 180, 0, 12, 180, 0, 118, 27]
abbrev dktX3_read_5 : List UInt8 := dkwX3_read_5 ++ dktX3_read_6
def dkwX3_read_4 : List UInt8 := [181, 0, 105, 42, 180, 0, 12, 3, 181, 0, 108, 3, 60, 27, 16, 16, 162, 0, 39, 42, 180, 0, 12]
abbrev dktX3_read_4 : List UInt8 := dkwX3_read_4 ++ dktX3_read_5
def dkwX3_read_3 : List UInt8 := [181, 0, 96, 42, 180, 0, 12, 3, 181, 0, 99, 42, 180, 0, 12, 3, 181, 0, 102, 42, 180, 0, 12, 3]
abbrev dktX3_read_3 : List UInt8 := dkwX3_read_3 ++ dktX3_read_4
def dkwX3_read_2 : List UInt8 := [42, 180, 0, 12, 42, 4, 7, 182, 0, 89, 181, 0, 93, 42, 180, 0, 12, 42, 5, 16, 16, 182, 0, 89]
abbrev dktX3_read_2 : List UInt8 := dkwX3_read_2 ++ dktX3_read_3
def dkwX3_read_1 : List UInt8 := [180, 0, 18, 42, 180, 0, 38, 3, 182, 0, 65, 154, 0, 9, 42, 4, 182, 0, 51, 191, 42, 182, 0, 86]
abbrev dktX3_read_1 : List UInt8 := dkwX3_read_1 ++ dktX3_read_2
def dkwX3_read_0 : List UInt8 := [42, 180, 0, 18, 182, 0, 83, 42, 3, 181, 0, 38, 42, 3, 181, 0, 45, 42, 182, 0, 59, 42]
abbrev dktX3_read_0 : List UInt8 := dkwX3_read_0 ++ dktX3_read_1
theorem dksX3_read_0 : cX3_read.data.toList.drop 0 = dktX3_read_0 := by decide +kernel
theorem dksX3_read_1 : cX3_read.data.toList.drop 22 = dktX3_read_1 := dk_seg dksX3_read_0 22 rfl rfl
theorem dksX3_read_2 : cX3_read.data.toList.drop 46 = dktX3_read_2 := dk_seg dksX3_read_1 24 rfl rfl
theorem dksX3_read_3 : cX3_read.data.toList.drop 70 = dktX3_read_3 := dk_seg dksX3_read_2 24 rfl rfl
theorem dksX3_read_4 : cX3_read.data.toList.drop 94 = dktX3_read_4 := dk_seg dksX3_read_3 24 rfl rfl
theorem dksX3_read_5 : cX3_read.data.toList.drop 117 = dktX3_read_5 := dk_seg dksX3_read_4 23 rfl rfl
theorem dksX3_read_6 : cX3_read.data.toList.drop 141 = dktX3_read_6 := dk_seg dksX3_read_5 24 rfl rfl
theorem dksX3_read_7 : cX3_read.data.toList.drop 165 = dktX3_read_7 := dk_seg dksX3_read_6 24 rfl rfl
theorem dksX3_read_8 : cX3_read.data.toList.drop 189 = dktX3_read_8 := dk_seg dksX3_read_7 24 rfl rfl
theorem dX3_read_0 : decode cX3_read 0 = .ok (.aload_n 0, 1) := dk_42 (dk_at dksX3_read_0 0 rfl rfl)
theorem dX3_read_1 : decode cX3_read 1 = .ok (.getfield 18, 3) := dk_180 0 18 (dk_at dksX3_read_0 1 rfl rfl)
theorem dX3_read_4 : decode cX3_read 4 = .ok (.invokevirtual 83, 3) := dk_182 0 83 (dk_at dksX3_read_0 4 rfl rfl)
theorem dX3_read_7 : decode cX3_read 7 = .ok (.aload_n 0, 1) := dk_42 (dk_at dksX3_read_0 7 rfl rfl)
theorem dX3_read_8 : decode cX3_read 8 = .ok (.iconst 0, 1) := dk_3 (dk_at dksX3_read_0 8 rfl rfl)
theorem dX3_read_9 : decode cX3_read 9 = .ok (.putfield 38, 3) := dk_181 0 38 (dk_at dksX3_read_0 9 rfl rfl)
theorem dX3_read_12 : decode cX3_read 12 = .ok (.aload_n 0, 1) := dk_42 (dk_at dksX3_read_0 12 rfl rfl)
theorem dX3_read_13 : decode cX3_read 13 = .ok (.iconst 0, 1) := dk_3 (dk_at dksX3_read_0 13 rfl rfl)
theorem dX3_read_14 : decode cX3_read 14 = .ok (.putfield 45, 3) := dk_181 0 45 (dk_at dksX3_read_0 14 rfl rfl)
theorem dX3_read_17 : decode cX3_read 17 = .ok (.aload_n 0, 1) := dk_42 (dk_at dksX3_read_0 17 rfl rfl)
theorem dX3_read_18 : decode cX3_read 18 = .ok (.invokevirtual 59, 3) := dk_182 0 59 (dk_at dksX3_read_0 18 rfl rfl)
theorem dX3_read_21 : decode cX3_read 21 = .ok (.aload_n 0, 1) := dk_42 (dk_at dksX3_read_0 21 rfl rfl)
theorem dX3_read_22 : decode cX3_read 22 = .ok (.getfield 18, 3) := dk_180 0 18 (dk_at dksX3_read_1 0 rfl rfl)
theorem dX3_read_25 : decode cX3_read 25 = .ok (.aload_n 0, 1) := dk_42 (dk_at dksX3_read_1 3 rfl rfl)
theorem dX3_read_26 : decode cX3_read 26 = .ok (.getfield 38, 3) := dk_180 0 38 (dk_at dksX3_read_1 4 rfl rfl)
theorem dX3_read_29 : decode cX3_read 29 = .ok (.iconst 0, 1) := dk_3 (dk_at dksX3_read_1 7 rfl rfl)
theorem dX3_read_30 : decode cX3_read 30 = .ok (.invokevirtual 65, 3) := dk_182 0 65 (dk_at dksX3_read_1 8 rfl rfl)
theorem dX3_read_33 : decode cX3_read 33 = .ok (.ifCond .ne 9, 3) := dk_154 0 9 (dk_at dksX3_read_1 11 rfl rfl)
theorem dX3_read_36 : decode cX3_read 36 = .ok (.aload_n 0, 1) := dk_42 (dk_at dksX3_read_1 14 rfl rfl)
theorem dX3_read_37 : decode cX3_read 37 = .ok (.iconst 1, 1) := dk_4 (dk_at dksX3_read_1 15 rfl rfl)
theorem dX3_read_38 : decode cX3_read 38 = .ok (.invokevirtual 51, 3) := dk_182 0 51 (dk_at dksX3_read_1 16 rfl rfl)
theorem dX3_read_41 : decode cX3_read 41 = .ok (.athrow, 1) := dk_191 (dk_at dksX3_read_1 19 rfl rfl)
theorem dX3_read_42 : decode cX3_read 42 = .ok (.aload_n 0, 1) := dk_42 (dk_at dksX3_read_1 20 rfl rfl)
theorem dX3_read_43 : decode cX3_read 43 = .ok (.invokevirtual 86, 3) := dk_182 0 86 (dk_at dksX3_read_1 21 rfl rfl)
theorem dX3_read_46 : decode cX3_read 46 = .ok (.aload_n 0, 1) := dk_42 (dk_at dksX3_read_2 0 rfl rfl)
theorem dX3_read_47 : decode cX3_read 47 = .ok (.getfield 12, 3) := dk_180 0 12 (dk_at dksX3_read_2 1 rfl rfl)
theorem dX3_read_50 : decode cX3_read 50 = .ok (.aload_n 0, 1) := dk_42 (dk_at dksX3_read_2 4 rfl rfl)
theorem dX3_read_51 : decode cX3_read 51 = .ok (.iconst 1, 1) := dk_4 (dk_at dksX3_read_2 5 rfl rfl)
theorem dX3_read_52 : decode cX3_read 52 = .ok (.iconst 4, 1) := dk_7 (dk_at dksX3_read_2 6 rfl rfl)
theorem dX3_read_53 : decode cX3_read 53 = .ok (.invokevirtual 89, 3) := dk_182 0 89 (dk_at dksX3_read_2 7 rfl rfl)
theorem dX3_read_56 : decode cX3_read 56 = .ok (.putfield 93, 3) := dk_181 0 93 (dk_at dksX3_read_2 10 rfl rfl)
theorem dX3_read_59 : decode cX3_read 59 = .ok (.aload_n 0, 1) := dk_42 (dk_at dksX3_read_2 13 rfl rfl)
theorem dX3_read_60 : decode cX3_read 60 = .ok (.getfield 12, 3) := dk_180 0 12 (dk_at dksX3_read_2 14 rfl rfl)
theorem dX3_read_63 : decode cX3_read 63 = .ok (.aload_n 0, 1) := dk_42 (dk_at dksX3_read_2 17 rfl rfl)
theorem dX3_read_64 : decode cX3_read 64 = .ok (.iconst 2, 1) := dk_5 (dk_at dksX3_read_2 18 rfl rfl)
theorem dX3_read_65 : decode cX3_read 65 = .ok (.bipush 16, 2) := dk_16 16 (dk_at dksX3_read_2 19 rfl rfl)
theorem dX3_read_67 : decode cX3_read 67 = .ok (.invokevirtual 89, 3) := dk_182 0 89 (dk_at dksX3_read_2 21 rfl rfl)
theorem dX3_read_70 : decode cX3_read 70 = .ok (.putfield 96, 3) := dk_181 0 96 (dk_at dksX3_read_3 0 rfl rfl)
theorem dX3_read_73 : decode cX3_read 73 = .ok (.aload_n 0, 1) := dk_42 (dk_at dksX3_read_3 3 rfl rfl)
theorem dX3_read_74 : decode cX3_read 74 = .ok (.getfield 12, 3) := dk_180 0 12 (dk_at dksX3_read_3 4 rfl rfl)
theorem dX3_read_77 : decode cX3_read 77 = .ok (.iconst 0, 1) := dk_3 (dk_at dksX3_read_3 7 rfl rfl)
theorem dX3_read_78 : decode cX3_read 78 = .ok (.putfield 99, 3) := dk_181 0 99 (dk_at dksX3_read_3 8 rfl rfl)
theorem dX3_read_81 : decode cX3_read 81 = .ok (.aload_n 0, 1) := dk_42 (dk_at dksX3_read_3 11 rfl rfl)
theorem dX3_read_82 : decode cX3_read 82 = .ok (.getfield 12, 3) := dk_180 0 12 (dk_at dksX3_read_3 12 rfl rfl)
theorem dX3_read_85 : decode cX3_read 85 = .ok (.iconst 0, 1) := dk_3 (dk_at dksX3_read_3 15 rfl rfl)
theorem dX3_read_86 : decode cX3_read 86 = .ok (.putfield 102, 3) := dk_181 0 102 (dk_at dksX3_read_3 16 rfl rfl)
theorem dX3_read_89 : decode cX3_read 89 = .ok (.aload_n 0, 1) := dk_42 (dk_at dksX3_read_3 19 rfl rfl)
theorem dX3_read_90 : decode cX3_read 90 = .ok (.getfield 12, 3) := dk_180 0 12 (dk_at dksX3_read_3 20 rfl rfl)
theorem dX3_read_93 : decode cX3_read 93 = .ok (.iconst 0, 1) := dk_3 (dk_at dksX3_read_3 23 rfl rfl)
theorem dX3_read_94 : decode cX3_read 94 = .ok (.putfield 105, 3) := dk_181 0 105 (dk_at dksX3_read_4 0 rfl rfl)
theorem dX3_read_97 : decode cX3_read 97 = .ok (.aload_n 0, 1) := dk_42 (dk_at dksX3_read_4 3 rfl rfl)
theorem dX3_read_98 : decode cX3_read 98 = .ok (.getfield 12, 3) := dk_180 0 12 (dk_at dksX3_read_4 4 rfl rfl)
theorem dX3_read_101 : decode cX3_read 101 = .ok (.iconst 0, 1) := dk_3 (dk_at dksX3_read_4 7 rfl rfl)
theorem dX3_read_102 : decode cX3_read 102 = .ok (.putfield 108, 3) := dk_181 0 108 (dk_at dksX3_read_4 8 rfl rfl)
theorem dX3_read_105 : decode cX3_read 105 = .ok (.iconst 0, 1) := dk_3 (dk_at dksX3_read_4 11 rfl rfl)
theorem dX3_read_106 : decode cX3_read 106 = .ok (.istore_n 1, 1) := dk_60 (dk_at dksX3_read_4 12 rfl rfl)
theorem dX3_read_107 : decode cX3_read 107 = .ok (.iload_n 1, 1) := dk_27 (dk_at dksX3_read_4 13 rfl rfl)
theorem dX3_read_108 : decode cX3_read 108 = .ok (.bipush 16, 2) := dk_16 16 (dk_at dksX3_read_4 14 rfl rfl)
theorem dX3_read_110 : decode cX3_read 110 = .ok (.if_icmp .ge 39, 3) := dk_162 0 39 (dk_at dksX3_read_4 16 rfl rfl)
theorem dX3_read_113 : decode cX3_read 113 = .ok (.aload_n 0, 1) := dk_42 (dk_at dksX3_read_4 19 rfl rfl)
theorem dX3_read_114 : decode cX3_read 114 = .ok (.getfield 12, 3) := dk_180 0 12 (dk_at dksX3_read_4 20 rfl rfl)
theorem dX3_read_117 : decode cX3_read 117 = .ok (.getfield 111, 3) := dk_180 0 111 (dk_at dksX3_read_5 0 rfl rfl)
theorem dX3_read_120 : decode cX3_read 120 = .ok (.iload_n 1, 1) := dk_27 (dk_at dksX3_read_5 3 rfl rfl)
theorem dX3_read_121 : decode cX3_read 121 = .ok (.iconst 0, 1) := dk_3 (dk_at dksX3_read_5 4 rfl rfl)
theorem dX3_read_122 : decode cX3_read 122 = .ok (.iastore, 1) := dk_79 (dk_at dksX3_read_5 5 rfl rfl)
theorem dX3_read_123 : decode cX3_read 123 = .ok (.aload_n 0, 1) := dk_42 (dk_at dksX3_read_5 6 rfl rfl)
theorem dX3_read_124 : decode cX3_read 124 = .ok (.getfield 12, 3) := dk_180 0 12 (dk_at dksX3_read_5 7 rfl rfl)
theorem dX3_read_127 : decode cX3_read 127 = .ok (.getfield 115, 3) := dk_180 0 115 (dk_at dksX3_read_5 10 rfl rfl)
theorem dX3_read_130 : decode cX3_read 130 = .ok (.iload_n 1, 1) := dk_27 (dk_at dksX3_read_5 13 rfl rfl)
theorem dX3_read_131 : decode cX3_read 131 = .ok (.iconst 0, 1) := dk_3 (dk_at dksX3_read_5 14 rfl rfl)
theorem dX3_read_132 : decode cX3_read 132 = .ok (.iastore, 1) := dk_79 (dk_at dksX3_read_5 15 rfl rfl)
theorem dX3_read_133 : decode cX3_read 133 = .ok (.aload_n 0, 1) := dk_42 (dk_at dksX3_read_5 16 rfl rfl)
theorem dX3_read_134 : decode cX3_read 134 = .ok (.getfield 12, 3) := dk_180 0 12 (dk_at dksX3_read_5 17 rfl rfl)
theorem dX3_read_137 : decode cX3_read 137 = .ok (.getfield 118, 3) := dk_180 0 118 (dk_at dksX3_read_5 20 rfl rfl)
theorem dX3_read_140 : decode cX3_read 140 = .ok (.iload_n 1, 1) := dk_27 (dk_at dksX3_read_5 23 rfl rfl)
theorem dX3_read_141 : decode cX3_read 141 = .ok (.iconst 0, 1) := dk_3 (dk_at dksX3_read_6 0 rfl rfl)
theorem dX3_read_142 : decode cX3_read 142 = .ok (.iastore, 1) := dk_79 (dk_at dksX3_read_6 1 rfl rfl)
theorem dX3_read_143 : decode cX3_read 143 = .ok (.iinc 1 1, 3) := dk_132 1 1 (dk_at dksX3_read_6 2 rfl rfl)
theorem dX3_read_146 : decode cX3_read 146 = .ok (.goto (-39), 3) := dk_167 255 217 (dk_at dksX3_read_6 5 rfl rfl)
theorem dX3_read_149 : decode cX3_read 149 = .ok (.aload_n 0, 1) := dk_42 (dk_at dksX3_read_6 8 rfl rfl)
theorem dX3_read_150 : decode cX3_read 150 = .ok (.getfield 45, 3) := dk_180 0 45 (dk_at dksX3_read_6 9 rfl rfl)
theorem dX3_read_153 : decode cX3_read 153 = .ok (.ifCond .eq 16, 3) := dk_153 0 16 (dk_at dksX3_read_6 12 rfl rfl)
theorem dX3_read_156 : decode cX3_read 156 = .ok (.aload_n 0, 1) := dk_42 (dk_at dksX3_read_6 15 rfl rfl)
theorem dX3_read_157 : decode cX3_read 157 = .ok (.aload_n 0, 1) := dk_42 (dk_at dksX3_read_6 16 rfl rfl)
theorem dX3_read_158 : decode cX3_read 158 = .ok (.getfield 45, 3) := dk_180 0 45 (dk_at dksX3_read_6 17 rfl rfl)
theorem dX3_read_161 : decode cX3_read 161 = .ok (.aload_n 0, 1) := dk_42 (dk_at dksX3_read_6 20 rfl rfl)
theorem dX3_read_162 : decode cX3_read 162 = .ok (.getfield 48, 3) := dk_180 0 48 (dk_at dksX3_read_6 21 rfl rfl)
theorem dX3_read_165 : decode cX3_read 165 = .ok (.invokevirtual 42, 3) := dk_182 0 42 (dk_at dksX3_read_7 0 rfl rfl)
theorem dX3_read_168 : decode cX3_read 168 = .ok (.athrow, 1) := dk_191 (dk_at dksX3_read_7 3 rfl rfl)
theorem dX3_read_169 : decode cX3_read 169 = .ok (.aload_n 0, 1) := dk_42 (dk_at dksX3_read_7 4 rfl rfl)
theorem dX3_read_170 : decode cX3_read 170 = .ok (.invokevirtual 121, 3) := dk_182 0 121 (dk_at dksX3_read_7 5 rfl rfl)
theorem dX3_read_173 : decode cX3_read 173 = .ok (.aload_n 0, 1) := dk_42 (dk_at dksX3_read_7 8 rfl rfl)
theorem dX3_read_174 : decode cX3_read 174 = .ok (.getfield 45, 3) := dk_180 0 45 (dk_at dksX3_read_7 9 rfl rfl)
theorem dX3_read_177 : decode cX3_read 177 = .ok (.ifCond .eq 16, 3) := dk_153 0 16 (dk_at dksX3_read_7 12 rfl rfl)
theorem dX3_read_180 : decode cX3_read 180 = .ok (.aload_n 0, 1) := dk_42 (dk_at dksX3_read_7 15 rfl rfl)
theorem dX3_read_181 : decode cX3_read 181 = .ok (.aload_n 0, 1) := dk_42 (dk_at dksX3_read_7 16 rfl rfl)
theorem dX3_read_182 : decode cX3_read 182 = .ok (.getfield 45, 3) := dk_180 0 45 (dk_at dksX3_read_7 17 rfl rfl)
theorem dX3_read_185 : decode cX3_read 185 = .ok (.aload_n 0, 1) := dk_42 (dk_at dksX3_read_7 20 rfl rfl)
theorem dX3_read_186 : decode cX3_read 186 = .ok (.getfield 48, 3) := dk_180 0 48 (dk_at dksX3_read_7 21 rfl rfl)
theorem dX3_read_189 : decode cX3_read 189 = .ok (.invokevirtual 42, 3) := dk_182 0 42 (dk_at dksX3_read_8 0 rfl rfl)
theorem dX3_read_192 : decode cX3_read 192 = .ok (.athrow, 1) := dk_191 (dk_at dksX3_read_8 3 rfl rfl)
theorem dX3_read_193 : decode cX3_read 193 = .ok (.aload_n 0, 1) := dk_42 (dk_at dksX3_read_8 4 rfl rfl)
theorem dX3_read_194 : decode cX3_read 194 = .ok (.getfield 12, 3) := dk_180 0 12 (dk_at dksX3_read_8 5 rfl rfl)
theorem dX3_read_197 : decode cX3_read 197 = .ok (.aload_n 0, 1) := dk_42 (dk_at dksX3_read_8 8 rfl rfl)
theorem dX3_read_198 : decode cX3_read 198 = .ok (.getfield 12, 3) := dk_180 0 12 (dk_at dksX3_read_8 9 rfl rfl)
theorem dX3_read_201 : decode cX3_read 201 = .ok (.getfield 105, 3) := dk_180 0 105 (dk_at dksX3_read_8 12 rfl rfl)
theorem dX3_read_204 : decode cX3_read 204 = .ok (.putfield 124, 3) := dk_181 0 124 (dk_at dksX3_read_8 15 rfl rfl)
theorem dX3_read_207 : decode cX3_read 207 = .ok (.return_, 1) := dk_177 (dk_at dksX3_read_8 18 rfl rfl)
abbrev cX3_check : ByteArray := prog_8_method_6_code
def yX3_check : MethodName := ⟨RX3, "check", "()V"⟩
def dkwX3_check_0 : List UInt8 := [42, 180, 0, 18, 180, 0, 55, 42, 180, 0, 38, 51, 7, 160, 0, 9, 42, 4, 182, 0, 51, 191, 177]
abbrev dktX3_check_0 : List UInt8 := dkwX3_check_0 ++ []
theorem dksX3_check_0 : cX3_check.data.toList.drop 0 = dktX3_check_0 := by decide +kernel
theorem dX3_check_0 : decode cX3_check 0 = .ok (.aload_n 0, 1) := dk_42 (dk_at dksX3_check_0 0 rfl rfl)
theorem dX3_check_1 : decode cX3_check 1 = .ok (.getfield 18, 3) := dk_180 0 18 (dk_at dksX3_check_0 1 rfl rfl)
theorem dX3_check_4 : decode cX3_check 4 = .ok (.getfield 55, 3) := dk_180 0 55 (dk_at dksX3_check_0 4 rfl rfl)
theorem dX3_check_7 : decode cX3_check 7 = .ok (.aload_n 0, 1) := dk_42 (dk_at dksX3_check_0 7 rfl rfl)
theorem dX3_check_8 : decode cX3_check 8 = .ok (.getfield 38, 3) := dk_180 0 38 (dk_at dksX3_check_0 8 rfl rfl)
theorem dX3_check_11 : decode cX3_check 11 = .ok (.baload, 1) := dk_51 (dk_at dksX3_check_0 11 rfl rfl)
theorem dX3_check_12 : decode cX3_check 12 = .ok (.iconst 4, 1) := dk_7 (dk_at dksX3_check_0 12 rfl rfl)
theorem dX3_check_13 : decode cX3_check 13 = .ok (.if_icmp .ne 9, 3) := dk_160 0 9 (dk_at dksX3_check_0 13 rfl rfl)
theorem dX3_check_16 : decode cX3_check 16 = .ok (.aload_n 0, 1) := dk_42 (dk_at dksX3_check_0 16 rfl rfl)
theorem dX3_check_17 : decode cX3_check 17 = .ok (.iconst 1, 1) := dk_4 (dk_at dksX3_check_0 17 rfl rfl)
theorem dX3_check_18 : decode cX3_check 18 = .ok (.invokevirtual 51, 3) := dk_182 0 51 (dk_at dksX3_check_0 18 rfl rfl)
theorem dX3_check_21 : decode cX3_check 21 = .ok (.athrow, 1) := dk_191 (dk_at dksX3_check_0 21 rfl rfl)
theorem dX3_check_22 : decode cX3_check 22 = .ok (.return_, 1) := dk_177 (dk_at dksX3_check_0 22 rfl rfl)
abbrev cX3_wrong : ByteArray := prog_8_method_3_code
def yX3_wrong : MethodName := ⟨RX3, "wrong", "(I)LSpinStrip$Fault;"⟩
def dkwX3_wrong_0 : List UInt8 := [42, 27, 42, 180, 0, 38, 182, 0, 42, 176]
abbrev dktX3_wrong_0 : List UInt8 := dkwX3_wrong_0 ++ []
theorem dksX3_wrong_0 : cX3_wrong.data.toList.drop 0 = dktX3_wrong_0 := by decide +kernel
theorem dX3_wrong_0 : decode cX3_wrong 0 = .ok (.aload_n 0, 1) := dk_42 (dk_at dksX3_wrong_0 0 rfl rfl)
theorem dX3_wrong_1 : decode cX3_wrong 1 = .ok (.iload_n 1, 1) := dk_27 (dk_at dksX3_wrong_0 1 rfl rfl)
theorem dX3_wrong_2 : decode cX3_wrong 2 = .ok (.aload_n 0, 1) := dk_42 (dk_at dksX3_wrong_0 2 rfl rfl)
theorem dX3_wrong_3 : decode cX3_wrong 3 = .ok (.getfield 38, 3) := dk_180 0 38 (dk_at dksX3_wrong_0 3 rfl rfl)
theorem dX3_wrong_6 : decode cX3_wrong 6 = .ok (.invokevirtual 42, 3) := dk_182 0 42 (dk_at dksX3_wrong_0 6 rfl rfl)
theorem dX3_wrong_9 : decode cX3_wrong 9 = .ok (.areturn, 1) := dk_176 (dk_at dksX3_wrong_0 9 rfl rfl)
abbrev cX3_wrongAt : ByteArray := prog_8_method_2_code
def yX3_wrongAt : MethodName := ⟨RX3, "wrongAt", "(II)LSpinStrip$Fault;"⟩
def dkwX3_wrongAt_0 : List UInt8 := [42, 180, 0, 22, 27, 42, 180, 0, 18, 180, 0, 26, 28, 53, 182, 0, 32, 176]
abbrev dktX3_wrongAt_0 : List UInt8 := dkwX3_wrongAt_0 ++ []
theorem dksX3_wrongAt_0 : cX3_wrongAt.data.toList.drop 0 = dktX3_wrongAt_0 := by decide +kernel
theorem dX3_wrongAt_0 : decode cX3_wrongAt 0 = .ok (.aload_n 0, 1) := dk_42 (dk_at dksX3_wrongAt_0 0 rfl rfl)
theorem dX3_wrongAt_1 : decode cX3_wrongAt 1 = .ok (.getfield 22, 3) := dk_180 0 22 (dk_at dksX3_wrongAt_0 1 rfl rfl)
theorem dX3_wrongAt_4 : decode cX3_wrongAt 4 = .ok (.iload_n 1, 1) := dk_27 (dk_at dksX3_wrongAt_0 4 rfl rfl)
theorem dX3_wrongAt_5 : decode cX3_wrongAt 5 = .ok (.aload_n 0, 1) := dk_42 (dk_at dksX3_wrongAt_0 5 rfl rfl)
theorem dX3_wrongAt_6 : decode cX3_wrongAt 6 = .ok (.getfield 18, 3) := dk_180 0 18 (dk_at dksX3_wrongAt_0 6 rfl rfl)
theorem dX3_wrongAt_9 : decode cX3_wrongAt 9 = .ok (.getfield 26, 3) := dk_180 0 26 (dk_at dksX3_wrongAt_0 9 rfl rfl)
theorem dX3_wrongAt_12 : decode cX3_wrongAt 12 = .ok (.iload_n 2, 1) := dk_28 (dk_at dksX3_wrongAt_0 12 rfl rfl)
theorem dX3_wrongAt_13 : decode cX3_wrongAt 13 = .ok (.saload, 1) := dk_53 (dk_at dksX3_wrongAt_0 13 rfl rfl)
theorem dX3_wrongAt_14 : decode cX3_wrongAt 14 = .ok (.invokevirtual 32, 3) := dk_182 0 32 (dk_at dksX3_wrongAt_0 14 rfl rfl)
theorem dX3_wrongAt_17 : decode cX3_wrongAt 17 = .ok (.areturn, 1) := dk_176 (dk_at dksX3_wrongAt_0 17 rfl rfl)
abbrev cX3_goes : ByteArray := prog_8_method_14_code
def yX3_goes : MethodName := ⟨RX3, "goes", "()V"⟩
def dkwX3_goes_1 : List UInt8 := [180, 0, 18, 180, 0, 55, 42, 180, 0, 38, 51, 6, 159, 0, 10, 42, 182, 0, 134, 167, 255, 236, 177]
abbrev dktX3_goes_1 : List UInt8 := dkwX3_goes_1 ++ []
def dkwX3_goes_0 : List UInt8 := [42, 3, 181, 0, 38, 42, 182, 0, 62, 42, 182, 0, 72, 87, 42, 182, 0, 72, 87, 42, 182, 0, 131, 42]
abbrev dktX3_goes_0 : List UInt8 := dkwX3_goes_0 ++ dktX3_goes_1
theorem dksX3_goes_0 : cX3_goes.data.toList.drop 0 = dktX3_goes_0 := by decide +kernel
theorem dksX3_goes_1 : cX3_goes.data.toList.drop 24 = dktX3_goes_1 := dk_seg dksX3_goes_0 24 rfl rfl
theorem dX3_goes_0 : decode cX3_goes 0 = .ok (.aload_n 0, 1) := dk_42 (dk_at dksX3_goes_0 0 rfl rfl)
theorem dX3_goes_1 : decode cX3_goes 1 = .ok (.iconst 0, 1) := dk_3 (dk_at dksX3_goes_0 1 rfl rfl)
theorem dX3_goes_2 : decode cX3_goes 2 = .ok (.putfield 38, 3) := dk_181 0 38 (dk_at dksX3_goes_0 2 rfl rfl)
theorem dX3_goes_5 : decode cX3_goes 5 = .ok (.aload_n 0, 1) := dk_42 (dk_at dksX3_goes_0 5 rfl rfl)
theorem dX3_goes_6 : decode cX3_goes 6 = .ok (.invokevirtual 62, 3) := dk_182 0 62 (dk_at dksX3_goes_0 6 rfl rfl)
theorem dX3_goes_9 : decode cX3_goes 9 = .ok (.aload_n 0, 1) := dk_42 (dk_at dksX3_goes_0 9 rfl rfl)
theorem dX3_goes_10 : decode cX3_goes 10 = .ok (.invokevirtual 72, 3) := dk_182 0 72 (dk_at dksX3_goes_0 10 rfl rfl)
theorem dX3_goes_13 : decode cX3_goes 13 = .ok (.pop, 1) := dk_87 (dk_at dksX3_goes_0 13 rfl rfl)
theorem dX3_goes_14 : decode cX3_goes 14 = .ok (.aload_n 0, 1) := dk_42 (dk_at dksX3_goes_0 14 rfl rfl)
theorem dX3_goes_15 : decode cX3_goes 15 = .ok (.invokevirtual 72, 3) := dk_182 0 72 (dk_at dksX3_goes_0 15 rfl rfl)
theorem dX3_goes_18 : decode cX3_goes 18 = .ok (.pop, 1) := dk_87 (dk_at dksX3_goes_0 18 rfl rfl)
theorem dX3_goes_19 : decode cX3_goes 19 = .ok (.aload_n 0, 1) := dk_42 (dk_at dksX3_goes_0 19 rfl rfl)
theorem dX3_goes_20 : decode cX3_goes 20 = .ok (.invokevirtual 131, 3) := dk_182 0 131 (dk_at dksX3_goes_0 20 rfl rfl)
theorem dX3_goes_23 : decode cX3_goes 23 = .ok (.aload_n 0, 1) := dk_42 (dk_at dksX3_goes_0 23 rfl rfl)
theorem dX3_goes_24 : decode cX3_goes 24 = .ok (.getfield 18, 3) := dk_180 0 18 (dk_at dksX3_goes_1 0 rfl rfl)
theorem dX3_goes_27 : decode cX3_goes 27 = .ok (.getfield 55, 3) := dk_180 0 55 (dk_at dksX3_goes_1 3 rfl rfl)
theorem dX3_goes_30 : decode cX3_goes 30 = .ok (.aload_n 0, 1) := dk_42 (dk_at dksX3_goes_1 6 rfl rfl)
theorem dX3_goes_31 : decode cX3_goes 31 = .ok (.getfield 38, 3) := dk_180 0 38 (dk_at dksX3_goes_1 7 rfl rfl)
theorem dX3_goes_34 : decode cX3_goes 34 = .ok (.baload, 1) := dk_51 (dk_at dksX3_goes_1 10 rfl rfl)
theorem dX3_goes_35 : decode cX3_goes 35 = .ok (.iconst 3, 1) := dk_6 (dk_at dksX3_goes_1 11 rfl rfl)
theorem dX3_goes_36 : decode cX3_goes 36 = .ok (.if_icmp .eq 10, 3) := dk_159 0 10 (dk_at dksX3_goes_1 12 rfl rfl)
theorem dX3_goes_39 : decode cX3_goes 39 = .ok (.aload_n 0, 1) := dk_42 (dk_at dksX3_goes_1 15 rfl rfl)
theorem dX3_goes_40 : decode cX3_goes 40 = .ok (.invokevirtual 134, 3) := dk_182 0 134 (dk_at dksX3_goes_1 16 rfl rfl)
theorem dX3_goes_43 : decode cX3_goes 43 = .ok (.goto (-20), 3) := dk_167 255 236 (dk_at dksX3_goes_1 19 rfl rfl)
theorem dX3_goes_46 : decode cX3_goes 46 = .ok (.return_, 1) := dk_177 (dk_at dksX3_goes_1 22 rfl rfl)
abbrev cX3_pass : ByteArray := prog_8_method_5_code
def yX3_pass : MethodName := ⟨RX3, "pass", "()V"⟩
def dkwX3_pass_1 : List UInt8 := [181, 0, 38, 177]
abbrev dktX3_pass_1 : List UInt8 := dkwX3_pass_1 ++ []
def dkwX3_pass_0 : List UInt8 := [42, 180, 0, 38, 17, 1, 144, 161, 0, 9, 42, 5, 182, 0, 51, 191, 42, 89, 180, 0, 38, 4, 96]
abbrev dktX3_pass_0 : List UInt8 := dkwX3_pass_0 ++ dktX3_pass_1
theorem dksX3_pass_0 : cX3_pass.data.toList.drop 0 = dktX3_pass_0 := by decide +kernel
theorem dksX3_pass_1 : cX3_pass.data.toList.drop 23 = dktX3_pass_1 := dk_seg dksX3_pass_0 23 rfl rfl
theorem dX3_pass_0 : decode cX3_pass 0 = .ok (.aload_n 0, 1) := dk_42 (dk_at dksX3_pass_0 0 rfl rfl)
theorem dX3_pass_1 : decode cX3_pass 1 = .ok (.getfield 38, 3) := dk_180 0 38 (dk_at dksX3_pass_0 1 rfl rfl)
theorem dX3_pass_4 : decode cX3_pass 4 = .ok (.sipush 400, 3) := dk_17 1 144 (dk_at dksX3_pass_0 4 rfl rfl)
theorem dX3_pass_7 : decode cX3_pass 7 = .ok (.if_icmp .lt 9, 3) := dk_161 0 9 (dk_at dksX3_pass_0 7 rfl rfl)
theorem dX3_pass_10 : decode cX3_pass 10 = .ok (.aload_n 0, 1) := dk_42 (dk_at dksX3_pass_0 10 rfl rfl)
theorem dX3_pass_11 : decode cX3_pass 11 = .ok (.iconst 2, 1) := dk_5 (dk_at dksX3_pass_0 11 rfl rfl)
theorem dX3_pass_12 : decode cX3_pass 12 = .ok (.invokevirtual 51, 3) := dk_182 0 51 (dk_at dksX3_pass_0 12 rfl rfl)
theorem dX3_pass_15 : decode cX3_pass 15 = .ok (.athrow, 1) := dk_191 (dk_at dksX3_pass_0 15 rfl rfl)
theorem dX3_pass_16 : decode cX3_pass 16 = .ok (.aload_n 0, 1) := dk_42 (dk_at dksX3_pass_0 16 rfl rfl)
theorem dX3_pass_17 : decode cX3_pass 17 = .ok (.dup, 1) := dk_89 (dk_at dksX3_pass_0 17 rfl rfl)
theorem dX3_pass_18 : decode cX3_pass 18 = .ok (.getfield 38, 3) := dk_180 0 38 (dk_at dksX3_pass_0 18 rfl rfl)
theorem dX3_pass_21 : decode cX3_pass 21 = .ok (.iconst 1, 1) := dk_4 (dk_at dksX3_pass_0 21 rfl rfl)
theorem dX3_pass_22 : decode cX3_pass 22 = .ok (.iadd, 1) := dk_96 (dk_at dksX3_pass_0 22 rfl rfl)
theorem dX3_pass_23 : decode cX3_pass 23 = .ok (.putfield 38, 3) := dk_181 0 38 (dk_at dksX3_pass_1 0 rfl rfl)
theorem dX3_pass_26 : decode cX3_pass 26 = .ok (.return_, 1) := dk_177 (dk_at dksX3_pass_1 3 rfl rfl)
abbrev cX3_number : ByteArray := prog_8_method_7_code
def yX3_number : MethodName := ⟨RX3, "number", "()I"⟩
def dkwX3_number_1 : List UInt8 := [182, 0, 51, 191, 42, 182, 0, 62, 42, 180, 0, 38, 4, 100, 172]
abbrev dktX3_number_1 : List UInt8 := dkwX3_number_1 ++ []
def dkwX3_number_0 : List UInt8 := [42, 182, 0, 59, 42, 180, 0, 18, 180, 0, 55, 42, 180, 0, 38, 51, 4, 159, 0, 9, 42, 4]
abbrev dktX3_number_0 : List UInt8 := dkwX3_number_0 ++ dktX3_number_1
theorem dksX3_number_0 : cX3_number.data.toList.drop 0 = dktX3_number_0 := by decide +kernel
theorem dksX3_number_1 : cX3_number.data.toList.drop 22 = dktX3_number_1 := dk_seg dksX3_number_0 22 rfl rfl
theorem dX3_number_0 : decode cX3_number 0 = .ok (.aload_n 0, 1) := dk_42 (dk_at dksX3_number_0 0 rfl rfl)
theorem dX3_number_1 : decode cX3_number 1 = .ok (.invokevirtual 59, 3) := dk_182 0 59 (dk_at dksX3_number_0 1 rfl rfl)
theorem dX3_number_4 : decode cX3_number 4 = .ok (.aload_n 0, 1) := dk_42 (dk_at dksX3_number_0 4 rfl rfl)
theorem dX3_number_5 : decode cX3_number 5 = .ok (.getfield 18, 3) := dk_180 0 18 (dk_at dksX3_number_0 5 rfl rfl)
theorem dX3_number_8 : decode cX3_number 8 = .ok (.getfield 55, 3) := dk_180 0 55 (dk_at dksX3_number_0 8 rfl rfl)
theorem dX3_number_11 : decode cX3_number 11 = .ok (.aload_n 0, 1) := dk_42 (dk_at dksX3_number_0 11 rfl rfl)
theorem dX3_number_12 : decode cX3_number 12 = .ok (.getfield 38, 3) := dk_180 0 38 (dk_at dksX3_number_0 12 rfl rfl)
theorem dX3_number_15 : decode cX3_number 15 = .ok (.baload, 1) := dk_51 (dk_at dksX3_number_0 15 rfl rfl)
theorem dX3_number_16 : decode cX3_number 16 = .ok (.iconst 1, 1) := dk_4 (dk_at dksX3_number_0 16 rfl rfl)
theorem dX3_number_17 : decode cX3_number 17 = .ok (.if_icmp .eq 9, 3) := dk_159 0 9 (dk_at dksX3_number_0 17 rfl rfl)
theorem dX3_number_20 : decode cX3_number 20 = .ok (.aload_n 0, 1) := dk_42 (dk_at dksX3_number_0 20 rfl rfl)
theorem dX3_number_21 : decode cX3_number 21 = .ok (.iconst 1, 1) := dk_4 (dk_at dksX3_number_0 21 rfl rfl)
theorem dX3_number_22 : decode cX3_number 22 = .ok (.invokevirtual 51, 3) := dk_182 0 51 (dk_at dksX3_number_1 0 rfl rfl)
theorem dX3_number_25 : decode cX3_number 25 = .ok (.athrow, 1) := dk_191 (dk_at dksX3_number_1 3 rfl rfl)
theorem dX3_number_26 : decode cX3_number 26 = .ok (.aload_n 0, 1) := dk_42 (dk_at dksX3_number_1 4 rfl rfl)
theorem dX3_number_27 : decode cX3_number 27 = .ok (.invokevirtual 62, 3) := dk_182 0 62 (dk_at dksX3_number_1 5 rfl rfl)
theorem dX3_number_30 : decode cX3_number 30 = .ok (.aload_n 0, 1) := dk_42 (dk_at dksX3_number_1 8 rfl rfl)
theorem dX3_number_31 : decode cX3_number 31 = .ok (.getfield 38, 3) := dk_180 0 38 (dk_at dksX3_number_1 9 rfl rfl)
theorem dX3_number_34 : decode cX3_number 34 = .ok (.iconst 1, 1) := dk_4 (dk_at dksX3_number_1 12 rfl rfl)
theorem dX3_number_35 : decode cX3_number 35 = .ok (.isub, 1) := dk_100 (dk_at dksX3_number_1 13 rfl rfl)
theorem dX3_number_36 : decode cX3_number 36 = .ok (.ireturn, 1) := dk_172 (dk_at dksX3_number_1 14 rfl rfl)
abbrev cX3_stop : ByteArray := prog_8_method_9_code
def yX3_stop : MethodName := ⟨RX3, "stop", "()V"⟩
def dkwX3_stop_1 : List UInt8 := [182, 0, 51, 191, 42, 182, 0, 62, 177]
abbrev dktX3_stop_1 : List UInt8 := dkwX3_stop_1 ++ []
def dkwX3_stop_0 : List UInt8 := [42, 182, 0, 59, 42, 180, 0, 18, 42, 180, 0, 38, 16, 59, 182, 0, 69, 154, 0, 9, 42, 4]
abbrev dktX3_stop_0 : List UInt8 := dkwX3_stop_0 ++ dktX3_stop_1
theorem dksX3_stop_0 : cX3_stop.data.toList.drop 0 = dktX3_stop_0 := by decide +kernel
theorem dksX3_stop_1 : cX3_stop.data.toList.drop 22 = dktX3_stop_1 := dk_seg dksX3_stop_0 22 rfl rfl
theorem dX3_stop_0 : decode cX3_stop 0 = .ok (.aload_n 0, 1) := dk_42 (dk_at dksX3_stop_0 0 rfl rfl)
theorem dX3_stop_1 : decode cX3_stop 1 = .ok (.invokevirtual 59, 3) := dk_182 0 59 (dk_at dksX3_stop_0 1 rfl rfl)
theorem dX3_stop_4 : decode cX3_stop 4 = .ok (.aload_n 0, 1) := dk_42 (dk_at dksX3_stop_0 4 rfl rfl)
theorem dX3_stop_5 : decode cX3_stop 5 = .ok (.getfield 18, 3) := dk_180 0 18 (dk_at dksX3_stop_0 5 rfl rfl)
theorem dX3_stop_8 : decode cX3_stop 8 = .ok (.aload_n 0, 1) := dk_42 (dk_at dksX3_stop_0 8 rfl rfl)
theorem dX3_stop_9 : decode cX3_stop 9 = .ok (.getfield 38, 3) := dk_180 0 38 (dk_at dksX3_stop_0 9 rfl rfl)
theorem dX3_stop_12 : decode cX3_stop 12 = .ok (.bipush 59, 2) := dk_16 59 (dk_at dksX3_stop_0 12 rfl rfl)
theorem dX3_stop_14 : decode cX3_stop 14 = .ok (.invokevirtual 69, 3) := dk_182 0 69 (dk_at dksX3_stop_0 14 rfl rfl)
theorem dX3_stop_17 : decode cX3_stop 17 = .ok (.ifCond .ne 9, 3) := dk_154 0 9 (dk_at dksX3_stop_0 17 rfl rfl)
theorem dX3_stop_20 : decode cX3_stop 20 = .ok (.aload_n 0, 1) := dk_42 (dk_at dksX3_stop_0 20 rfl rfl)
theorem dX3_stop_21 : decode cX3_stop 21 = .ok (.iconst 1, 1) := dk_4 (dk_at dksX3_stop_0 21 rfl rfl)
theorem dX3_stop_22 : decode cX3_stop 22 = .ok (.invokevirtual 51, 3) := dk_182 0 51 (dk_at dksX3_stop_1 0 rfl rfl)
theorem dX3_stop_25 : decode cX3_stop 25 = .ok (.athrow, 1) := dk_191 (dk_at dksX3_stop_1 3 rfl rfl)
theorem dX3_stop_26 : decode cX3_stop 26 = .ok (.aload_n 0, 1) := dk_42 (dk_at dksX3_stop_1 4 rfl rfl)
theorem dX3_stop_27 : decode cX3_stop 27 = .ok (.invokevirtual 62, 3) := dk_182 0 62 (dk_at dksX3_stop_1 5 rfl rfl)
theorem dX3_stop_30 : decode cX3_stop 30 = .ok (.return_, 1) := dk_177 (dk_at dksX3_stop_1 8 rfl rfl)
abbrev cX3_line : ByteArray := prog_8_method_15_code
def yX3_line : MethodName := ⟨RX3, "line", "()V"⟩
def dkwX3_line_7 : List UInt8 := [182, 0, 143, 87, 42, 182, 0, 131, 177]
abbrev dktX3_line_7 : List UInt8 := dkwX3_line_7 ++ []
def dkwX3_line_6 : List UInt8 := [87, 42, 16, 8, 16, 9, 182, 0, 140, 87, 167, 0, 16, 42, 182, 0, 72, 87, 167, 0, 8, 42]
abbrev dktX3_line_6 : List UInt8 := dkwX3_line_6 ++ dktX3_line_7
def dkwX3_line_5 : List UInt8 := [182, 0, 143, 87, 167, 0, 46, 42, 182, 0, 72, 87, 42, 182, 0, 143, 87, 167, 0, 33, 42, 182, 0, 72]
abbrev dktX3_line_5 : List UInt8 := dkwX3_line_5 ++ dktX3_line_6
def dkwX3_line_4 : List UInt8 := [42, 4, 5, 182, 0, 140, 87, 167, 0, 66, 42, 182, 0, 72, 87, 42, 4, 5, 182, 0, 140, 87, 42]
abbrev dktX3_line_4 : List UInt8 := dkwX3_line_4 ++ dktX3_line_5
def dkwX3_line_3 : List UInt8 := [170, 0, 0, 0, 0, 110, 0, 0, 0, 4, 0, 0, 0, 10, 0, 0, 0, 42, 0, 0, 0, 52, 0, 0, 0, 72, 0, 0, 0, 85, 0, 0, 0, 110, 0, 0, 0, 110, 0, 0, 0, 102]
abbrev dktX3_line_3 : List UInt8 := dkwX3_line_3 ++ dktX3_line_4
def dkwX3_line_2 : List UInt8 := [27, 16, 8, 159, 0, 9, 27, 16, 9, 160, 0, 9, 42, 4, 182, 0, 51, 191, 42, 182, 0, 62, 27]
abbrev dktX3_line_2 : List UInt8 := dkwX3_line_2 ++ dktX3_line_3
def dkwX3_line_1 : List UInt8 := [180, 0, 137, 42, 180, 0, 38, 53, 167, 0, 4, 2, 60, 27, 4, 161, 0, 21, 27, 16, 10, 163, 0, 15]
abbrev dktX3_line_1 : List UInt8 := dkwX3_line_1 ++ dktX3_line_2
def dkwX3_line_0 : List UInt8 := [42, 182, 0, 59, 42, 180, 0, 18, 180, 0, 55, 42, 180, 0, 38, 51, 154, 0, 18, 42, 180, 0, 18]
abbrev dktX3_line_0 : List UInt8 := dkwX3_line_0 ++ dktX3_line_1
theorem dksX3_line_0 : cX3_line.data.toList.drop 0 = dktX3_line_0 := by decide +kernel
theorem dksX3_line_1 : cX3_line.data.toList.drop 23 = dktX3_line_1 := dk_seg dksX3_line_0 23 rfl rfl
theorem dksX3_line_2 : cX3_line.data.toList.drop 47 = dktX3_line_2 := dk_seg dksX3_line_1 24 rfl rfl
theorem dksX3_line_3 : cX3_line.data.toList.drop 70 = dktX3_line_3 := dk_seg dksX3_line_2 23 rfl rfl
theorem dksX3_line_4 : cX3_line.data.toList.drop 112 = dktX3_line_4 := dk_seg dksX3_line_3 42 rfl rfl
theorem dksX3_line_5 : cX3_line.data.toList.drop 135 = dktX3_line_5 := dk_seg dksX3_line_4 23 rfl rfl
theorem dksX3_line_6 : cX3_line.data.toList.drop 159 = dktX3_line_6 := dk_seg dksX3_line_5 24 rfl rfl
theorem dksX3_line_7 : cX3_line.data.toList.drop 181 = dktX3_line_7 := dk_seg dksX3_line_6 22 rfl rfl
theorem dX3_line_0 : decode cX3_line 0 = .ok (.aload_n 0, 1) := dk_42 (dk_at dksX3_line_0 0 rfl rfl)
theorem dX3_line_1 : decode cX3_line 1 = .ok (.invokevirtual 59, 3) := dk_182 0 59 (dk_at dksX3_line_0 1 rfl rfl)
theorem dX3_line_4 : decode cX3_line 4 = .ok (.aload_n 0, 1) := dk_42 (dk_at dksX3_line_0 4 rfl rfl)
theorem dX3_line_5 : decode cX3_line 5 = .ok (.getfield 18, 3) := dk_180 0 18 (dk_at dksX3_line_0 5 rfl rfl)
theorem dX3_line_8 : decode cX3_line 8 = .ok (.getfield 55, 3) := dk_180 0 55 (dk_at dksX3_line_0 8 rfl rfl)
theorem dX3_line_11 : decode cX3_line 11 = .ok (.aload_n 0, 1) := dk_42 (dk_at dksX3_line_0 11 rfl rfl)
theorem dX3_line_12 : decode cX3_line 12 = .ok (.getfield 38, 3) := dk_180 0 38 (dk_at dksX3_line_0 12 rfl rfl)
theorem dX3_line_15 : decode cX3_line 15 = .ok (.baload, 1) := dk_51 (dk_at dksX3_line_0 15 rfl rfl)
theorem dX3_line_16 : decode cX3_line 16 = .ok (.ifCond .ne 18, 3) := dk_154 0 18 (dk_at dksX3_line_0 16 rfl rfl)
theorem dX3_line_19 : decode cX3_line 19 = .ok (.aload_n 0, 1) := dk_42 (dk_at dksX3_line_0 19 rfl rfl)
theorem dX3_line_20 : decode cX3_line 20 = .ok (.getfield 18, 3) := dk_180 0 18 (dk_at dksX3_line_0 20 rfl rfl)
theorem dX3_line_23 : decode cX3_line 23 = .ok (.getfield 137, 3) := dk_180 0 137 (dk_at dksX3_line_1 0 rfl rfl)
theorem dX3_line_26 : decode cX3_line 26 = .ok (.aload_n 0, 1) := dk_42 (dk_at dksX3_line_1 3 rfl rfl)
theorem dX3_line_27 : decode cX3_line 27 = .ok (.getfield 38, 3) := dk_180 0 38 (dk_at dksX3_line_1 4 rfl rfl)
theorem dX3_line_30 : decode cX3_line 30 = .ok (.saload, 1) := dk_53 (dk_at dksX3_line_1 7 rfl rfl)
theorem dX3_line_31 : decode cX3_line 31 = .ok (.goto 4, 3) := dk_167 0 4 (dk_at dksX3_line_1 8 rfl rfl)
theorem dX3_line_34 : decode cX3_line 34 = .ok (.iconst (-1), 1) := dk_2 (dk_at dksX3_line_1 11 rfl rfl)
theorem dX3_line_35 : decode cX3_line 35 = .ok (.istore_n 1, 1) := dk_60 (dk_at dksX3_line_1 12 rfl rfl)
theorem dX3_line_36 : decode cX3_line 36 = .ok (.iload_n 1, 1) := dk_27 (dk_at dksX3_line_1 13 rfl rfl)
theorem dX3_line_37 : decode cX3_line 37 = .ok (.iconst 1, 1) := dk_4 (dk_at dksX3_line_1 14 rfl rfl)
theorem dX3_line_38 : decode cX3_line 38 = .ok (.if_icmp .lt 21, 3) := dk_161 0 21 (dk_at dksX3_line_1 15 rfl rfl)
theorem dX3_line_41 : decode cX3_line 41 = .ok (.iload_n 1, 1) := dk_27 (dk_at dksX3_line_1 18 rfl rfl)
theorem dX3_line_42 : decode cX3_line 42 = .ok (.bipush 10, 2) := dk_16 10 (dk_at dksX3_line_1 19 rfl rfl)
theorem dX3_line_44 : decode cX3_line 44 = .ok (.if_icmp .gt 15, 3) := dk_163 0 15 (dk_at dksX3_line_1 21 rfl rfl)
theorem dX3_line_47 : decode cX3_line 47 = .ok (.iload_n 1, 1) := dk_27 (dk_at dksX3_line_2 0 rfl rfl)
theorem dX3_line_48 : decode cX3_line 48 = .ok (.bipush 8, 2) := dk_16 8 (dk_at dksX3_line_2 1 rfl rfl)
theorem dX3_line_50 : decode cX3_line 50 = .ok (.if_icmp .eq 9, 3) := dk_159 0 9 (dk_at dksX3_line_2 3 rfl rfl)
theorem dX3_line_53 : decode cX3_line 53 = .ok (.iload_n 1, 1) := dk_27 (dk_at dksX3_line_2 6 rfl rfl)
theorem dX3_line_54 : decode cX3_line 54 = .ok (.bipush 9, 2) := dk_16 9 (dk_at dksX3_line_2 7 rfl rfl)
theorem dX3_line_56 : decode cX3_line 56 = .ok (.if_icmp .ne 9, 3) := dk_160 0 9 (dk_at dksX3_line_2 9 rfl rfl)
theorem dX3_line_59 : decode cX3_line 59 = .ok (.aload_n 0, 1) := dk_42 (dk_at dksX3_line_2 12 rfl rfl)
theorem dX3_line_60 : decode cX3_line 60 = .ok (.iconst 1, 1) := dk_4 (dk_at dksX3_line_2 13 rfl rfl)
theorem dX3_line_61 : decode cX3_line 61 = .ok (.invokevirtual 51, 3) := dk_182 0 51 (dk_at dksX3_line_2 14 rfl rfl)
theorem dX3_line_64 : decode cX3_line 64 = .ok (.athrow, 1) := dk_191 (dk_at dksX3_line_2 17 rfl rfl)
theorem dX3_line_65 : decode cX3_line 65 = .ok (.aload_n 0, 1) := dk_42 (dk_at dksX3_line_2 18 rfl rfl)
theorem dX3_line_66 : decode cX3_line 66 = .ok (.invokevirtual 62, 3) := dk_182 0 62 (dk_at dksX3_line_2 19 rfl rfl)
theorem dX3_line_69 : decode cX3_line 69 = .ok (.iload_n 1, 1) := dk_27 (dk_at dksX3_line_2 22 rfl rfl)
theorem dX3_line_70 : decode cX3_line 70 = .ok (.tableswitch 110 4 10 #[42, 52, 72, 85, 110, 110, 102], 42) := by decide +kernel
theorem dX3_line_112 : decode cX3_line 112 = .ok (.aload_n 0, 1) := dk_42 (dk_at dksX3_line_4 0 rfl rfl)
theorem dX3_line_113 : decode cX3_line 113 = .ok (.iconst 1, 1) := dk_4 (dk_at dksX3_line_4 1 rfl rfl)
theorem dX3_line_114 : decode cX3_line 114 = .ok (.iconst 2, 1) := dk_5 (dk_at dksX3_line_4 2 rfl rfl)
theorem dX3_line_115 : decode cX3_line 115 = .ok (.invokevirtual 140, 3) := dk_182 0 140 (dk_at dksX3_line_4 3 rfl rfl)
theorem dX3_line_118 : decode cX3_line 118 = .ok (.pop, 1) := dk_87 (dk_at dksX3_line_4 6 rfl rfl)
theorem dX3_line_119 : decode cX3_line 119 = .ok (.goto 66, 3) := dk_167 0 66 (dk_at dksX3_line_4 7 rfl rfl)
theorem dX3_line_122 : decode cX3_line 122 = .ok (.aload_n 0, 1) := dk_42 (dk_at dksX3_line_4 10 rfl rfl)
theorem dX3_line_123 : decode cX3_line 123 = .ok (.invokevirtual 72, 3) := dk_182 0 72 (dk_at dksX3_line_4 11 rfl rfl)
theorem dX3_line_126 : decode cX3_line 126 = .ok (.pop, 1) := dk_87 (dk_at dksX3_line_4 14 rfl rfl)
theorem dX3_line_127 : decode cX3_line 127 = .ok (.aload_n 0, 1) := dk_42 (dk_at dksX3_line_4 15 rfl rfl)
theorem dX3_line_128 : decode cX3_line 128 = .ok (.iconst 1, 1) := dk_4 (dk_at dksX3_line_4 16 rfl rfl)
theorem dX3_line_129 : decode cX3_line 129 = .ok (.iconst 2, 1) := dk_5 (dk_at dksX3_line_4 17 rfl rfl)
theorem dX3_line_130 : decode cX3_line 130 = .ok (.invokevirtual 140, 3) := dk_182 0 140 (dk_at dksX3_line_4 18 rfl rfl)
theorem dX3_line_133 : decode cX3_line 133 = .ok (.pop, 1) := dk_87 (dk_at dksX3_line_4 21 rfl rfl)
theorem dX3_line_134 : decode cX3_line 134 = .ok (.aload_n 0, 1) := dk_42 (dk_at dksX3_line_4 22 rfl rfl)
theorem dX3_line_135 : decode cX3_line 135 = .ok (.invokevirtual 143, 3) := dk_182 0 143 (dk_at dksX3_line_5 0 rfl rfl)
theorem dX3_line_138 : decode cX3_line 138 = .ok (.pop, 1) := dk_87 (dk_at dksX3_line_5 3 rfl rfl)
theorem dX3_line_139 : decode cX3_line 139 = .ok (.goto 46, 3) := dk_167 0 46 (dk_at dksX3_line_5 4 rfl rfl)
theorem dX3_line_142 : decode cX3_line 142 = .ok (.aload_n 0, 1) := dk_42 (dk_at dksX3_line_5 7 rfl rfl)
theorem dX3_line_143 : decode cX3_line 143 = .ok (.invokevirtual 72, 3) := dk_182 0 72 (dk_at dksX3_line_5 8 rfl rfl)
theorem dX3_line_146 : decode cX3_line 146 = .ok (.pop, 1) := dk_87 (dk_at dksX3_line_5 11 rfl rfl)
theorem dX3_line_147 : decode cX3_line 147 = .ok (.aload_n 0, 1) := dk_42 (dk_at dksX3_line_5 12 rfl rfl)
theorem dX3_line_148 : decode cX3_line 148 = .ok (.invokevirtual 143, 3) := dk_182 0 143 (dk_at dksX3_line_5 13 rfl rfl)
theorem dX3_line_151 : decode cX3_line 151 = .ok (.pop, 1) := dk_87 (dk_at dksX3_line_5 16 rfl rfl)
theorem dX3_line_152 : decode cX3_line 152 = .ok (.goto 33, 3) := dk_167 0 33 (dk_at dksX3_line_5 17 rfl rfl)
theorem dX3_line_155 : decode cX3_line 155 = .ok (.aload_n 0, 1) := dk_42 (dk_at dksX3_line_5 20 rfl rfl)
theorem dX3_line_156 : decode cX3_line 156 = .ok (.invokevirtual 72, 3) := dk_182 0 72 (dk_at dksX3_line_5 21 rfl rfl)
theorem dX3_line_159 : decode cX3_line 159 = .ok (.pop, 1) := dk_87 (dk_at dksX3_line_6 0 rfl rfl)
theorem dX3_line_160 : decode cX3_line 160 = .ok (.aload_n 0, 1) := dk_42 (dk_at dksX3_line_6 1 rfl rfl)
theorem dX3_line_161 : decode cX3_line 161 = .ok (.bipush 8, 2) := dk_16 8 (dk_at dksX3_line_6 2 rfl rfl)
theorem dX3_line_163 : decode cX3_line 163 = .ok (.bipush 9, 2) := dk_16 9 (dk_at dksX3_line_6 4 rfl rfl)
theorem dX3_line_165 : decode cX3_line 165 = .ok (.invokevirtual 140, 3) := dk_182 0 140 (dk_at dksX3_line_6 6 rfl rfl)
theorem dX3_line_168 : decode cX3_line 168 = .ok (.pop, 1) := dk_87 (dk_at dksX3_line_6 9 rfl rfl)
theorem dX3_line_169 : decode cX3_line 169 = .ok (.goto 16, 3) := dk_167 0 16 (dk_at dksX3_line_6 10 rfl rfl)
theorem dX3_line_172 : decode cX3_line 172 = .ok (.aload_n 0, 1) := dk_42 (dk_at dksX3_line_6 13 rfl rfl)
theorem dX3_line_173 : decode cX3_line 173 = .ok (.invokevirtual 72, 3) := dk_182 0 72 (dk_at dksX3_line_6 14 rfl rfl)
theorem dX3_line_176 : decode cX3_line 176 = .ok (.pop, 1) := dk_87 (dk_at dksX3_line_6 17 rfl rfl)
theorem dX3_line_177 : decode cX3_line 177 = .ok (.goto 8, 3) := dk_167 0 8 (dk_at dksX3_line_6 18 rfl rfl)
theorem dX3_line_180 : decode cX3_line 180 = .ok (.aload_n 0, 1) := dk_42 (dk_at dksX3_line_6 21 rfl rfl)
theorem dX3_line_181 : decode cX3_line 181 = .ok (.invokevirtual 143, 3) := dk_182 0 143 (dk_at dksX3_line_7 0 rfl rfl)
theorem dX3_line_184 : decode cX3_line 184 = .ok (.pop, 1) := dk_87 (dk_at dksX3_line_7 3 rfl rfl)
theorem dX3_line_185 : decode cX3_line 185 = .ok (.aload_n 0, 1) := dk_42 (dk_at dksX3_line_7 4 rfl rfl)
theorem dX3_line_186 : decode cX3_line 186 = .ok (.invokevirtual 131, 3) := dk_182 0 131 (dk_at dksX3_line_7 5 rfl rfl)
theorem dX3_line_189 : decode cX3_line 189 = .ok (.return_, 1) := dk_177 (dk_at dksX3_line_7 8 rfl rfl)
abbrev cX3_either : ByteArray := prog_8_method_8_code
def yX3_either : MethodName := ⟨RX3, "either", "(II)Z"⟩
def dkwX3_either_2 : List UInt8 := [42, 180, 0, 38, 4, 100, 28, 182, 0, 65, 172]
abbrev dktX3_either_2 : List UInt8 := dkwX3_either_2 ++ []
def dkwX3_either_1 : List UInt8 := [180, 0, 38, 28, 182, 0, 65, 154, 0, 9, 42, 4, 182, 0, 51, 191, 42, 182, 0, 62, 42, 180, 0, 18]
abbrev dktX3_either_1 : List UInt8 := dkwX3_either_1 ++ dktX3_either_2
def dkwX3_either_0 : List UInt8 := [42, 182, 0, 59, 42, 180, 0, 18, 42, 180, 0, 38, 27, 182, 0, 65, 154, 0, 24, 42, 180, 0, 18, 42]
abbrev dktX3_either_0 : List UInt8 := dkwX3_either_0 ++ dktX3_either_1
theorem dksX3_either_0 : cX3_either.data.toList.drop 0 = dktX3_either_0 := by decide +kernel
theorem dksX3_either_1 : cX3_either.data.toList.drop 24 = dktX3_either_1 := dk_seg dksX3_either_0 24 rfl rfl
theorem dksX3_either_2 : cX3_either.data.toList.drop 48 = dktX3_either_2 := dk_seg dksX3_either_1 24 rfl rfl
theorem dX3_either_0 : decode cX3_either 0 = .ok (.aload_n 0, 1) := dk_42 (dk_at dksX3_either_0 0 rfl rfl)
theorem dX3_either_1 : decode cX3_either 1 = .ok (.invokevirtual 59, 3) := dk_182 0 59 (dk_at dksX3_either_0 1 rfl rfl)
theorem dX3_either_4 : decode cX3_either 4 = .ok (.aload_n 0, 1) := dk_42 (dk_at dksX3_either_0 4 rfl rfl)
theorem dX3_either_5 : decode cX3_either 5 = .ok (.getfield 18, 3) := dk_180 0 18 (dk_at dksX3_either_0 5 rfl rfl)
theorem dX3_either_8 : decode cX3_either 8 = .ok (.aload_n 0, 1) := dk_42 (dk_at dksX3_either_0 8 rfl rfl)
theorem dX3_either_9 : decode cX3_either 9 = .ok (.getfield 38, 3) := dk_180 0 38 (dk_at dksX3_either_0 9 rfl rfl)
theorem dX3_either_12 : decode cX3_either 12 = .ok (.iload_n 1, 1) := dk_27 (dk_at dksX3_either_0 12 rfl rfl)
theorem dX3_either_13 : decode cX3_either 13 = .ok (.invokevirtual 65, 3) := dk_182 0 65 (dk_at dksX3_either_0 13 rfl rfl)
theorem dX3_either_16 : decode cX3_either 16 = .ok (.ifCond .ne 24, 3) := dk_154 0 24 (dk_at dksX3_either_0 16 rfl rfl)
theorem dX3_either_19 : decode cX3_either 19 = .ok (.aload_n 0, 1) := dk_42 (dk_at dksX3_either_0 19 rfl rfl)
theorem dX3_either_20 : decode cX3_either 20 = .ok (.getfield 18, 3) := dk_180 0 18 (dk_at dksX3_either_0 20 rfl rfl)
theorem dX3_either_23 : decode cX3_either 23 = .ok (.aload_n 0, 1) := dk_42 (dk_at dksX3_either_0 23 rfl rfl)
theorem dX3_either_24 : decode cX3_either 24 = .ok (.getfield 38, 3) := dk_180 0 38 (dk_at dksX3_either_1 0 rfl rfl)
theorem dX3_either_27 : decode cX3_either 27 = .ok (.iload_n 2, 1) := dk_28 (dk_at dksX3_either_1 3 rfl rfl)
theorem dX3_either_28 : decode cX3_either 28 = .ok (.invokevirtual 65, 3) := dk_182 0 65 (dk_at dksX3_either_1 4 rfl rfl)
theorem dX3_either_31 : decode cX3_either 31 = .ok (.ifCond .ne 9, 3) := dk_154 0 9 (dk_at dksX3_either_1 7 rfl rfl)
theorem dX3_either_34 : decode cX3_either 34 = .ok (.aload_n 0, 1) := dk_42 (dk_at dksX3_either_1 10 rfl rfl)
theorem dX3_either_35 : decode cX3_either 35 = .ok (.iconst 1, 1) := dk_4 (dk_at dksX3_either_1 11 rfl rfl)
theorem dX3_either_36 : decode cX3_either 36 = .ok (.invokevirtual 51, 3) := dk_182 0 51 (dk_at dksX3_either_1 12 rfl rfl)
theorem dX3_either_39 : decode cX3_either 39 = .ok (.athrow, 1) := dk_191 (dk_at dksX3_either_1 15 rfl rfl)
theorem dX3_either_40 : decode cX3_either 40 = .ok (.aload_n 0, 1) := dk_42 (dk_at dksX3_either_1 16 rfl rfl)
theorem dX3_either_41 : decode cX3_either 41 = .ok (.invokevirtual 62, 3) := dk_182 0 62 (dk_at dksX3_either_1 17 rfl rfl)
theorem dX3_either_44 : decode cX3_either 44 = .ok (.aload_n 0, 1) := dk_42 (dk_at dksX3_either_1 20 rfl rfl)
theorem dX3_either_45 : decode cX3_either 45 = .ok (.getfield 18, 3) := dk_180 0 18 (dk_at dksX3_either_1 21 rfl rfl)
theorem dX3_either_48 : decode cX3_either 48 = .ok (.aload_n 0, 1) := dk_42 (dk_at dksX3_either_2 0 rfl rfl)
theorem dX3_either_49 : decode cX3_either 49 = .ok (.getfield 38, 3) := dk_180 0 38 (dk_at dksX3_either_2 1 rfl rfl)
theorem dX3_either_52 : decode cX3_either 52 = .ok (.iconst 1, 1) := dk_4 (dk_at dksX3_either_2 4 rfl rfl)
theorem dX3_either_53 : decode cX3_either 53 = .ok (.isub, 1) := dk_100 (dk_at dksX3_either_2 5 rfl rfl)
theorem dX3_either_54 : decode cX3_either 54 = .ok (.iload_n 2, 1) := dk_28 (dk_at dksX3_either_2 6 rfl rfl)
theorem dX3_either_55 : decode cX3_either 55 = .ok (.invokevirtual 65, 3) := dk_182 0 65 (dk_at dksX3_either_2 7 rfl rfl)
theorem dX3_either_58 : decode cX3_either 58 = .ok (.ireturn, 1) := dk_172 (dk_at dksX3_either_2 10 rfl rfl)
abbrev cX3_j : ByteArray := prog_8_method_10_code
def yX3_j : MethodName := ⟨RX3, "j", "()I"⟩
def dkwX3_j_1 : List UInt8 := [42, 182, 0, 72, 172]
abbrev dktX3_j_1 : List UInt8 := dkwX3_j_1 ++ []
def dkwX3_j_0 : List UInt8 := [42, 182, 0, 59, 42, 180, 0, 18, 42, 180, 0, 38, 16, 45, 182, 0, 69, 153, 0, 7, 42, 182, 0, 62]
abbrev dktX3_j_0 : List UInt8 := dkwX3_j_0 ++ dktX3_j_1
theorem dksX3_j_0 : cX3_j.data.toList.drop 0 = dktX3_j_0 := by decide +kernel
theorem dksX3_j_1 : cX3_j.data.toList.drop 24 = dktX3_j_1 := dk_seg dksX3_j_0 24 rfl rfl
theorem dX3_j_0 : decode cX3_j 0 = .ok (.aload_n 0, 1) := dk_42 (dk_at dksX3_j_0 0 rfl rfl)
theorem dX3_j_1 : decode cX3_j 1 = .ok (.invokevirtual 59, 3) := dk_182 0 59 (dk_at dksX3_j_0 1 rfl rfl)
theorem dX3_j_4 : decode cX3_j 4 = .ok (.aload_n 0, 1) := dk_42 (dk_at dksX3_j_0 4 rfl rfl)
theorem dX3_j_5 : decode cX3_j 5 = .ok (.getfield 18, 3) := dk_180 0 18 (dk_at dksX3_j_0 5 rfl rfl)
theorem dX3_j_8 : decode cX3_j 8 = .ok (.aload_n 0, 1) := dk_42 (dk_at dksX3_j_0 8 rfl rfl)
theorem dX3_j_9 : decode cX3_j 9 = .ok (.getfield 38, 3) := dk_180 0 38 (dk_at dksX3_j_0 9 rfl rfl)
theorem dX3_j_12 : decode cX3_j 12 = .ok (.bipush 45, 2) := dk_16 45 (dk_at dksX3_j_0 12 rfl rfl)
theorem dX3_j_14 : decode cX3_j 14 = .ok (.invokevirtual 69, 3) := dk_182 0 69 (dk_at dksX3_j_0 14 rfl rfl)
theorem dX3_j_17 : decode cX3_j 17 = .ok (.ifCond .eq 7, 3) := dk_153 0 7 (dk_at dksX3_j_0 17 rfl rfl)
theorem dX3_j_20 : decode cX3_j 20 = .ok (.aload_n 0, 1) := dk_42 (dk_at dksX3_j_0 20 rfl rfl)
theorem dX3_j_21 : decode cX3_j 21 = .ok (.invokevirtual 62, 3) := dk_182 0 62 (dk_at dksX3_j_0 21 rfl rfl)
theorem dX3_j_24 : decode cX3_j 24 = .ok (.aload_n 0, 1) := dk_42 (dk_at dksX3_j_1 0 rfl rfl)
theorem dX3_j_25 : decode cX3_j 25 = .ok (.invokevirtual 72, 3) := dk_182 0 72 (dk_at dksX3_j_1 1 rfl rfl)
theorem dX3_j_28 : decode cX3_j 28 = .ok (.ireturn, 1) := dk_172 (dk_at dksX3_j_1 4 rfl rfl)
abbrev cX3_sized : ByteArray := prog_8_method_13_code
def yX3_sized : MethodName := ⟨RX3, "sized", "(II)I"⟩
def dkwX3_sized_1 : List UInt8 := [42, 180, 0, 12, 180, 0, 93, 104, 16, 16, 164, 0, 9, 42, 6, 27, 182, 0, 79, 29, 172]
abbrev dktX3_sized_1 : List UInt8 := dkwX3_sized_1 ++ []
def dkwX3_sized_0 : List UInt8 := [42, 180, 0, 18, 27, 182, 0, 76, 62, 29, 4, 28, 184, 0, 127, 153, 0, 22, 27, 5, 160, 0, 23, 29]
abbrev dktX3_sized_0 : List UInt8 := dkwX3_sized_0 ++ dktX3_sized_1
theorem dksX3_sized_0 : cX3_sized.data.toList.drop 0 = dktX3_sized_0 := by decide +kernel
theorem dksX3_sized_1 : cX3_sized.data.toList.drop 24 = dktX3_sized_1 := dk_seg dksX3_sized_0 24 rfl rfl
theorem dX3_sized_0 : decode cX3_sized 0 = .ok (.aload_n 0, 1) := dk_42 (dk_at dksX3_sized_0 0 rfl rfl)
theorem dX3_sized_1 : decode cX3_sized 1 = .ok (.getfield 18, 3) := dk_180 0 18 (dk_at dksX3_sized_0 1 rfl rfl)
theorem dX3_sized_4 : decode cX3_sized 4 = .ok (.iload_n 1, 1) := dk_27 (dk_at dksX3_sized_0 4 rfl rfl)
theorem dX3_sized_5 : decode cX3_sized 5 = .ok (.invokevirtual 76, 3) := dk_182 0 76 (dk_at dksX3_sized_0 5 rfl rfl)
theorem dX3_sized_8 : decode cX3_sized 8 = .ok (.istore_n 3, 1) := dk_62 (dk_at dksX3_sized_0 8 rfl rfl)
theorem dX3_sized_9 : decode cX3_sized 9 = .ok (.iload_n 3, 1) := dk_29 (dk_at dksX3_sized_0 9 rfl rfl)
theorem dX3_sized_10 : decode cX3_sized 10 = .ok (.iconst 1, 1) := dk_4 (dk_at dksX3_sized_0 10 rfl rfl)
theorem dX3_sized_11 : decode cX3_sized 11 = .ok (.iload_n 2, 1) := dk_28 (dk_at dksX3_sized_0 11 rfl rfl)
theorem dX3_sized_12 : decode cX3_sized 12 = .ok (.invokestatic 127, 3) := dk_184 0 127 (dk_at dksX3_sized_0 12 rfl rfl)
theorem dX3_sized_15 : decode cX3_sized 15 = .ok (.ifCond .eq 22, 3) := dk_153 0 22 (dk_at dksX3_sized_0 15 rfl rfl)
theorem dX3_sized_18 : decode cX3_sized 18 = .ok (.iload_n 1, 1) := dk_27 (dk_at dksX3_sized_0 18 rfl rfl)
theorem dX3_sized_19 : decode cX3_sized 19 = .ok (.iconst 2, 1) := dk_5 (dk_at dksX3_sized_0 19 rfl rfl)
theorem dX3_sized_20 : decode cX3_sized 20 = .ok (.if_icmp .ne 23, 3) := dk_160 0 23 (dk_at dksX3_sized_0 20 rfl rfl)
theorem dX3_sized_23 : decode cX3_sized 23 = .ok (.iload_n 3, 1) := dk_29 (dk_at dksX3_sized_0 23 rfl rfl)
theorem dX3_sized_24 : decode cX3_sized 24 = .ok (.aload_n 0, 1) := dk_42 (dk_at dksX3_sized_1 0 rfl rfl)
theorem dX3_sized_25 : decode cX3_sized 25 = .ok (.getfield 12, 3) := dk_180 0 12 (dk_at dksX3_sized_1 1 rfl rfl)
theorem dX3_sized_28 : decode cX3_sized 28 = .ok (.getfield 93, 3) := dk_180 0 93 (dk_at dksX3_sized_1 4 rfl rfl)
theorem dX3_sized_31 : decode cX3_sized 31 = .ok (.imul, 1) := dk_104 (dk_at dksX3_sized_1 7 rfl rfl)
theorem dX3_sized_32 : decode cX3_sized 32 = .ok (.bipush 16, 2) := dk_16 16 (dk_at dksX3_sized_1 8 rfl rfl)
theorem dX3_sized_34 : decode cX3_sized 34 = .ok (.if_icmp .le 9, 3) := dk_164 0 9 (dk_at dksX3_sized_1 10 rfl rfl)
theorem dX3_sized_37 : decode cX3_sized 37 = .ok (.aload_n 0, 1) := dk_42 (dk_at dksX3_sized_1 13 rfl rfl)
theorem dX3_sized_38 : decode cX3_sized 38 = .ok (.iconst 3, 1) := dk_6 (dk_at dksX3_sized_1 14 rfl rfl)
theorem dX3_sized_39 : decode cX3_sized 39 = .ok (.iload_n 1, 1) := dk_27 (dk_at dksX3_sized_1 15 rfl rfl)
theorem dX3_sized_40 : decode cX3_sized 40 = .ok (.invokevirtual 79, 3) := dk_182 0 79 (dk_at dksX3_sized_1 16 rfl rfl)
theorem dX3_sized_43 : decode cX3_sized 43 = .ok (.iload_n 3, 1) := dk_29 (dk_at dksX3_sized_1 19 rfl rfl)
theorem dX3_sized_44 : decode cX3_sized 44 = .ok (.ireturn, 1) := dk_172 (dk_at dksX3_sized_1 20 rfl rfl)
abbrev cX3_tell : ByteArray := prog_8_method_4_code
def yX3_tell : MethodName := ⟨RX3, "tell", "(II)V"⟩
def dkwX3_tell_1 : List UInt8 := [42, 180, 0, 45, 161, 0, 4, 177, 42, 27, 181, 0, 45, 42, 28, 181, 0, 48, 177]
abbrev dktX3_tell_1 : List UInt8 := dkwX3_tell_1 ++ []
def dkwX3_tell_0 : List UInt8 := [42, 180, 0, 45, 153, 0, 28, 28, 42, 180, 0, 48, 163, 0, 19, 28, 42, 180, 0, 48, 160, 0, 12, 27]
abbrev dktX3_tell_0 : List UInt8 := dkwX3_tell_0 ++ dktX3_tell_1
theorem dksX3_tell_0 : cX3_tell.data.toList.drop 0 = dktX3_tell_0 := by decide +kernel
theorem dksX3_tell_1 : cX3_tell.data.toList.drop 24 = dktX3_tell_1 := dk_seg dksX3_tell_0 24 rfl rfl
theorem dX3_tell_0 : decode cX3_tell 0 = .ok (.aload_n 0, 1) := dk_42 (dk_at dksX3_tell_0 0 rfl rfl)
theorem dX3_tell_1 : decode cX3_tell 1 = .ok (.getfield 45, 3) := dk_180 0 45 (dk_at dksX3_tell_0 1 rfl rfl)
theorem dX3_tell_4 : decode cX3_tell 4 = .ok (.ifCond .eq 28, 3) := dk_153 0 28 (dk_at dksX3_tell_0 4 rfl rfl)
theorem dX3_tell_7 : decode cX3_tell 7 = .ok (.iload_n 2, 1) := dk_28 (dk_at dksX3_tell_0 7 rfl rfl)
theorem dX3_tell_8 : decode cX3_tell 8 = .ok (.aload_n 0, 1) := dk_42 (dk_at dksX3_tell_0 8 rfl rfl)
theorem dX3_tell_9 : decode cX3_tell 9 = .ok (.getfield 48, 3) := dk_180 0 48 (dk_at dksX3_tell_0 9 rfl rfl)
theorem dX3_tell_12 : decode cX3_tell 12 = .ok (.if_icmp .gt 19, 3) := dk_163 0 19 (dk_at dksX3_tell_0 12 rfl rfl)
theorem dX3_tell_15 : decode cX3_tell 15 = .ok (.iload_n 2, 1) := dk_28 (dk_at dksX3_tell_0 15 rfl rfl)
theorem dX3_tell_16 : decode cX3_tell 16 = .ok (.aload_n 0, 1) := dk_42 (dk_at dksX3_tell_0 16 rfl rfl)
theorem dX3_tell_17 : decode cX3_tell 17 = .ok (.getfield 48, 3) := dk_180 0 48 (dk_at dksX3_tell_0 17 rfl rfl)
theorem dX3_tell_20 : decode cX3_tell 20 = .ok (.if_icmp .ne 12, 3) := dk_160 0 12 (dk_at dksX3_tell_0 20 rfl rfl)
theorem dX3_tell_23 : decode cX3_tell 23 = .ok (.iload_n 1, 1) := dk_27 (dk_at dksX3_tell_0 23 rfl rfl)
theorem dX3_tell_24 : decode cX3_tell 24 = .ok (.aload_n 0, 1) := dk_42 (dk_at dksX3_tell_1 0 rfl rfl)
theorem dX3_tell_25 : decode cX3_tell 25 = .ok (.getfield 45, 3) := dk_180 0 45 (dk_at dksX3_tell_1 1 rfl rfl)
theorem dX3_tell_28 : decode cX3_tell 28 = .ok (.if_icmp .lt 4, 3) := dk_161 0 4 (dk_at dksX3_tell_1 4 rfl rfl)
theorem dX3_tell_31 : decode cX3_tell 31 = .ok (.return_, 1) := dk_177 (dk_at dksX3_tell_1 7 rfl rfl)
theorem dX3_tell_32 : decode cX3_tell 32 = .ok (.aload_n 0, 1) := dk_42 (dk_at dksX3_tell_1 8 rfl rfl)
theorem dX3_tell_33 : decode cX3_tell 33 = .ok (.iload_n 1, 1) := dk_27 (dk_at dksX3_tell_1 9 rfl rfl)
theorem dX3_tell_34 : decode cX3_tell 34 = .ok (.putfield 45, 3) := dk_181 0 45 (dk_at dksX3_tell_1 10 rfl rfl)
theorem dX3_tell_37 : decode cX3_tell 37 = .ok (.aload_n 0, 1) := dk_42 (dk_at dksX3_tell_1 13 rfl rfl)
theorem dX3_tell_38 : decode cX3_tell 38 = .ok (.iload_n 2, 1) := dk_28 (dk_at dksX3_tell_1 14 rfl rfl)
theorem dX3_tell_39 : decode cX3_tell 39 = .ok (.putfield 48, 3) := dk_181 0 48 (dk_at dksX3_tell_1 15 rfl rfl)
theorem dX3_tell_42 : decode cX3_tell 42 = .ok (.return_, 1) := dk_177 (dk_at dksX3_tell_1 18 rfl rfl)
abbrev cX3_tells : ByteArray := prog_8_method_17_code
def yX3_tells : MethodName := ⟨RX3, "tells", "()V"⟩
def dkwX3_tells_2 : List UInt8 := [132, 1, 1, 167, 255, 209, 177]
abbrev dktX3_tells_2 : List UInt8 := dkwX3_tells_2 ++ []
def dkwX3_tells_1 : List UInt8 := [42, 28, 182, 0, 146, 4, 100, 27, 182, 0, 149, 42, 28, 182, 0, 146, 4, 96, 61, 167, 255, 222]
abbrev dktX3_tells_1 : List UInt8 := dkwX3_tells_1 ++ dktX3_tells_2
def dkwX3_tells_0 : List UInt8 := [3, 60, 27, 6, 162, 0, 48, 7, 61, 42, 180, 0, 18, 180, 0, 55, 28, 51, 6, 159, 0, 27, 42, 28]
abbrev dktX3_tells_0 : List UInt8 := dkwX3_tells_0 ++ dktX3_tells_1
theorem dksX3_tells_0 : cX3_tells.data.toList.drop 0 = dktX3_tells_0 := by decide +kernel
theorem dksX3_tells_1 : cX3_tells.data.toList.drop 24 = dktX3_tells_1 := dk_seg dksX3_tells_0 24 rfl rfl
theorem dksX3_tells_2 : cX3_tells.data.toList.drop 46 = dktX3_tells_2 := dk_seg dksX3_tells_1 22 rfl rfl
theorem dX3_tells_0 : decode cX3_tells 0 = .ok (.iconst 0, 1) := dk_3 (dk_at dksX3_tells_0 0 rfl rfl)
theorem dX3_tells_1 : decode cX3_tells 1 = .ok (.istore_n 1, 1) := dk_60 (dk_at dksX3_tells_0 1 rfl rfl)
theorem dX3_tells_2 : decode cX3_tells 2 = .ok (.iload_n 1, 1) := dk_27 (dk_at dksX3_tells_0 2 rfl rfl)
theorem dX3_tells_3 : decode cX3_tells 3 = .ok (.iconst 3, 1) := dk_6 (dk_at dksX3_tells_0 3 rfl rfl)
theorem dX3_tells_4 : decode cX3_tells 4 = .ok (.if_icmp .ge 48, 3) := dk_162 0 48 (dk_at dksX3_tells_0 4 rfl rfl)
theorem dX3_tells_7 : decode cX3_tells 7 = .ok (.iconst 4, 1) := dk_7 (dk_at dksX3_tells_0 7 rfl rfl)
theorem dX3_tells_8 : decode cX3_tells 8 = .ok (.istore_n 2, 1) := dk_61 (dk_at dksX3_tells_0 8 rfl rfl)
theorem dX3_tells_9 : decode cX3_tells 9 = .ok (.aload_n 0, 1) := dk_42 (dk_at dksX3_tells_0 9 rfl rfl)
theorem dX3_tells_10 : decode cX3_tells 10 = .ok (.getfield 18, 3) := dk_180 0 18 (dk_at dksX3_tells_0 10 rfl rfl)
theorem dX3_tells_13 : decode cX3_tells 13 = .ok (.getfield 55, 3) := dk_180 0 55 (dk_at dksX3_tells_0 13 rfl rfl)
theorem dX3_tells_16 : decode cX3_tells 16 = .ok (.iload_n 2, 1) := dk_28 (dk_at dksX3_tells_0 16 rfl rfl)
theorem dX3_tells_17 : decode cX3_tells 17 = .ok (.baload, 1) := dk_51 (dk_at dksX3_tells_0 17 rfl rfl)
theorem dX3_tells_18 : decode cX3_tells 18 = .ok (.iconst 3, 1) := dk_6 (dk_at dksX3_tells_0 18 rfl rfl)
theorem dX3_tells_19 : decode cX3_tells 19 = .ok (.if_icmp .eq 27, 3) := dk_159 0 27 (dk_at dksX3_tells_0 19 rfl rfl)
theorem dX3_tells_22 : decode cX3_tells 22 = .ok (.aload_n 0, 1) := dk_42 (dk_at dksX3_tells_0 22 rfl rfl)
theorem dX3_tells_23 : decode cX3_tells 23 = .ok (.iload_n 2, 1) := dk_28 (dk_at dksX3_tells_0 23 rfl rfl)
theorem dX3_tells_24 : decode cX3_tells 24 = .ok (.aload_n 0, 1) := dk_42 (dk_at dksX3_tells_1 0 rfl rfl)
theorem dX3_tells_25 : decode cX3_tells 25 = .ok (.iload_n 2, 1) := dk_28 (dk_at dksX3_tells_1 1 rfl rfl)
theorem dX3_tells_26 : decode cX3_tells 26 = .ok (.invokevirtual 146, 3) := dk_182 0 146 (dk_at dksX3_tells_1 2 rfl rfl)
theorem dX3_tells_29 : decode cX3_tells 29 = .ok (.iconst 1, 1) := dk_4 (dk_at dksX3_tells_1 5 rfl rfl)
theorem dX3_tells_30 : decode cX3_tells 30 = .ok (.isub, 1) := dk_100 (dk_at dksX3_tells_1 6 rfl rfl)
theorem dX3_tells_31 : decode cX3_tells 31 = .ok (.iload_n 1, 1) := dk_27 (dk_at dksX3_tells_1 7 rfl rfl)
theorem dX3_tells_32 : decode cX3_tells 32 = .ok (.invokevirtual 149, 3) := dk_182 0 149 (dk_at dksX3_tells_1 8 rfl rfl)
theorem dX3_tells_35 : decode cX3_tells 35 = .ok (.aload_n 0, 1) := dk_42 (dk_at dksX3_tells_1 11 rfl rfl)
theorem dX3_tells_36 : decode cX3_tells 36 = .ok (.iload_n 2, 1) := dk_28 (dk_at dksX3_tells_1 12 rfl rfl)
theorem dX3_tells_37 : decode cX3_tells 37 = .ok (.invokevirtual 146, 3) := dk_182 0 146 (dk_at dksX3_tells_1 13 rfl rfl)
theorem dX3_tells_40 : decode cX3_tells 40 = .ok (.iconst 1, 1) := dk_4 (dk_at dksX3_tells_1 16 rfl rfl)
theorem dX3_tells_41 : decode cX3_tells 41 = .ok (.iadd, 1) := dk_96 (dk_at dksX3_tells_1 17 rfl rfl)
theorem dX3_tells_42 : decode cX3_tells 42 = .ok (.istore_n 2, 1) := dk_61 (dk_at dksX3_tells_1 18 rfl rfl)
theorem dX3_tells_43 : decode cX3_tells 43 = .ok (.goto (-34), 3) := dk_167 255 222 (dk_at dksX3_tells_1 19 rfl rfl)
theorem dX3_tells_46 : decode cX3_tells 46 = .ok (.iinc 1 1, 3) := dk_132 1 1 (dk_at dksX3_tells_2 0 rfl rfl)
theorem dX3_tells_49 : decode cX3_tells 49 = .ok (.goto (-47), 3) := dk_167 255 209 (dk_at dksX3_tells_2 3 rfl rfl)
theorem dX3_tells_52 : decode cX3_tells 52 = .ok (.return_, 1) := dk_177 (dk_at dksX3_tells_2 6 rfl rfl)
abbrev cX3_end : ByteArray := prog_8_method_16_code
def yX3_end : MethodName := ⟨RX3, "end", "(I)I"⟩
def dkwX3_end_0 : List UInt8 := [27, 61, 42, 180, 0, 18, 28, 16, 59, 182, 0, 69, 154, 0, 9, 132, 2, 1, 167, 255, 240, 28, 172]
abbrev dktX3_end_0 : List UInt8 := dkwX3_end_0 ++ []
theorem dksX3_end_0 : cX3_end.data.toList.drop 0 = dktX3_end_0 := by decide +kernel
theorem dX3_end_0 : decode cX3_end 0 = .ok (.iload_n 1, 1) := dk_27 (dk_at dksX3_end_0 0 rfl rfl)
theorem dX3_end_1 : decode cX3_end 1 = .ok (.istore_n 2, 1) := dk_61 (dk_at dksX3_end_0 1 rfl rfl)
theorem dX3_end_2 : decode cX3_end 2 = .ok (.aload_n 0, 1) := dk_42 (dk_at dksX3_end_0 2 rfl rfl)
theorem dX3_end_3 : decode cX3_end 3 = .ok (.getfield 18, 3) := dk_180 0 18 (dk_at dksX3_end_0 3 rfl rfl)
theorem dX3_end_6 : decode cX3_end 6 = .ok (.iload_n 2, 1) := dk_28 (dk_at dksX3_end_0 6 rfl rfl)
theorem dX3_end_7 : decode cX3_end 7 = .ok (.bipush 59, 2) := dk_16 59 (dk_at dksX3_end_0 7 rfl rfl)
theorem dX3_end_9 : decode cX3_end 9 = .ok (.invokevirtual 69, 3) := dk_182 0 69 (dk_at dksX3_end_0 9 rfl rfl)
theorem dX3_end_12 : decode cX3_end 12 = .ok (.ifCond .ne 9, 3) := dk_154 0 9 (dk_at dksX3_end_0 12 rfl rfl)
theorem dX3_end_15 : decode cX3_end 15 = .ok (.iinc 2 1, 3) := dk_132 2 1 (dk_at dksX3_end_0 15 rfl rfl)
theorem dX3_end_18 : decode cX3_end 18 = .ok (.goto (-16), 3) := dk_167 255 240 (dk_at dksX3_end_0 18 rfl rfl)
theorem dX3_end_21 : decode cX3_end 21 = .ok (.iload_n 2, 1) := dk_28 (dk_at dksX3_end_0 21 rfl rfl)
theorem dX3_end_22 : decode cX3_end 22 = .ok (.ireturn, 1) := dk_172 (dk_at dksX3_end_0 22 rfl rfl)
abbrev cX3_told : ByteArray := prog_8_method_18_code
def yX3_told : MethodName := ⟨RX3, "told", "(III)V"⟩
def dkwX3_told_7 : List UInt8 := [4, 96, 42, 180, 0, 18, 28, 16, 8, 182, 0, 65, 182, 0, 166, 177]
abbrev dktX3_told_7 : List UInt8 := dkwX3_told_7 ++ []
def dkwX3_told_6 : List UInt8 := [160, 0, 15, 42, 27, 4, 96, 42, 28, 182, 0, 153, 182, 0, 163, 21, 4, 16, 7, 160, 0, 20, 42, 27]
abbrev dktX3_told_6 : List UInt8 := dkwX3_told_6 ++ dktX3_told_7
def dkwX3_told_5 : List UInt8 := [180, 0, 18, 27, 5, 96, 5, 182, 0, 65, 42, 28, 182, 0, 153, 182, 0, 159, 21, 4, 16, 6]
abbrev dktX3_told_5 : List UInt8 := dkwX3_told_5 ++ dktX3_told_6
def dkwX3_told_4 : List UInt8 := [182, 0, 153, 182, 0, 156, 29, 5, 162, 0, 4, 177, 21, 4, 8, 160, 0, 26, 42, 27, 4, 96, 42]
abbrev dktX3_told_4 : List UInt8 := dkwX3_told_4 ++ dktX3_told_5
def dkwX3_told_3 : List UInt8 := [182, 0, 76, 181, 0, 102, 21, 4, 6, 163, 0, 19, 29, 4, 160, 0, 14, 42, 21, 4, 42, 28]
abbrev dktX3_told_3 : List UInt8 := dkwX3_told_3 ++ dktX3_told_4
def dkwX3_told_2 : List UInt8 := [128, 181, 0, 99, 21, 4, 16, 10, 160, 0, 22, 29, 154, 0, 18, 42, 180, 0, 12, 42, 180, 0, 18, 28]
abbrev dktX3_told_2 : List UInt8 := dkwX3_told_2 ++ dktX3_told_3
def dkwX3_told_1 : List UInt8 := [180, 0, 12, 89, 180, 0, 99, 42, 180, 0, 18, 28, 5, 182, 0, 65, 153, 0, 7, 5, 167, 0, 4, 4]
abbrev dktX3_told_1 : List UInt8 := dkwX3_told_1 ++ dktX3_told_2
def dkwX3_told_0 : List UInt8 := [42, 180, 0, 18, 180, 0, 137, 27, 53, 54, 4, 21, 4, 7, 160, 0, 36, 29, 154, 0, 32, 42]
abbrev dktX3_told_0 : List UInt8 := dkwX3_told_0 ++ dktX3_told_1
theorem dksX3_told_0 : cX3_told.data.toList.drop 0 = dktX3_told_0 := by decide +kernel
theorem dksX3_told_1 : cX3_told.data.toList.drop 22 = dktX3_told_1 := dk_seg dksX3_told_0 22 rfl rfl
theorem dksX3_told_2 : cX3_told.data.toList.drop 46 = dktX3_told_2 := dk_seg dksX3_told_1 24 rfl rfl
theorem dksX3_told_3 : cX3_told.data.toList.drop 70 = dktX3_told_3 := dk_seg dksX3_told_2 24 rfl rfl
theorem dksX3_told_4 : cX3_told.data.toList.drop 92 = dktX3_told_4 := dk_seg dksX3_told_3 22 rfl rfl
theorem dksX3_told_5 : cX3_told.data.toList.drop 115 = dktX3_told_5 := dk_seg dksX3_told_4 23 rfl rfl
theorem dksX3_told_6 : cX3_told.data.toList.drop 137 = dktX3_told_6 := dk_seg dksX3_told_5 22 rfl rfl
theorem dksX3_told_7 : cX3_told.data.toList.drop 161 = dktX3_told_7 := dk_seg dksX3_told_6 24 rfl rfl
theorem dX3_told_0 : decode cX3_told 0 = .ok (.aload_n 0, 1) := dk_42 (dk_at dksX3_told_0 0 rfl rfl)
theorem dX3_told_1 : decode cX3_told 1 = .ok (.getfield 18, 3) := dk_180 0 18 (dk_at dksX3_told_0 1 rfl rfl)
theorem dX3_told_4 : decode cX3_told 4 = .ok (.getfield 137, 3) := dk_180 0 137 (dk_at dksX3_told_0 4 rfl rfl)
theorem dX3_told_7 : decode cX3_told 7 = .ok (.iload_n 1, 1) := dk_27 (dk_at dksX3_told_0 7 rfl rfl)
theorem dX3_told_8 : decode cX3_told 8 = .ok (.saload, 1) := dk_53 (dk_at dksX3_told_0 8 rfl rfl)
theorem dX3_told_9 : decode cX3_told 9 = .ok (.istore 4, 2) := dk_54 4 (dk_at dksX3_told_0 9 rfl rfl)
theorem dX3_told_11 : decode cX3_told 11 = .ok (.iload 4, 2) := dk_21 4 (dk_at dksX3_told_0 11 rfl rfl)
theorem dX3_told_13 : decode cX3_told 13 = .ok (.iconst 4, 1) := dk_7 (dk_at dksX3_told_0 13 rfl rfl)
theorem dX3_told_14 : decode cX3_told 14 = .ok (.if_icmp .ne 36, 3) := dk_160 0 36 (dk_at dksX3_told_0 14 rfl rfl)
theorem dX3_told_17 : decode cX3_told 17 = .ok (.iload_n 3, 1) := dk_29 (dk_at dksX3_told_0 17 rfl rfl)
theorem dX3_told_18 : decode cX3_told 18 = .ok (.ifCond .ne 32, 3) := dk_154 0 32 (dk_at dksX3_told_0 18 rfl rfl)
theorem dX3_told_21 : decode cX3_told 21 = .ok (.aload_n 0, 1) := dk_42 (dk_at dksX3_told_0 21 rfl rfl)
theorem dX3_told_22 : decode cX3_told 22 = .ok (.getfield 12, 3) := dk_180 0 12 (dk_at dksX3_told_1 0 rfl rfl)
theorem dX3_told_25 : decode cX3_told 25 = .ok (.dup, 1) := dk_89 (dk_at dksX3_told_1 3 rfl rfl)
theorem dX3_told_26 : decode cX3_told 26 = .ok (.getfield 99, 3) := dk_180 0 99 (dk_at dksX3_told_1 4 rfl rfl)
theorem dX3_told_29 : decode cX3_told 29 = .ok (.aload_n 0, 1) := dk_42 (dk_at dksX3_told_1 7 rfl rfl)
theorem dX3_told_30 : decode cX3_told 30 = .ok (.getfield 18, 3) := dk_180 0 18 (dk_at dksX3_told_1 8 rfl rfl)
theorem dX3_told_33 : decode cX3_told 33 = .ok (.iload_n 2, 1) := dk_28 (dk_at dksX3_told_1 11 rfl rfl)
theorem dX3_told_34 : decode cX3_told 34 = .ok (.iconst 2, 1) := dk_5 (dk_at dksX3_told_1 12 rfl rfl)
theorem dX3_told_35 : decode cX3_told 35 = .ok (.invokevirtual 65, 3) := dk_182 0 65 (dk_at dksX3_told_1 13 rfl rfl)
theorem dX3_told_38 : decode cX3_told 38 = .ok (.ifCond .eq 7, 3) := dk_153 0 7 (dk_at dksX3_told_1 16 rfl rfl)
theorem dX3_told_41 : decode cX3_told 41 = .ok (.iconst 2, 1) := dk_5 (dk_at dksX3_told_1 19 rfl rfl)
theorem dX3_told_42 : decode cX3_told 42 = .ok (.goto 4, 3) := dk_167 0 4 (dk_at dksX3_told_1 20 rfl rfl)
theorem dX3_told_45 : decode cX3_told 45 = .ok (.iconst 1, 1) := dk_4 (dk_at dksX3_told_1 23 rfl rfl)
theorem dX3_told_46 : decode cX3_told 46 = .ok (.ior, 1) := dk_128 (dk_at dksX3_told_2 0 rfl rfl)
theorem dX3_told_47 : decode cX3_told 47 = .ok (.putfield 99, 3) := dk_181 0 99 (dk_at dksX3_told_2 1 rfl rfl)
theorem dX3_told_50 : decode cX3_told 50 = .ok (.iload 4, 2) := dk_21 4 (dk_at dksX3_told_2 4 rfl rfl)
theorem dX3_told_52 : decode cX3_told 52 = .ok (.bipush 10, 2) := dk_16 10 (dk_at dksX3_told_2 6 rfl rfl)
theorem dX3_told_54 : decode cX3_told 54 = .ok (.if_icmp .ne 22, 3) := dk_160 0 22 (dk_at dksX3_told_2 8 rfl rfl)
theorem dX3_told_57 : decode cX3_told 57 = .ok (.iload_n 3, 1) := dk_29 (dk_at dksX3_told_2 11 rfl rfl)
theorem dX3_told_58 : decode cX3_told 58 = .ok (.ifCond .ne 18, 3) := dk_154 0 18 (dk_at dksX3_told_2 12 rfl rfl)
theorem dX3_told_61 : decode cX3_told 61 = .ok (.aload_n 0, 1) := dk_42 (dk_at dksX3_told_2 15 rfl rfl)
theorem dX3_told_62 : decode cX3_told 62 = .ok (.getfield 12, 3) := dk_180 0 12 (dk_at dksX3_told_2 16 rfl rfl)
theorem dX3_told_65 : decode cX3_told 65 = .ok (.aload_n 0, 1) := dk_42 (dk_at dksX3_told_2 19 rfl rfl)
theorem dX3_told_66 : decode cX3_told 66 = .ok (.getfield 18, 3) := dk_180 0 18 (dk_at dksX3_told_2 20 rfl rfl)
theorem dX3_told_69 : decode cX3_told 69 = .ok (.iload_n 2, 1) := dk_28 (dk_at dksX3_told_2 23 rfl rfl)
theorem dX3_told_70 : decode cX3_told 70 = .ok (.invokevirtual 76, 3) := dk_182 0 76 (dk_at dksX3_told_3 0 rfl rfl)
theorem dX3_told_73 : decode cX3_told 73 = .ok (.putfield 102, 3) := dk_181 0 102 (dk_at dksX3_told_3 3 rfl rfl)
theorem dX3_told_76 : decode cX3_told 76 = .ok (.iload 4, 2) := dk_21 4 (dk_at dksX3_told_3 6 rfl rfl)
theorem dX3_told_78 : decode cX3_told 78 = .ok (.iconst 3, 1) := dk_6 (dk_at dksX3_told_3 8 rfl rfl)
theorem dX3_told_79 : decode cX3_told 79 = .ok (.if_icmp .gt 19, 3) := dk_163 0 19 (dk_at dksX3_told_3 9 rfl rfl)
theorem dX3_told_82 : decode cX3_told 82 = .ok (.iload_n 3, 1) := dk_29 (dk_at dksX3_told_3 12 rfl rfl)
theorem dX3_told_83 : decode cX3_told 83 = .ok (.iconst 1, 1) := dk_4 (dk_at dksX3_told_3 13 rfl rfl)
theorem dX3_told_84 : decode cX3_told 84 = .ok (.if_icmp .ne 14, 3) := dk_160 0 14 (dk_at dksX3_told_3 14 rfl rfl)
theorem dX3_told_87 : decode cX3_told 87 = .ok (.aload_n 0, 1) := dk_42 (dk_at dksX3_told_3 17 rfl rfl)
theorem dX3_told_88 : decode cX3_told 88 = .ok (.iload 4, 2) := dk_21 4 (dk_at dksX3_told_3 18 rfl rfl)
theorem dX3_told_90 : decode cX3_told 90 = .ok (.aload_n 0, 1) := dk_42 (dk_at dksX3_told_3 20 rfl rfl)
theorem dX3_told_91 : decode cX3_told 91 = .ok (.iload_n 2, 1) := dk_28 (dk_at dksX3_told_3 21 rfl rfl)
theorem dX3_told_92 : decode cX3_told 92 = .ok (.invokevirtual 153, 3) := dk_182 0 153 (dk_at dksX3_told_4 0 rfl rfl)
theorem dX3_told_95 : decode cX3_told 95 = .ok (.invokevirtual 156, 3) := dk_182 0 156 (dk_at dksX3_told_4 3 rfl rfl)
theorem dX3_told_98 : decode cX3_told 98 = .ok (.iload_n 3, 1) := dk_29 (dk_at dksX3_told_4 6 rfl rfl)
theorem dX3_told_99 : decode cX3_told 99 = .ok (.iconst 2, 1) := dk_5 (dk_at dksX3_told_4 7 rfl rfl)
theorem dX3_told_100 : decode cX3_told 100 = .ok (.if_icmp .ge 4, 3) := dk_162 0 4 (dk_at dksX3_told_4 8 rfl rfl)
theorem dX3_told_103 : decode cX3_told 103 = .ok (.return_, 1) := dk_177 (dk_at dksX3_told_4 11 rfl rfl)
theorem dX3_told_104 : decode cX3_told 104 = .ok (.iload 4, 2) := dk_21 4 (dk_at dksX3_told_4 12 rfl rfl)
theorem dX3_told_106 : decode cX3_told 106 = .ok (.iconst 5, 1) := dk_8 (dk_at dksX3_told_4 14 rfl rfl)
theorem dX3_told_107 : decode cX3_told 107 = .ok (.if_icmp .ne 26, 3) := dk_160 0 26 (dk_at dksX3_told_4 15 rfl rfl)
theorem dX3_told_110 : decode cX3_told 110 = .ok (.aload_n 0, 1) := dk_42 (dk_at dksX3_told_4 18 rfl rfl)
theorem dX3_told_111 : decode cX3_told 111 = .ok (.iload_n 1, 1) := dk_27 (dk_at dksX3_told_4 19 rfl rfl)
theorem dX3_told_112 : decode cX3_told 112 = .ok (.iconst 1, 1) := dk_4 (dk_at dksX3_told_4 20 rfl rfl)
theorem dX3_told_113 : decode cX3_told 113 = .ok (.iadd, 1) := dk_96 (dk_at dksX3_told_4 21 rfl rfl)
theorem dX3_told_114 : decode cX3_told 114 = .ok (.aload_n 0, 1) := dk_42 (dk_at dksX3_told_4 22 rfl rfl)
theorem dX3_told_115 : decode cX3_told 115 = .ok (.getfield 18, 3) := dk_180 0 18 (dk_at dksX3_told_5 0 rfl rfl)
theorem dX3_told_118 : decode cX3_told 118 = .ok (.iload_n 1, 1) := dk_27 (dk_at dksX3_told_5 3 rfl rfl)
theorem dX3_told_119 : decode cX3_told 119 = .ok (.iconst 2, 1) := dk_5 (dk_at dksX3_told_5 4 rfl rfl)
theorem dX3_told_120 : decode cX3_told 120 = .ok (.iadd, 1) := dk_96 (dk_at dksX3_told_5 5 rfl rfl)
theorem dX3_told_121 : decode cX3_told 121 = .ok (.iconst 2, 1) := dk_5 (dk_at dksX3_told_5 6 rfl rfl)
theorem dX3_told_122 : decode cX3_told 122 = .ok (.invokevirtual 65, 3) := dk_182 0 65 (dk_at dksX3_told_5 7 rfl rfl)
theorem dX3_told_125 : decode cX3_told 125 = .ok (.aload_n 0, 1) := dk_42 (dk_at dksX3_told_5 10 rfl rfl)
theorem dX3_told_126 : decode cX3_told 126 = .ok (.iload_n 2, 1) := dk_28 (dk_at dksX3_told_5 11 rfl rfl)
theorem dX3_told_127 : decode cX3_told 127 = .ok (.invokevirtual 153, 3) := dk_182 0 153 (dk_at dksX3_told_5 12 rfl rfl)
theorem dX3_told_130 : decode cX3_told 130 = .ok (.invokevirtual 159, 3) := dk_182 0 159 (dk_at dksX3_told_5 15 rfl rfl)
theorem dX3_told_133 : decode cX3_told 133 = .ok (.iload 4, 2) := dk_21 4 (dk_at dksX3_told_5 18 rfl rfl)
theorem dX3_told_135 : decode cX3_told 135 = .ok (.bipush 6, 2) := dk_16 6 (dk_at dksX3_told_5 20 rfl rfl)
theorem dX3_told_137 : decode cX3_told 137 = .ok (.if_icmp .ne 15, 3) := dk_160 0 15 (dk_at dksX3_told_6 0 rfl rfl)
theorem dX3_told_140 : decode cX3_told 140 = .ok (.aload_n 0, 1) := dk_42 (dk_at dksX3_told_6 3 rfl rfl)
theorem dX3_told_141 : decode cX3_told 141 = .ok (.iload_n 1, 1) := dk_27 (dk_at dksX3_told_6 4 rfl rfl)
theorem dX3_told_142 : decode cX3_told 142 = .ok (.iconst 1, 1) := dk_4 (dk_at dksX3_told_6 5 rfl rfl)
theorem dX3_told_143 : decode cX3_told 143 = .ok (.iadd, 1) := dk_96 (dk_at dksX3_told_6 6 rfl rfl)
theorem dX3_told_144 : decode cX3_told 144 = .ok (.aload_n 0, 1) := dk_42 (dk_at dksX3_told_6 7 rfl rfl)
theorem dX3_told_145 : decode cX3_told 145 = .ok (.iload_n 2, 1) := dk_28 (dk_at dksX3_told_6 8 rfl rfl)
theorem dX3_told_146 : decode cX3_told 146 = .ok (.invokevirtual 153, 3) := dk_182 0 153 (dk_at dksX3_told_6 9 rfl rfl)
theorem dX3_told_149 : decode cX3_told 149 = .ok (.invokevirtual 163, 3) := dk_182 0 163 (dk_at dksX3_told_6 12 rfl rfl)
theorem dX3_told_152 : decode cX3_told 152 = .ok (.iload 4, 2) := dk_21 4 (dk_at dksX3_told_6 15 rfl rfl)
theorem dX3_told_154 : decode cX3_told 154 = .ok (.bipush 7, 2) := dk_16 7 (dk_at dksX3_told_6 17 rfl rfl)
theorem dX3_told_156 : decode cX3_told 156 = .ok (.if_icmp .ne 20, 3) := dk_160 0 20 (dk_at dksX3_told_6 19 rfl rfl)
theorem dX3_told_159 : decode cX3_told 159 = .ok (.aload_n 0, 1) := dk_42 (dk_at dksX3_told_6 22 rfl rfl)
theorem dX3_told_160 : decode cX3_told 160 = .ok (.iload_n 1, 1) := dk_27 (dk_at dksX3_told_6 23 rfl rfl)
theorem dX3_told_161 : decode cX3_told 161 = .ok (.iconst 1, 1) := dk_4 (dk_at dksX3_told_7 0 rfl rfl)
theorem dX3_told_162 : decode cX3_told 162 = .ok (.iadd, 1) := dk_96 (dk_at dksX3_told_7 1 rfl rfl)
theorem dX3_told_163 : decode cX3_told 163 = .ok (.aload_n 0, 1) := dk_42 (dk_at dksX3_told_7 2 rfl rfl)
theorem dX3_told_164 : decode cX3_told 164 = .ok (.getfield 18, 3) := dk_180 0 18 (dk_at dksX3_told_7 3 rfl rfl)
theorem dX3_told_167 : decode cX3_told 167 = .ok (.iload_n 2, 1) := dk_28 (dk_at dksX3_told_7 6 rfl rfl)
theorem dX3_told_168 : decode cX3_told 168 = .ok (.bipush 8, 2) := dk_16 8 (dk_at dksX3_told_7 7 rfl rfl)
theorem dX3_told_170 : decode cX3_told 170 = .ok (.invokevirtual 65, 3) := dk_182 0 65 (dk_at dksX3_told_7 9 rfl rfl)
theorem dX3_told_173 : decode cX3_told 173 = .ok (.invokevirtual 166, 3) := dk_182 0 166 (dk_at dksX3_told_7 12 rfl rfl)
theorem dX3_told_176 : decode cX3_told 176 = .ok (.return_, 1) := dk_177 (dk_at dksX3_told_7 15 rfl rfl)
abbrev cX3_jOf : ByteArray := prog_8_method_11_code
def yX3_jOf : MethodName := ⟨RX3, "jOf", "(I)I"⟩
def dkwX3_jOf_1 : List UInt8 := [27, 4, 100, 16, 45, 182, 0, 69, 153, 0, 8, 28, 116, 167, 0, 4, 28, 172]
abbrev dktX3_jOf_1 : List UInt8 := dkwX3_jOf_1 ++ []
def dkwX3_jOf_0 : List UInt8 := [42, 180, 0, 18, 27, 182, 0, 76, 61, 28, 6, 164, 0, 9, 42, 6, 27, 182, 0, 79, 42, 180, 0, 18]
abbrev dktX3_jOf_0 : List UInt8 := dkwX3_jOf_0 ++ dktX3_jOf_1
theorem dksX3_jOf_0 : cX3_jOf.data.toList.drop 0 = dktX3_jOf_0 := by decide +kernel
theorem dksX3_jOf_1 : cX3_jOf.data.toList.drop 24 = dktX3_jOf_1 := dk_seg dksX3_jOf_0 24 rfl rfl
theorem dX3_jOf_0 : decode cX3_jOf 0 = .ok (.aload_n 0, 1) := dk_42 (dk_at dksX3_jOf_0 0 rfl rfl)
theorem dX3_jOf_1 : decode cX3_jOf 1 = .ok (.getfield 18, 3) := dk_180 0 18 (dk_at dksX3_jOf_0 1 rfl rfl)
theorem dX3_jOf_4 : decode cX3_jOf 4 = .ok (.iload_n 1, 1) := dk_27 (dk_at dksX3_jOf_0 4 rfl rfl)
theorem dX3_jOf_5 : decode cX3_jOf 5 = .ok (.invokevirtual 76, 3) := dk_182 0 76 (dk_at dksX3_jOf_0 5 rfl rfl)
theorem dX3_jOf_8 : decode cX3_jOf 8 = .ok (.istore_n 2, 1) := dk_61 (dk_at dksX3_jOf_0 8 rfl rfl)
theorem dX3_jOf_9 : decode cX3_jOf 9 = .ok (.iload_n 2, 1) := dk_28 (dk_at dksX3_jOf_0 9 rfl rfl)
theorem dX3_jOf_10 : decode cX3_jOf 10 = .ok (.iconst 3, 1) := dk_6 (dk_at dksX3_jOf_0 10 rfl rfl)
theorem dX3_jOf_11 : decode cX3_jOf 11 = .ok (.if_icmp .le 9, 3) := dk_164 0 9 (dk_at dksX3_jOf_0 11 rfl rfl)
theorem dX3_jOf_14 : decode cX3_jOf 14 = .ok (.aload_n 0, 1) := dk_42 (dk_at dksX3_jOf_0 14 rfl rfl)
theorem dX3_jOf_15 : decode cX3_jOf 15 = .ok (.iconst 3, 1) := dk_6 (dk_at dksX3_jOf_0 15 rfl rfl)
theorem dX3_jOf_16 : decode cX3_jOf 16 = .ok (.iload_n 1, 1) := dk_27 (dk_at dksX3_jOf_0 16 rfl rfl)
theorem dX3_jOf_17 : decode cX3_jOf 17 = .ok (.invokevirtual 79, 3) := dk_182 0 79 (dk_at dksX3_jOf_0 17 rfl rfl)
theorem dX3_jOf_20 : decode cX3_jOf 20 = .ok (.aload_n 0, 1) := dk_42 (dk_at dksX3_jOf_0 20 rfl rfl)
theorem dX3_jOf_21 : decode cX3_jOf 21 = .ok (.getfield 18, 3) := dk_180 0 18 (dk_at dksX3_jOf_0 21 rfl rfl)
theorem dX3_jOf_24 : decode cX3_jOf 24 = .ok (.iload_n 1, 1) := dk_27 (dk_at dksX3_jOf_1 0 rfl rfl)
theorem dX3_jOf_25 : decode cX3_jOf 25 = .ok (.iconst 1, 1) := dk_4 (dk_at dksX3_jOf_1 1 rfl rfl)
theorem dX3_jOf_26 : decode cX3_jOf 26 = .ok (.isub, 1) := dk_100 (dk_at dksX3_jOf_1 2 rfl rfl)
theorem dX3_jOf_27 : decode cX3_jOf 27 = .ok (.bipush 45, 2) := dk_16 45 (dk_at dksX3_jOf_1 3 rfl rfl)
theorem dX3_jOf_29 : decode cX3_jOf 29 = .ok (.invokevirtual 69, 3) := dk_182 0 69 (dk_at dksX3_jOf_1 5 rfl rfl)
theorem dX3_jOf_32 : decode cX3_jOf 32 = .ok (.ifCond .eq 8, 3) := dk_153 0 8 (dk_at dksX3_jOf_1 8 rfl rfl)
theorem dX3_jOf_35 : decode cX3_jOf 35 = .ok (.iload_n 2, 1) := dk_28 (dk_at dksX3_jOf_1 11 rfl rfl)
theorem dX3_jOf_36 : decode cX3_jOf 36 = .ok (.ineg, 1) := dk_116 (dk_at dksX3_jOf_1 12 rfl rfl)
theorem dX3_jOf_37 : decode cX3_jOf 37 = .ok (.goto 4, 3) := dk_167 0 4 (dk_at dksX3_jOf_1 13 rfl rfl)
theorem dX3_jOf_40 : decode cX3_jOf 40 = .ok (.iload_n 2, 1) := dk_28 (dk_at dksX3_jOf_1 16 rfl rfl)
theorem dX3_jOf_41 : decode cX3_jOf 41 = .ok (.ireturn, 1) := dk_172 (dk_at dksX3_jOf_1 17 rfl rfl)
abbrev cX3_all : ByteArray := prog_8_method_19_code
def yX3_all : MethodName := ⟨RX3, "all", "(II)V"⟩
def dkwX3_all_2 : List UInt8 := [182, 0, 170, 162, 0, 14, 45, 21, 4, 28, 79, 132, 4, 1, 167, 255, 236, 177]
abbrev dktX3_all_2 : List UInt8 := dkwX3_all_2 ++ []
def dkwX3_all_1 : List UInt8 := [180, 0, 115, 167, 0, 10, 42, 180, 0, 12, 180, 0, 118, 78, 3, 54, 4, 21, 4, 42, 180, 0, 12]
abbrev dktX3_all_1 : List UInt8 := dkwX3_all_1 ++ dktX3_all_2
def dkwX3_all_0 : List UInt8 := [27, 4, 160, 0, 13, 42, 180, 0, 12, 180, 0, 111, 167, 0, 25, 27, 5, 160, 0, 13, 42, 180, 0, 12]
abbrev dktX3_all_0 : List UInt8 := dkwX3_all_0 ++ dktX3_all_1
theorem dksX3_all_0 : cX3_all.data.toList.drop 0 = dktX3_all_0 := by decide +kernel
theorem dksX3_all_1 : cX3_all.data.toList.drop 24 = dktX3_all_1 := dk_seg dksX3_all_0 24 rfl rfl
theorem dksX3_all_2 : cX3_all.data.toList.drop 47 = dktX3_all_2 := dk_seg dksX3_all_1 23 rfl rfl
theorem dX3_all_0 : decode cX3_all 0 = .ok (.iload_n 1, 1) := dk_27 (dk_at dksX3_all_0 0 rfl rfl)
theorem dX3_all_1 : decode cX3_all 1 = .ok (.iconst 1, 1) := dk_4 (dk_at dksX3_all_0 1 rfl rfl)
theorem dX3_all_2 : decode cX3_all 2 = .ok (.if_icmp .ne 13, 3) := dk_160 0 13 (dk_at dksX3_all_0 2 rfl rfl)
theorem dX3_all_5 : decode cX3_all 5 = .ok (.aload_n 0, 1) := dk_42 (dk_at dksX3_all_0 5 rfl rfl)
theorem dX3_all_6 : decode cX3_all 6 = .ok (.getfield 12, 3) := dk_180 0 12 (dk_at dksX3_all_0 6 rfl rfl)
theorem dX3_all_9 : decode cX3_all 9 = .ok (.getfield 111, 3) := dk_180 0 111 (dk_at dksX3_all_0 9 rfl rfl)
theorem dX3_all_12 : decode cX3_all 12 = .ok (.goto 25, 3) := dk_167 0 25 (dk_at dksX3_all_0 12 rfl rfl)
theorem dX3_all_15 : decode cX3_all 15 = .ok (.iload_n 1, 1) := dk_27 (dk_at dksX3_all_0 15 rfl rfl)
theorem dX3_all_16 : decode cX3_all 16 = .ok (.iconst 2, 1) := dk_5 (dk_at dksX3_all_0 16 rfl rfl)
theorem dX3_all_17 : decode cX3_all 17 = .ok (.if_icmp .ne 13, 3) := dk_160 0 13 (dk_at dksX3_all_0 17 rfl rfl)
theorem dX3_all_20 : decode cX3_all 20 = .ok (.aload_n 0, 1) := dk_42 (dk_at dksX3_all_0 20 rfl rfl)
theorem dX3_all_21 : decode cX3_all 21 = .ok (.getfield 12, 3) := dk_180 0 12 (dk_at dksX3_all_0 21 rfl rfl)
theorem dX3_all_24 : decode cX3_all 24 = .ok (.getfield 115, 3) := dk_180 0 115 (dk_at dksX3_all_1 0 rfl rfl)
theorem dX3_all_27 : decode cX3_all 27 = .ok (.goto 10, 3) := dk_167 0 10 (dk_at dksX3_all_1 3 rfl rfl)
theorem dX3_all_30 : decode cX3_all 30 = .ok (.aload_n 0, 1) := dk_42 (dk_at dksX3_all_1 6 rfl rfl)
theorem dX3_all_31 : decode cX3_all 31 = .ok (.getfield 12, 3) := dk_180 0 12 (dk_at dksX3_all_1 7 rfl rfl)
theorem dX3_all_34 : decode cX3_all 34 = .ok (.getfield 118, 3) := dk_180 0 118 (dk_at dksX3_all_1 10 rfl rfl)
theorem dX3_all_37 : decode cX3_all 37 = .ok (.astore_n 3, 1) := dk_78 (dk_at dksX3_all_1 13 rfl rfl)
theorem dX3_all_38 : decode cX3_all 38 = .ok (.iconst 0, 1) := dk_3 (dk_at dksX3_all_1 14 rfl rfl)
theorem dX3_all_39 : decode cX3_all 39 = .ok (.istore 4, 2) := dk_54 4 (dk_at dksX3_all_1 15 rfl rfl)
theorem dX3_all_41 : decode cX3_all 41 = .ok (.iload 4, 2) := dk_21 4 (dk_at dksX3_all_1 17 rfl rfl)
theorem dX3_all_43 : decode cX3_all 43 = .ok (.aload_n 0, 1) := dk_42 (dk_at dksX3_all_1 19 rfl rfl)
theorem dX3_all_44 : decode cX3_all 44 = .ok (.getfield 12, 3) := dk_180 0 12 (dk_at dksX3_all_1 20 rfl rfl)
theorem dX3_all_47 : decode cX3_all 47 = .ok (.invokevirtual 170, 3) := dk_182 0 170 (dk_at dksX3_all_2 0 rfl rfl)
theorem dX3_all_50 : decode cX3_all 50 = .ok (.if_icmp .ge 14, 3) := dk_162 0 14 (dk_at dksX3_all_2 3 rfl rfl)
theorem dX3_all_53 : decode cX3_all 53 = .ok (.aload_n 3, 1) := dk_45 (dk_at dksX3_all_2 6 rfl rfl)
theorem dX3_all_54 : decode cX3_all 54 = .ok (.iload 4, 2) := dk_21 4 (dk_at dksX3_all_2 7 rfl rfl)
theorem dX3_all_56 : decode cX3_all 56 = .ok (.iload_n 2, 1) := dk_28 (dk_at dksX3_all_2 9 rfl rfl)
theorem dX3_all_57 : decode cX3_all 57 = .ok (.iastore, 1) := dk_79 (dk_at dksX3_all_2 10 rfl rfl)
theorem dX3_all_58 : decode cX3_all 58 = .ok (.iinc 4 1, 3) := dk_132 4 1 (dk_at dksX3_all_2 11 rfl rfl)
theorem dX3_all_61 : decode cX3_all 61 = .ok (.goto (-20), 3) := dk_167 255 236 (dk_at dksX3_all_2 14 rfl rfl)
theorem dX3_all_64 : decode cX3_all 64 = .ok (.return_, 1) := dk_177 (dk_at dksX3_all_2 17 rfl rfl)
abbrev cX3_ties : ByteArray := prog_8_method_21_code
def yX3_ties : MethodName := ⟨RX3, "ties", "(IZI)V"⟩
def dkwX3_ties_1 : List UInt8 := [156, 0, 12, 42, 7, 27, 182, 0, 79, 167, 0, 14, 42, 180, 0, 12, 21, 4, 28, 29, 182, 0, 184, 177]
abbrev dktX3_ties_1 : List UInt8 := dkwX3_ties_1 ++ []
def dkwX3_ties_0 : List UInt8 := [42, 27, 182, 0, 177, 54, 4, 21, 4, 156, 0, 4, 177, 42, 180, 0, 12, 21, 4, 28, 182, 0, 180]
abbrev dktX3_ties_0 : List UInt8 := dkwX3_ties_0 ++ dktX3_ties_1
theorem dksX3_ties_0 : cX3_ties.data.toList.drop 0 = dktX3_ties_0 := by decide +kernel
theorem dksX3_ties_1 : cX3_ties.data.toList.drop 23 = dktX3_ties_1 := dk_seg dksX3_ties_0 23 rfl rfl
theorem dX3_ties_0 : decode cX3_ties 0 = .ok (.aload_n 0, 1) := dk_42 (dk_at dksX3_ties_0 0 rfl rfl)
theorem dX3_ties_1 : decode cX3_ties 1 = .ok (.iload_n 1, 1) := dk_27 (dk_at dksX3_ties_0 1 rfl rfl)
theorem dX3_ties_2 : decode cX3_ties 2 = .ok (.invokevirtual 177, 3) := dk_182 0 177 (dk_at dksX3_ties_0 2 rfl rfl)
theorem dX3_ties_5 : decode cX3_ties 5 = .ok (.istore 4, 2) := dk_54 4 (dk_at dksX3_ties_0 5 rfl rfl)
theorem dX3_ties_7 : decode cX3_ties 7 = .ok (.iload 4, 2) := dk_21 4 (dk_at dksX3_ties_0 7 rfl rfl)
theorem dX3_ties_9 : decode cX3_ties 9 = .ok (.ifCond .ge 4, 3) := dk_156 0 4 (dk_at dksX3_ties_0 9 rfl rfl)
theorem dX3_ties_12 : decode cX3_ties 12 = .ok (.return_, 1) := dk_177 (dk_at dksX3_ties_0 12 rfl rfl)
theorem dX3_ties_13 : decode cX3_ties 13 = .ok (.aload_n 0, 1) := dk_42 (dk_at dksX3_ties_0 13 rfl rfl)
theorem dX3_ties_14 : decode cX3_ties 14 = .ok (.getfield 12, 3) := dk_180 0 12 (dk_at dksX3_ties_0 14 rfl rfl)
theorem dX3_ties_17 : decode cX3_ties 17 = .ok (.iload 4, 2) := dk_21 4 (dk_at dksX3_ties_0 17 rfl rfl)
theorem dX3_ties_19 : decode cX3_ties 19 = .ok (.iload_n 2, 1) := dk_28 (dk_at dksX3_ties_0 19 rfl rfl)
theorem dX3_ties_20 : decode cX3_ties 20 = .ok (.invokevirtual 180, 3) := dk_182 0 180 (dk_at dksX3_ties_0 20 rfl rfl)
theorem dX3_ties_23 : decode cX3_ties 23 = .ok (.ifCond .ge 12, 3) := dk_156 0 12 (dk_at dksX3_ties_1 0 rfl rfl)
theorem dX3_ties_26 : decode cX3_ties 26 = .ok (.aload_n 0, 1) := dk_42 (dk_at dksX3_ties_1 3 rfl rfl)
theorem dX3_ties_27 : decode cX3_ties 27 = .ok (.iconst 4, 1) := dk_7 (dk_at dksX3_ties_1 4 rfl rfl)
theorem dX3_ties_28 : decode cX3_ties 28 = .ok (.iload_n 1, 1) := dk_27 (dk_at dksX3_ties_1 5 rfl rfl)
theorem dX3_ties_29 : decode cX3_ties 29 = .ok (.invokevirtual 79, 3) := dk_182 0 79 (dk_at dksX3_ties_1 6 rfl rfl)
theorem dX3_ties_32 : decode cX3_ties 32 = .ok (.goto 14, 3) := dk_167 0 14 (dk_at dksX3_ties_1 9 rfl rfl)
theorem dX3_ties_35 : decode cX3_ties 35 = .ok (.aload_n 0, 1) := dk_42 (dk_at dksX3_ties_1 12 rfl rfl)
theorem dX3_ties_36 : decode cX3_ties 36 = .ok (.getfield 12, 3) := dk_180 0 12 (dk_at dksX3_ties_1 13 rfl rfl)
theorem dX3_ties_39 : decode cX3_ties 39 = .ok (.iload 4, 2) := dk_21 4 (dk_at dksX3_ties_1 16 rfl rfl)
theorem dX3_ties_41 : decode cX3_ties 41 = .ok (.iload_n 2, 1) := dk_28 (dk_at dksX3_ties_1 18 rfl rfl)
theorem dX3_ties_42 : decode cX3_ties 42 = .ok (.iload_n 3, 1) := dk_29 (dk_at dksX3_ties_1 19 rfl rfl)
theorem dX3_ties_43 : decode cX3_ties 43 = .ok (.invokevirtual 184, 3) := dk_182 0 184 (dk_at dksX3_ties_1 20 rfl rfl)
theorem dX3_ties_46 : decode cX3_ties 46 = .ok (.return_, 1) := dk_177 (dk_at dksX3_ties_1 23 rfl rfl)
abbrev cX3_site : ByteArray := prog_8_method_20_code
def yX3_site : MethodName := ⟨RX3, "site", "(I)I"⟩
def dkwX3_site_1 : List UInt8 := [27, 182, 0, 79, 2, 172]
abbrev dktX3_site_1 : List UInt8 := dkwX3_site_1 ++ []
def dkwX3_site_0 : List UInt8 := [42, 180, 0, 18, 27, 182, 0, 76, 61, 42, 180, 0, 12, 28, 182, 0, 173, 153, 0, 5, 28, 172, 42, 7]
abbrev dktX3_site_0 : List UInt8 := dkwX3_site_0 ++ dktX3_site_1
theorem dksX3_site_0 : cX3_site.data.toList.drop 0 = dktX3_site_0 := by decide +kernel
theorem dksX3_site_1 : cX3_site.data.toList.drop 24 = dktX3_site_1 := dk_seg dksX3_site_0 24 rfl rfl
theorem dX3_site_0 : decode cX3_site 0 = .ok (.aload_n 0, 1) := dk_42 (dk_at dksX3_site_0 0 rfl rfl)
theorem dX3_site_1 : decode cX3_site 1 = .ok (.getfield 18, 3) := dk_180 0 18 (dk_at dksX3_site_0 1 rfl rfl)
theorem dX3_site_4 : decode cX3_site 4 = .ok (.iload_n 1, 1) := dk_27 (dk_at dksX3_site_0 4 rfl rfl)
theorem dX3_site_5 : decode cX3_site 5 = .ok (.invokevirtual 76, 3) := dk_182 0 76 (dk_at dksX3_site_0 5 rfl rfl)
theorem dX3_site_8 : decode cX3_site 8 = .ok (.istore_n 2, 1) := dk_61 (dk_at dksX3_site_0 8 rfl rfl)
theorem dX3_site_9 : decode cX3_site 9 = .ok (.aload_n 0, 1) := dk_42 (dk_at dksX3_site_0 9 rfl rfl)
theorem dX3_site_10 : decode cX3_site 10 = .ok (.getfield 12, 3) := dk_180 0 12 (dk_at dksX3_site_0 10 rfl rfl)
theorem dX3_site_13 : decode cX3_site 13 = .ok (.iload_n 2, 1) := dk_28 (dk_at dksX3_site_0 13 rfl rfl)
theorem dX3_site_14 : decode cX3_site 14 = .ok (.invokevirtual 173, 3) := dk_182 0 173 (dk_at dksX3_site_0 14 rfl rfl)
theorem dX3_site_17 : decode cX3_site 17 = .ok (.ifCond .eq 5, 3) := dk_153 0 5 (dk_at dksX3_site_0 17 rfl rfl)
theorem dX3_site_20 : decode cX3_site 20 = .ok (.iload_n 2, 1) := dk_28 (dk_at dksX3_site_0 20 rfl rfl)
theorem dX3_site_21 : decode cX3_site 21 = .ok (.ireturn, 1) := dk_172 (dk_at dksX3_site_0 21 rfl rfl)
theorem dX3_site_22 : decode cX3_site 22 = .ok (.aload_n 0, 1) := dk_42 (dk_at dksX3_site_0 22 rfl rfl)
theorem dX3_site_23 : decode cX3_site 23 = .ok (.iconst 4, 1) := dk_7 (dk_at dksX3_site_0 23 rfl rfl)
theorem dX3_site_24 : decode cX3_site 24 = .ok (.iload_n 1, 1) := dk_27 (dk_at dksX3_site_1 0 rfl rfl)
theorem dX3_site_25 : decode cX3_site 25 = .ok (.invokevirtual 79, 3) := dk_182 0 79 (dk_at dksX3_site_1 1 rfl rfl)
theorem dX3_site_28 : decode cX3_site 28 = .ok (.iconst (-1), 1) := dk_2 (dk_at dksX3_site_1 4 rfl rfl)
theorem dX3_site_29 : decode cX3_site 29 = .ok (.ireturn, 1) := dk_172 (dk_at dksX3_site_1 5 rfl rfl)
abbrev cX3_pulls : ByteArray := prog_8_method_22_code
def yX3_pulls : MethodName := ⟨RX3, "pulls", "(II)V"⟩
def dkwX3_pulls_0 : List UInt8 := [42, 27, 182, 0, 177, 62, 29, 155, 0, 13, 42, 180, 0, 12, 180, 0, 118, 29, 28, 79, 177]
abbrev dktX3_pulls_0 : List UInt8 := dkwX3_pulls_0 ++ []
theorem dksX3_pulls_0 : cX3_pulls.data.toList.drop 0 = dktX3_pulls_0 := by decide +kernel
theorem dX3_pulls_0 : decode cX3_pulls 0 = .ok (.aload_n 0, 1) := dk_42 (dk_at dksX3_pulls_0 0 rfl rfl)
theorem dX3_pulls_1 : decode cX3_pulls 1 = .ok (.iload_n 1, 1) := dk_27 (dk_at dksX3_pulls_0 1 rfl rfl)
theorem dX3_pulls_2 : decode cX3_pulls 2 = .ok (.invokevirtual 177, 3) := dk_182 0 177 (dk_at dksX3_pulls_0 2 rfl rfl)
theorem dX3_pulls_5 : decode cX3_pulls 5 = .ok (.istore_n 3, 1) := dk_62 (dk_at dksX3_pulls_0 5 rfl rfl)
theorem dX3_pulls_6 : decode cX3_pulls 6 = .ok (.iload_n 3, 1) := dk_29 (dk_at dksX3_pulls_0 6 rfl rfl)
theorem dX3_pulls_7 : decode cX3_pulls 7 = .ok (.ifCond .lt 13, 3) := dk_155 0 13 (dk_at dksX3_pulls_0 7 rfl rfl)
theorem dX3_pulls_10 : decode cX3_pulls 10 = .ok (.aload_n 0, 1) := dk_42 (dk_at dksX3_pulls_0 10 rfl rfl)
theorem dX3_pulls_11 : decode cX3_pulls 11 = .ok (.getfield 12, 3) := dk_180 0 12 (dk_at dksX3_pulls_0 11 rfl rfl)
theorem dX3_pulls_14 : decode cX3_pulls 14 = .ok (.getfield 118, 3) := dk_180 0 118 (dk_at dksX3_pulls_0 14 rfl rfl)
theorem dX3_pulls_17 : decode cX3_pulls 17 = .ok (.iload_n 3, 1) := dk_29 (dk_at dksX3_pulls_0 17 rfl rfl)
theorem dX3_pulls_18 : decode cX3_pulls 18 = .ok (.iload_n 2, 1) := dk_28 (dk_at dksX3_pulls_0 18 rfl rfl)
theorem dX3_pulls_19 : decode cX3_pulls 19 = .ok (.iastore, 1) := dk_79 (dk_at dksX3_pulls_0 19 rfl rfl)
theorem dX3_pulls_20 : decode cX3_pulls 20 = .ok (.return_, 1) := dk_177 (dk_at dksX3_pulls_0 20 rfl rfl)
abbrev cX3_pins : ByteArray := prog_8_method_23_code
def yX3_pins : MethodName := ⟨RX3, "pins", "(IZ)V"⟩
def dkwX3_pins_3 : List UInt8 := [181, 0, 108, 177]
abbrev dktX3_pins_3 : List UInt8 := dkwX3_pins_3 ++ []
def dkwX3_pins_2 : List UInt8 := [180, 0, 12, 180, 0, 108, 4, 29, 120, 2, 130, 126, 28, 153, 0, 7, 3, 167, 0, 6, 4, 29, 120, 128]
abbrev dktX3_pins_2 : List UInt8 := dkwX3_pins_2 ++ dktX3_pins_3
def dkwX3_pins_1 : List UInt8 := [120, 2, 130, 126, 28, 153, 0, 9, 4, 29, 120, 167, 0, 4, 3, 128, 181, 0, 105, 42, 180, 0, 12, 42]
abbrev dktX3_pins_1 : List UInt8 := dkwX3_pins_1 ++ dktX3_pins_2
def dkwX3_pins_0 : List UInt8 := [42, 27, 182, 0, 177, 62, 29, 156, 0, 4, 177, 42, 180, 0, 12, 42, 180, 0, 12, 180, 0, 105, 4, 29]
abbrev dktX3_pins_0 : List UInt8 := dkwX3_pins_0 ++ dktX3_pins_1
theorem dksX3_pins_0 : cX3_pins.data.toList.drop 0 = dktX3_pins_0 := by decide +kernel
theorem dksX3_pins_1 : cX3_pins.data.toList.drop 24 = dktX3_pins_1 := dk_seg dksX3_pins_0 24 rfl rfl
theorem dksX3_pins_2 : cX3_pins.data.toList.drop 48 = dktX3_pins_2 := dk_seg dksX3_pins_1 24 rfl rfl
theorem dksX3_pins_3 : cX3_pins.data.toList.drop 72 = dktX3_pins_3 := dk_seg dksX3_pins_2 24 rfl rfl
theorem dX3_pins_0 : decode cX3_pins 0 = .ok (.aload_n 0, 1) := dk_42 (dk_at dksX3_pins_0 0 rfl rfl)
theorem dX3_pins_1 : decode cX3_pins 1 = .ok (.iload_n 1, 1) := dk_27 (dk_at dksX3_pins_0 1 rfl rfl)
theorem dX3_pins_2 : decode cX3_pins 2 = .ok (.invokevirtual 177, 3) := dk_182 0 177 (dk_at dksX3_pins_0 2 rfl rfl)
theorem dX3_pins_5 : decode cX3_pins 5 = .ok (.istore_n 3, 1) := dk_62 (dk_at dksX3_pins_0 5 rfl rfl)
theorem dX3_pins_6 : decode cX3_pins 6 = .ok (.iload_n 3, 1) := dk_29 (dk_at dksX3_pins_0 6 rfl rfl)
theorem dX3_pins_7 : decode cX3_pins 7 = .ok (.ifCond .ge 4, 3) := dk_156 0 4 (dk_at dksX3_pins_0 7 rfl rfl)
theorem dX3_pins_10 : decode cX3_pins 10 = .ok (.return_, 1) := dk_177 (dk_at dksX3_pins_0 10 rfl rfl)
theorem dX3_pins_11 : decode cX3_pins 11 = .ok (.aload_n 0, 1) := dk_42 (dk_at dksX3_pins_0 11 rfl rfl)
theorem dX3_pins_12 : decode cX3_pins 12 = .ok (.getfield 12, 3) := dk_180 0 12 (dk_at dksX3_pins_0 12 rfl rfl)
theorem dX3_pins_15 : decode cX3_pins 15 = .ok (.aload_n 0, 1) := dk_42 (dk_at dksX3_pins_0 15 rfl rfl)
theorem dX3_pins_16 : decode cX3_pins 16 = .ok (.getfield 12, 3) := dk_180 0 12 (dk_at dksX3_pins_0 16 rfl rfl)
theorem dX3_pins_19 : decode cX3_pins 19 = .ok (.getfield 105, 3) := dk_180 0 105 (dk_at dksX3_pins_0 19 rfl rfl)
theorem dX3_pins_22 : decode cX3_pins 22 = .ok (.iconst 1, 1) := dk_4 (dk_at dksX3_pins_0 22 rfl rfl)
theorem dX3_pins_23 : decode cX3_pins 23 = .ok (.iload_n 3, 1) := dk_29 (dk_at dksX3_pins_0 23 rfl rfl)
theorem dX3_pins_24 : decode cX3_pins 24 = .ok (.ishl, 1) := dk_120 (dk_at dksX3_pins_1 0 rfl rfl)
theorem dX3_pins_25 : decode cX3_pins 25 = .ok (.iconst (-1), 1) := dk_2 (dk_at dksX3_pins_1 1 rfl rfl)
theorem dX3_pins_26 : decode cX3_pins 26 = .ok (.ixor, 1) := dk_130 (dk_at dksX3_pins_1 2 rfl rfl)
theorem dX3_pins_27 : decode cX3_pins 27 = .ok (.iand, 1) := dk_126 (dk_at dksX3_pins_1 3 rfl rfl)
theorem dX3_pins_28 : decode cX3_pins 28 = .ok (.iload_n 2, 1) := dk_28 (dk_at dksX3_pins_1 4 rfl rfl)
theorem dX3_pins_29 : decode cX3_pins 29 = .ok (.ifCond .eq 9, 3) := dk_153 0 9 (dk_at dksX3_pins_1 5 rfl rfl)
theorem dX3_pins_32 : decode cX3_pins 32 = .ok (.iconst 1, 1) := dk_4 (dk_at dksX3_pins_1 8 rfl rfl)
theorem dX3_pins_33 : decode cX3_pins 33 = .ok (.iload_n 3, 1) := dk_29 (dk_at dksX3_pins_1 9 rfl rfl)
theorem dX3_pins_34 : decode cX3_pins 34 = .ok (.ishl, 1) := dk_120 (dk_at dksX3_pins_1 10 rfl rfl)
theorem dX3_pins_35 : decode cX3_pins 35 = .ok (.goto 4, 3) := dk_167 0 4 (dk_at dksX3_pins_1 11 rfl rfl)
theorem dX3_pins_38 : decode cX3_pins 38 = .ok (.iconst 0, 1) := dk_3 (dk_at dksX3_pins_1 14 rfl rfl)
theorem dX3_pins_39 : decode cX3_pins 39 = .ok (.ior, 1) := dk_128 (dk_at dksX3_pins_1 15 rfl rfl)
theorem dX3_pins_40 : decode cX3_pins 40 = .ok (.putfield 105, 3) := dk_181 0 105 (dk_at dksX3_pins_1 16 rfl rfl)
theorem dX3_pins_43 : decode cX3_pins 43 = .ok (.aload_n 0, 1) := dk_42 (dk_at dksX3_pins_1 19 rfl rfl)
theorem dX3_pins_44 : decode cX3_pins 44 = .ok (.getfield 12, 3) := dk_180 0 12 (dk_at dksX3_pins_1 20 rfl rfl)
theorem dX3_pins_47 : decode cX3_pins 47 = .ok (.aload_n 0, 1) := dk_42 (dk_at dksX3_pins_1 23 rfl rfl)
theorem dX3_pins_48 : decode cX3_pins 48 = .ok (.getfield 12, 3) := dk_180 0 12 (dk_at dksX3_pins_2 0 rfl rfl)
theorem dX3_pins_51 : decode cX3_pins 51 = .ok (.getfield 108, 3) := dk_180 0 108 (dk_at dksX3_pins_2 3 rfl rfl)
theorem dX3_pins_54 : decode cX3_pins 54 = .ok (.iconst 1, 1) := dk_4 (dk_at dksX3_pins_2 6 rfl rfl)
theorem dX3_pins_55 : decode cX3_pins 55 = .ok (.iload_n 3, 1) := dk_29 (dk_at dksX3_pins_2 7 rfl rfl)
theorem dX3_pins_56 : decode cX3_pins 56 = .ok (.ishl, 1) := dk_120 (dk_at dksX3_pins_2 8 rfl rfl)
theorem dX3_pins_57 : decode cX3_pins 57 = .ok (.iconst (-1), 1) := dk_2 (dk_at dksX3_pins_2 9 rfl rfl)
theorem dX3_pins_58 : decode cX3_pins 58 = .ok (.ixor, 1) := dk_130 (dk_at dksX3_pins_2 10 rfl rfl)
theorem dX3_pins_59 : decode cX3_pins 59 = .ok (.iand, 1) := dk_126 (dk_at dksX3_pins_2 11 rfl rfl)
theorem dX3_pins_60 : decode cX3_pins 60 = .ok (.iload_n 2, 1) := dk_28 (dk_at dksX3_pins_2 12 rfl rfl)
theorem dX3_pins_61 : decode cX3_pins 61 = .ok (.ifCond .eq 7, 3) := dk_153 0 7 (dk_at dksX3_pins_2 13 rfl rfl)
theorem dX3_pins_64 : decode cX3_pins 64 = .ok (.iconst 0, 1) := dk_3 (dk_at dksX3_pins_2 16 rfl rfl)
theorem dX3_pins_65 : decode cX3_pins 65 = .ok (.goto 6, 3) := dk_167 0 6 (dk_at dksX3_pins_2 17 rfl rfl)
theorem dX3_pins_68 : decode cX3_pins 68 = .ok (.iconst 1, 1) := dk_4 (dk_at dksX3_pins_2 20 rfl rfl)
theorem dX3_pins_69 : decode cX3_pins 69 = .ok (.iload_n 3, 1) := dk_29 (dk_at dksX3_pins_2 21 rfl rfl)
theorem dX3_pins_70 : decode cX3_pins 70 = .ok (.ishl, 1) := dk_120 (dk_at dksX3_pins_2 22 rfl rfl)
theorem dX3_pins_71 : decode cX3_pins 71 = .ok (.ior, 1) := dk_128 (dk_at dksX3_pins_2 23 rfl rfl)
theorem dX3_pins_72 : decode cX3_pins 72 = .ok (.putfield 108, 3) := dk_181 0 108 (dk_at dksX3_pins_3 0 rfl rfl)
theorem dX3_pins_75 : decode cX3_pins 75 = .ok (.return_, 1) := dk_177 (dk_at dksX3_pins_3 3 rfl rfl)
theorem q114 : (Jvm.Cond.initialized "SpinStrip$Parser") ∈ lw_all := lw_g (lw_at lw_m1 7 rfl) rfl
theorem q256 : (Jvm.Cond.fieldLink "SpinStrip$Parser" (55 : Nat) "SpinStrip$Tokens" "sort" "[B") ∈ lw_all := lw_g (lw_at lw_m1 149 rfl) rfl
theorem q258 : (Jvm.Cond.fieldLink "SpinStrip$Parser" (26 : Nat) "SpinStrip$Tokens" "from" "[S") ∈ lw_all := lw_g (lw_at lw_m1 151 rfl) rfl
theorem q261 : (Jvm.Cond.fieldLink "SpinStrip$Parser" (137 : Nat) "SpinStrip$Tokens" "what" "[S") ∈ lw_all := lw_g (lw_at lw_m1 154 rfl) rfl
theorem q282 : (Jvm.Cond.instantiable "SpinStrip$Parser" (6 : Nat)) ∈ lw_all := lw_g (lw_at lw_m1 175 rfl) rfl
theorem q284 : (Jvm.Cond.instanceMethod ({ cls := "SpinStrip$Parser", name := "<init>", desc := "(LSpinStrip$Tokens;LSpinStrip$Fault;)V" } : Jvm.MethodName)) ∈ lw_all := lw_g (lw_at lw_m1 177 rfl) rfl
theorem q285 : (Jvm.Cond.code ({ cls := "SpinStrip$Parser", name := "<init>", desc := "(LSpinStrip$Tokens;LSpinStrip$Fault;)V" } : Jvm.MethodName) prog_8_method_1_code (3 : Nat) (Option.none : Option Jvm.ClassFile.FieldType)) ∈ lw_all := lw_g (lw_at lw_m1 178 rfl) rfl
theorem q286 : (Jvm.Cond.methodLink "SpinStrip$Parser" (3 : Nat) ({ cls := "java/lang/Object", name := "<init>", desc := "()V" } : Jvm.MethodName)) ∈ lw_all := lw_g (lw_at lw_m1 179 rfl) rfl
theorem q287 : (Jvm.Cond.classLink "SpinStrip$Parser" (9 : Nat) "SpinStrip$Strip") ∈ lw_all := lw_g (lw_at lw_m1 180 rfl) rfl
theorem q289 : (Jvm.Cond.methodLinkNest "SpinStrip$Parser" (11 : Nat) ({ cls := "SpinStrip$Strip", name := "<init>", desc := "()V" } : Jvm.MethodName) "SpinStrip") ∈ lw_tbl := lw_at lw_m1 182 rfl
theorem q295 : (Jvm.Cond.fieldLink "SpinStrip$Parser" (93 : Nat) "SpinStrip$Strip" "wide" "I") ∈ lw_all := lw_g (lw_at lw_m1 188 rfl) rfl
theorem q299 : (Jvm.Cond.fieldLink "SpinStrip$Parser" (96 : Nat) "SpinStrip$Strip" "length" "I") ∈ lw_all := lw_g (lw_at lw_m1 192 rfl) rfl
theorem q303 : (Jvm.Cond.fieldLink "SpinStrip$Parser" (99 : Nat) "SpinStrip$Strip" "rings" "I") ∈ lw_all := lw_g (lw_at lw_m1 196 rfl) rfl
theorem q306 : (Jvm.Cond.fieldLink "SpinStrip$Parser" (124 : Nat) "SpinStrip$Strip" "state" "I") ∈ lw_all := lw_g (lw_at lw_m1 199 rfl) rfl
theorem q309 : (Jvm.Cond.fieldLink "SpinStrip$Parser" (102 : Nat) "SpinStrip$Strip" "seed" "I") ∈ lw_all := lw_g (lw_at lw_m1 202 rfl) rfl
theorem q313 : (Jvm.Cond.fieldLink "SpinStrip$Parser" (111 : Nat) "SpinStrip$Strip" "across" "[I") ∈ lw_all := lw_g (lw_at lw_m1 206 rfl) rfl
theorem q316 : (Jvm.Cond.fieldLink "SpinStrip$Parser" (115 : Nat) "SpinStrip$Strip" "along" "[I") ∈ lw_all := lw_g (lw_at lw_m1 209 rfl) rfl
theorem q319 : (Jvm.Cond.fieldLink "SpinStrip$Parser" (118 : Nat) "SpinStrip$Strip" "field" "[I") ∈ lw_all := lw_g (lw_at lw_m1 212 rfl) rfl
theorem q323 : (Jvm.Cond.fieldLink "SpinStrip$Parser" (105 : Nat) "SpinStrip$Strip" "up" "I") ∈ lw_all := lw_g (lw_at lw_m1 216 rfl) rfl
theorem q327 : (Jvm.Cond.fieldLink "SpinStrip$Parser" (108 : Nat) "SpinStrip$Strip" "down" "I") ∈ lw_all := lw_g (lw_at lw_m1 220 rfl) rfl
theorem q351 : (Jvm.Cond.fieldLink "SpinStrip$Parser" (18 : Nat) "SpinStrip$Parser" "t" "LSpinStrip$Tokens;") ∈ lw_all := lw_g (lw_at lw_m2 4 rfl) rfl
theorem q352 : (Jvm.Cond.fieldLink "SpinStrip$Parser" (22 : Nat) "SpinStrip$Parser" "fault" "LSpinStrip$Fault;") ∈ lw_all := lw_g (lw_at lw_m2 5 rfl) rfl
theorem q353 : (Jvm.Cond.fieldLink "SpinStrip$Parser" (12 : Nat) "SpinStrip$Parser" "strip" "LSpinStrip$Strip;") ∈ lw_all := lw_g (lw_at lw_m2 6 rfl) rfl
theorem q355 : (Jvm.Cond.fieldLink "SpinStrip$Parser" (38 : Nat) "SpinStrip$Parser" "at" "I") ∈ lw_all := lw_g (lw_at lw_m2 8 rfl) rfl
theorem q356 : (Jvm.Cond.fieldLink "SpinStrip$Parser" (45 : Nat) "SpinStrip$Parser" "worst" "I") ∈ lw_all := lw_g (lw_at lw_m2 9 rfl) rfl
theorem q357 : (Jvm.Cond.fieldLink "SpinStrip$Parser" (48 : Nat) "SpinStrip$Parser" "worstToken" "I") ∈ lw_all := lw_g (lw_at lw_m2 10 rfl) rfl
theorem q358 : (Jvm.Cond.laysFinal "SpinStrip$Parser" "SpinStrip$Parser" "t" "LSpinStrip$Tokens;") ∈ lw_all := lw_g (lw_at lw_m2 11 rfl) rfl
theorem q359 : (Jvm.Cond.soleField "SpinStrip$Parser" "t") ∈ lw_all := lw_g (lw_at lw_m2 12 rfl) rfl
theorem q360 : (Jvm.Cond.laysFinal "SpinStrip$Parser" "SpinStrip$Parser" "fault" "LSpinStrip$Fault;") ∈ lw_all := lw_g (lw_at lw_m2 13 rfl) rfl
theorem q361 : (Jvm.Cond.soleField "SpinStrip$Parser" "fault") ∈ lw_all := lw_g (lw_at lw_m2 14 rfl) rfl
theorem q362 : (Jvm.Cond.laysFinal "SpinStrip$Parser" "SpinStrip$Parser" "strip" "LSpinStrip$Strip;") ∈ lw_all := lw_g (lw_at lw_m2 15 rfl) rfl
theorem q363 : (Jvm.Cond.soleField "SpinStrip$Parser" "strip") ∈ lw_all := lw_g (lw_at lw_m2 16 rfl) rfl
theorem q364 : (Jvm.Cond.lays "SpinStrip$Parser" "SpinStrip$Parser" "at" "I") ∈ lw_all := lw_g (lw_at lw_m2 17 rfl) rfl
theorem q365 : (Jvm.Cond.soleField "SpinStrip$Parser" "at") ∈ lw_all := lw_g (lw_at lw_m2 18 rfl) rfl
theorem q366 : (Jvm.Cond.lays "SpinStrip$Parser" "SpinStrip$Parser" "worst" "I") ∈ lw_all := lw_g (lw_at lw_m2 19 rfl) rfl
theorem q367 : (Jvm.Cond.soleField "SpinStrip$Parser" "worst") ∈ lw_all := lw_g (lw_at lw_m2 20 rfl) rfl
theorem q368 : (Jvm.Cond.lays "SpinStrip$Parser" "SpinStrip$Parser" "worstToken" "I") ∈ lw_all := lw_g (lw_at lw_m2 21 rfl) rfl
theorem q369 : (Jvm.Cond.soleField "SpinStrip$Parser" "worstToken") ∈ lw_all := lw_g (lw_at lw_m2 22 rfl) rfl
theorem q370 : (Jvm.Cond.superclass "SpinStrip$Parser" "java/lang/Object") ∈ lw_all := lw_g (lw_at lw_m2 23 rfl) rfl
theorem q603 : (Jvm.Cond.instanceMethod ({ cls := "SpinStrip$Parser", name := "read", desc := "()V" } : Jvm.MethodName)) ∈ lw_all := lw_g (lw_at lw_m3 16 rfl) rfl
theorem q604 : (Jvm.Cond.selects "SpinStrip$Parser" ({ cls := "SpinStrip$Parser", name := "read", desc := "()V" } : Jvm.MethodName) ({ cls := "SpinStrip$Parser", name := "read", desc := "()V" } : Jvm.MethodName)) ∈ lw_all := lw_g (lw_at lw_m3 17 rfl) rfl
theorem q605 : (Jvm.Cond.code ({ cls := "SpinStrip$Parser", name := "read", desc := "()V" } : Jvm.MethodName) prog_8_method_12_code (2 : Nat) (Option.none : Option Jvm.ClassFile.FieldType)) ∈ lw_all := lw_g (lw_at lw_m3 18 rfl) rfl
theorem q606 : (Jvm.Cond.methodLink "SpinStrip$Parser" (83 : Nat) ({ cls := "SpinStrip$Tokens", name := "read", desc := "()V" } : Jvm.MethodName)) ∈ lw_all := lw_g (lw_at lw_m3 19 rfl) rfl
theorem q678 : (Jvm.Cond.methodLink "SpinStrip$Parser" (59 : Nat) ({ cls := "SpinStrip$Parser", name := "check", desc := "()V" } : Jvm.MethodName)) ∈ lw_all := lw_g (lw_at lw_m3 91 rfl) rfl
theorem q679 : (Jvm.Cond.privateMethod ({ cls := "SpinStrip$Parser", name := "check", desc := "()V" } : Jvm.MethodName)) ∈ lw_tbl := lw_at lw_m3 92 rfl
theorem q680 : (Jvm.Cond.instanceMethod ({ cls := "SpinStrip$Parser", name := "check", desc := "()V" } : Jvm.MethodName)) ∈ lw_all := lw_g (lw_at lw_m3 93 rfl) rfl
theorem q681 : (Jvm.Cond.code ({ cls := "SpinStrip$Parser", name := "check", desc := "()V" } : Jvm.MethodName) prog_8_method_6_code (1 : Nat) (Option.none : Option Jvm.ClassFile.FieldType)) ∈ lw_all := lw_g (lw_at lw_m3 94 rfl) rfl
theorem q682 : (Jvm.Cond.methodLink "SpinStrip$Parser" (51 : Nat) ({ cls := "SpinStrip$Parser", name := "wrong", desc := "(I)LSpinStrip$Fault;" } : Jvm.MethodName)) ∈ lw_all := lw_g (lw_at lw_m3 95 rfl) rfl
theorem q683 : (Jvm.Cond.privateMethod ({ cls := "SpinStrip$Parser", name := "wrong", desc := "(I)LSpinStrip$Fault;" } : Jvm.MethodName)) ∈ lw_tbl := lw_at lw_m3 96 rfl
theorem q684 : (Jvm.Cond.instanceMethod ({ cls := "SpinStrip$Parser", name := "wrong", desc := "(I)LSpinStrip$Fault;" } : Jvm.MethodName)) ∈ lw_all := lw_g (lw_at lw_m3 97 rfl) rfl
theorem q685 : (Jvm.Cond.code ({ cls := "SpinStrip$Parser", name := "wrong", desc := "(I)LSpinStrip$Fault;" } : Jvm.MethodName) prog_8_method_3_code (2 : Nat) (Option.some (Jvm.ClassFile.FieldType.object "SpinStrip$Fault"))) ∈ lw_all := lw_g (lw_at lw_m3 98 rfl) rfl
theorem q686 : (Jvm.Cond.methodLink "SpinStrip$Parser" (42 : Nat) ({ cls := "SpinStrip$Parser", name := "wrongAt", desc := "(II)LSpinStrip$Fault;" } : Jvm.MethodName)) ∈ lw_all := lw_g (lw_at lw_m3 99 rfl) rfl
theorem q687 : (Jvm.Cond.privateMethod ({ cls := "SpinStrip$Parser", name := "wrongAt", desc := "(II)LSpinStrip$Fault;" } : Jvm.MethodName)) ∈ lw_tbl := lw_at lw_m3 100 rfl
theorem q688 : (Jvm.Cond.instanceMethod ({ cls := "SpinStrip$Parser", name := "wrongAt", desc := "(II)LSpinStrip$Fault;" } : Jvm.MethodName)) ∈ lw_all := lw_g (lw_at lw_m3 101 rfl) rfl
theorem q689 : (Jvm.Cond.code ({ cls := "SpinStrip$Parser", name := "wrongAt", desc := "(II)LSpinStrip$Fault;" } : Jvm.MethodName) prog_8_method_2_code (3 : Nat) (Option.some (Jvm.ClassFile.FieldType.object "SpinStrip$Fault"))) ∈ lw_all := lw_g (lw_at lw_m3 102 rfl) rfl
theorem q690 : (Jvm.Cond.methodLink "SpinStrip$Parser" (32 : Nat) ({ cls := "SpinStrip$Fault", name := "of", desc := "(II)LSpinStrip$Fault;" } : Jvm.MethodName)) ∈ lw_all := lw_g (lw_at lw_m3 103 rfl) rfl
theorem q694 : (Jvm.Cond.methodLink "SpinStrip$Parser" (65 : Nat) ({ cls := "SpinStrip$Tokens", name := "isWord", desc := "(II)Z" } : Jvm.MethodName)) ∈ lw_all := lw_g (lw_at lw_m3 107 rfl) rfl
theorem q698 : (Jvm.Cond.methodLink "SpinStrip$Parser" (86 : Nat) ({ cls := "SpinStrip$Parser", name := "goes", desc := "()V" } : Jvm.MethodName)) ∈ lw_all := lw_g (lw_at lw_m3 111 rfl) rfl
theorem q699 : (Jvm.Cond.privateMethod ({ cls := "SpinStrip$Parser", name := "goes", desc := "()V" } : Jvm.MethodName)) ∈ lw_tbl := lw_at lw_m3 112 rfl
theorem q700 : (Jvm.Cond.instanceMethod ({ cls := "SpinStrip$Parser", name := "goes", desc := "()V" } : Jvm.MethodName)) ∈ lw_all := lw_g (lw_at lw_m3 113 rfl) rfl
theorem q701 : (Jvm.Cond.code ({ cls := "SpinStrip$Parser", name := "goes", desc := "()V" } : Jvm.MethodName) prog_8_method_14_code (1 : Nat) (Option.none : Option Jvm.ClassFile.FieldType)) ∈ lw_all := lw_g (lw_at lw_m3 114 rfl) rfl
theorem q702 : (Jvm.Cond.methodLink "SpinStrip$Parser" (62 : Nat) ({ cls := "SpinStrip$Parser", name := "pass", desc := "()V" } : Jvm.MethodName)) ∈ lw_all := lw_g (lw_at lw_m3 115 rfl) rfl
theorem q703 : (Jvm.Cond.privateMethod ({ cls := "SpinStrip$Parser", name := "pass", desc := "()V" } : Jvm.MethodName)) ∈ lw_tbl := lw_at lw_m3 116 rfl
theorem q704 : (Jvm.Cond.instanceMethod ({ cls := "SpinStrip$Parser", name := "pass", desc := "()V" } : Jvm.MethodName)) ∈ lw_all := lw_g (lw_at lw_m3 117 rfl) rfl
theorem q705 : (Jvm.Cond.code ({ cls := "SpinStrip$Parser", name := "pass", desc := "()V" } : Jvm.MethodName) prog_8_method_5_code (1 : Nat) (Option.none : Option Jvm.ClassFile.FieldType)) ∈ lw_all := lw_g (lw_at lw_m3 118 rfl) rfl
theorem q706 : (Jvm.Cond.methodLink "SpinStrip$Parser" (72 : Nat) ({ cls := "SpinStrip$Parser", name := "number", desc := "()I" } : Jvm.MethodName)) ∈ lw_all := lw_g (lw_at lw_m3 119 rfl) rfl
theorem q707 : (Jvm.Cond.privateMethod ({ cls := "SpinStrip$Parser", name := "number", desc := "()I" } : Jvm.MethodName)) ∈ lw_tbl := lw_at lw_m3 120 rfl
theorem q708 : (Jvm.Cond.instanceMethod ({ cls := "SpinStrip$Parser", name := "number", desc := "()I" } : Jvm.MethodName)) ∈ lw_all := lw_g (lw_at lw_m3 121 rfl) rfl
theorem q709 : (Jvm.Cond.code ({ cls := "SpinStrip$Parser", name := "number", desc := "()I" } : Jvm.MethodName) prog_8_method_7_code (1 : Nat) (Option.some Jvm.ClassFile.FieldType.int)) ∈ lw_all := lw_g (lw_at lw_m3 122 rfl) rfl
theorem q710 : (Jvm.Cond.methodLink "SpinStrip$Parser" (131 : Nat) ({ cls := "SpinStrip$Parser", name := "stop", desc := "()V" } : Jvm.MethodName)) ∈ lw_all := lw_g (lw_at lw_m3 123 rfl) rfl
theorem q711 : (Jvm.Cond.privateMethod ({ cls := "SpinStrip$Parser", name := "stop", desc := "()V" } : Jvm.MethodName)) ∈ lw_tbl := lw_at lw_m3 124 rfl
theorem q712 : (Jvm.Cond.instanceMethod ({ cls := "SpinStrip$Parser", name := "stop", desc := "()V" } : Jvm.MethodName)) ∈ lw_all := lw_g (lw_at lw_m3 125 rfl) rfl
theorem q713 : (Jvm.Cond.code ({ cls := "SpinStrip$Parser", name := "stop", desc := "()V" } : Jvm.MethodName) prog_8_method_9_code (1 : Nat) (Option.none : Option Jvm.ClassFile.FieldType)) ∈ lw_all := lw_g (lw_at lw_m3 126 rfl) rfl
theorem q714 : (Jvm.Cond.methodLink "SpinStrip$Parser" (69 : Nat) ({ cls := "SpinStrip$Tokens", name := "isSign", desc := "(II)Z" } : Jvm.MethodName)) ∈ lw_all := lw_g (lw_at lw_m3 127 rfl) rfl
theorem q718 : (Jvm.Cond.methodLink "SpinStrip$Parser" (134 : Nat) ({ cls := "SpinStrip$Parser", name := "line", desc := "()V" } : Jvm.MethodName)) ∈ lw_all := lw_g (lw_at lw_m3 131 rfl) rfl
theorem q719 : (Jvm.Cond.privateMethod ({ cls := "SpinStrip$Parser", name := "line", desc := "()V" } : Jvm.MethodName)) ∈ lw_tbl := lw_at lw_m3 132 rfl
theorem q720 : (Jvm.Cond.instanceMethod ({ cls := "SpinStrip$Parser", name := "line", desc := "()V" } : Jvm.MethodName)) ∈ lw_all := lw_g (lw_at lw_m3 133 rfl) rfl
theorem q721 : (Jvm.Cond.code ({ cls := "SpinStrip$Parser", name := "line", desc := "()V" } : Jvm.MethodName) prog_8_method_15_code (2 : Nat) (Option.none : Option Jvm.ClassFile.FieldType)) ∈ lw_all := lw_g (lw_at lw_m3 134 rfl) rfl
theorem q722 : (Jvm.Cond.methodLink "SpinStrip$Parser" (140 : Nat) ({ cls := "SpinStrip$Parser", name := "either", desc := "(II)Z" } : Jvm.MethodName)) ∈ lw_all := lw_g (lw_at lw_m3 135 rfl) rfl
theorem q723 : (Jvm.Cond.privateMethod ({ cls := "SpinStrip$Parser", name := "either", desc := "(II)Z" } : Jvm.MethodName)) ∈ lw_tbl := lw_at lw_m3 136 rfl
theorem q724 : (Jvm.Cond.instanceMethod ({ cls := "SpinStrip$Parser", name := "either", desc := "(II)Z" } : Jvm.MethodName)) ∈ lw_all := lw_g (lw_at lw_m3 137 rfl) rfl
theorem q725 : (Jvm.Cond.code ({ cls := "SpinStrip$Parser", name := "either", desc := "(II)Z" } : Jvm.MethodName) prog_8_method_8_code (3 : Nat) (Option.some Jvm.ClassFile.FieldType.boolean)) ∈ lw_all := lw_g (lw_at lw_m3 138 rfl) rfl
theorem q726 : (Jvm.Cond.methodLink "SpinStrip$Parser" (143 : Nat) ({ cls := "SpinStrip$Parser", name := "j", desc := "()I" } : Jvm.MethodName)) ∈ lw_all := lw_g (lw_at lw_m3 139 rfl) rfl
theorem q727 : (Jvm.Cond.privateMethod ({ cls := "SpinStrip$Parser", name := "j", desc := "()I" } : Jvm.MethodName)) ∈ lw_tbl := lw_at lw_m3 140 rfl
theorem q728 : (Jvm.Cond.instanceMethod ({ cls := "SpinStrip$Parser", name := "j", desc := "()I" } : Jvm.MethodName)) ∈ lw_all := lw_g (lw_at lw_m3 141 rfl) rfl
theorem q729 : (Jvm.Cond.code ({ cls := "SpinStrip$Parser", name := "j", desc := "()I" } : Jvm.MethodName) prog_8_method_10_code (1 : Nat) (Option.some Jvm.ClassFile.FieldType.int)) ∈ lw_all := lw_g (lw_at lw_m3 142 rfl) rfl
theorem q730 : (Jvm.Cond.methodLink "SpinStrip$Parser" (89 : Nat) ({ cls := "SpinStrip$Parser", name := "sized", desc := "(II)I" } : Jvm.MethodName)) ∈ lw_all := lw_g (lw_at lw_m3 143 rfl) rfl
theorem q731 : (Jvm.Cond.privateMethod ({ cls := "SpinStrip$Parser", name := "sized", desc := "(II)I" } : Jvm.MethodName)) ∈ lw_tbl := lw_at lw_m3 144 rfl
theorem q732 : (Jvm.Cond.instanceMethod ({ cls := "SpinStrip$Parser", name := "sized", desc := "(II)I" } : Jvm.MethodName)) ∈ lw_all := lw_g (lw_at lw_m3 145 rfl) rfl
theorem q733 : (Jvm.Cond.code ({ cls := "SpinStrip$Parser", name := "sized", desc := "(II)I" } : Jvm.MethodName) prog_8_method_13_code (4 : Nat) (Option.some Jvm.ClassFile.FieldType.int)) ∈ lw_all := lw_g (lw_at lw_m3 146 rfl) rfl
theorem q734 : (Jvm.Cond.methodLink "SpinStrip$Parser" (76 : Nat) ({ cls := "SpinStrip$Tokens", name := "number", desc := "(I)I" } : Jvm.MethodName)) ∈ lw_all := lw_g (lw_at lw_m3 147 rfl) rfl
theorem q738 : (Jvm.Cond.methodLinkNest "SpinStrip$Parser" (127 : Nat) ({ cls := "SpinStrip", name := "isIn", desc := "(III)Z" } : Jvm.MethodName) "SpinStrip") ∈ lw_tbl := lw_at lw_m3 151 rfl
theorem q741 : (Jvm.Cond.methodLink "SpinStrip$Parser" (79 : Nat) ({ cls := "SpinStrip$Parser", name := "tell", desc := "(II)V" } : Jvm.MethodName)) ∈ lw_all := lw_g (lw_at lw_m3 154 rfl) rfl
theorem q742 : (Jvm.Cond.privateMethod ({ cls := "SpinStrip$Parser", name := "tell", desc := "(II)V" } : Jvm.MethodName)) ∈ lw_tbl := lw_at lw_m3 155 rfl
theorem q743 : (Jvm.Cond.instanceMethod ({ cls := "SpinStrip$Parser", name := "tell", desc := "(II)V" } : Jvm.MethodName)) ∈ lw_all := lw_g (lw_at lw_m3 156 rfl) rfl
theorem q744 : (Jvm.Cond.code ({ cls := "SpinStrip$Parser", name := "tell", desc := "(II)V" } : Jvm.MethodName) prog_8_method_4_code (3 : Nat) (Option.none : Option Jvm.ClassFile.FieldType)) ∈ lw_all := lw_g (lw_at lw_m3 157 rfl) rfl
theorem q745 : (Jvm.Cond.methodLink "SpinStrip$Parser" (121 : Nat) ({ cls := "SpinStrip$Parser", name := "tells", desc := "()V" } : Jvm.MethodName)) ∈ lw_all := lw_g (lw_at lw_m3 158 rfl) rfl
theorem q746 : (Jvm.Cond.privateMethod ({ cls := "SpinStrip$Parser", name := "tells", desc := "()V" } : Jvm.MethodName)) ∈ lw_tbl := lw_at lw_m3 159 rfl
theorem q747 : (Jvm.Cond.instanceMethod ({ cls := "SpinStrip$Parser", name := "tells", desc := "()V" } : Jvm.MethodName)) ∈ lw_all := lw_g (lw_at lw_m3 160 rfl) rfl
theorem q748 : (Jvm.Cond.code ({ cls := "SpinStrip$Parser", name := "tells", desc := "()V" } : Jvm.MethodName) prog_8_method_17_code (3 : Nat) (Option.none : Option Jvm.ClassFile.FieldType)) ∈ lw_all := lw_g (lw_at lw_m3 161 rfl) rfl
theorem q749 : (Jvm.Cond.methodLink "SpinStrip$Parser" (146 : Nat) ({ cls := "SpinStrip$Parser", name := "end", desc := "(I)I" } : Jvm.MethodName)) ∈ lw_all := lw_g (lw_at lw_m3 162 rfl) rfl
theorem q750 : (Jvm.Cond.privateMethod ({ cls := "SpinStrip$Parser", name := "end", desc := "(I)I" } : Jvm.MethodName)) ∈ lw_tbl := lw_at lw_m3 163 rfl
theorem q751 : (Jvm.Cond.instanceMethod ({ cls := "SpinStrip$Parser", name := "end", desc := "(I)I" } : Jvm.MethodName)) ∈ lw_all := lw_g (lw_at lw_m3 164 rfl) rfl
theorem q752 : (Jvm.Cond.code ({ cls := "SpinStrip$Parser", name := "end", desc := "(I)I" } : Jvm.MethodName) prog_8_method_16_code (3 : Nat) (Option.some Jvm.ClassFile.FieldType.int)) ∈ lw_all := lw_g (lw_at lw_m3 165 rfl) rfl
theorem q753 : (Jvm.Cond.methodLink "SpinStrip$Parser" (149 : Nat) ({ cls := "SpinStrip$Parser", name := "told", desc := "(III)V" } : Jvm.MethodName)) ∈ lw_all := lw_g (lw_at lw_m3 166 rfl) rfl
theorem q754 : (Jvm.Cond.privateMethod ({ cls := "SpinStrip$Parser", name := "told", desc := "(III)V" } : Jvm.MethodName)) ∈ lw_tbl := lw_at lw_m3 167 rfl
theorem q755 : (Jvm.Cond.instanceMethod ({ cls := "SpinStrip$Parser", name := "told", desc := "(III)V" } : Jvm.MethodName)) ∈ lw_all := lw_g (lw_at lw_m3 168 rfl) rfl
theorem q756 : (Jvm.Cond.code ({ cls := "SpinStrip$Parser", name := "told", desc := "(III)V" } : Jvm.MethodName) prog_8_method_18_code (5 : Nat) (Option.none : Option Jvm.ClassFile.FieldType)) ∈ lw_all := lw_g (lw_at lw_m3 169 rfl) rfl
theorem q757 : (Jvm.Cond.methodLink "SpinStrip$Parser" (153 : Nat) ({ cls := "SpinStrip$Parser", name := "jOf", desc := "(I)I" } : Jvm.MethodName)) ∈ lw_all := lw_g (lw_at lw_m3 170 rfl) rfl
theorem q758 : (Jvm.Cond.privateMethod ({ cls := "SpinStrip$Parser", name := "jOf", desc := "(I)I" } : Jvm.MethodName)) ∈ lw_tbl := lw_at lw_m3 171 rfl
theorem q759 : (Jvm.Cond.instanceMethod ({ cls := "SpinStrip$Parser", name := "jOf", desc := "(I)I" } : Jvm.MethodName)) ∈ lw_all := lw_g (lw_at lw_m3 172 rfl) rfl
theorem q760 : (Jvm.Cond.code ({ cls := "SpinStrip$Parser", name := "jOf", desc := "(I)I" } : Jvm.MethodName) prog_8_method_11_code (3 : Nat) (Option.some Jvm.ClassFile.FieldType.int)) ∈ lw_all := lw_g (lw_at lw_m3 173 rfl) rfl
theorem q761 : (Jvm.Cond.methodLink "SpinStrip$Parser" (156 : Nat) ({ cls := "SpinStrip$Parser", name := "all", desc := "(II)V" } : Jvm.MethodName)) ∈ lw_all := lw_g (lw_at lw_m3 174 rfl) rfl
theorem q762 : (Jvm.Cond.privateMethod ({ cls := "SpinStrip$Parser", name := "all", desc := "(II)V" } : Jvm.MethodName)) ∈ lw_tbl := lw_at lw_m3 175 rfl
theorem q763 : (Jvm.Cond.instanceMethod ({ cls := "SpinStrip$Parser", name := "all", desc := "(II)V" } : Jvm.MethodName)) ∈ lw_all := lw_g (lw_at lw_m3 176 rfl) rfl
theorem q764 : (Jvm.Cond.code ({ cls := "SpinStrip$Parser", name := "all", desc := "(II)V" } : Jvm.MethodName) prog_8_method_19_code (5 : Nat) (Option.none : Option Jvm.ClassFile.FieldType)) ∈ lw_all := lw_g (lw_at lw_m3 177 rfl) rfl
theorem q765 : (Jvm.Cond.methodLink "SpinStrip$Parser" (170 : Nat) ({ cls := "SpinStrip$Strip", name := "sites", desc := "()I" } : Jvm.MethodName)) ∈ lw_all := lw_g (lw_at lw_m3 178 rfl) rfl
theorem q769 : (Jvm.Cond.methodLink "SpinStrip$Parser" (159 : Nat) ({ cls := "SpinStrip$Parser", name := "ties", desc := "(IZI)V" } : Jvm.MethodName)) ∈ lw_all := lw_g (lw_at lw_m3 182 rfl) rfl
theorem q770 : (Jvm.Cond.privateMethod ({ cls := "SpinStrip$Parser", name := "ties", desc := "(IZI)V" } : Jvm.MethodName)) ∈ lw_tbl := lw_at lw_m3 183 rfl
theorem q771 : (Jvm.Cond.instanceMethod ({ cls := "SpinStrip$Parser", name := "ties", desc := "(IZI)V" } : Jvm.MethodName)) ∈ lw_all := lw_g (lw_at lw_m3 184 rfl) rfl
theorem q772 : (Jvm.Cond.code ({ cls := "SpinStrip$Parser", name := "ties", desc := "(IZI)V" } : Jvm.MethodName) prog_8_method_21_code (5 : Nat) (Option.none : Option Jvm.ClassFile.FieldType)) ∈ lw_all := lw_g (lw_at lw_m3 185 rfl) rfl
theorem q773 : (Jvm.Cond.methodLink "SpinStrip$Parser" (177 : Nat) ({ cls := "SpinStrip$Parser", name := "site", desc := "(I)I" } : Jvm.MethodName)) ∈ lw_all := lw_g (lw_at lw_m3 186 rfl) rfl
theorem q774 : (Jvm.Cond.privateMethod ({ cls := "SpinStrip$Parser", name := "site", desc := "(I)I" } : Jvm.MethodName)) ∈ lw_tbl := lw_at lw_m3 187 rfl
theorem q775 : (Jvm.Cond.instanceMethod ({ cls := "SpinStrip$Parser", name := "site", desc := "(I)I" } : Jvm.MethodName)) ∈ lw_all := lw_g (lw_at lw_m3 188 rfl) rfl
theorem q776 : (Jvm.Cond.code ({ cls := "SpinStrip$Parser", name := "site", desc := "(I)I" } : Jvm.MethodName) prog_8_method_20_code (3 : Nat) (Option.some Jvm.ClassFile.FieldType.int)) ∈ lw_all := lw_g (lw_at lw_m3 189 rfl) rfl
theorem q777 : (Jvm.Cond.methodLink "SpinStrip$Parser" (173 : Nat) ({ cls := "SpinStrip$Strip", name := "isSite", desc := "(I)Z" } : Jvm.MethodName)) ∈ lw_all := lw_g (lw_at lw_m3 190 rfl) rfl
theorem q783 : (Jvm.Cond.methodLink "SpinStrip$Parser" (180 : Nat) ({ cls := "SpinStrip$Strip", name := "other", desc := "(IZ)I" } : Jvm.MethodName)) ∈ lw_all := lw_g (lw_at lw_m3 196 rfl) rfl
theorem q790 : (Jvm.Cond.methodLink "SpinStrip$Parser" (184 : Nat) ({ cls := "SpinStrip$Strip", name := "ties", desc := "(IZI)V" } : Jvm.MethodName)) ∈ lw_all := lw_g (lw_at lw_m3 203 rfl) rfl
theorem q794 : (Jvm.Cond.methodLink "SpinStrip$Parser" (163 : Nat) ({ cls := "SpinStrip$Parser", name := "pulls", desc := "(II)V" } : Jvm.MethodName)) ∈ lw_all := lw_g (lw_at lw_m3 207 rfl) rfl
theorem q795 : (Jvm.Cond.privateMethod ({ cls := "SpinStrip$Parser", name := "pulls", desc := "(II)V" } : Jvm.MethodName)) ∈ lw_tbl := lw_at lw_m3 208 rfl
theorem q796 : (Jvm.Cond.instanceMethod ({ cls := "SpinStrip$Parser", name := "pulls", desc := "(II)V" } : Jvm.MethodName)) ∈ lw_all := lw_g (lw_at lw_m3 209 rfl) rfl
theorem q797 : (Jvm.Cond.code ({ cls := "SpinStrip$Parser", name := "pulls", desc := "(II)V" } : Jvm.MethodName) prog_8_method_22_code (4 : Nat) (Option.none : Option Jvm.ClassFile.FieldType)) ∈ lw_all := lw_g (lw_at lw_m3 210 rfl) rfl
theorem q798 : (Jvm.Cond.methodLink "SpinStrip$Parser" (166 : Nat) ({ cls := "SpinStrip$Parser", name := "pins", desc := "(IZ)V" } : Jvm.MethodName)) ∈ lw_all := lw_g (lw_at lw_m3 211 rfl) rfl
theorem q799 : (Jvm.Cond.privateMethod ({ cls := "SpinStrip$Parser", name := "pins", desc := "(IZ)V" } : Jvm.MethodName)) ∈ lw_tbl := lw_at lw_m3 212 rfl
theorem q800 : (Jvm.Cond.instanceMethod ({ cls := "SpinStrip$Parser", name := "pins", desc := "(IZ)V" } : Jvm.MethodName)) ∈ lw_all := lw_g (lw_at lw_m3 213 rfl) rfl
theorem q801 : (Jvm.Cond.code ({ cls := "SpinStrip$Parser", name := "pins", desc := "(IZ)V" } : Jvm.MethodName) prog_8_method_23_code (4 : Nat) (Option.none : Option Jvm.ClassFile.FieldType)) ∈ lw_all := lw_g (lw_at lw_m3 214 rfl) rfl
theorem q879 : (Jvm.Cond.selects "SpinStrip$Parser" ({ cls := "java/lang/Object", name := "getClass", desc := "()Ljava/lang/Class;" } : Jvm.MethodName) ({ cls := "java/lang/Object", name := "getClass", desc := "()Ljava/lang/Class;" } : Jvm.MethodName)) ∈ lw_all := lw_g (lw_at lw_m4 52 rfl) rfl
theorem q2393 : (Jvm.Cond.castable "SpinStrip$Parser" "java/lang/Object") ∈ lw_tbl := lw_at lw_m10 126 rfl
theorem in_X3 : ∀ w ∈ wsX30, w ∈ lw_all := lw_in wsX30 [358, 360, 362, 364, 366, 368] (by decide +kernel) (by decide +kernel)
/-! SpinStrip$Strip -/
set_option maxRecDepth 100000
def RX4 : String := "SpinStrip$Strip"
def TX4 : u_T := fun k => match k with
  | 0 => ("SpinStrip$Strip", "wide", "I", false)
  | 1 => ("SpinStrip$Strip", "length", "I", false)
  | 2 => ("SpinStrip$Strip", "rings", "I", false)
  | 3 => ("SpinStrip$Strip", "state", "I", false)
  | 4 => ("SpinStrip$Strip", "seed", "I", false)
  | 5 => ("SpinStrip$Strip", "across", "[I", true)
  | 6 => ("SpinStrip$Strip", "along", "[I", true)
  | 7 => ("SpinStrip$Strip", "field", "[I", true)
  | 8 => ("SpinStrip$Strip", "up", "I", false)
  | _ => ("SpinStrip$Strip", "down", "I", false)
def tyX4 : Nat → FieldType := fun k => match k with
  | 0 => .int
  | 1 => .int
  | 2 => .int
  | 3 => .int
  | 4 => .int
  | 5 => .array .int
  | 6 => .array .int
  | 7 => .array .int
  | 8 => .int
  | _ => .int
abbrev wsX40 : List Cond := u_ws RX4 TX4 10
theorem nmX4 : ∀ a, a < 10 → ∀ b, b < 10 → a ≠ b → (TX4 a).2.1 ≠ (TX4 b).2.1 := by decide +kernel
theorem tyX4_ok : ∀ k, k < 10 → parseFieldDescriptor (TX4 k).2.2.1 = some (tyX4 k) := by decide +kernel
abbrev cX4_init : ByteArray := prog_11_method_1_code
def yX4_init : MethodName := ⟨RX4, "<init>", "()V"⟩
def dkwX4_init_1 : List UInt8 := [188, 10, 181, 0, 18, 177]
abbrev dktX4_init_1 : List UInt8 := dkwX4_init_1 ++ []
def dkwX4_init_0 : List UInt8 := [42, 183, 0, 3, 42, 16, 16, 188, 10, 181, 0, 9, 42, 16, 16, 188, 10, 181, 0, 15, 42, 16, 16]
abbrev dktX4_init_0 : List UInt8 := dkwX4_init_0 ++ dktX4_init_1
theorem dksX4_init_0 : cX4_init.data.toList.drop 0 = dktX4_init_0 := by decide +kernel
theorem dksX4_init_1 : cX4_init.data.toList.drop 23 = dktX4_init_1 := dk_seg dksX4_init_0 23 rfl rfl
theorem dX4_init_0 : decode cX4_init 0 = .ok (.aload_n 0, 1) := dk_42 (dk_at dksX4_init_0 0 rfl rfl)
theorem dX4_init_1 : decode cX4_init 1 = .ok (.invokespecial 3, 3) := dk_183 0 3 (dk_at dksX4_init_0 1 rfl rfl)
theorem dX4_init_4 : decode cX4_init 4 = .ok (.aload_n 0, 1) := dk_42 (dk_at dksX4_init_0 4 rfl rfl)
theorem dX4_init_5 : decode cX4_init 5 = .ok (.bipush 16, 2) := dk_16 16 (dk_at dksX4_init_0 5 rfl rfl)
theorem dX4_init_7 : decode cX4_init 7 = .ok (.newarray .int, 2) := dk_188_10 (dk_at dksX4_init_0 7 rfl rfl)
theorem dX4_init_9 : decode cX4_init 9 = .ok (.putfield 9, 3) := dk_181 0 9 (dk_at dksX4_init_0 9 rfl rfl)
theorem dX4_init_12 : decode cX4_init 12 = .ok (.aload_n 0, 1) := dk_42 (dk_at dksX4_init_0 12 rfl rfl)
theorem dX4_init_13 : decode cX4_init 13 = .ok (.bipush 16, 2) := dk_16 16 (dk_at dksX4_init_0 13 rfl rfl)
theorem dX4_init_15 : decode cX4_init 15 = .ok (.newarray .int, 2) := dk_188_10 (dk_at dksX4_init_0 15 rfl rfl)
theorem dX4_init_17 : decode cX4_init 17 = .ok (.putfield 15, 3) := dk_181 0 15 (dk_at dksX4_init_0 17 rfl rfl)
theorem dX4_init_20 : decode cX4_init 20 = .ok (.aload_n 0, 1) := dk_42 (dk_at dksX4_init_0 20 rfl rfl)
theorem dX4_init_21 : decode cX4_init 21 = .ok (.bipush 16, 2) := dk_16 16 (dk_at dksX4_init_0 21 rfl rfl)
theorem dX4_init_23 : decode cX4_init 23 = .ok (.newarray .int, 2) := dk_188_10 (dk_at dksX4_init_1 0 rfl rfl)
theorem dX4_init_25 : decode cX4_init 25 = .ok (.putfield 18, 3) := dk_181 0 18 (dk_at dksX4_init_1 2 rfl rfl)
theorem dX4_init_28 : decode cX4_init 28 = .ok (.return_, 1) := dk_177 (dk_at dksX4_init_1 5 rfl rfl)
abbrev cX4_sites : ByteArray := prog_11_method_3_code
def yX4_sites : MethodName := ⟨RX4, "sites", "()I"⟩
def dkwX4_sites_0 : List UInt8 := [42, 180, 0, 21, 42, 180, 0, 25, 104, 172]
abbrev dktX4_sites_0 : List UInt8 := dkwX4_sites_0 ++ []
theorem dksX4_sites_0 : cX4_sites.data.toList.drop 0 = dktX4_sites_0 := by decide +kernel
theorem dX4_sites_0 : decode cX4_sites 0 = .ok (.aload_n 0, 1) := dk_42 (dk_at dksX4_sites_0 0 rfl rfl)
theorem dX4_sites_1 : decode cX4_sites 1 = .ok (.getfield 21, 3) := dk_180 0 21 (dk_at dksX4_sites_0 1 rfl rfl)
theorem dX4_sites_4 : decode cX4_sites 4 = .ok (.aload_n 0, 1) := dk_42 (dk_at dksX4_sites_0 4 rfl rfl)
theorem dX4_sites_5 : decode cX4_sites 5 = .ok (.getfield 25, 3) := dk_180 0 25 (dk_at dksX4_sites_0 5 rfl rfl)
theorem dX4_sites_8 : decode cX4_sites 8 = .ok (.imul, 1) := dk_104 (dk_at dksX4_sites_0 8 rfl rfl)
theorem dX4_sites_9 : decode cX4_sites 9 = .ok (.ireturn, 1) := dk_172 (dk_at dksX4_sites_0 9 rfl rfl)
abbrev cX4_isSite : ByteArray := prog_11_method_5_code
def yX4_isSite : MethodName := ⟨RX4, "isSite", "(I)Z"⟩
def dkwX4_isSite_0 : List UInt8 := [27, 3, 42, 182, 0, 49, 4, 100, 184, 0, 53, 172]
abbrev dktX4_isSite_0 : List UInt8 := dkwX4_isSite_0 ++ []
theorem dksX4_isSite_0 : cX4_isSite.data.toList.drop 0 = dktX4_isSite_0 := by decide +kernel
theorem dX4_isSite_0 : decode cX4_isSite 0 = .ok (.iload_n 1, 1) := dk_27 (dk_at dksX4_isSite_0 0 rfl rfl)
theorem dX4_isSite_1 : decode cX4_isSite 1 = .ok (.iconst 0, 1) := dk_3 (dk_at dksX4_isSite_0 1 rfl rfl)
theorem dX4_isSite_2 : decode cX4_isSite 2 = .ok (.aload_n 0, 1) := dk_42 (dk_at dksX4_isSite_0 2 rfl rfl)
theorem dX4_isSite_3 : decode cX4_isSite 3 = .ok (.invokevirtual 49, 3) := dk_182 0 49 (dk_at dksX4_isSite_0 3 rfl rfl)
theorem dX4_isSite_6 : decode cX4_isSite 6 = .ok (.iconst 1, 1) := dk_4 (dk_at dksX4_isSite_0 6 rfl rfl)
theorem dX4_isSite_7 : decode cX4_isSite 7 = .ok (.isub, 1) := dk_100 (dk_at dksX4_isSite_0 7 rfl rfl)
theorem dX4_isSite_8 : decode cX4_isSite 8 = .ok (.invokestatic 53, 3) := dk_184 0 53 (dk_at dksX4_isSite_0 8 rfl rfl)
theorem dX4_isSite_11 : decode cX4_isSite 11 = .ok (.ireturn, 1) := dk_172 (dk_at dksX4_isSite_0 11 rfl rfl)
abbrev cX4_other : ByteArray := prog_11_method_8_code
def yX4_other : MethodName := ⟨RX4, "other", "(IZ)I"⟩
def dkwX4_other_4 : List UInt8 := [180, 0, 21, 5, 164, 0, 12, 29, 42, 180, 0, 21, 104, 167, 0, 4, 2, 172]
abbrev dktX4_other_4 : List UInt8 := dkwX4_other_4 ++ []
def dkwX4_other_3 : List UInt8 := [180, 0, 21, 162, 0, 9, 27, 4, 96, 167, 0, 32, 42, 180, 0, 28, 3, 184, 0, 57, 153, 0, 20, 42]
abbrev dktX4_other_3 : List UInt8 := dkwX4_other_3 ++ dktX4_other_4
def dkwX4_other_2 : List UInt8 := [153, 0, 16, 42, 180, 0, 25, 5, 164, 0, 8, 21, 4, 167, 0, 4, 2, 172, 21, 4, 4, 96, 42]
abbrev dktX4_other_2 : List UInt8 := dkwX4_other_2 ++ dktX4_other_3
def dkwX4_other_1 : List UInt8 := [180, 0, 25, 162, 0, 12, 27, 42, 180, 0, 21, 96, 167, 0, 28, 42, 180, 0, 28, 4, 184, 0, 57]
abbrev dktX4_other_1 : List UInt8 := dkwX4_other_1 ++ dktX4_other_2
def dkwX4_other_0 : List UInt8 := [27, 42, 180, 0, 21, 108, 62, 27, 42, 180, 0, 21, 112, 54, 4, 28, 153, 0, 48, 29, 4, 96, 42]
abbrev dktX4_other_0 : List UInt8 := dkwX4_other_0 ++ dktX4_other_1
theorem dksX4_other_0 : cX4_other.data.toList.drop 0 = dktX4_other_0 := by decide +kernel
theorem dksX4_other_1 : cX4_other.data.toList.drop 23 = dktX4_other_1 := dk_seg dksX4_other_0 23 rfl rfl
theorem dksX4_other_2 : cX4_other.data.toList.drop 46 = dktX4_other_2 := dk_seg dksX4_other_1 23 rfl rfl
theorem dksX4_other_3 : cX4_other.data.toList.drop 69 = dktX4_other_3 := dk_seg dksX4_other_2 23 rfl rfl
theorem dksX4_other_4 : cX4_other.data.toList.drop 93 = dktX4_other_4 := dk_seg dksX4_other_3 24 rfl rfl
theorem dX4_other_0 : decode cX4_other 0 = .ok (.iload_n 1, 1) := dk_27 (dk_at dksX4_other_0 0 rfl rfl)
theorem dX4_other_1 : decode cX4_other 1 = .ok (.aload_n 0, 1) := dk_42 (dk_at dksX4_other_0 1 rfl rfl)
theorem dX4_other_2 : decode cX4_other 2 = .ok (.getfield 21, 3) := dk_180 0 21 (dk_at dksX4_other_0 2 rfl rfl)
theorem dX4_other_5 : decode cX4_other 5 = .ok (.idiv, 1) := dk_108 (dk_at dksX4_other_0 5 rfl rfl)
theorem dX4_other_6 : decode cX4_other 6 = .ok (.istore_n 3, 1) := dk_62 (dk_at dksX4_other_0 6 rfl rfl)
theorem dX4_other_7 : decode cX4_other 7 = .ok (.iload_n 1, 1) := dk_27 (dk_at dksX4_other_0 7 rfl rfl)
theorem dX4_other_8 : decode cX4_other 8 = .ok (.aload_n 0, 1) := dk_42 (dk_at dksX4_other_0 8 rfl rfl)
theorem dX4_other_9 : decode cX4_other 9 = .ok (.getfield 21, 3) := dk_180 0 21 (dk_at dksX4_other_0 9 rfl rfl)
theorem dX4_other_12 : decode cX4_other 12 = .ok (.irem, 1) := dk_112 (dk_at dksX4_other_0 12 rfl rfl)
theorem dX4_other_13 : decode cX4_other 13 = .ok (.istore 4, 2) := dk_54 4 (dk_at dksX4_other_0 13 rfl rfl)
theorem dX4_other_15 : decode cX4_other 15 = .ok (.iload_n 2, 1) := dk_28 (dk_at dksX4_other_0 15 rfl rfl)
theorem dX4_other_16 : decode cX4_other 16 = .ok (.ifCond .eq 48, 3) := dk_153 0 48 (dk_at dksX4_other_0 16 rfl rfl)
theorem dX4_other_19 : decode cX4_other 19 = .ok (.iload_n 3, 1) := dk_29 (dk_at dksX4_other_0 19 rfl rfl)
theorem dX4_other_20 : decode cX4_other 20 = .ok (.iconst 1, 1) := dk_4 (dk_at dksX4_other_0 20 rfl rfl)
theorem dX4_other_21 : decode cX4_other 21 = .ok (.iadd, 1) := dk_96 (dk_at dksX4_other_0 21 rfl rfl)
theorem dX4_other_22 : decode cX4_other 22 = .ok (.aload_n 0, 1) := dk_42 (dk_at dksX4_other_0 22 rfl rfl)
theorem dX4_other_23 : decode cX4_other 23 = .ok (.getfield 25, 3) := dk_180 0 25 (dk_at dksX4_other_1 0 rfl rfl)
theorem dX4_other_26 : decode cX4_other 26 = .ok (.if_icmp .ge 12, 3) := dk_162 0 12 (dk_at dksX4_other_1 3 rfl rfl)
theorem dX4_other_29 : decode cX4_other 29 = .ok (.iload_n 1, 1) := dk_27 (dk_at dksX4_other_1 6 rfl rfl)
theorem dX4_other_30 : decode cX4_other 30 = .ok (.aload_n 0, 1) := dk_42 (dk_at dksX4_other_1 7 rfl rfl)
theorem dX4_other_31 : decode cX4_other 31 = .ok (.getfield 21, 3) := dk_180 0 21 (dk_at dksX4_other_1 8 rfl rfl)
theorem dX4_other_34 : decode cX4_other 34 = .ok (.iadd, 1) := dk_96 (dk_at dksX4_other_1 11 rfl rfl)
theorem dX4_other_35 : decode cX4_other 35 = .ok (.goto 28, 3) := dk_167 0 28 (dk_at dksX4_other_1 12 rfl rfl)
theorem dX4_other_38 : decode cX4_other 38 = .ok (.aload_n 0, 1) := dk_42 (dk_at dksX4_other_1 15 rfl rfl)
theorem dX4_other_39 : decode cX4_other 39 = .ok (.getfield 28, 3) := dk_180 0 28 (dk_at dksX4_other_1 16 rfl rfl)
theorem dX4_other_42 : decode cX4_other 42 = .ok (.iconst 1, 1) := dk_4 (dk_at dksX4_other_1 19 rfl rfl)
theorem dX4_other_43 : decode cX4_other 43 = .ok (.invokestatic 57, 3) := dk_184 0 57 (dk_at dksX4_other_1 20 rfl rfl)
theorem dX4_other_46 : decode cX4_other 46 = .ok (.ifCond .eq 16, 3) := dk_153 0 16 (dk_at dksX4_other_2 0 rfl rfl)
theorem dX4_other_49 : decode cX4_other 49 = .ok (.aload_n 0, 1) := dk_42 (dk_at dksX4_other_2 3 rfl rfl)
theorem dX4_other_50 : decode cX4_other 50 = .ok (.getfield 25, 3) := dk_180 0 25 (dk_at dksX4_other_2 4 rfl rfl)
theorem dX4_other_53 : decode cX4_other 53 = .ok (.iconst 2, 1) := dk_5 (dk_at dksX4_other_2 7 rfl rfl)
theorem dX4_other_54 : decode cX4_other 54 = .ok (.if_icmp .le 8, 3) := dk_164 0 8 (dk_at dksX4_other_2 8 rfl rfl)
theorem dX4_other_57 : decode cX4_other 57 = .ok (.iload 4, 2) := dk_21 4 (dk_at dksX4_other_2 11 rfl rfl)
theorem dX4_other_59 : decode cX4_other 59 = .ok (.goto 4, 3) := dk_167 0 4 (dk_at dksX4_other_2 13 rfl rfl)
theorem dX4_other_62 : decode cX4_other 62 = .ok (.iconst (-1), 1) := dk_2 (dk_at dksX4_other_2 16 rfl rfl)
theorem dX4_other_63 : decode cX4_other 63 = .ok (.ireturn, 1) := dk_172 (dk_at dksX4_other_2 17 rfl rfl)
theorem dX4_other_64 : decode cX4_other 64 = .ok (.iload 4, 2) := dk_21 4 (dk_at dksX4_other_2 18 rfl rfl)
theorem dX4_other_66 : decode cX4_other 66 = .ok (.iconst 1, 1) := dk_4 (dk_at dksX4_other_2 20 rfl rfl)
theorem dX4_other_67 : decode cX4_other 67 = .ok (.iadd, 1) := dk_96 (dk_at dksX4_other_2 21 rfl rfl)
theorem dX4_other_68 : decode cX4_other 68 = .ok (.aload_n 0, 1) := dk_42 (dk_at dksX4_other_2 22 rfl rfl)
theorem dX4_other_69 : decode cX4_other 69 = .ok (.getfield 21, 3) := dk_180 0 21 (dk_at dksX4_other_3 0 rfl rfl)
theorem dX4_other_72 : decode cX4_other 72 = .ok (.if_icmp .ge 9, 3) := dk_162 0 9 (dk_at dksX4_other_3 3 rfl rfl)
theorem dX4_other_75 : decode cX4_other 75 = .ok (.iload_n 1, 1) := dk_27 (dk_at dksX4_other_3 6 rfl rfl)
theorem dX4_other_76 : decode cX4_other 76 = .ok (.iconst 1, 1) := dk_4 (dk_at dksX4_other_3 7 rfl rfl)
theorem dX4_other_77 : decode cX4_other 77 = .ok (.iadd, 1) := dk_96 (dk_at dksX4_other_3 8 rfl rfl)
theorem dX4_other_78 : decode cX4_other 78 = .ok (.goto 32, 3) := dk_167 0 32 (dk_at dksX4_other_3 9 rfl rfl)
theorem dX4_other_81 : decode cX4_other 81 = .ok (.aload_n 0, 1) := dk_42 (dk_at dksX4_other_3 12 rfl rfl)
theorem dX4_other_82 : decode cX4_other 82 = .ok (.getfield 28, 3) := dk_180 0 28 (dk_at dksX4_other_3 13 rfl rfl)
theorem dX4_other_85 : decode cX4_other 85 = .ok (.iconst 0, 1) := dk_3 (dk_at dksX4_other_3 16 rfl rfl)
theorem dX4_other_86 : decode cX4_other 86 = .ok (.invokestatic 57, 3) := dk_184 0 57 (dk_at dksX4_other_3 17 rfl rfl)
theorem dX4_other_89 : decode cX4_other 89 = .ok (.ifCond .eq 20, 3) := dk_153 0 20 (dk_at dksX4_other_3 20 rfl rfl)
theorem dX4_other_92 : decode cX4_other 92 = .ok (.aload_n 0, 1) := dk_42 (dk_at dksX4_other_3 23 rfl rfl)
theorem dX4_other_93 : decode cX4_other 93 = .ok (.getfield 21, 3) := dk_180 0 21 (dk_at dksX4_other_4 0 rfl rfl)
theorem dX4_other_96 : decode cX4_other 96 = .ok (.iconst 2, 1) := dk_5 (dk_at dksX4_other_4 3 rfl rfl)
theorem dX4_other_97 : decode cX4_other 97 = .ok (.if_icmp .le 12, 3) := dk_164 0 12 (dk_at dksX4_other_4 4 rfl rfl)
theorem dX4_other_100 : decode cX4_other 100 = .ok (.iload_n 3, 1) := dk_29 (dk_at dksX4_other_4 7 rfl rfl)
theorem dX4_other_101 : decode cX4_other 101 = .ok (.aload_n 0, 1) := dk_42 (dk_at dksX4_other_4 8 rfl rfl)
theorem dX4_other_102 : decode cX4_other 102 = .ok (.getfield 21, 3) := dk_180 0 21 (dk_at dksX4_other_4 9 rfl rfl)
theorem dX4_other_105 : decode cX4_other 105 = .ok (.imul, 1) := dk_104 (dk_at dksX4_other_4 12 rfl rfl)
theorem dX4_other_106 : decode cX4_other 106 = .ok (.goto 4, 3) := dk_167 0 4 (dk_at dksX4_other_4 13 rfl rfl)
theorem dX4_other_109 : decode cX4_other 109 = .ok (.iconst (-1), 1) := dk_2 (dk_at dksX4_other_4 16 rfl rfl)
theorem dX4_other_110 : decode cX4_other 110 = .ok (.ireturn, 1) := dk_172 (dk_at dksX4_other_4 17 rfl rfl)
abbrev cX4_ties : ByteArray := prog_11_method_10_code
def yX4_ties : MethodName := ⟨RX4, "ties", "(IZI)V"⟩
def dkwX4_ties_0 : List UInt8 := [28, 153, 0, 13, 42, 180, 0, 15, 27, 29, 79, 167, 0, 10, 42, 180, 0, 9, 27, 29, 79, 177]
abbrev dktX4_ties_0 : List UInt8 := dkwX4_ties_0 ++ []
theorem dksX4_ties_0 : cX4_ties.data.toList.drop 0 = dktX4_ties_0 := by decide +kernel
theorem dX4_ties_0 : decode cX4_ties 0 = .ok (.iload_n 2, 1) := dk_28 (dk_at dksX4_ties_0 0 rfl rfl)
theorem dX4_ties_1 : decode cX4_ties 1 = .ok (.ifCond .eq 13, 3) := dk_153 0 13 (dk_at dksX4_ties_0 1 rfl rfl)
theorem dX4_ties_4 : decode cX4_ties 4 = .ok (.aload_n 0, 1) := dk_42 (dk_at dksX4_ties_0 4 rfl rfl)
theorem dX4_ties_5 : decode cX4_ties 5 = .ok (.getfield 15, 3) := dk_180 0 15 (dk_at dksX4_ties_0 5 rfl rfl)
theorem dX4_ties_8 : decode cX4_ties 8 = .ok (.iload_n 1, 1) := dk_27 (dk_at dksX4_ties_0 8 rfl rfl)
theorem dX4_ties_9 : decode cX4_ties 9 = .ok (.iload_n 3, 1) := dk_29 (dk_at dksX4_ties_0 9 rfl rfl)
theorem dX4_ties_10 : decode cX4_ties 10 = .ok (.iastore, 1) := dk_79 (dk_at dksX4_ties_0 10 rfl rfl)
theorem dX4_ties_11 : decode cX4_ties 11 = .ok (.goto 10, 3) := dk_167 0 10 (dk_at dksX4_ties_0 11 rfl rfl)
theorem dX4_ties_14 : decode cX4_ties 14 = .ok (.aload_n 0, 1) := dk_42 (dk_at dksX4_ties_0 14 rfl rfl)
theorem dX4_ties_15 : decode cX4_ties 15 = .ok (.getfield 9, 3) := dk_180 0 9 (dk_at dksX4_ties_0 15 rfl rfl)
theorem dX4_ties_18 : decode cX4_ties 18 = .ok (.iload_n 1, 1) := dk_27 (dk_at dksX4_ties_0 18 rfl rfl)
theorem dX4_ties_19 : decode cX4_ties 19 = .ok (.iload_n 3, 1) := dk_29 (dk_at dksX4_ties_0 19 rfl rfl)
theorem dX4_ties_20 : decode cX4_ties 20 = .ok (.iastore, 1) := dk_79 (dk_at dksX4_ties_0 20 rfl rfl)
theorem dX4_ties_21 : decode cX4_ties 21 = .ok (.return_, 1) := dk_177 (dk_at dksX4_ties_0 21 rfl rfl)
abbrev cX4_becomes : ByteArray := prog_11_method_2_code
def yX4_becomes : MethodName := ⟨RX4, "becomes", "(LSpinStrip$Strip;)V"⟩
def dkwX4_becomes_4 : List UInt8 := [16, 16, 184, 0, 43, 177]
abbrev dktX4_becomes_4 : List UInt8 := dkwX4_becomes_4 ++ []
def dkwX4_becomes_3 : List UInt8 := [180, 0, 15, 3, 42, 180, 0, 15, 3, 16, 16, 184, 0, 43, 43, 180, 0, 18, 3, 42, 180, 0, 18, 3]
abbrev dktX4_becomes_3 : List UInt8 := dkwX4_becomes_3 ++ dktX4_becomes_4
def dkwX4_becomes_2 : List UInt8 := [42, 43, 180, 0, 40, 181, 0, 40, 43, 180, 0, 9, 3, 42, 180, 0, 9, 3, 16, 16, 184, 0, 43, 43]
abbrev dktX4_becomes_2 : List UInt8 := dkwX4_becomes_2 ++ dktX4_becomes_3
def dkwX4_becomes_1 : List UInt8 := [42, 43, 180, 0, 31, 181, 0, 31, 42, 43, 180, 0, 34, 181, 0, 34, 42, 43, 180, 0, 37, 181, 0, 37]
abbrev dktX4_becomes_1 : List UInt8 := dkwX4_becomes_1 ++ dktX4_becomes_2
def dkwX4_becomes_0 : List UInt8 := [42, 43, 180, 0, 21, 181, 0, 21, 42, 43, 180, 0, 25, 181, 0, 25, 42, 43, 180, 0, 28, 181, 0, 28]
abbrev dktX4_becomes_0 : List UInt8 := dkwX4_becomes_0 ++ dktX4_becomes_1
theorem dksX4_becomes_0 : cX4_becomes.data.toList.drop 0 = dktX4_becomes_0 := by decide +kernel
theorem dksX4_becomes_1 : cX4_becomes.data.toList.drop 24 = dktX4_becomes_1 := dk_seg dksX4_becomes_0 24 rfl rfl
theorem dksX4_becomes_2 : cX4_becomes.data.toList.drop 48 = dktX4_becomes_2 := dk_seg dksX4_becomes_1 24 rfl rfl
theorem dksX4_becomes_3 : cX4_becomes.data.toList.drop 72 = dktX4_becomes_3 := dk_seg dksX4_becomes_2 24 rfl rfl
theorem dksX4_becomes_4 : cX4_becomes.data.toList.drop 96 = dktX4_becomes_4 := dk_seg dksX4_becomes_3 24 rfl rfl
theorem dX4_becomes_0 : decode cX4_becomes 0 = .ok (.aload_n 0, 1) := dk_42 (dk_at dksX4_becomes_0 0 rfl rfl)
theorem dX4_becomes_1 : decode cX4_becomes 1 = .ok (.aload_n 1, 1) := dk_43 (dk_at dksX4_becomes_0 1 rfl rfl)
theorem dX4_becomes_2 : decode cX4_becomes 2 = .ok (.getfield 21, 3) := dk_180 0 21 (dk_at dksX4_becomes_0 2 rfl rfl)
theorem dX4_becomes_5 : decode cX4_becomes 5 = .ok (.putfield 21, 3) := dk_181 0 21 (dk_at dksX4_becomes_0 5 rfl rfl)
theorem dX4_becomes_8 : decode cX4_becomes 8 = .ok (.aload_n 0, 1) := dk_42 (dk_at dksX4_becomes_0 8 rfl rfl)
theorem dX4_becomes_9 : decode cX4_becomes 9 = .ok (.aload_n 1, 1) := dk_43 (dk_at dksX4_becomes_0 9 rfl rfl)
theorem dX4_becomes_10 : decode cX4_becomes 10 = .ok (.getfield 25, 3) := dk_180 0 25 (dk_at dksX4_becomes_0 10 rfl rfl)
theorem dX4_becomes_13 : decode cX4_becomes 13 = .ok (.putfield 25, 3) := dk_181 0 25 (dk_at dksX4_becomes_0 13 rfl rfl)
theorem dX4_becomes_16 : decode cX4_becomes 16 = .ok (.aload_n 0, 1) := dk_42 (dk_at dksX4_becomes_0 16 rfl rfl)
theorem dX4_becomes_17 : decode cX4_becomes 17 = .ok (.aload_n 1, 1) := dk_43 (dk_at dksX4_becomes_0 17 rfl rfl)
theorem dX4_becomes_18 : decode cX4_becomes 18 = .ok (.getfield 28, 3) := dk_180 0 28 (dk_at dksX4_becomes_0 18 rfl rfl)
theorem dX4_becomes_21 : decode cX4_becomes 21 = .ok (.putfield 28, 3) := dk_181 0 28 (dk_at dksX4_becomes_0 21 rfl rfl)
theorem dX4_becomes_24 : decode cX4_becomes 24 = .ok (.aload_n 0, 1) := dk_42 (dk_at dksX4_becomes_1 0 rfl rfl)
theorem dX4_becomes_25 : decode cX4_becomes 25 = .ok (.aload_n 1, 1) := dk_43 (dk_at dksX4_becomes_1 1 rfl rfl)
theorem dX4_becomes_26 : decode cX4_becomes 26 = .ok (.getfield 31, 3) := dk_180 0 31 (dk_at dksX4_becomes_1 2 rfl rfl)
theorem dX4_becomes_29 : decode cX4_becomes 29 = .ok (.putfield 31, 3) := dk_181 0 31 (dk_at dksX4_becomes_1 5 rfl rfl)
theorem dX4_becomes_32 : decode cX4_becomes 32 = .ok (.aload_n 0, 1) := dk_42 (dk_at dksX4_becomes_1 8 rfl rfl)
theorem dX4_becomes_33 : decode cX4_becomes 33 = .ok (.aload_n 1, 1) := dk_43 (dk_at dksX4_becomes_1 9 rfl rfl)
theorem dX4_becomes_34 : decode cX4_becomes 34 = .ok (.getfield 34, 3) := dk_180 0 34 (dk_at dksX4_becomes_1 10 rfl rfl)
theorem dX4_becomes_37 : decode cX4_becomes 37 = .ok (.putfield 34, 3) := dk_181 0 34 (dk_at dksX4_becomes_1 13 rfl rfl)
theorem dX4_becomes_40 : decode cX4_becomes 40 = .ok (.aload_n 0, 1) := dk_42 (dk_at dksX4_becomes_1 16 rfl rfl)
theorem dX4_becomes_41 : decode cX4_becomes 41 = .ok (.aload_n 1, 1) := dk_43 (dk_at dksX4_becomes_1 17 rfl rfl)
theorem dX4_becomes_42 : decode cX4_becomes 42 = .ok (.getfield 37, 3) := dk_180 0 37 (dk_at dksX4_becomes_1 18 rfl rfl)
theorem dX4_becomes_45 : decode cX4_becomes 45 = .ok (.putfield 37, 3) := dk_181 0 37 (dk_at dksX4_becomes_1 21 rfl rfl)
theorem dX4_becomes_48 : decode cX4_becomes 48 = .ok (.aload_n 0, 1) := dk_42 (dk_at dksX4_becomes_2 0 rfl rfl)
theorem dX4_becomes_49 : decode cX4_becomes 49 = .ok (.aload_n 1, 1) := dk_43 (dk_at dksX4_becomes_2 1 rfl rfl)
theorem dX4_becomes_50 : decode cX4_becomes 50 = .ok (.getfield 40, 3) := dk_180 0 40 (dk_at dksX4_becomes_2 2 rfl rfl)
theorem dX4_becomes_53 : decode cX4_becomes 53 = .ok (.putfield 40, 3) := dk_181 0 40 (dk_at dksX4_becomes_2 5 rfl rfl)
theorem dX4_becomes_56 : decode cX4_becomes 56 = .ok (.aload_n 1, 1) := dk_43 (dk_at dksX4_becomes_2 8 rfl rfl)
theorem dX4_becomes_57 : decode cX4_becomes 57 = .ok (.getfield 9, 3) := dk_180 0 9 (dk_at dksX4_becomes_2 9 rfl rfl)
theorem dX4_becomes_60 : decode cX4_becomes 60 = .ok (.iconst 0, 1) := dk_3 (dk_at dksX4_becomes_2 12 rfl rfl)
theorem dX4_becomes_61 : decode cX4_becomes 61 = .ok (.aload_n 0, 1) := dk_42 (dk_at dksX4_becomes_2 13 rfl rfl)
theorem dX4_becomes_62 : decode cX4_becomes 62 = .ok (.getfield 9, 3) := dk_180 0 9 (dk_at dksX4_becomes_2 14 rfl rfl)
theorem dX4_becomes_65 : decode cX4_becomes 65 = .ok (.iconst 0, 1) := dk_3 (dk_at dksX4_becomes_2 17 rfl rfl)
theorem dX4_becomes_66 : decode cX4_becomes 66 = .ok (.bipush 16, 2) := dk_16 16 (dk_at dksX4_becomes_2 18 rfl rfl)
theorem dX4_becomes_68 : decode cX4_becomes 68 = .ok (.invokestatic 43, 3) := dk_184 0 43 (dk_at dksX4_becomes_2 20 rfl rfl)
theorem dX4_becomes_71 : decode cX4_becomes 71 = .ok (.aload_n 1, 1) := dk_43 (dk_at dksX4_becomes_2 23 rfl rfl)
theorem dX4_becomes_72 : decode cX4_becomes 72 = .ok (.getfield 15, 3) := dk_180 0 15 (dk_at dksX4_becomes_3 0 rfl rfl)
theorem dX4_becomes_75 : decode cX4_becomes 75 = .ok (.iconst 0, 1) := dk_3 (dk_at dksX4_becomes_3 3 rfl rfl)
theorem dX4_becomes_76 : decode cX4_becomes 76 = .ok (.aload_n 0, 1) := dk_42 (dk_at dksX4_becomes_3 4 rfl rfl)
theorem dX4_becomes_77 : decode cX4_becomes 77 = .ok (.getfield 15, 3) := dk_180 0 15 (dk_at dksX4_becomes_3 5 rfl rfl)
theorem dX4_becomes_80 : decode cX4_becomes 80 = .ok (.iconst 0, 1) := dk_3 (dk_at dksX4_becomes_3 8 rfl rfl)
theorem dX4_becomes_81 : decode cX4_becomes 81 = .ok (.bipush 16, 2) := dk_16 16 (dk_at dksX4_becomes_3 9 rfl rfl)
theorem dX4_becomes_83 : decode cX4_becomes 83 = .ok (.invokestatic 43, 3) := dk_184 0 43 (dk_at dksX4_becomes_3 11 rfl rfl)
theorem dX4_becomes_86 : decode cX4_becomes 86 = .ok (.aload_n 1, 1) := dk_43 (dk_at dksX4_becomes_3 14 rfl rfl)
theorem dX4_becomes_87 : decode cX4_becomes 87 = .ok (.getfield 18, 3) := dk_180 0 18 (dk_at dksX4_becomes_3 15 rfl rfl)
theorem dX4_becomes_90 : decode cX4_becomes 90 = .ok (.iconst 0, 1) := dk_3 (dk_at dksX4_becomes_3 18 rfl rfl)
theorem dX4_becomes_91 : decode cX4_becomes 91 = .ok (.aload_n 0, 1) := dk_42 (dk_at dksX4_becomes_3 19 rfl rfl)
theorem dX4_becomes_92 : decode cX4_becomes 92 = .ok (.getfield 18, 3) := dk_180 0 18 (dk_at dksX4_becomes_3 20 rfl rfl)
theorem dX4_becomes_95 : decode cX4_becomes 95 = .ok (.iconst 0, 1) := dk_3 (dk_at dksX4_becomes_3 23 rfl rfl)
theorem dX4_becomes_96 : decode cX4_becomes 96 = .ok (.bipush 16, 2) := dk_16 16 (dk_at dksX4_becomes_4 0 rfl rfl)
theorem dX4_becomes_98 : decode cX4_becomes 98 = .ok (.invokestatic 43, 3) := dk_184 0 43 (dk_at dksX4_becomes_4 2 rfl rfl)
theorem dX4_becomes_101 : decode cX4_becomes 101 = .ok (.return_, 1) := dk_177 (dk_at dksX4_becomes_4 5 rfl rfl)
abbrev cX4_j : ByteArray := prog_11_method_9_code
def yX4_j : MethodName := ⟨RX4, "j", "(IZ)I"⟩
def dkwX4_j_0 : List UInt8 := [28, 153, 0, 12, 42, 180, 0, 15, 27, 46, 167, 0, 9, 42, 180, 0, 9, 27, 46, 172]
abbrev dktX4_j_0 : List UInt8 := dkwX4_j_0 ++ []
theorem dksX4_j_0 : cX4_j.data.toList.drop 0 = dktX4_j_0 := by decide +kernel
theorem dX4_j_0 : decode cX4_j 0 = .ok (.iload_n 2, 1) := dk_28 (dk_at dksX4_j_0 0 rfl rfl)
theorem dX4_j_1 : decode cX4_j 1 = .ok (.ifCond .eq 12, 3) := dk_153 0 12 (dk_at dksX4_j_0 1 rfl rfl)
theorem dX4_j_4 : decode cX4_j 4 = .ok (.aload_n 0, 1) := dk_42 (dk_at dksX4_j_0 4 rfl rfl)
theorem dX4_j_5 : decode cX4_j 5 = .ok (.getfield 15, 3) := dk_180 0 15 (dk_at dksX4_j_0 5 rfl rfl)
theorem dX4_j_8 : decode cX4_j 8 = .ok (.iload_n 1, 1) := dk_27 (dk_at dksX4_j_0 8 rfl rfl)
theorem dX4_j_9 : decode cX4_j 9 = .ok (.iaload, 1) := dk_46 (dk_at dksX4_j_0 9 rfl rfl)
theorem dX4_j_10 : decode cX4_j 10 = .ok (.goto 9, 3) := dk_167 0 9 (dk_at dksX4_j_0 10 rfl rfl)
theorem dX4_j_13 : decode cX4_j 13 = .ok (.aload_n 0, 1) := dk_42 (dk_at dksX4_j_0 13 rfl rfl)
theorem dX4_j_14 : decode cX4_j 14 = .ok (.getfield 9, 3) := dk_180 0 9 (dk_at dksX4_j_0 14 rfl rfl)
theorem dX4_j_17 : decode cX4_j 17 = .ok (.iload_n 1, 1) := dk_27 (dk_at dksX4_j_0 17 rfl rfl)
theorem dX4_j_18 : decode cX4_j 18 = .ok (.iaload, 1) := dk_46 (dk_at dksX4_j_0 18 rfl rfl)
theorem dX4_j_19 : decode cX4_j 19 = .ok (.ireturn, 1) := dk_172 (dk_at dksX4_j_0 19 rfl rfl)
abbrev cX4_isPinned : ByteArray := prog_11_method_6_code
def yX4_isPinned : MethodName := ⟨RX4, "isPinned", "(I)Z"⟩
def dkwX4_isPinned_0 : List UInt8 := [42, 180, 0, 37, 42, 180, 0, 40, 128, 27, 184, 0, 57, 172]
abbrev dktX4_isPinned_0 : List UInt8 := dkwX4_isPinned_0 ++ []
theorem dksX4_isPinned_0 : cX4_isPinned.data.toList.drop 0 = dktX4_isPinned_0 := by decide +kernel
theorem dX4_isPinned_0 : decode cX4_isPinned 0 = .ok (.aload_n 0, 1) := dk_42 (dk_at dksX4_isPinned_0 0 rfl rfl)
theorem dX4_isPinned_1 : decode cX4_isPinned 1 = .ok (.getfield 37, 3) := dk_180 0 37 (dk_at dksX4_isPinned_0 1 rfl rfl)
theorem dX4_isPinned_4 : decode cX4_isPinned 4 = .ok (.aload_n 0, 1) := dk_42 (dk_at dksX4_isPinned_0 4 rfl rfl)
theorem dX4_isPinned_5 : decode cX4_isPinned 5 = .ok (.getfield 40, 3) := dk_180 0 40 (dk_at dksX4_isPinned_0 5 rfl rfl)
theorem dX4_isPinned_8 : decode cX4_isPinned 8 = .ok (.ior, 1) := dk_128 (dk_at dksX4_isPinned_0 8 rfl rfl)
theorem dX4_isPinned_9 : decode cX4_isPinned 9 = .ok (.iload_n 1, 1) := dk_27 (dk_at dksX4_isPinned_0 9 rfl rfl)
theorem dX4_isPinned_10 : decode cX4_isPinned 10 = .ok (.invokestatic 57, 3) := dk_184 0 57 (dk_at dksX4_isPinned_0 10 rfl rfl)
theorem dX4_isPinned_13 : decode cX4_isPinned 13 = .ok (.ireturn, 1) := dk_172 (dk_at dksX4_isPinned_0 13 rfl rfl)
abbrev cX4_states : ByteArray := prog_11_method_4_code
def yX4_states : MethodName := ⟨RX4, "states", "()I"⟩
def dkwX4_states_0 : List UInt8 := [42, 182, 0, 49, 154, 0, 7, 3, 167, 0, 9, 4, 42, 182, 0, 49, 120, 172]
abbrev dktX4_states_0 : List UInt8 := dkwX4_states_0 ++ []
theorem dksX4_states_0 : cX4_states.data.toList.drop 0 = dktX4_states_0 := by decide +kernel
theorem dX4_states_0 : decode cX4_states 0 = .ok (.aload_n 0, 1) := dk_42 (dk_at dksX4_states_0 0 rfl rfl)
theorem dX4_states_1 : decode cX4_states 1 = .ok (.invokevirtual 49, 3) := dk_182 0 49 (dk_at dksX4_states_0 1 rfl rfl)
theorem dX4_states_4 : decode cX4_states 4 = .ok (.ifCond .ne 7, 3) := dk_154 0 7 (dk_at dksX4_states_0 4 rfl rfl)
theorem dX4_states_7 : decode cX4_states 7 = .ok (.iconst 0, 1) := dk_3 (dk_at dksX4_states_0 7 rfl rfl)
theorem dX4_states_8 : decode cX4_states 8 = .ok (.goto 9, 3) := dk_167 0 9 (dk_at dksX4_states_0 8 rfl rfl)
theorem dX4_states_11 : decode cX4_states 11 = .ok (.iconst 1, 1) := dk_4 (dk_at dksX4_states_0 11 rfl rfl)
theorem dX4_states_12 : decode cX4_states 12 = .ok (.aload_n 0, 1) := dk_42 (dk_at dksX4_states_0 12 rfl rfl)
theorem dX4_states_13 : decode cX4_states 13 = .ok (.invokevirtual 49, 3) := dk_182 0 49 (dk_at dksX4_states_0 13 rfl rfl)
theorem dX4_states_16 : decode cX4_states 16 = .ok (.ishl, 1) := dk_120 (dk_at dksX4_states_0 16 rfl rfl)
theorem dX4_states_17 : decode cX4_states 17 = .ok (.ireturn, 1) := dk_172 (dk_at dksX4_states_0 17 rfl rfl)
abbrev cX4_lowest : ByteArray := prog_11_method_15_code
def yX4_lowest : MethodName := ⟨RX4, "lowest", "()I"⟩
def dkwX4_lowest_3 : List UInt8 := [167, 255, 208, 132, 2, 1, 167, 255, 183, 27, 172]
abbrev dktX4_lowest_3 : List UInt8 := dkwX4_lowest_3 ++ []
def dkwX4_lowest_2 : List UInt8 := [28, 29, 4, 160, 0, 7, 4, 167, 0, 4, 3, 182, 0, 68, 167, 0, 4, 3, 100, 60, 132, 3, 1]
abbrev dktX4_lowest_2 : List UInt8 := dkwX4_lowest_2 ++ dktX4_lowest_3
def dkwX4_lowest_1 : List UInt8 := [5, 162, 0, 49, 27, 42, 28, 29, 4, 160, 0, 7, 4, 167, 0, 4, 3, 182, 0, 64, 155, 0, 21, 42]
abbrev dktX4_lowest_1 : List UInt8 := dkwX4_lowest_1 ++ dktX4_lowest_2
def dkwX4_lowest_0 : List UInt8 := [3, 60, 3, 61, 28, 42, 182, 0, 49, 162, 0, 71, 27, 42, 180, 0, 18, 28, 46, 96, 60, 3, 62, 29]
abbrev dktX4_lowest_0 : List UInt8 := dkwX4_lowest_0 ++ dktX4_lowest_1
theorem dksX4_lowest_0 : cX4_lowest.data.toList.drop 0 = dktX4_lowest_0 := by decide +kernel
theorem dksX4_lowest_1 : cX4_lowest.data.toList.drop 24 = dktX4_lowest_1 := dk_seg dksX4_lowest_0 24 rfl rfl
theorem dksX4_lowest_2 : cX4_lowest.data.toList.drop 48 = dktX4_lowest_2 := dk_seg dksX4_lowest_1 24 rfl rfl
theorem dksX4_lowest_3 : cX4_lowest.data.toList.drop 71 = dktX4_lowest_3 := dk_seg dksX4_lowest_2 23 rfl rfl
theorem dX4_lowest_0 : decode cX4_lowest 0 = .ok (.iconst 0, 1) := dk_3 (dk_at dksX4_lowest_0 0 rfl rfl)
theorem dX4_lowest_1 : decode cX4_lowest 1 = .ok (.istore_n 1, 1) := dk_60 (dk_at dksX4_lowest_0 1 rfl rfl)
theorem dX4_lowest_2 : decode cX4_lowest 2 = .ok (.iconst 0, 1) := dk_3 (dk_at dksX4_lowest_0 2 rfl rfl)
theorem dX4_lowest_3 : decode cX4_lowest 3 = .ok (.istore_n 2, 1) := dk_61 (dk_at dksX4_lowest_0 3 rfl rfl)
theorem dX4_lowest_4 : decode cX4_lowest 4 = .ok (.iload_n 2, 1) := dk_28 (dk_at dksX4_lowest_0 4 rfl rfl)
theorem dX4_lowest_5 : decode cX4_lowest 5 = .ok (.aload_n 0, 1) := dk_42 (dk_at dksX4_lowest_0 5 rfl rfl)
theorem dX4_lowest_6 : decode cX4_lowest 6 = .ok (.invokevirtual 49, 3) := dk_182 0 49 (dk_at dksX4_lowest_0 6 rfl rfl)
theorem dX4_lowest_9 : decode cX4_lowest 9 = .ok (.if_icmp .ge 71, 3) := dk_162 0 71 (dk_at dksX4_lowest_0 9 rfl rfl)
theorem dX4_lowest_12 : decode cX4_lowest 12 = .ok (.iload_n 1, 1) := dk_27 (dk_at dksX4_lowest_0 12 rfl rfl)
theorem dX4_lowest_13 : decode cX4_lowest 13 = .ok (.aload_n 0, 1) := dk_42 (dk_at dksX4_lowest_0 13 rfl rfl)
theorem dX4_lowest_14 : decode cX4_lowest 14 = .ok (.getfield 18, 3) := dk_180 0 18 (dk_at dksX4_lowest_0 14 rfl rfl)
theorem dX4_lowest_17 : decode cX4_lowest 17 = .ok (.iload_n 2, 1) := dk_28 (dk_at dksX4_lowest_0 17 rfl rfl)
theorem dX4_lowest_18 : decode cX4_lowest 18 = .ok (.iaload, 1) := dk_46 (dk_at dksX4_lowest_0 18 rfl rfl)
theorem dX4_lowest_19 : decode cX4_lowest 19 = .ok (.iadd, 1) := dk_96 (dk_at dksX4_lowest_0 19 rfl rfl)
theorem dX4_lowest_20 : decode cX4_lowest 20 = .ok (.istore_n 1, 1) := dk_60 (dk_at dksX4_lowest_0 20 rfl rfl)
theorem dX4_lowest_21 : decode cX4_lowest 21 = .ok (.iconst 0, 1) := dk_3 (dk_at dksX4_lowest_0 21 rfl rfl)
theorem dX4_lowest_22 : decode cX4_lowest 22 = .ok (.istore_n 3, 1) := dk_62 (dk_at dksX4_lowest_0 22 rfl rfl)
theorem dX4_lowest_23 : decode cX4_lowest 23 = .ok (.iload_n 3, 1) := dk_29 (dk_at dksX4_lowest_0 23 rfl rfl)
theorem dX4_lowest_24 : decode cX4_lowest 24 = .ok (.iconst 2, 1) := dk_5 (dk_at dksX4_lowest_1 0 rfl rfl)
theorem dX4_lowest_25 : decode cX4_lowest 25 = .ok (.if_icmp .ge 49, 3) := dk_162 0 49 (dk_at dksX4_lowest_1 1 rfl rfl)
theorem dX4_lowest_28 : decode cX4_lowest 28 = .ok (.iload_n 1, 1) := dk_27 (dk_at dksX4_lowest_1 4 rfl rfl)
theorem dX4_lowest_29 : decode cX4_lowest 29 = .ok (.aload_n 0, 1) := dk_42 (dk_at dksX4_lowest_1 5 rfl rfl)
theorem dX4_lowest_30 : decode cX4_lowest 30 = .ok (.iload_n 2, 1) := dk_28 (dk_at dksX4_lowest_1 6 rfl rfl)
theorem dX4_lowest_31 : decode cX4_lowest 31 = .ok (.iload_n 3, 1) := dk_29 (dk_at dksX4_lowest_1 7 rfl rfl)
theorem dX4_lowest_32 : decode cX4_lowest 32 = .ok (.iconst 1, 1) := dk_4 (dk_at dksX4_lowest_1 8 rfl rfl)
theorem dX4_lowest_33 : decode cX4_lowest 33 = .ok (.if_icmp .ne 7, 3) := dk_160 0 7 (dk_at dksX4_lowest_1 9 rfl rfl)
theorem dX4_lowest_36 : decode cX4_lowest 36 = .ok (.iconst 1, 1) := dk_4 (dk_at dksX4_lowest_1 12 rfl rfl)
theorem dX4_lowest_37 : decode cX4_lowest 37 = .ok (.goto 4, 3) := dk_167 0 4 (dk_at dksX4_lowest_1 13 rfl rfl)
theorem dX4_lowest_40 : decode cX4_lowest 40 = .ok (.iconst 0, 1) := dk_3 (dk_at dksX4_lowest_1 16 rfl rfl)
theorem dX4_lowest_41 : decode cX4_lowest 41 = .ok (.invokevirtual 64, 3) := dk_182 0 64 (dk_at dksX4_lowest_1 17 rfl rfl)
theorem dX4_lowest_44 : decode cX4_lowest 44 = .ok (.ifCond .lt 21, 3) := dk_155 0 21 (dk_at dksX4_lowest_1 20 rfl rfl)
theorem dX4_lowest_47 : decode cX4_lowest 47 = .ok (.aload_n 0, 1) := dk_42 (dk_at dksX4_lowest_1 23 rfl rfl)
theorem dX4_lowest_48 : decode cX4_lowest 48 = .ok (.iload_n 2, 1) := dk_28 (dk_at dksX4_lowest_2 0 rfl rfl)
theorem dX4_lowest_49 : decode cX4_lowest 49 = .ok (.iload_n 3, 1) := dk_29 (dk_at dksX4_lowest_2 1 rfl rfl)
theorem dX4_lowest_50 : decode cX4_lowest 50 = .ok (.iconst 1, 1) := dk_4 (dk_at dksX4_lowest_2 2 rfl rfl)
theorem dX4_lowest_51 : decode cX4_lowest 51 = .ok (.if_icmp .ne 7, 3) := dk_160 0 7 (dk_at dksX4_lowest_2 3 rfl rfl)
theorem dX4_lowest_54 : decode cX4_lowest 54 = .ok (.iconst 1, 1) := dk_4 (dk_at dksX4_lowest_2 6 rfl rfl)
theorem dX4_lowest_55 : decode cX4_lowest 55 = .ok (.goto 4, 3) := dk_167 0 4 (dk_at dksX4_lowest_2 7 rfl rfl)
theorem dX4_lowest_58 : decode cX4_lowest 58 = .ok (.iconst 0, 1) := dk_3 (dk_at dksX4_lowest_2 10 rfl rfl)
theorem dX4_lowest_59 : decode cX4_lowest 59 = .ok (.invokevirtual 68, 3) := dk_182 0 68 (dk_at dksX4_lowest_2 11 rfl rfl)
theorem dX4_lowest_62 : decode cX4_lowest 62 = .ok (.goto 4, 3) := dk_167 0 4 (dk_at dksX4_lowest_2 14 rfl rfl)
theorem dX4_lowest_65 : decode cX4_lowest 65 = .ok (.iconst 0, 1) := dk_3 (dk_at dksX4_lowest_2 17 rfl rfl)
theorem dX4_lowest_66 : decode cX4_lowest 66 = .ok (.isub, 1) := dk_100 (dk_at dksX4_lowest_2 18 rfl rfl)
theorem dX4_lowest_67 : decode cX4_lowest 67 = .ok (.istore_n 1, 1) := dk_60 (dk_at dksX4_lowest_2 19 rfl rfl)
theorem dX4_lowest_68 : decode cX4_lowest 68 = .ok (.iinc 3 1, 3) := dk_132 3 1 (dk_at dksX4_lowest_2 20 rfl rfl)
theorem dX4_lowest_71 : decode cX4_lowest 71 = .ok (.goto (-48), 3) := dk_167 255 208 (dk_at dksX4_lowest_3 0 rfl rfl)
theorem dX4_lowest_74 : decode cX4_lowest 74 = .ok (.iinc 2 1, 3) := dk_132 2 1 (dk_at dksX4_lowest_3 3 rfl rfl)
theorem dX4_lowest_77 : decode cX4_lowest 77 = .ok (.goto (-73), 3) := dk_167 255 183 (dk_at dksX4_lowest_3 6 rfl rfl)
theorem dX4_lowest_80 : decode cX4_lowest 80 = .ok (.iload_n 1, 1) := dk_27 (dk_at dksX4_lowest_3 9 rfl rfl)
theorem dX4_lowest_81 : decode cX4_lowest 81 = .ok (.ireturn, 1) := dk_172 (dk_at dksX4_lowest_3 10 rfl rfl)
abbrev cX4_cost : ByteArray := prog_11_method_14_code
def yX4_cost : MethodName := ⟨RX4, "cost", "(II)I"⟩
def dkwX4_cost_0 : List UInt8 := [5, 27, 28, 184, 0, 71, 104, 42, 27, 28, 182, 0, 78, 104, 172]
abbrev dktX4_cost_0 : List UInt8 := dkwX4_cost_0 ++ []
theorem dksX4_cost_0 : cX4_cost.data.toList.drop 0 = dktX4_cost_0 := by decide +kernel
theorem dX4_cost_0 : decode cX4_cost 0 = .ok (.iconst 2, 1) := dk_5 (dk_at dksX4_cost_0 0 rfl rfl)
theorem dX4_cost_1 : decode cX4_cost 1 = .ok (.iload_n 1, 1) := dk_27 (dk_at dksX4_cost_0 1 rfl rfl)
theorem dX4_cost_2 : decode cX4_cost 2 = .ok (.iload_n 2, 1) := dk_28 (dk_at dksX4_cost_0 2 rfl rfl)
theorem dX4_cost_3 : decode cX4_cost 3 = .ok (.invokestatic 71, 3) := dk_184 0 71 (dk_at dksX4_cost_0 3 rfl rfl)
theorem dX4_cost_6 : decode cX4_cost 6 = .ok (.imul, 1) := dk_104 (dk_at dksX4_cost_0 6 rfl rfl)
theorem dX4_cost_7 : decode cX4_cost 7 = .ok (.aload_n 0, 1) := dk_42 (dk_at dksX4_cost_0 7 rfl rfl)
theorem dX4_cost_8 : decode cX4_cost 8 = .ok (.iload_n 1, 1) := dk_27 (dk_at dksX4_cost_0 8 rfl rfl)
theorem dX4_cost_9 : decode cX4_cost 9 = .ok (.iload_n 2, 1) := dk_28 (dk_at dksX4_cost_0 9 rfl rfl)
theorem dX4_cost_10 : decode cX4_cost 10 = .ok (.invokevirtual 78, 3) := dk_182 0 78 (dk_at dksX4_cost_0 10 rfl rfl)
theorem dX4_cost_13 : decode cX4_cost 13 = .ok (.imul, 1) := dk_104 (dk_at dksX4_cost_0 13 rfl rfl)
theorem dX4_cost_14 : decode cX4_cost 14 = .ok (.ireturn, 1) := dk_172 (dk_at dksX4_cost_0 14 rfl rfl)
abbrev cX4_spin : ByteArray := prog_11_method_11_code
def yX4_spin : MethodName := ⟨RX4, "spin", "(II)I"⟩
def dkwX4_spin_0 : List UInt8 := [26, 27, 184, 0, 57, 153, 0, 7, 4, 167, 0, 4, 2, 172]
abbrev dktX4_spin_0 : List UInt8 := dkwX4_spin_0 ++ []
theorem dksX4_spin_0 : cX4_spin.data.toList.drop 0 = dktX4_spin_0 := by decide +kernel
theorem dX4_spin_0 : decode cX4_spin 0 = .ok (.iload_n 0, 1) := dk_26 (dk_at dksX4_spin_0 0 rfl rfl)
theorem dX4_spin_1 : decode cX4_spin 1 = .ok (.iload_n 1, 1) := dk_27 (dk_at dksX4_spin_0 1 rfl rfl)
theorem dX4_spin_2 : decode cX4_spin 2 = .ok (.invokestatic 57, 3) := dk_184 0 57 (dk_at dksX4_spin_0 2 rfl rfl)
theorem dX4_spin_5 : decode cX4_spin 5 = .ok (.ifCond .eq 7, 3) := dk_153 0 7 (dk_at dksX4_spin_0 5 rfl rfl)
theorem dX4_spin_8 : decode cX4_spin 8 = .ok (.iconst 1, 1) := dk_4 (dk_at dksX4_spin_0 8 rfl rfl)
theorem dX4_spin_9 : decode cX4_spin 9 = .ok (.goto 4, 3) := dk_167 0 4 (dk_at dksX4_spin_0 9 rfl rfl)
theorem dX4_spin_12 : decode cX4_spin 12 = .ok (.iconst (-1), 1) := dk_2 (dk_at dksX4_spin_0 12 rfl rfl)
theorem dX4_spin_13 : decode cX4_spin 13 = .ok (.ireturn, 1) := dk_172 (dk_at dksX4_spin_0 13 rfl rfl)
abbrev cX4_pulls : ByteArray := prog_11_method_12_code
def yX4_pulls : MethodName := ⟨RX4, "pulls", "(II)I"⟩
def dkwX4_pulls_5 : List UInt8 := [182, 0, 68, 27, 21, 5, 184, 0, 71, 104, 96, 62, 132, 4, 1, 167, 255, 197, 29, 172]
abbrev dktX4_pulls_5 : List UInt8 := dkwX4_pulls_5 ++ []
def dkwX4_pulls_4 : List UInt8 := [54, 5, 21, 5, 155, 0, 30, 29, 42, 21, 5, 21, 4, 4, 160, 0, 7, 4, 167, 0, 4, 3]
abbrev dktX4_pulls_4 : List UInt8 := dkwX4_pulls_4 ++ dktX4_pulls_5
def dkwX4_pulls_3 : List UInt8 := [54, 4, 21, 4, 5, 162, 0, 59, 42, 28, 21, 4, 4, 160, 0, 7, 4, 167, 0, 4, 3, 182, 0, 75]
abbrev dktX4_pulls_3 : List UInt8 := dkwX4_pulls_3 ++ dktX4_pulls_4
def dkwX4_pulls_2 : List UInt8 := [4, 167, 0, 4, 3, 182, 0, 68, 27, 21, 5, 184, 0, 71, 104, 96, 62, 132, 4, 1, 167, 255, 198, 3]
abbrev dktX4_pulls_2 : List UInt8 := dkwX4_pulls_2 ++ dktX4_pulls_3
def dkwX4_pulls_1 : List UInt8 := [4, 167, 0, 4, 3, 182, 0, 64, 54, 5, 21, 5, 155, 0, 29, 29, 42, 28, 21, 4, 4, 160, 0, 7]
abbrev dktX4_pulls_1 : List UInt8 := dkwX4_pulls_1 ++ dktX4_pulls_2
def dkwX4_pulls_0 : List UInt8 := [42, 180, 0, 18, 28, 46, 62, 3, 54, 4, 21, 4, 5, 162, 0, 58, 42, 28, 21, 4, 4, 160, 0, 7]
abbrev dktX4_pulls_0 : List UInt8 := dkwX4_pulls_0 ++ dktX4_pulls_1
theorem dksX4_pulls_0 : cX4_pulls.data.toList.drop 0 = dktX4_pulls_0 := by decide +kernel
theorem dksX4_pulls_1 : cX4_pulls.data.toList.drop 24 = dktX4_pulls_1 := dk_seg dksX4_pulls_0 24 rfl rfl
theorem dksX4_pulls_2 : cX4_pulls.data.toList.drop 48 = dktX4_pulls_2 := dk_seg dksX4_pulls_1 24 rfl rfl
theorem dksX4_pulls_3 : cX4_pulls.data.toList.drop 72 = dktX4_pulls_3 := dk_seg dksX4_pulls_2 24 rfl rfl
theorem dksX4_pulls_4 : cX4_pulls.data.toList.drop 96 = dktX4_pulls_4 := dk_seg dksX4_pulls_3 24 rfl rfl
theorem dksX4_pulls_5 : cX4_pulls.data.toList.drop 118 = dktX4_pulls_5 := dk_seg dksX4_pulls_4 22 rfl rfl
theorem dX4_pulls_0 : decode cX4_pulls 0 = .ok (.aload_n 0, 1) := dk_42 (dk_at dksX4_pulls_0 0 rfl rfl)
theorem dX4_pulls_1 : decode cX4_pulls 1 = .ok (.getfield 18, 3) := dk_180 0 18 (dk_at dksX4_pulls_0 1 rfl rfl)
theorem dX4_pulls_4 : decode cX4_pulls 4 = .ok (.iload_n 2, 1) := dk_28 (dk_at dksX4_pulls_0 4 rfl rfl)
theorem dX4_pulls_5 : decode cX4_pulls 5 = .ok (.iaload, 1) := dk_46 (dk_at dksX4_pulls_0 5 rfl rfl)
theorem dX4_pulls_6 : decode cX4_pulls 6 = .ok (.istore_n 3, 1) := dk_62 (dk_at dksX4_pulls_0 6 rfl rfl)
theorem dX4_pulls_7 : decode cX4_pulls 7 = .ok (.iconst 0, 1) := dk_3 (dk_at dksX4_pulls_0 7 rfl rfl)
theorem dX4_pulls_8 : decode cX4_pulls 8 = .ok (.istore 4, 2) := dk_54 4 (dk_at dksX4_pulls_0 8 rfl rfl)
theorem dX4_pulls_10 : decode cX4_pulls 10 = .ok (.iload 4, 2) := dk_21 4 (dk_at dksX4_pulls_0 10 rfl rfl)
theorem dX4_pulls_12 : decode cX4_pulls 12 = .ok (.iconst 2, 1) := dk_5 (dk_at dksX4_pulls_0 12 rfl rfl)
theorem dX4_pulls_13 : decode cX4_pulls 13 = .ok (.if_icmp .ge 58, 3) := dk_162 0 58 (dk_at dksX4_pulls_0 13 rfl rfl)
theorem dX4_pulls_16 : decode cX4_pulls 16 = .ok (.aload_n 0, 1) := dk_42 (dk_at dksX4_pulls_0 16 rfl rfl)
theorem dX4_pulls_17 : decode cX4_pulls 17 = .ok (.iload_n 2, 1) := dk_28 (dk_at dksX4_pulls_0 17 rfl rfl)
theorem dX4_pulls_18 : decode cX4_pulls 18 = .ok (.iload 4, 2) := dk_21 4 (dk_at dksX4_pulls_0 18 rfl rfl)
theorem dX4_pulls_20 : decode cX4_pulls 20 = .ok (.iconst 1, 1) := dk_4 (dk_at dksX4_pulls_0 20 rfl rfl)
theorem dX4_pulls_21 : decode cX4_pulls 21 = .ok (.if_icmp .ne 7, 3) := dk_160 0 7 (dk_at dksX4_pulls_0 21 rfl rfl)
theorem dX4_pulls_24 : decode cX4_pulls 24 = .ok (.iconst 1, 1) := dk_4 (dk_at dksX4_pulls_1 0 rfl rfl)
theorem dX4_pulls_25 : decode cX4_pulls 25 = .ok (.goto 4, 3) := dk_167 0 4 (dk_at dksX4_pulls_1 1 rfl rfl)
theorem dX4_pulls_28 : decode cX4_pulls 28 = .ok (.iconst 0, 1) := dk_3 (dk_at dksX4_pulls_1 4 rfl rfl)
theorem dX4_pulls_29 : decode cX4_pulls 29 = .ok (.invokevirtual 64, 3) := dk_182 0 64 (dk_at dksX4_pulls_1 5 rfl rfl)
theorem dX4_pulls_32 : decode cX4_pulls 32 = .ok (.istore 5, 2) := dk_54 5 (dk_at dksX4_pulls_1 8 rfl rfl)
theorem dX4_pulls_34 : decode cX4_pulls 34 = .ok (.iload 5, 2) := dk_21 5 (dk_at dksX4_pulls_1 10 rfl rfl)
theorem dX4_pulls_36 : decode cX4_pulls 36 = .ok (.ifCond .lt 29, 3) := dk_155 0 29 (dk_at dksX4_pulls_1 12 rfl rfl)
theorem dX4_pulls_39 : decode cX4_pulls 39 = .ok (.iload_n 3, 1) := dk_29 (dk_at dksX4_pulls_1 15 rfl rfl)
theorem dX4_pulls_40 : decode cX4_pulls 40 = .ok (.aload_n 0, 1) := dk_42 (dk_at dksX4_pulls_1 16 rfl rfl)
theorem dX4_pulls_41 : decode cX4_pulls 41 = .ok (.iload_n 2, 1) := dk_28 (dk_at dksX4_pulls_1 17 rfl rfl)
theorem dX4_pulls_42 : decode cX4_pulls 42 = .ok (.iload 4, 2) := dk_21 4 (dk_at dksX4_pulls_1 18 rfl rfl)
theorem dX4_pulls_44 : decode cX4_pulls 44 = .ok (.iconst 1, 1) := dk_4 (dk_at dksX4_pulls_1 20 rfl rfl)
theorem dX4_pulls_45 : decode cX4_pulls 45 = .ok (.if_icmp .ne 7, 3) := dk_160 0 7 (dk_at dksX4_pulls_1 21 rfl rfl)
theorem dX4_pulls_48 : decode cX4_pulls 48 = .ok (.iconst 1, 1) := dk_4 (dk_at dksX4_pulls_2 0 rfl rfl)
theorem dX4_pulls_49 : decode cX4_pulls 49 = .ok (.goto 4, 3) := dk_167 0 4 (dk_at dksX4_pulls_2 1 rfl rfl)
theorem dX4_pulls_52 : decode cX4_pulls 52 = .ok (.iconst 0, 1) := dk_3 (dk_at dksX4_pulls_2 4 rfl rfl)
theorem dX4_pulls_53 : decode cX4_pulls 53 = .ok (.invokevirtual 68, 3) := dk_182 0 68 (dk_at dksX4_pulls_2 5 rfl rfl)
theorem dX4_pulls_56 : decode cX4_pulls 56 = .ok (.iload_n 1, 1) := dk_27 (dk_at dksX4_pulls_2 8 rfl rfl)
theorem dX4_pulls_57 : decode cX4_pulls 57 = .ok (.iload 5, 2) := dk_21 5 (dk_at dksX4_pulls_2 9 rfl rfl)
theorem dX4_pulls_59 : decode cX4_pulls 59 = .ok (.invokestatic 71, 3) := dk_184 0 71 (dk_at dksX4_pulls_2 11 rfl rfl)
theorem dX4_pulls_62 : decode cX4_pulls 62 = .ok (.imul, 1) := dk_104 (dk_at dksX4_pulls_2 14 rfl rfl)
theorem dX4_pulls_63 : decode cX4_pulls 63 = .ok (.iadd, 1) := dk_96 (dk_at dksX4_pulls_2 15 rfl rfl)
theorem dX4_pulls_64 : decode cX4_pulls 64 = .ok (.istore_n 3, 1) := dk_62 (dk_at dksX4_pulls_2 16 rfl rfl)
theorem dX4_pulls_65 : decode cX4_pulls 65 = .ok (.iinc 4 1, 3) := dk_132 4 1 (dk_at dksX4_pulls_2 17 rfl rfl)
theorem dX4_pulls_68 : decode cX4_pulls 68 = .ok (.goto (-58), 3) := dk_167 255 198 (dk_at dksX4_pulls_2 20 rfl rfl)
theorem dX4_pulls_71 : decode cX4_pulls 71 = .ok (.iconst 0, 1) := dk_3 (dk_at dksX4_pulls_2 23 rfl rfl)
theorem dX4_pulls_72 : decode cX4_pulls 72 = .ok (.istore 4, 2) := dk_54 4 (dk_at dksX4_pulls_3 0 rfl rfl)
theorem dX4_pulls_74 : decode cX4_pulls 74 = .ok (.iload 4, 2) := dk_21 4 (dk_at dksX4_pulls_3 2 rfl rfl)
theorem dX4_pulls_76 : decode cX4_pulls 76 = .ok (.iconst 2, 1) := dk_5 (dk_at dksX4_pulls_3 4 rfl rfl)
theorem dX4_pulls_77 : decode cX4_pulls 77 = .ok (.if_icmp .ge 59, 3) := dk_162 0 59 (dk_at dksX4_pulls_3 5 rfl rfl)
theorem dX4_pulls_80 : decode cX4_pulls 80 = .ok (.aload_n 0, 1) := dk_42 (dk_at dksX4_pulls_3 8 rfl rfl)
theorem dX4_pulls_81 : decode cX4_pulls 81 = .ok (.iload_n 2, 1) := dk_28 (dk_at dksX4_pulls_3 9 rfl rfl)
theorem dX4_pulls_82 : decode cX4_pulls 82 = .ok (.iload 4, 2) := dk_21 4 (dk_at dksX4_pulls_3 10 rfl rfl)
theorem dX4_pulls_84 : decode cX4_pulls 84 = .ok (.iconst 1, 1) := dk_4 (dk_at dksX4_pulls_3 12 rfl rfl)
theorem dX4_pulls_85 : decode cX4_pulls 85 = .ok (.if_icmp .ne 7, 3) := dk_160 0 7 (dk_at dksX4_pulls_3 13 rfl rfl)
theorem dX4_pulls_88 : decode cX4_pulls 88 = .ok (.iconst 1, 1) := dk_4 (dk_at dksX4_pulls_3 16 rfl rfl)
theorem dX4_pulls_89 : decode cX4_pulls 89 = .ok (.goto 4, 3) := dk_167 0 4 (dk_at dksX4_pulls_3 17 rfl rfl)
theorem dX4_pulls_92 : decode cX4_pulls 92 = .ok (.iconst 0, 1) := dk_3 (dk_at dksX4_pulls_3 20 rfl rfl)
theorem dX4_pulls_93 : decode cX4_pulls 93 = .ok (.invokevirtual 75, 3) := dk_182 0 75 (dk_at dksX4_pulls_3 21 rfl rfl)
theorem dX4_pulls_96 : decode cX4_pulls 96 = .ok (.istore 5, 2) := dk_54 5 (dk_at dksX4_pulls_4 0 rfl rfl)
theorem dX4_pulls_98 : decode cX4_pulls 98 = .ok (.iload 5, 2) := dk_21 5 (dk_at dksX4_pulls_4 2 rfl rfl)
theorem dX4_pulls_100 : decode cX4_pulls 100 = .ok (.ifCond .lt 30, 3) := dk_155 0 30 (dk_at dksX4_pulls_4 4 rfl rfl)
theorem dX4_pulls_103 : decode cX4_pulls 103 = .ok (.iload_n 3, 1) := dk_29 (dk_at dksX4_pulls_4 7 rfl rfl)
theorem dX4_pulls_104 : decode cX4_pulls 104 = .ok (.aload_n 0, 1) := dk_42 (dk_at dksX4_pulls_4 8 rfl rfl)
theorem dX4_pulls_105 : decode cX4_pulls 105 = .ok (.iload 5, 2) := dk_21 5 (dk_at dksX4_pulls_4 9 rfl rfl)
theorem dX4_pulls_107 : decode cX4_pulls 107 = .ok (.iload 4, 2) := dk_21 4 (dk_at dksX4_pulls_4 11 rfl rfl)
theorem dX4_pulls_109 : decode cX4_pulls 109 = .ok (.iconst 1, 1) := dk_4 (dk_at dksX4_pulls_4 13 rfl rfl)
theorem dX4_pulls_110 : decode cX4_pulls 110 = .ok (.if_icmp .ne 7, 3) := dk_160 0 7 (dk_at dksX4_pulls_4 14 rfl rfl)
theorem dX4_pulls_113 : decode cX4_pulls 113 = .ok (.iconst 1, 1) := dk_4 (dk_at dksX4_pulls_4 17 rfl rfl)
theorem dX4_pulls_114 : decode cX4_pulls 114 = .ok (.goto 4, 3) := dk_167 0 4 (dk_at dksX4_pulls_4 18 rfl rfl)
theorem dX4_pulls_117 : decode cX4_pulls 117 = .ok (.iconst 0, 1) := dk_3 (dk_at dksX4_pulls_4 21 rfl rfl)
theorem dX4_pulls_118 : decode cX4_pulls 118 = .ok (.invokevirtual 68, 3) := dk_182 0 68 (dk_at dksX4_pulls_5 0 rfl rfl)
theorem dX4_pulls_121 : decode cX4_pulls 121 = .ok (.iload_n 1, 1) := dk_27 (dk_at dksX4_pulls_5 3 rfl rfl)
theorem dX4_pulls_122 : decode cX4_pulls 122 = .ok (.iload 5, 2) := dk_21 5 (dk_at dksX4_pulls_5 4 rfl rfl)
theorem dX4_pulls_124 : decode cX4_pulls 124 = .ok (.invokestatic 71, 3) := dk_184 0 71 (dk_at dksX4_pulls_5 6 rfl rfl)
theorem dX4_pulls_127 : decode cX4_pulls 127 = .ok (.imul, 1) := dk_104 (dk_at dksX4_pulls_5 9 rfl rfl)
theorem dX4_pulls_128 : decode cX4_pulls 128 = .ok (.iadd, 1) := dk_96 (dk_at dksX4_pulls_5 10 rfl rfl)
theorem dX4_pulls_129 : decode cX4_pulls 129 = .ok (.istore_n 3, 1) := dk_62 (dk_at dksX4_pulls_5 11 rfl rfl)
theorem dX4_pulls_130 : decode cX4_pulls 130 = .ok (.iinc 4 1, 3) := dk_132 4 1 (dk_at dksX4_pulls_5 12 rfl rfl)
theorem dX4_pulls_133 : decode cX4_pulls 133 = .ok (.goto (-59), 3) := dk_167 255 197 (dk_at dksX4_pulls_5 15 rfl rfl)
theorem dX4_pulls_136 : decode cX4_pulls 136 = .ok (.iload_n 3, 1) := dk_29 (dk_at dksX4_pulls_5 18 rfl rfl)
theorem dX4_pulls_137 : decode cX4_pulls 137 = .ok (.ireturn, 1) := dk_172 (dk_at dksX4_pulls_5 19 rfl rfl)
abbrev cX4_ahead : ByteArray := prog_11_method_13_code
def yX4_ahead : MethodName := ⟨RX4, "ahead", "(IZ)I"⟩
def dkwX4_ahead_4 : List UInt8 := [5, 164, 0, 14, 27, 42, 180, 0, 21, 96, 4, 100, 167, 0, 4, 2, 172]
abbrev dktX4_ahead_4 : List UInt8 := dkwX4_ahead_4 ++ []
def dkwX4_ahead_3 : List UInt8 := [158, 0, 9, 27, 4, 100, 167, 0, 34, 42, 180, 0, 28, 3, 184, 0, 57, 153, 0, 22, 42, 180, 0, 21]
abbrev dktX4_ahead_3 : List UInt8 := dkwX4_ahead_3 ++ dktX4_ahead_4
def dkwX4_ahead_2 : List UInt8 := [164, 0, 19, 27, 42, 180, 0, 21, 42, 180, 0, 25, 4, 100, 104, 96, 167, 0, 4, 2, 172, 21, 4]
abbrev dktX4_ahead_2 : List UInt8 := dkwX4_ahead_2 ++ dktX4_ahead_3
def dkwX4_ahead_1 : List UInt8 := [42, 180, 0, 21, 100, 167, 0, 39, 42, 180, 0, 28, 4, 184, 0, 57, 153, 0, 27, 42, 180, 0, 25, 5]
abbrev dktX4_ahead_1 : List UInt8 := dkwX4_ahead_1 ++ dktX4_ahead_2
def dkwX4_ahead_0 : List UInt8 := [27, 42, 180, 0, 21, 108, 62, 27, 42, 180, 0, 21, 112, 54, 4, 28, 153, 0, 53, 29, 158, 0, 12, 27]
abbrev dktX4_ahead_0 : List UInt8 := dkwX4_ahead_0 ++ dktX4_ahead_1
theorem dksX4_ahead_0 : cX4_ahead.data.toList.drop 0 = dktX4_ahead_0 := by decide +kernel
theorem dksX4_ahead_1 : cX4_ahead.data.toList.drop 24 = dktX4_ahead_1 := dk_seg dksX4_ahead_0 24 rfl rfl
theorem dksX4_ahead_2 : cX4_ahead.data.toList.drop 48 = dktX4_ahead_2 := dk_seg dksX4_ahead_1 24 rfl rfl
theorem dksX4_ahead_3 : cX4_ahead.data.toList.drop 71 = dktX4_ahead_3 := dk_seg dksX4_ahead_2 23 rfl rfl
theorem dksX4_ahead_4 : cX4_ahead.data.toList.drop 95 = dktX4_ahead_4 := dk_seg dksX4_ahead_3 24 rfl rfl
theorem dX4_ahead_0 : decode cX4_ahead 0 = .ok (.iload_n 1, 1) := dk_27 (dk_at dksX4_ahead_0 0 rfl rfl)
theorem dX4_ahead_1 : decode cX4_ahead 1 = .ok (.aload_n 0, 1) := dk_42 (dk_at dksX4_ahead_0 1 rfl rfl)
theorem dX4_ahead_2 : decode cX4_ahead 2 = .ok (.getfield 21, 3) := dk_180 0 21 (dk_at dksX4_ahead_0 2 rfl rfl)
theorem dX4_ahead_5 : decode cX4_ahead 5 = .ok (.idiv, 1) := dk_108 (dk_at dksX4_ahead_0 5 rfl rfl)
theorem dX4_ahead_6 : decode cX4_ahead 6 = .ok (.istore_n 3, 1) := dk_62 (dk_at dksX4_ahead_0 6 rfl rfl)
theorem dX4_ahead_7 : decode cX4_ahead 7 = .ok (.iload_n 1, 1) := dk_27 (dk_at dksX4_ahead_0 7 rfl rfl)
theorem dX4_ahead_8 : decode cX4_ahead 8 = .ok (.aload_n 0, 1) := dk_42 (dk_at dksX4_ahead_0 8 rfl rfl)
theorem dX4_ahead_9 : decode cX4_ahead 9 = .ok (.getfield 21, 3) := dk_180 0 21 (dk_at dksX4_ahead_0 9 rfl rfl)
theorem dX4_ahead_12 : decode cX4_ahead 12 = .ok (.irem, 1) := dk_112 (dk_at dksX4_ahead_0 12 rfl rfl)
theorem dX4_ahead_13 : decode cX4_ahead 13 = .ok (.istore 4, 2) := dk_54 4 (dk_at dksX4_ahead_0 13 rfl rfl)
theorem dX4_ahead_15 : decode cX4_ahead 15 = .ok (.iload_n 2, 1) := dk_28 (dk_at dksX4_ahead_0 15 rfl rfl)
theorem dX4_ahead_16 : decode cX4_ahead 16 = .ok (.ifCond .eq 53, 3) := dk_153 0 53 (dk_at dksX4_ahead_0 16 rfl rfl)
theorem dX4_ahead_19 : decode cX4_ahead 19 = .ok (.iload_n 3, 1) := dk_29 (dk_at dksX4_ahead_0 19 rfl rfl)
theorem dX4_ahead_20 : decode cX4_ahead 20 = .ok (.ifCond .le 12, 3) := dk_158 0 12 (dk_at dksX4_ahead_0 20 rfl rfl)
theorem dX4_ahead_23 : decode cX4_ahead 23 = .ok (.iload_n 1, 1) := dk_27 (dk_at dksX4_ahead_0 23 rfl rfl)
theorem dX4_ahead_24 : decode cX4_ahead 24 = .ok (.aload_n 0, 1) := dk_42 (dk_at dksX4_ahead_1 0 rfl rfl)
theorem dX4_ahead_25 : decode cX4_ahead 25 = .ok (.getfield 21, 3) := dk_180 0 21 (dk_at dksX4_ahead_1 1 rfl rfl)
theorem dX4_ahead_28 : decode cX4_ahead 28 = .ok (.isub, 1) := dk_100 (dk_at dksX4_ahead_1 4 rfl rfl)
theorem dX4_ahead_29 : decode cX4_ahead 29 = .ok (.goto 39, 3) := dk_167 0 39 (dk_at dksX4_ahead_1 5 rfl rfl)
theorem dX4_ahead_32 : decode cX4_ahead 32 = .ok (.aload_n 0, 1) := dk_42 (dk_at dksX4_ahead_1 8 rfl rfl)
theorem dX4_ahead_33 : decode cX4_ahead 33 = .ok (.getfield 28, 3) := dk_180 0 28 (dk_at dksX4_ahead_1 9 rfl rfl)
theorem dX4_ahead_36 : decode cX4_ahead 36 = .ok (.iconst 1, 1) := dk_4 (dk_at dksX4_ahead_1 12 rfl rfl)
theorem dX4_ahead_37 : decode cX4_ahead 37 = .ok (.invokestatic 57, 3) := dk_184 0 57 (dk_at dksX4_ahead_1 13 rfl rfl)
theorem dX4_ahead_40 : decode cX4_ahead 40 = .ok (.ifCond .eq 27, 3) := dk_153 0 27 (dk_at dksX4_ahead_1 16 rfl rfl)
theorem dX4_ahead_43 : decode cX4_ahead 43 = .ok (.aload_n 0, 1) := dk_42 (dk_at dksX4_ahead_1 19 rfl rfl)
theorem dX4_ahead_44 : decode cX4_ahead 44 = .ok (.getfield 25, 3) := dk_180 0 25 (dk_at dksX4_ahead_1 20 rfl rfl)
theorem dX4_ahead_47 : decode cX4_ahead 47 = .ok (.iconst 2, 1) := dk_5 (dk_at dksX4_ahead_1 23 rfl rfl)
theorem dX4_ahead_48 : decode cX4_ahead 48 = .ok (.if_icmp .le 19, 3) := dk_164 0 19 (dk_at dksX4_ahead_2 0 rfl rfl)
theorem dX4_ahead_51 : decode cX4_ahead 51 = .ok (.iload_n 1, 1) := dk_27 (dk_at dksX4_ahead_2 3 rfl rfl)
theorem dX4_ahead_52 : decode cX4_ahead 52 = .ok (.aload_n 0, 1) := dk_42 (dk_at dksX4_ahead_2 4 rfl rfl)
theorem dX4_ahead_53 : decode cX4_ahead 53 = .ok (.getfield 21, 3) := dk_180 0 21 (dk_at dksX4_ahead_2 5 rfl rfl)
theorem dX4_ahead_56 : decode cX4_ahead 56 = .ok (.aload_n 0, 1) := dk_42 (dk_at dksX4_ahead_2 8 rfl rfl)
theorem dX4_ahead_57 : decode cX4_ahead 57 = .ok (.getfield 25, 3) := dk_180 0 25 (dk_at dksX4_ahead_2 9 rfl rfl)
theorem dX4_ahead_60 : decode cX4_ahead 60 = .ok (.iconst 1, 1) := dk_4 (dk_at dksX4_ahead_2 12 rfl rfl)
theorem dX4_ahead_61 : decode cX4_ahead 61 = .ok (.isub, 1) := dk_100 (dk_at dksX4_ahead_2 13 rfl rfl)
theorem dX4_ahead_62 : decode cX4_ahead 62 = .ok (.imul, 1) := dk_104 (dk_at dksX4_ahead_2 14 rfl rfl)
theorem dX4_ahead_63 : decode cX4_ahead 63 = .ok (.iadd, 1) := dk_96 (dk_at dksX4_ahead_2 15 rfl rfl)
theorem dX4_ahead_64 : decode cX4_ahead 64 = .ok (.goto 4, 3) := dk_167 0 4 (dk_at dksX4_ahead_2 16 rfl rfl)
theorem dX4_ahead_67 : decode cX4_ahead 67 = .ok (.iconst (-1), 1) := dk_2 (dk_at dksX4_ahead_2 19 rfl rfl)
theorem dX4_ahead_68 : decode cX4_ahead 68 = .ok (.ireturn, 1) := dk_172 (dk_at dksX4_ahead_2 20 rfl rfl)
theorem dX4_ahead_69 : decode cX4_ahead 69 = .ok (.iload 4, 2) := dk_21 4 (dk_at dksX4_ahead_2 21 rfl rfl)
theorem dX4_ahead_71 : decode cX4_ahead 71 = .ok (.ifCond .le 9, 3) := dk_158 0 9 (dk_at dksX4_ahead_3 0 rfl rfl)
theorem dX4_ahead_74 : decode cX4_ahead 74 = .ok (.iload_n 1, 1) := dk_27 (dk_at dksX4_ahead_3 3 rfl rfl)
theorem dX4_ahead_75 : decode cX4_ahead 75 = .ok (.iconst 1, 1) := dk_4 (dk_at dksX4_ahead_3 4 rfl rfl)
theorem dX4_ahead_76 : decode cX4_ahead 76 = .ok (.isub, 1) := dk_100 (dk_at dksX4_ahead_3 5 rfl rfl)
theorem dX4_ahead_77 : decode cX4_ahead 77 = .ok (.goto 34, 3) := dk_167 0 34 (dk_at dksX4_ahead_3 6 rfl rfl)
theorem dX4_ahead_80 : decode cX4_ahead 80 = .ok (.aload_n 0, 1) := dk_42 (dk_at dksX4_ahead_3 9 rfl rfl)
theorem dX4_ahead_81 : decode cX4_ahead 81 = .ok (.getfield 28, 3) := dk_180 0 28 (dk_at dksX4_ahead_3 10 rfl rfl)
theorem dX4_ahead_84 : decode cX4_ahead 84 = .ok (.iconst 0, 1) := dk_3 (dk_at dksX4_ahead_3 13 rfl rfl)
theorem dX4_ahead_85 : decode cX4_ahead 85 = .ok (.invokestatic 57, 3) := dk_184 0 57 (dk_at dksX4_ahead_3 14 rfl rfl)
theorem dX4_ahead_88 : decode cX4_ahead 88 = .ok (.ifCond .eq 22, 3) := dk_153 0 22 (dk_at dksX4_ahead_3 17 rfl rfl)
theorem dX4_ahead_91 : decode cX4_ahead 91 = .ok (.aload_n 0, 1) := dk_42 (dk_at dksX4_ahead_3 20 rfl rfl)
theorem dX4_ahead_92 : decode cX4_ahead 92 = .ok (.getfield 21, 3) := dk_180 0 21 (dk_at dksX4_ahead_3 21 rfl rfl)
theorem dX4_ahead_95 : decode cX4_ahead 95 = .ok (.iconst 2, 1) := dk_5 (dk_at dksX4_ahead_4 0 rfl rfl)
theorem dX4_ahead_96 : decode cX4_ahead 96 = .ok (.if_icmp .le 14, 3) := dk_164 0 14 (dk_at dksX4_ahead_4 1 rfl rfl)
theorem dX4_ahead_99 : decode cX4_ahead 99 = .ok (.iload_n 1, 1) := dk_27 (dk_at dksX4_ahead_4 4 rfl rfl)
theorem dX4_ahead_100 : decode cX4_ahead 100 = .ok (.aload_n 0, 1) := dk_42 (dk_at dksX4_ahead_4 5 rfl rfl)
theorem dX4_ahead_101 : decode cX4_ahead 101 = .ok (.getfield 21, 3) := dk_180 0 21 (dk_at dksX4_ahead_4 6 rfl rfl)
theorem dX4_ahead_104 : decode cX4_ahead 104 = .ok (.iadd, 1) := dk_96 (dk_at dksX4_ahead_4 9 rfl rfl)
theorem dX4_ahead_105 : decode cX4_ahead 105 = .ok (.iconst 1, 1) := dk_4 (dk_at dksX4_ahead_4 10 rfl rfl)
theorem dX4_ahead_106 : decode cX4_ahead 106 = .ok (.isub, 1) := dk_100 (dk_at dksX4_ahead_4 11 rfl rfl)
theorem dX4_ahead_107 : decode cX4_ahead 107 = .ok (.goto 4, 3) := dk_167 0 4 (dk_at dksX4_ahead_4 12 rfl rfl)
theorem dX4_ahead_110 : decode cX4_ahead 110 = .ok (.iconst (-1), 1) := dk_2 (dk_at dksX4_ahead_4 15 rfl rfl)
theorem dX4_ahead_111 : decode cX4_ahead 111 = .ok (.ireturn, 1) := dk_172 (dk_at dksX4_ahead_4 16 rfl rfl)
abbrev cX4_isLawful : ByteArray := prog_11_method_7_code
def yX4_isLawful : MethodName := ⟨RX4, "isLawful", "(I)Z"⟩
def dkwX4_isLawful_1 : List UInt8 := [160, 0, 16, 27, 42, 180, 0, 40, 126, 154, 0, 7, 4, 167, 0, 4, 3, 172]
abbrev dktX4_isLawful_1 : List UInt8 := dkwX4_isLawful_1 ++ []
def dkwX4_isLawful_0 : List UInt8 := [27, 3, 42, 182, 0, 61, 4, 100, 184, 0, 53, 153, 0, 29, 27, 42, 180, 0, 37, 126, 42, 180, 0, 37]
abbrev dktX4_isLawful_0 : List UInt8 := dkwX4_isLawful_0 ++ dktX4_isLawful_1
theorem dksX4_isLawful_0 : cX4_isLawful.data.toList.drop 0 = dktX4_isLawful_0 := by decide +kernel
theorem dksX4_isLawful_1 : cX4_isLawful.data.toList.drop 24 = dktX4_isLawful_1 := dk_seg dksX4_isLawful_0 24 rfl rfl
theorem dX4_isLawful_0 : decode cX4_isLawful 0 = .ok (.iload_n 1, 1) := dk_27 (dk_at dksX4_isLawful_0 0 rfl rfl)
theorem dX4_isLawful_1 : decode cX4_isLawful 1 = .ok (.iconst 0, 1) := dk_3 (dk_at dksX4_isLawful_0 1 rfl rfl)
theorem dX4_isLawful_2 : decode cX4_isLawful 2 = .ok (.aload_n 0, 1) := dk_42 (dk_at dksX4_isLawful_0 2 rfl rfl)
theorem dX4_isLawful_3 : decode cX4_isLawful 3 = .ok (.invokevirtual 61, 3) := dk_182 0 61 (dk_at dksX4_isLawful_0 3 rfl rfl)
theorem dX4_isLawful_6 : decode cX4_isLawful 6 = .ok (.iconst 1, 1) := dk_4 (dk_at dksX4_isLawful_0 6 rfl rfl)
theorem dX4_isLawful_7 : decode cX4_isLawful 7 = .ok (.isub, 1) := dk_100 (dk_at dksX4_isLawful_0 7 rfl rfl)
theorem dX4_isLawful_8 : decode cX4_isLawful 8 = .ok (.invokestatic 53, 3) := dk_184 0 53 (dk_at dksX4_isLawful_0 8 rfl rfl)
theorem dX4_isLawful_11 : decode cX4_isLawful 11 = .ok (.ifCond .eq 29, 3) := dk_153 0 29 (dk_at dksX4_isLawful_0 11 rfl rfl)
theorem dX4_isLawful_14 : decode cX4_isLawful 14 = .ok (.iload_n 1, 1) := dk_27 (dk_at dksX4_isLawful_0 14 rfl rfl)
theorem dX4_isLawful_15 : decode cX4_isLawful 15 = .ok (.aload_n 0, 1) := dk_42 (dk_at dksX4_isLawful_0 15 rfl rfl)
theorem dX4_isLawful_16 : decode cX4_isLawful 16 = .ok (.getfield 37, 3) := dk_180 0 37 (dk_at dksX4_isLawful_0 16 rfl rfl)
theorem dX4_isLawful_19 : decode cX4_isLawful 19 = .ok (.iand, 1) := dk_126 (dk_at dksX4_isLawful_0 19 rfl rfl)
theorem dX4_isLawful_20 : decode cX4_isLawful 20 = .ok (.aload_n 0, 1) := dk_42 (dk_at dksX4_isLawful_0 20 rfl rfl)
theorem dX4_isLawful_21 : decode cX4_isLawful 21 = .ok (.getfield 37, 3) := dk_180 0 37 (dk_at dksX4_isLawful_0 21 rfl rfl)
theorem dX4_isLawful_24 : decode cX4_isLawful 24 = .ok (.if_icmp .ne 16, 3) := dk_160 0 16 (dk_at dksX4_isLawful_1 0 rfl rfl)
theorem dX4_isLawful_27 : decode cX4_isLawful 27 = .ok (.iload_n 1, 1) := dk_27 (dk_at dksX4_isLawful_1 3 rfl rfl)
theorem dX4_isLawful_28 : decode cX4_isLawful 28 = .ok (.aload_n 0, 1) := dk_42 (dk_at dksX4_isLawful_1 4 rfl rfl)
theorem dX4_isLawful_29 : decode cX4_isLawful 29 = .ok (.getfield 40, 3) := dk_180 0 40 (dk_at dksX4_isLawful_1 5 rfl rfl)
theorem dX4_isLawful_32 : decode cX4_isLawful 32 = .ok (.iand, 1) := dk_126 (dk_at dksX4_isLawful_1 8 rfl rfl)
theorem dX4_isLawful_33 : decode cX4_isLawful 33 = .ok (.ifCond .ne 7, 3) := dk_154 0 7 (dk_at dksX4_isLawful_1 9 rfl rfl)
theorem dX4_isLawful_36 : decode cX4_isLawful 36 = .ok (.iconst 1, 1) := dk_4 (dk_at dksX4_isLawful_1 12 rfl rfl)
theorem dX4_isLawful_37 : decode cX4_isLawful 37 = .ok (.goto 4, 3) := dk_167 0 4 (dk_at dksX4_isLawful_1 13 rfl rfl)
theorem dX4_isLawful_40 : decode cX4_isLawful 40 = .ok (.iconst 0, 1) := dk_3 (dk_at dksX4_isLawful_1 16 rfl rfl)
theorem dX4_isLawful_41 : decode cX4_isLawful 41 = .ok (.ireturn, 1) := dk_172 (dk_at dksX4_isLawful_1 17 rfl rfl)
abbrev cX4_broken : ByteArray := prog_11_method_16_code
def yX4_broken : MethodName := ⟨RX4, "broken", "(I)I"⟩
def dkwX4_broken_3 : List UInt8 := [184, 0, 71, 104, 156, 0, 6, 132, 2, 1, 132, 4, 1, 167, 255, 189, 132, 3, 1, 167, 255, 172, 28, 172]
abbrev dktX4_broken_3 : List UInt8 := dkwX4_broken_3 ++ []
def dkwX4_broken_2 : List UInt8 := [21, 4, 4, 160, 0, 7, 4, 167, 0, 4, 3, 182, 0, 68, 27, 29, 184, 0, 71, 104, 27, 21, 5]
abbrev dktX4_broken_2 : List UInt8 := dkwX4_broken_2 ++ dktX4_broken_3
def dkwX4_broken_1 : List UInt8 := [21, 4, 4, 160, 0, 7, 4, 167, 0, 4, 3, 182, 0, 64, 54, 5, 21, 5, 155, 0, 38, 42, 29]
abbrev dktX4_broken_1 : List UInt8 := dkwX4_broken_1 ++ dktX4_broken_2
def dkwX4_broken_0 : List UInt8 := [3, 61, 3, 62, 29, 42, 182, 0, 49, 162, 0, 82, 3, 54, 4, 21, 4, 5, 162, 0, 67, 42, 29]
abbrev dktX4_broken_0 : List UInt8 := dkwX4_broken_0 ++ dktX4_broken_1
theorem dksX4_broken_0 : cX4_broken.data.toList.drop 0 = dktX4_broken_0 := by decide +kernel
theorem dksX4_broken_1 : cX4_broken.data.toList.drop 23 = dktX4_broken_1 := dk_seg dksX4_broken_0 23 rfl rfl
theorem dksX4_broken_2 : cX4_broken.data.toList.drop 46 = dktX4_broken_2 := dk_seg dksX4_broken_1 23 rfl rfl
theorem dksX4_broken_3 : cX4_broken.data.toList.drop 69 = dktX4_broken_3 := dk_seg dksX4_broken_2 23 rfl rfl
theorem dX4_broken_0 : decode cX4_broken 0 = .ok (.iconst 0, 1) := dk_3 (dk_at dksX4_broken_0 0 rfl rfl)
theorem dX4_broken_1 : decode cX4_broken 1 = .ok (.istore_n 2, 1) := dk_61 (dk_at dksX4_broken_0 1 rfl rfl)
theorem dX4_broken_2 : decode cX4_broken 2 = .ok (.iconst 0, 1) := dk_3 (dk_at dksX4_broken_0 2 rfl rfl)
theorem dX4_broken_3 : decode cX4_broken 3 = .ok (.istore_n 3, 1) := dk_62 (dk_at dksX4_broken_0 3 rfl rfl)
theorem dX4_broken_4 : decode cX4_broken 4 = .ok (.iload_n 3, 1) := dk_29 (dk_at dksX4_broken_0 4 rfl rfl)
theorem dX4_broken_5 : decode cX4_broken 5 = .ok (.aload_n 0, 1) := dk_42 (dk_at dksX4_broken_0 5 rfl rfl)
theorem dX4_broken_6 : decode cX4_broken 6 = .ok (.invokevirtual 49, 3) := dk_182 0 49 (dk_at dksX4_broken_0 6 rfl rfl)
theorem dX4_broken_9 : decode cX4_broken 9 = .ok (.if_icmp .ge 82, 3) := dk_162 0 82 (dk_at dksX4_broken_0 9 rfl rfl)
theorem dX4_broken_12 : decode cX4_broken 12 = .ok (.iconst 0, 1) := dk_3 (dk_at dksX4_broken_0 12 rfl rfl)
theorem dX4_broken_13 : decode cX4_broken 13 = .ok (.istore 4, 2) := dk_54 4 (dk_at dksX4_broken_0 13 rfl rfl)
theorem dX4_broken_15 : decode cX4_broken 15 = .ok (.iload 4, 2) := dk_21 4 (dk_at dksX4_broken_0 15 rfl rfl)
theorem dX4_broken_17 : decode cX4_broken 17 = .ok (.iconst 2, 1) := dk_5 (dk_at dksX4_broken_0 17 rfl rfl)
theorem dX4_broken_18 : decode cX4_broken 18 = .ok (.if_icmp .ge 67, 3) := dk_162 0 67 (dk_at dksX4_broken_0 18 rfl rfl)
theorem dX4_broken_21 : decode cX4_broken 21 = .ok (.aload_n 0, 1) := dk_42 (dk_at dksX4_broken_0 21 rfl rfl)
theorem dX4_broken_22 : decode cX4_broken 22 = .ok (.iload_n 3, 1) := dk_29 (dk_at dksX4_broken_0 22 rfl rfl)
theorem dX4_broken_23 : decode cX4_broken 23 = .ok (.iload 4, 2) := dk_21 4 (dk_at dksX4_broken_1 0 rfl rfl)
theorem dX4_broken_25 : decode cX4_broken 25 = .ok (.iconst 1, 1) := dk_4 (dk_at dksX4_broken_1 2 rfl rfl)
theorem dX4_broken_26 : decode cX4_broken 26 = .ok (.if_icmp .ne 7, 3) := dk_160 0 7 (dk_at dksX4_broken_1 3 rfl rfl)
theorem dX4_broken_29 : decode cX4_broken 29 = .ok (.iconst 1, 1) := dk_4 (dk_at dksX4_broken_1 6 rfl rfl)
theorem dX4_broken_30 : decode cX4_broken 30 = .ok (.goto 4, 3) := dk_167 0 4 (dk_at dksX4_broken_1 7 rfl rfl)
theorem dX4_broken_33 : decode cX4_broken 33 = .ok (.iconst 0, 1) := dk_3 (dk_at dksX4_broken_1 10 rfl rfl)
theorem dX4_broken_34 : decode cX4_broken 34 = .ok (.invokevirtual 64, 3) := dk_182 0 64 (dk_at dksX4_broken_1 11 rfl rfl)
theorem dX4_broken_37 : decode cX4_broken 37 = .ok (.istore 5, 2) := dk_54 5 (dk_at dksX4_broken_1 14 rfl rfl)
theorem dX4_broken_39 : decode cX4_broken 39 = .ok (.iload 5, 2) := dk_21 5 (dk_at dksX4_broken_1 16 rfl rfl)
theorem dX4_broken_41 : decode cX4_broken 41 = .ok (.ifCond .lt 38, 3) := dk_155 0 38 (dk_at dksX4_broken_1 18 rfl rfl)
theorem dX4_broken_44 : decode cX4_broken 44 = .ok (.aload_n 0, 1) := dk_42 (dk_at dksX4_broken_1 21 rfl rfl)
theorem dX4_broken_45 : decode cX4_broken 45 = .ok (.iload_n 3, 1) := dk_29 (dk_at dksX4_broken_1 22 rfl rfl)
theorem dX4_broken_46 : decode cX4_broken 46 = .ok (.iload 4, 2) := dk_21 4 (dk_at dksX4_broken_2 0 rfl rfl)
theorem dX4_broken_48 : decode cX4_broken 48 = .ok (.iconst 1, 1) := dk_4 (dk_at dksX4_broken_2 2 rfl rfl)
theorem dX4_broken_49 : decode cX4_broken 49 = .ok (.if_icmp .ne 7, 3) := dk_160 0 7 (dk_at dksX4_broken_2 3 rfl rfl)
theorem dX4_broken_52 : decode cX4_broken 52 = .ok (.iconst 1, 1) := dk_4 (dk_at dksX4_broken_2 6 rfl rfl)
theorem dX4_broken_53 : decode cX4_broken 53 = .ok (.goto 4, 3) := dk_167 0 4 (dk_at dksX4_broken_2 7 rfl rfl)
theorem dX4_broken_56 : decode cX4_broken 56 = .ok (.iconst 0, 1) := dk_3 (dk_at dksX4_broken_2 10 rfl rfl)
theorem dX4_broken_57 : decode cX4_broken 57 = .ok (.invokevirtual 68, 3) := dk_182 0 68 (dk_at dksX4_broken_2 11 rfl rfl)
theorem dX4_broken_60 : decode cX4_broken 60 = .ok (.iload_n 1, 1) := dk_27 (dk_at dksX4_broken_2 14 rfl rfl)
theorem dX4_broken_61 : decode cX4_broken 61 = .ok (.iload_n 3, 1) := dk_29 (dk_at dksX4_broken_2 15 rfl rfl)
theorem dX4_broken_62 : decode cX4_broken 62 = .ok (.invokestatic 71, 3) := dk_184 0 71 (dk_at dksX4_broken_2 16 rfl rfl)
theorem dX4_broken_65 : decode cX4_broken 65 = .ok (.imul, 1) := dk_104 (dk_at dksX4_broken_2 19 rfl rfl)
theorem dX4_broken_66 : decode cX4_broken 66 = .ok (.iload_n 1, 1) := dk_27 (dk_at dksX4_broken_2 20 rfl rfl)
theorem dX4_broken_67 : decode cX4_broken 67 = .ok (.iload 5, 2) := dk_21 5 (dk_at dksX4_broken_2 21 rfl rfl)
theorem dX4_broken_69 : decode cX4_broken 69 = .ok (.invokestatic 71, 3) := dk_184 0 71 (dk_at dksX4_broken_3 0 rfl rfl)
theorem dX4_broken_72 : decode cX4_broken 72 = .ok (.imul, 1) := dk_104 (dk_at dksX4_broken_3 3 rfl rfl)
theorem dX4_broken_73 : decode cX4_broken 73 = .ok (.ifCond .ge 6, 3) := dk_156 0 6 (dk_at dksX4_broken_3 4 rfl rfl)
theorem dX4_broken_76 : decode cX4_broken 76 = .ok (.iinc 2 1, 3) := dk_132 2 1 (dk_at dksX4_broken_3 7 rfl rfl)
theorem dX4_broken_79 : decode cX4_broken 79 = .ok (.iinc 4 1, 3) := dk_132 4 1 (dk_at dksX4_broken_3 10 rfl rfl)
theorem dX4_broken_82 : decode cX4_broken 82 = .ok (.goto (-67), 3) := dk_167 255 189 (dk_at dksX4_broken_3 13 rfl rfl)
theorem dX4_broken_85 : decode cX4_broken 85 = .ok (.iinc 3 1, 3) := dk_132 3 1 (dk_at dksX4_broken_3 16 rfl rfl)
theorem dX4_broken_88 : decode cX4_broken 88 = .ok (.goto (-84), 3) := dk_167 255 172 (dk_at dksX4_broken_3 19 rfl rfl)
theorem dX4_broken_91 : decode cX4_broken 91 = .ok (.iload_n 2, 1) := dk_28 (dk_at dksX4_broken_3 22 rfl rfl)
theorem dX4_broken_92 : decode cX4_broken 92 = .ok (.ireturn, 1) := dk_172 (dk_at dksX4_broken_3 23 rfl rfl)
abbrev cX4_square : ByteArray := prog_11_method_17_code
def yX4_square : MethodName := ⟨RX4, "square", "(I)I"⟩
def dkwX4_square_2 : List UInt8 := [180, 0, 15, 28, 46, 104, 54, 4, 21, 4, 156, 0, 7, 4, 167, 0, 4, 3, 172]
abbrev dktX4_square_2 : List UInt8 := dkwX4_square_2 ++ []
def dkwX4_square_1 : List UInt8 := [172, 42, 180, 0, 9, 27, 46, 42, 180, 0, 15, 27, 46, 104, 42, 180, 0, 9, 29, 46, 104, 42]
abbrev dktX4_square_1 : List UInt8 := dkwX4_square_1 ++ dktX4_square_2
def dkwX4_square_0 : List UInt8 := [42, 27, 3, 182, 0, 64, 61, 42, 27, 4, 182, 0, 64, 62, 28, 155, 0, 7, 29, 156, 0, 6, 16, 254]
abbrev dktX4_square_0 : List UInt8 := dkwX4_square_0 ++ dktX4_square_1
theorem dksX4_square_0 : cX4_square.data.toList.drop 0 = dktX4_square_0 := by decide +kernel
theorem dksX4_square_1 : cX4_square.data.toList.drop 24 = dktX4_square_1 := dk_seg dksX4_square_0 24 rfl rfl
theorem dksX4_square_2 : cX4_square.data.toList.drop 46 = dktX4_square_2 := dk_seg dksX4_square_1 22 rfl rfl
theorem dX4_square_0 : decode cX4_square 0 = .ok (.aload_n 0, 1) := dk_42 (dk_at dksX4_square_0 0 rfl rfl)
theorem dX4_square_1 : decode cX4_square 1 = .ok (.iload_n 1, 1) := dk_27 (dk_at dksX4_square_0 1 rfl rfl)
theorem dX4_square_2 : decode cX4_square 2 = .ok (.iconst 0, 1) := dk_3 (dk_at dksX4_square_0 2 rfl rfl)
theorem dX4_square_3 : decode cX4_square 3 = .ok (.invokevirtual 64, 3) := dk_182 0 64 (dk_at dksX4_square_0 3 rfl rfl)
theorem dX4_square_6 : decode cX4_square 6 = .ok (.istore_n 2, 1) := dk_61 (dk_at dksX4_square_0 6 rfl rfl)
theorem dX4_square_7 : decode cX4_square 7 = .ok (.aload_n 0, 1) := dk_42 (dk_at dksX4_square_0 7 rfl rfl)
theorem dX4_square_8 : decode cX4_square 8 = .ok (.iload_n 1, 1) := dk_27 (dk_at dksX4_square_0 8 rfl rfl)
theorem dX4_square_9 : decode cX4_square 9 = .ok (.iconst 1, 1) := dk_4 (dk_at dksX4_square_0 9 rfl rfl)
theorem dX4_square_10 : decode cX4_square 10 = .ok (.invokevirtual 64, 3) := dk_182 0 64 (dk_at dksX4_square_0 10 rfl rfl)
theorem dX4_square_13 : decode cX4_square 13 = .ok (.istore_n 3, 1) := dk_62 (dk_at dksX4_square_0 13 rfl rfl)
theorem dX4_square_14 : decode cX4_square 14 = .ok (.iload_n 2, 1) := dk_28 (dk_at dksX4_square_0 14 rfl rfl)
theorem dX4_square_15 : decode cX4_square 15 = .ok (.ifCond .lt 7, 3) := dk_155 0 7 (dk_at dksX4_square_0 15 rfl rfl)
theorem dX4_square_18 : decode cX4_square 18 = .ok (.iload_n 3, 1) := dk_29 (dk_at dksX4_square_0 18 rfl rfl)
theorem dX4_square_19 : decode cX4_square 19 = .ok (.ifCond .ge 6, 3) := dk_156 0 6 (dk_at dksX4_square_0 19 rfl rfl)
theorem dX4_square_22 : decode cX4_square 22 = .ok (.bipush (-2), 2) := dk_16 254 (dk_at dksX4_square_0 22 rfl rfl)
theorem dX4_square_24 : decode cX4_square 24 = .ok (.ireturn, 1) := dk_172 (dk_at dksX4_square_1 0 rfl rfl)
theorem dX4_square_25 : decode cX4_square 25 = .ok (.aload_n 0, 1) := dk_42 (dk_at dksX4_square_1 1 rfl rfl)
theorem dX4_square_26 : decode cX4_square 26 = .ok (.getfield 9, 3) := dk_180 0 9 (dk_at dksX4_square_1 2 rfl rfl)
theorem dX4_square_29 : decode cX4_square 29 = .ok (.iload_n 1, 1) := dk_27 (dk_at dksX4_square_1 5 rfl rfl)
theorem dX4_square_30 : decode cX4_square 30 = .ok (.iaload, 1) := dk_46 (dk_at dksX4_square_1 6 rfl rfl)
theorem dX4_square_31 : decode cX4_square 31 = .ok (.aload_n 0, 1) := dk_42 (dk_at dksX4_square_1 7 rfl rfl)
theorem dX4_square_32 : decode cX4_square 32 = .ok (.getfield 15, 3) := dk_180 0 15 (dk_at dksX4_square_1 8 rfl rfl)
theorem dX4_square_35 : decode cX4_square 35 = .ok (.iload_n 1, 1) := dk_27 (dk_at dksX4_square_1 11 rfl rfl)
theorem dX4_square_36 : decode cX4_square 36 = .ok (.iaload, 1) := dk_46 (dk_at dksX4_square_1 12 rfl rfl)
theorem dX4_square_37 : decode cX4_square 37 = .ok (.imul, 1) := dk_104 (dk_at dksX4_square_1 13 rfl rfl)
theorem dX4_square_38 : decode cX4_square 38 = .ok (.aload_n 0, 1) := dk_42 (dk_at dksX4_square_1 14 rfl rfl)
theorem dX4_square_39 : decode cX4_square 39 = .ok (.getfield 9, 3) := dk_180 0 9 (dk_at dksX4_square_1 15 rfl rfl)
theorem dX4_square_42 : decode cX4_square 42 = .ok (.iload_n 3, 1) := dk_29 (dk_at dksX4_square_1 18 rfl rfl)
theorem dX4_square_43 : decode cX4_square 43 = .ok (.iaload, 1) := dk_46 (dk_at dksX4_square_1 19 rfl rfl)
theorem dX4_square_44 : decode cX4_square 44 = .ok (.imul, 1) := dk_104 (dk_at dksX4_square_1 20 rfl rfl)
theorem dX4_square_45 : decode cX4_square 45 = .ok (.aload_n 0, 1) := dk_42 (dk_at dksX4_square_1 21 rfl rfl)
theorem dX4_square_46 : decode cX4_square 46 = .ok (.getfield 15, 3) := dk_180 0 15 (dk_at dksX4_square_2 0 rfl rfl)
theorem dX4_square_49 : decode cX4_square 49 = .ok (.iload_n 2, 1) := dk_28 (dk_at dksX4_square_2 3 rfl rfl)
theorem dX4_square_50 : decode cX4_square 50 = .ok (.iaload, 1) := dk_46 (dk_at dksX4_square_2 4 rfl rfl)
theorem dX4_square_51 : decode cX4_square 51 = .ok (.imul, 1) := dk_104 (dk_at dksX4_square_2 5 rfl rfl)
theorem dX4_square_52 : decode cX4_square 52 = .ok (.istore 4, 2) := dk_54 4 (dk_at dksX4_square_2 6 rfl rfl)
theorem dX4_square_54 : decode cX4_square 54 = .ok (.iload 4, 2) := dk_21 4 (dk_at dksX4_square_2 8 rfl rfl)
theorem dX4_square_56 : decode cX4_square 56 = .ok (.ifCond .ge 7, 3) := dk_156 0 7 (dk_at dksX4_square_2 10 rfl rfl)
theorem dX4_square_59 : decode cX4_square 59 = .ok (.iconst 1, 1) := dk_4 (dk_at dksX4_square_2 13 rfl rfl)
theorem dX4_square_60 : decode cX4_square 60 = .ok (.goto 4, 3) := dk_167 0 4 (dk_at dksX4_square_2 14 rfl rfl)
theorem dX4_square_63 : decode cX4_square 63 = .ok (.iconst 0, 1) := dk_3 (dk_at dksX4_square_2 17 rfl rfl)
theorem dX4_square_64 : decode cX4_square 64 = .ok (.ireturn, 1) := dk_172 (dk_at dksX4_square_2 18 rfl rfl)
abbrev cX4_cluster : ByteArray := prog_11_method_19_code
def yX4_cluster : MethodName := ⟨RX4, "cluster", "(I)I"⟩
def dkwX4_cluster_5 : List UInt8 := [167, 255, 169, 132, 4, 1, 167, 255, 151, 167, 255, 138, 28, 172]
abbrev dktX4_cluster_5 : List UInt8 := dkwX4_cluster_5 ++ []
def dkwX4_cluster_4 : List UInt8 := [184, 0, 57, 154, 0, 6, 167, 0, 15, 28, 4, 21, 4, 120, 4, 21, 6, 120, 128, 128, 61, 132, 5, 1]
abbrev dktX4_cluster_4 : List UInt8 := dkwX4_cluster_4 ++ dktX4_cluster_5
def dkwX4_cluster_3 : List UInt8 := [180, 0, 31, 21, 6, 184, 0, 57, 160, 0, 36, 29, 21, 4, 184, 0, 57, 154, 0, 15, 29, 21, 6]
abbrev dktX4_cluster_3 : List UInt8 := dkwX4_cluster_3 ++ dktX4_cluster_4
def dkwX4_cluster_2 : List UInt8 := [167, 0, 4, 3, 182, 0, 64, 54, 6, 21, 6, 155, 0, 57, 42, 180, 0, 31, 21, 4, 184, 0, 57, 42]
abbrev dktX4_cluster_2 : List UInt8 := dkwX4_cluster_2 ++ dktX4_cluster_3
def dkwX4_cluster_1 : List UInt8 := [162, 0, 102, 3, 54, 5, 21, 5, 5, 162, 0, 87, 42, 21, 4, 21, 5, 4, 160, 0, 7, 4]
abbrev dktX4_cluster_1 : List UInt8 := dkwX4_cluster_1 ++ dktX4_cluster_2
def dkwX4_cluster_0 : List UInt8 := [4, 27, 120, 61, 3, 62, 28, 29, 159, 0, 119, 28, 62, 3, 54, 4, 21, 4, 42, 182, 0, 49]
abbrev dktX4_cluster_0 : List UInt8 := dkwX4_cluster_0 ++ dktX4_cluster_1
theorem dksX4_cluster_0 : cX4_cluster.data.toList.drop 0 = dktX4_cluster_0 := by decide +kernel
theorem dksX4_cluster_1 : cX4_cluster.data.toList.drop 22 = dktX4_cluster_1 := dk_seg dksX4_cluster_0 22 rfl rfl
theorem dksX4_cluster_2 : cX4_cluster.data.toList.drop 44 = dktX4_cluster_2 := dk_seg dksX4_cluster_1 22 rfl rfl
theorem dksX4_cluster_3 : cX4_cluster.data.toList.drop 68 = dktX4_cluster_3 := dk_seg dksX4_cluster_2 24 rfl rfl
theorem dksX4_cluster_4 : cX4_cluster.data.toList.drop 91 = dktX4_cluster_4 := dk_seg dksX4_cluster_3 23 rfl rfl
theorem dksX4_cluster_5 : cX4_cluster.data.toList.drop 115 = dktX4_cluster_5 := dk_seg dksX4_cluster_4 24 rfl rfl
theorem dX4_cluster_0 : decode cX4_cluster 0 = .ok (.iconst 1, 1) := dk_4 (dk_at dksX4_cluster_0 0 rfl rfl)
theorem dX4_cluster_1 : decode cX4_cluster 1 = .ok (.iload_n 1, 1) := dk_27 (dk_at dksX4_cluster_0 1 rfl rfl)
theorem dX4_cluster_2 : decode cX4_cluster 2 = .ok (.ishl, 1) := dk_120 (dk_at dksX4_cluster_0 2 rfl rfl)
theorem dX4_cluster_3 : decode cX4_cluster 3 = .ok (.istore_n 2, 1) := dk_61 (dk_at dksX4_cluster_0 3 rfl rfl)
theorem dX4_cluster_4 : decode cX4_cluster 4 = .ok (.iconst 0, 1) := dk_3 (dk_at dksX4_cluster_0 4 rfl rfl)
theorem dX4_cluster_5 : decode cX4_cluster 5 = .ok (.istore_n 3, 1) := dk_62 (dk_at dksX4_cluster_0 5 rfl rfl)
theorem dX4_cluster_6 : decode cX4_cluster 6 = .ok (.iload_n 2, 1) := dk_28 (dk_at dksX4_cluster_0 6 rfl rfl)
theorem dX4_cluster_7 : decode cX4_cluster 7 = .ok (.iload_n 3, 1) := dk_29 (dk_at dksX4_cluster_0 7 rfl rfl)
theorem dX4_cluster_8 : decode cX4_cluster 8 = .ok (.if_icmp .eq 119, 3) := dk_159 0 119 (dk_at dksX4_cluster_0 8 rfl rfl)
theorem dX4_cluster_11 : decode cX4_cluster 11 = .ok (.iload_n 2, 1) := dk_28 (dk_at dksX4_cluster_0 11 rfl rfl)
theorem dX4_cluster_12 : decode cX4_cluster 12 = .ok (.istore_n 3, 1) := dk_62 (dk_at dksX4_cluster_0 12 rfl rfl)
theorem dX4_cluster_13 : decode cX4_cluster 13 = .ok (.iconst 0, 1) := dk_3 (dk_at dksX4_cluster_0 13 rfl rfl)
theorem dX4_cluster_14 : decode cX4_cluster 14 = .ok (.istore 4, 2) := dk_54 4 (dk_at dksX4_cluster_0 14 rfl rfl)
theorem dX4_cluster_16 : decode cX4_cluster 16 = .ok (.iload 4, 2) := dk_21 4 (dk_at dksX4_cluster_0 16 rfl rfl)
theorem dX4_cluster_18 : decode cX4_cluster 18 = .ok (.aload_n 0, 1) := dk_42 (dk_at dksX4_cluster_0 18 rfl rfl)
theorem dX4_cluster_19 : decode cX4_cluster 19 = .ok (.invokevirtual 49, 3) := dk_182 0 49 (dk_at dksX4_cluster_0 19 rfl rfl)
theorem dX4_cluster_22 : decode cX4_cluster 22 = .ok (.if_icmp .ge 102, 3) := dk_162 0 102 (dk_at dksX4_cluster_1 0 rfl rfl)
theorem dX4_cluster_25 : decode cX4_cluster 25 = .ok (.iconst 0, 1) := dk_3 (dk_at dksX4_cluster_1 3 rfl rfl)
theorem dX4_cluster_26 : decode cX4_cluster 26 = .ok (.istore 5, 2) := dk_54 5 (dk_at dksX4_cluster_1 4 rfl rfl)
theorem dX4_cluster_28 : decode cX4_cluster 28 = .ok (.iload 5, 2) := dk_21 5 (dk_at dksX4_cluster_1 6 rfl rfl)
theorem dX4_cluster_30 : decode cX4_cluster 30 = .ok (.iconst 2, 1) := dk_5 (dk_at dksX4_cluster_1 8 rfl rfl)
theorem dX4_cluster_31 : decode cX4_cluster 31 = .ok (.if_icmp .ge 87, 3) := dk_162 0 87 (dk_at dksX4_cluster_1 9 rfl rfl)
theorem dX4_cluster_34 : decode cX4_cluster 34 = .ok (.aload_n 0, 1) := dk_42 (dk_at dksX4_cluster_1 12 rfl rfl)
theorem dX4_cluster_35 : decode cX4_cluster 35 = .ok (.iload 4, 2) := dk_21 4 (dk_at dksX4_cluster_1 13 rfl rfl)
theorem dX4_cluster_37 : decode cX4_cluster 37 = .ok (.iload 5, 2) := dk_21 5 (dk_at dksX4_cluster_1 15 rfl rfl)
theorem dX4_cluster_39 : decode cX4_cluster 39 = .ok (.iconst 1, 1) := dk_4 (dk_at dksX4_cluster_1 17 rfl rfl)
theorem dX4_cluster_40 : decode cX4_cluster 40 = .ok (.if_icmp .ne 7, 3) := dk_160 0 7 (dk_at dksX4_cluster_1 18 rfl rfl)
theorem dX4_cluster_43 : decode cX4_cluster 43 = .ok (.iconst 1, 1) := dk_4 (dk_at dksX4_cluster_1 21 rfl rfl)
theorem dX4_cluster_44 : decode cX4_cluster 44 = .ok (.goto 4, 3) := dk_167 0 4 (dk_at dksX4_cluster_2 0 rfl rfl)
theorem dX4_cluster_47 : decode cX4_cluster 47 = .ok (.iconst 0, 1) := dk_3 (dk_at dksX4_cluster_2 3 rfl rfl)
theorem dX4_cluster_48 : decode cX4_cluster 48 = .ok (.invokevirtual 64, 3) := dk_182 0 64 (dk_at dksX4_cluster_2 4 rfl rfl)
theorem dX4_cluster_51 : decode cX4_cluster 51 = .ok (.istore 6, 2) := dk_54 6 (dk_at dksX4_cluster_2 7 rfl rfl)
theorem dX4_cluster_53 : decode cX4_cluster 53 = .ok (.iload 6, 2) := dk_21 6 (dk_at dksX4_cluster_2 9 rfl rfl)
theorem dX4_cluster_55 : decode cX4_cluster 55 = .ok (.ifCond .lt 57, 3) := dk_155 0 57 (dk_at dksX4_cluster_2 11 rfl rfl)
theorem dX4_cluster_58 : decode cX4_cluster 58 = .ok (.aload_n 0, 1) := dk_42 (dk_at dksX4_cluster_2 14 rfl rfl)
theorem dX4_cluster_59 : decode cX4_cluster 59 = .ok (.getfield 31, 3) := dk_180 0 31 (dk_at dksX4_cluster_2 15 rfl rfl)
theorem dX4_cluster_62 : decode cX4_cluster 62 = .ok (.iload 4, 2) := dk_21 4 (dk_at dksX4_cluster_2 18 rfl rfl)
theorem dX4_cluster_64 : decode cX4_cluster 64 = .ok (.invokestatic 57, 3) := dk_184 0 57 (dk_at dksX4_cluster_2 20 rfl rfl)
theorem dX4_cluster_67 : decode cX4_cluster 67 = .ok (.aload_n 0, 1) := dk_42 (dk_at dksX4_cluster_2 23 rfl rfl)
theorem dX4_cluster_68 : decode cX4_cluster 68 = .ok (.getfield 31, 3) := dk_180 0 31 (dk_at dksX4_cluster_3 0 rfl rfl)
theorem dX4_cluster_71 : decode cX4_cluster 71 = .ok (.iload 6, 2) := dk_21 6 (dk_at dksX4_cluster_3 3 rfl rfl)
theorem dX4_cluster_73 : decode cX4_cluster 73 = .ok (.invokestatic 57, 3) := dk_184 0 57 (dk_at dksX4_cluster_3 5 rfl rfl)
theorem dX4_cluster_76 : decode cX4_cluster 76 = .ok (.if_icmp .ne 36, 3) := dk_160 0 36 (dk_at dksX4_cluster_3 8 rfl rfl)
theorem dX4_cluster_79 : decode cX4_cluster 79 = .ok (.iload_n 3, 1) := dk_29 (dk_at dksX4_cluster_3 11 rfl rfl)
theorem dX4_cluster_80 : decode cX4_cluster 80 = .ok (.iload 4, 2) := dk_21 4 (dk_at dksX4_cluster_3 12 rfl rfl)
theorem dX4_cluster_82 : decode cX4_cluster 82 = .ok (.invokestatic 57, 3) := dk_184 0 57 (dk_at dksX4_cluster_3 14 rfl rfl)
theorem dX4_cluster_85 : decode cX4_cluster 85 = .ok (.ifCond .ne 15, 3) := dk_154 0 15 (dk_at dksX4_cluster_3 17 rfl rfl)
theorem dX4_cluster_88 : decode cX4_cluster 88 = .ok (.iload_n 3, 1) := dk_29 (dk_at dksX4_cluster_3 20 rfl rfl)
theorem dX4_cluster_89 : decode cX4_cluster 89 = .ok (.iload 6, 2) := dk_21 6 (dk_at dksX4_cluster_3 21 rfl rfl)
theorem dX4_cluster_91 : decode cX4_cluster 91 = .ok (.invokestatic 57, 3) := dk_184 0 57 (dk_at dksX4_cluster_4 0 rfl rfl)
theorem dX4_cluster_94 : decode cX4_cluster 94 = .ok (.ifCond .ne 6, 3) := dk_154 0 6 (dk_at dksX4_cluster_4 3 rfl rfl)
theorem dX4_cluster_97 : decode cX4_cluster 97 = .ok (.goto 15, 3) := dk_167 0 15 (dk_at dksX4_cluster_4 6 rfl rfl)
theorem dX4_cluster_100 : decode cX4_cluster 100 = .ok (.iload_n 2, 1) := dk_28 (dk_at dksX4_cluster_4 9 rfl rfl)
theorem dX4_cluster_101 : decode cX4_cluster 101 = .ok (.iconst 1, 1) := dk_4 (dk_at dksX4_cluster_4 10 rfl rfl)
theorem dX4_cluster_102 : decode cX4_cluster 102 = .ok (.iload 4, 2) := dk_21 4 (dk_at dksX4_cluster_4 11 rfl rfl)
theorem dX4_cluster_104 : decode cX4_cluster 104 = .ok (.ishl, 1) := dk_120 (dk_at dksX4_cluster_4 13 rfl rfl)
theorem dX4_cluster_105 : decode cX4_cluster 105 = .ok (.iconst 1, 1) := dk_4 (dk_at dksX4_cluster_4 14 rfl rfl)
theorem dX4_cluster_106 : decode cX4_cluster 106 = .ok (.iload 6, 2) := dk_21 6 (dk_at dksX4_cluster_4 15 rfl rfl)
theorem dX4_cluster_108 : decode cX4_cluster 108 = .ok (.ishl, 1) := dk_120 (dk_at dksX4_cluster_4 17 rfl rfl)
theorem dX4_cluster_109 : decode cX4_cluster 109 = .ok (.ior, 1) := dk_128 (dk_at dksX4_cluster_4 18 rfl rfl)
theorem dX4_cluster_110 : decode cX4_cluster 110 = .ok (.ior, 1) := dk_128 (dk_at dksX4_cluster_4 19 rfl rfl)
theorem dX4_cluster_111 : decode cX4_cluster 111 = .ok (.istore_n 2, 1) := dk_61 (dk_at dksX4_cluster_4 20 rfl rfl)
theorem dX4_cluster_112 : decode cX4_cluster 112 = .ok (.iinc 5 1, 3) := dk_132 5 1 (dk_at dksX4_cluster_4 21 rfl rfl)
theorem dX4_cluster_115 : decode cX4_cluster 115 = .ok (.goto (-87), 3) := dk_167 255 169 (dk_at dksX4_cluster_5 0 rfl rfl)
theorem dX4_cluster_118 : decode cX4_cluster 118 = .ok (.iinc 4 1, 3) := dk_132 4 1 (dk_at dksX4_cluster_5 3 rfl rfl)
theorem dX4_cluster_121 : decode cX4_cluster 121 = .ok (.goto (-105), 3) := dk_167 255 151 (dk_at dksX4_cluster_5 6 rfl rfl)
theorem dX4_cluster_124 : decode cX4_cluster 124 = .ok (.goto (-118), 3) := dk_167 255 138 (dk_at dksX4_cluster_5 9 rfl rfl)
theorem dX4_cluster_127 : decode cX4_cluster 127 = .ok (.iload_n 2, 1) := dk_28 (dk_at dksX4_cluster_5 12 rfl rfl)
theorem dX4_cluster_128 : decode cX4_cluster 128 = .ok (.ireturn, 1) := dk_172 (dk_at dksX4_cluster_5 13 rfl rfl)
abbrev cX4_tieMany : ByteArray := prog_11_method_18_code
def yX4_tieMany : MethodName := ⟨RX4, "tieMany", "()I"⟩
def dkwX4_tieMany_2 : List UInt8 := [167, 255, 222, 132, 2, 1, 167, 255, 206, 27, 172]
abbrev dktX4_tieMany_2 : List UInt8 := dkwX4_tieMany_2 ++ []
def dkwX4_tieMany_1 : List UInt8 := [160, 0, 7, 4, 167, 0, 4, 3, 182, 0, 64, 155, 0, 7, 4, 167, 0, 4, 3, 96, 60, 132, 3, 1]
abbrev dktX4_tieMany_1 : List UInt8 := dkwX4_tieMany_1 ++ dktX4_tieMany_2
def dkwX4_tieMany_0 : List UInt8 := [3, 60, 3, 61, 28, 42, 182, 0, 49, 162, 0, 48, 3, 62, 29, 5, 162, 0, 35, 27, 42, 28, 29, 4]
abbrev dktX4_tieMany_0 : List UInt8 := dkwX4_tieMany_0 ++ dktX4_tieMany_1
theorem dksX4_tieMany_0 : cX4_tieMany.data.toList.drop 0 = dktX4_tieMany_0 := by decide +kernel
theorem dksX4_tieMany_1 : cX4_tieMany.data.toList.drop 24 = dktX4_tieMany_1 := dk_seg dksX4_tieMany_0 24 rfl rfl
theorem dksX4_tieMany_2 : cX4_tieMany.data.toList.drop 48 = dktX4_tieMany_2 := dk_seg dksX4_tieMany_1 24 rfl rfl
theorem dX4_tieMany_0 : decode cX4_tieMany 0 = .ok (.iconst 0, 1) := dk_3 (dk_at dksX4_tieMany_0 0 rfl rfl)
theorem dX4_tieMany_1 : decode cX4_tieMany 1 = .ok (.istore_n 1, 1) := dk_60 (dk_at dksX4_tieMany_0 1 rfl rfl)
theorem dX4_tieMany_2 : decode cX4_tieMany 2 = .ok (.iconst 0, 1) := dk_3 (dk_at dksX4_tieMany_0 2 rfl rfl)
theorem dX4_tieMany_3 : decode cX4_tieMany 3 = .ok (.istore_n 2, 1) := dk_61 (dk_at dksX4_tieMany_0 3 rfl rfl)
theorem dX4_tieMany_4 : decode cX4_tieMany 4 = .ok (.iload_n 2, 1) := dk_28 (dk_at dksX4_tieMany_0 4 rfl rfl)
theorem dX4_tieMany_5 : decode cX4_tieMany 5 = .ok (.aload_n 0, 1) := dk_42 (dk_at dksX4_tieMany_0 5 rfl rfl)
theorem dX4_tieMany_6 : decode cX4_tieMany 6 = .ok (.invokevirtual 49, 3) := dk_182 0 49 (dk_at dksX4_tieMany_0 6 rfl rfl)
theorem dX4_tieMany_9 : decode cX4_tieMany 9 = .ok (.if_icmp .ge 48, 3) := dk_162 0 48 (dk_at dksX4_tieMany_0 9 rfl rfl)
theorem dX4_tieMany_12 : decode cX4_tieMany 12 = .ok (.iconst 0, 1) := dk_3 (dk_at dksX4_tieMany_0 12 rfl rfl)
theorem dX4_tieMany_13 : decode cX4_tieMany 13 = .ok (.istore_n 3, 1) := dk_62 (dk_at dksX4_tieMany_0 13 rfl rfl)
theorem dX4_tieMany_14 : decode cX4_tieMany 14 = .ok (.iload_n 3, 1) := dk_29 (dk_at dksX4_tieMany_0 14 rfl rfl)
theorem dX4_tieMany_15 : decode cX4_tieMany 15 = .ok (.iconst 2, 1) := dk_5 (dk_at dksX4_tieMany_0 15 rfl rfl)
theorem dX4_tieMany_16 : decode cX4_tieMany 16 = .ok (.if_icmp .ge 35, 3) := dk_162 0 35 (dk_at dksX4_tieMany_0 16 rfl rfl)
theorem dX4_tieMany_19 : decode cX4_tieMany 19 = .ok (.iload_n 1, 1) := dk_27 (dk_at dksX4_tieMany_0 19 rfl rfl)
theorem dX4_tieMany_20 : decode cX4_tieMany 20 = .ok (.aload_n 0, 1) := dk_42 (dk_at dksX4_tieMany_0 20 rfl rfl)
theorem dX4_tieMany_21 : decode cX4_tieMany 21 = .ok (.iload_n 2, 1) := dk_28 (dk_at dksX4_tieMany_0 21 rfl rfl)
theorem dX4_tieMany_22 : decode cX4_tieMany 22 = .ok (.iload_n 3, 1) := dk_29 (dk_at dksX4_tieMany_0 22 rfl rfl)
theorem dX4_tieMany_23 : decode cX4_tieMany 23 = .ok (.iconst 1, 1) := dk_4 (dk_at dksX4_tieMany_0 23 rfl rfl)
theorem dX4_tieMany_24 : decode cX4_tieMany 24 = .ok (.if_icmp .ne 7, 3) := dk_160 0 7 (dk_at dksX4_tieMany_1 0 rfl rfl)
theorem dX4_tieMany_27 : decode cX4_tieMany 27 = .ok (.iconst 1, 1) := dk_4 (dk_at dksX4_tieMany_1 3 rfl rfl)
theorem dX4_tieMany_28 : decode cX4_tieMany 28 = .ok (.goto 4, 3) := dk_167 0 4 (dk_at dksX4_tieMany_1 4 rfl rfl)
theorem dX4_tieMany_31 : decode cX4_tieMany 31 = .ok (.iconst 0, 1) := dk_3 (dk_at dksX4_tieMany_1 7 rfl rfl)
theorem dX4_tieMany_32 : decode cX4_tieMany 32 = .ok (.invokevirtual 64, 3) := dk_182 0 64 (dk_at dksX4_tieMany_1 8 rfl rfl)
theorem dX4_tieMany_35 : decode cX4_tieMany 35 = .ok (.ifCond .lt 7, 3) := dk_155 0 7 (dk_at dksX4_tieMany_1 11 rfl rfl)
theorem dX4_tieMany_38 : decode cX4_tieMany 38 = .ok (.iconst 1, 1) := dk_4 (dk_at dksX4_tieMany_1 14 rfl rfl)
theorem dX4_tieMany_39 : decode cX4_tieMany 39 = .ok (.goto 4, 3) := dk_167 0 4 (dk_at dksX4_tieMany_1 15 rfl rfl)
theorem dX4_tieMany_42 : decode cX4_tieMany 42 = .ok (.iconst 0, 1) := dk_3 (dk_at dksX4_tieMany_1 18 rfl rfl)
theorem dX4_tieMany_43 : decode cX4_tieMany 43 = .ok (.iadd, 1) := dk_96 (dk_at dksX4_tieMany_1 19 rfl rfl)
theorem dX4_tieMany_44 : decode cX4_tieMany 44 = .ok (.istore_n 1, 1) := dk_60 (dk_at dksX4_tieMany_1 20 rfl rfl)
theorem dX4_tieMany_45 : decode cX4_tieMany 45 = .ok (.iinc 3 1, 3) := dk_132 3 1 (dk_at dksX4_tieMany_1 21 rfl rfl)
theorem dX4_tieMany_48 : decode cX4_tieMany 48 = .ok (.goto (-34), 3) := dk_167 255 222 (dk_at dksX4_tieMany_2 0 rfl rfl)
theorem dX4_tieMany_51 : decode cX4_tieMany 51 = .ok (.iinc 2 1, 3) := dk_132 2 1 (dk_at dksX4_tieMany_2 3 rfl rfl)
theorem dX4_tieMany_54 : decode cX4_tieMany 54 = .ok (.goto (-50), 3) := dk_167 255 206 (dk_at dksX4_tieMany_2 6 rfl rfl)
theorem dX4_tieMany_57 : decode cX4_tieMany 57 = .ok (.iload_n 1, 1) := dk_27 (dk_at dksX4_tieMany_2 9 rfl rfl)
theorem dX4_tieMany_58 : decode cX4_tieMany 58 = .ok (.ireturn, 1) := dk_172 (dk_at dksX4_tieMany_2 10 rfl rfl)
theorem q115 : (Jvm.Cond.initialized "SpinStrip$Strip") ∈ lw_all := lw_g (lw_at lw_m1 8 rfl) rfl
theorem q288 : (Jvm.Cond.instantiable "SpinStrip$Strip" (10 : Nat)) ∈ lw_all := lw_g (lw_at lw_m1 181 rfl) rfl
theorem q290 : (Jvm.Cond.instanceMethod ({ cls := "SpinStrip$Strip", name := "<init>", desc := "()V" } : Jvm.MethodName)) ∈ lw_all := lw_g (lw_at lw_m1 183 rfl) rfl
theorem q291 : (Jvm.Cond.code ({ cls := "SpinStrip$Strip", name := "<init>", desc := "()V" } : Jvm.MethodName) prog_11_method_1_code (1 : Nat) (Option.none : Option Jvm.ClassFile.FieldType)) ∈ lw_all := lw_g (lw_at lw_m1 184 rfl) rfl
theorem q292 : (Jvm.Cond.methodLink "SpinStrip$Strip" (3 : Nat) ({ cls := "java/lang/Object", name := "<init>", desc := "()V" } : Jvm.MethodName)) ∈ lw_all := lw_g (lw_at lw_m1 185 rfl) rfl
theorem q293 : (Jvm.Cond.fieldLink "SpinStrip$Strip" (21 : Nat) "SpinStrip$Strip" "wide" "I") ∈ lw_all := lw_g (lw_at lw_m1 186 rfl) rfl
theorem q297 : (Jvm.Cond.fieldLink "SpinStrip$Strip" (25 : Nat) "SpinStrip$Strip" "length" "I") ∈ lw_all := lw_g (lw_at lw_m1 190 rfl) rfl
theorem q301 : (Jvm.Cond.fieldLink "SpinStrip$Strip" (28 : Nat) "SpinStrip$Strip" "rings" "I") ∈ lw_all := lw_g (lw_at lw_m1 194 rfl) rfl
theorem q305 : (Jvm.Cond.fieldLink "SpinStrip$Strip" (31 : Nat) "SpinStrip$Strip" "state" "I") ∈ lw_all := lw_g (lw_at lw_m1 198 rfl) rfl
theorem q308 : (Jvm.Cond.fieldLink "SpinStrip$Strip" (34 : Nat) "SpinStrip$Strip" "seed" "I") ∈ lw_all := lw_g (lw_at lw_m1 201 rfl) rfl
theorem q311 : (Jvm.Cond.fieldLink "SpinStrip$Strip" (9 : Nat) "SpinStrip$Strip" "across" "[I") ∈ lw_all := lw_g (lw_at lw_m1 204 rfl) rfl
theorem q314 : (Jvm.Cond.fieldLink "SpinStrip$Strip" (15 : Nat) "SpinStrip$Strip" "along" "[I") ∈ lw_all := lw_g (lw_at lw_m1 207 rfl) rfl
theorem q317 : (Jvm.Cond.fieldLink "SpinStrip$Strip" (18 : Nat) "SpinStrip$Strip" "field" "[I") ∈ lw_all := lw_g (lw_at lw_m1 210 rfl) rfl
theorem q322 : (Jvm.Cond.fieldLink "SpinStrip$Strip" (37 : Nat) "SpinStrip$Strip" "up" "I") ∈ lw_all := lw_g (lw_at lw_m1 215 rfl) rfl
theorem q326 : (Jvm.Cond.fieldLink "SpinStrip$Strip" (40 : Nat) "SpinStrip$Strip" "down" "I") ∈ lw_all := lw_g (lw_at lw_m1 219 rfl) rfl
theorem q329 : (Jvm.Cond.lays "SpinStrip$Strip" "SpinStrip$Strip" "wide" "I") ∈ lw_all := lw_g (lw_at lw_m1 222 rfl) rfl
theorem q330 : (Jvm.Cond.soleField "SpinStrip$Strip" "wide") ∈ lw_all := lw_g (lw_at lw_m1 223 rfl) rfl
theorem q331 : (Jvm.Cond.lays "SpinStrip$Strip" "SpinStrip$Strip" "length" "I") ∈ lw_all := lw_g (lw_at lw_m1 224 rfl) rfl
theorem q332 : (Jvm.Cond.soleField "SpinStrip$Strip" "length") ∈ lw_all := lw_g (lw_at lw_m1 225 rfl) rfl
theorem q333 : (Jvm.Cond.lays "SpinStrip$Strip" "SpinStrip$Strip" "rings" "I") ∈ lw_all := lw_g (lw_at lw_m1 226 rfl) rfl
theorem q334 : (Jvm.Cond.soleField "SpinStrip$Strip" "rings") ∈ lw_all := lw_g (lw_at lw_m1 227 rfl) rfl
theorem q335 : (Jvm.Cond.lays "SpinStrip$Strip" "SpinStrip$Strip" "state" "I") ∈ lw_all := lw_g (lw_at lw_m1 228 rfl) rfl
theorem q336 : (Jvm.Cond.soleField "SpinStrip$Strip" "state") ∈ lw_all := lw_g (lw_at lw_m1 229 rfl) rfl
theorem q337 : (Jvm.Cond.lays "SpinStrip$Strip" "SpinStrip$Strip" "seed" "I") ∈ lw_all := lw_g (lw_at lw_m1 230 rfl) rfl
theorem q338 : (Jvm.Cond.soleField "SpinStrip$Strip" "seed") ∈ lw_all := lw_g (lw_at lw_m1 231 rfl) rfl
theorem q339 : (Jvm.Cond.laysFinal "SpinStrip$Strip" "SpinStrip$Strip" "across" "[I") ∈ lw_all := lw_g (lw_at lw_m1 232 rfl) rfl
theorem q340 : (Jvm.Cond.soleField "SpinStrip$Strip" "across") ∈ lw_all := lw_g (lw_at lw_m1 233 rfl) rfl
theorem q341 : (Jvm.Cond.laysFinal "SpinStrip$Strip" "SpinStrip$Strip" "along" "[I") ∈ lw_all := lw_g (lw_at lw_m1 234 rfl) rfl
theorem q342 : (Jvm.Cond.soleField "SpinStrip$Strip" "along") ∈ lw_all := lw_g (lw_at lw_m1 235 rfl) rfl
theorem q343 : (Jvm.Cond.laysFinal "SpinStrip$Strip" "SpinStrip$Strip" "field" "[I") ∈ lw_all := lw_g (lw_at lw_m1 236 rfl) rfl
theorem q344 : (Jvm.Cond.soleField "SpinStrip$Strip" "field") ∈ lw_all := lw_g (lw_at lw_m1 237 rfl) rfl
theorem q345 : (Jvm.Cond.lays "SpinStrip$Strip" "SpinStrip$Strip" "up" "I") ∈ lw_all := lw_g (lw_at lw_m1 238 rfl) rfl
theorem q346 : (Jvm.Cond.soleField "SpinStrip$Strip" "up") ∈ lw_all := lw_g (lw_at lw_m1 239 rfl) rfl
theorem q347 : (Jvm.Cond.lays "SpinStrip$Strip" "SpinStrip$Strip" "down" "I") ∈ lw_all := lw_g (lw_at lw_m2 0 rfl) rfl
theorem q348 : (Jvm.Cond.soleField "SpinStrip$Strip" "down") ∈ lw_all := lw_g (lw_at lw_m2 1 rfl) rfl
theorem q349 : (Jvm.Cond.superclass "SpinStrip$Strip" "java/lang/Object") ∈ lw_all := lw_g (lw_at lw_m2 2 rfl) rfl
theorem q766 : (Jvm.Cond.instanceMethod ({ cls := "SpinStrip$Strip", name := "sites", desc := "()I" } : Jvm.MethodName)) ∈ lw_all := lw_g (lw_at lw_m3 179 rfl) rfl
theorem q767 : (Jvm.Cond.selects "SpinStrip$Strip" ({ cls := "SpinStrip$Strip", name := "sites", desc := "()I" } : Jvm.MethodName) ({ cls := "SpinStrip$Strip", name := "sites", desc := "()I" } : Jvm.MethodName)) ∈ lw_all := lw_g (lw_at lw_m3 180 rfl) rfl
theorem q768 : (Jvm.Cond.code ({ cls := "SpinStrip$Strip", name := "sites", desc := "()I" } : Jvm.MethodName) prog_11_method_3_code (1 : Nat) (Option.some Jvm.ClassFile.FieldType.int)) ∈ lw_all := lw_g (lw_at lw_m3 181 rfl) rfl
theorem q778 : (Jvm.Cond.instanceMethod ({ cls := "SpinStrip$Strip", name := "isSite", desc := "(I)Z" } : Jvm.MethodName)) ∈ lw_all := lw_g (lw_at lw_m3 191 rfl) rfl
theorem q779 : (Jvm.Cond.selects "SpinStrip$Strip" ({ cls := "SpinStrip$Strip", name := "isSite", desc := "(I)Z" } : Jvm.MethodName) ({ cls := "SpinStrip$Strip", name := "isSite", desc := "(I)Z" } : Jvm.MethodName)) ∈ lw_all := lw_g (lw_at lw_m3 192 rfl) rfl
theorem q780 : (Jvm.Cond.code ({ cls := "SpinStrip$Strip", name := "isSite", desc := "(I)Z" } : Jvm.MethodName) prog_11_method_5_code (2 : Nat) (Option.some Jvm.ClassFile.FieldType.boolean)) ∈ lw_all := lw_g (lw_at lw_m3 193 rfl) rfl
theorem q781 : (Jvm.Cond.methodLink "SpinStrip$Strip" (49 : Nat) ({ cls := "SpinStrip$Strip", name := "sites", desc := "()I" } : Jvm.MethodName)) ∈ lw_all := lw_g (lw_at lw_m3 194 rfl) rfl
theorem q782 : (Jvm.Cond.methodLinkNest "SpinStrip$Strip" (53 : Nat) ({ cls := "SpinStrip", name := "isIn", desc := "(III)Z" } : Jvm.MethodName) "SpinStrip") ∈ lw_tbl := lw_at lw_m3 195 rfl
theorem q784 : (Jvm.Cond.instanceMethod ({ cls := "SpinStrip$Strip", name := "other", desc := "(IZ)I" } : Jvm.MethodName)) ∈ lw_all := lw_g (lw_at lw_m3 197 rfl) rfl
theorem q785 : (Jvm.Cond.selects "SpinStrip$Strip" ({ cls := "SpinStrip$Strip", name := "other", desc := "(IZ)I" } : Jvm.MethodName) ({ cls := "SpinStrip$Strip", name := "other", desc := "(IZ)I" } : Jvm.MethodName)) ∈ lw_all := lw_g (lw_at lw_m3 198 rfl) rfl
theorem q786 : (Jvm.Cond.code ({ cls := "SpinStrip$Strip", name := "other", desc := "(IZ)I" } : Jvm.MethodName) prog_11_method_8_code (5 : Nat) (Option.some Jvm.ClassFile.FieldType.int)) ∈ lw_all := lw_g (lw_at lw_m3 199 rfl) rfl
theorem q787 : (Jvm.Cond.methodLinkNest "SpinStrip$Strip" (57 : Nat) ({ cls := "SpinStrip", name := "has", desc := "(II)Z" } : Jvm.MethodName) "SpinStrip") ∈ lw_tbl := lw_at lw_m3 200 rfl
theorem q791 : (Jvm.Cond.instanceMethod ({ cls := "SpinStrip$Strip", name := "ties", desc := "(IZI)V" } : Jvm.MethodName)) ∈ lw_all := lw_g (lw_at lw_m3 204 rfl) rfl
theorem q792 : (Jvm.Cond.selects "SpinStrip$Strip" ({ cls := "SpinStrip$Strip", name := "ties", desc := "(IZI)V" } : Jvm.MethodName) ({ cls := "SpinStrip$Strip", name := "ties", desc := "(IZI)V" } : Jvm.MethodName)) ∈ lw_all := lw_g (lw_at lw_m3 205 rfl) rfl
theorem q793 : (Jvm.Cond.code ({ cls := "SpinStrip$Strip", name := "ties", desc := "(IZI)V" } : Jvm.MethodName) prog_11_method_10_code (4 : Nat) (Option.none : Option Jvm.ClassFile.FieldType)) ∈ lw_all := lw_g (lw_at lw_m3 206 rfl) rfl
theorem q803 : (Jvm.Cond.instanceMethod ({ cls := "SpinStrip$Strip", name := "becomes", desc := "(LSpinStrip$Strip;)V" } : Jvm.MethodName)) ∈ lw_all := lw_g (lw_at lw_m3 216 rfl) rfl
theorem q804 : (Jvm.Cond.selects "SpinStrip$Strip" ({ cls := "SpinStrip$Strip", name := "becomes", desc := "(LSpinStrip$Strip;)V" } : Jvm.MethodName) ({ cls := "SpinStrip$Strip", name := "becomes", desc := "(LSpinStrip$Strip;)V" } : Jvm.MethodName)) ∈ lw_all := lw_g (lw_at lw_m3 217 rfl) rfl
theorem q805 : (Jvm.Cond.code ({ cls := "SpinStrip$Strip", name := "becomes", desc := "(LSpinStrip$Strip;)V" } : Jvm.MethodName) prog_11_method_2_code (2 : Nat) (Option.none : Option Jvm.ClassFile.FieldType)) ∈ lw_all := lw_g (lw_at lw_m3 218 rfl) rfl
theorem q806 : (Jvm.Cond.methodLink "SpinStrip$Strip" (43 : Nat) ({ cls := "java/lang/System", name := "arraycopy", desc := "(Ljava/lang/Object;ILjava/lang/Object;II)V" } : Jvm.MethodName)) ∈ lw_all := lw_g (lw_at lw_m3 219 rfl) rfl
theorem q828 : (Jvm.Cond.instanceMethod ({ cls := "SpinStrip$Strip", name := "j", desc := "(IZ)I" } : Jvm.MethodName)) ∈ lw_all := lw_g (lw_at lw_m4 1 rfl) rfl
theorem q829 : (Jvm.Cond.selects "SpinStrip$Strip" ({ cls := "SpinStrip$Strip", name := "j", desc := "(IZ)I" } : Jvm.MethodName) ({ cls := "SpinStrip$Strip", name := "j", desc := "(IZ)I" } : Jvm.MethodName)) ∈ lw_all := lw_g (lw_at lw_m4 2 rfl) rfl
theorem q830 : (Jvm.Cond.code ({ cls := "SpinStrip$Strip", name := "j", desc := "(IZ)I" } : Jvm.MethodName) prog_11_method_9_code (3 : Nat) (Option.some Jvm.ClassFile.FieldType.int)) ∈ lw_all := lw_g (lw_at lw_m4 3 rfl) rfl
theorem q882 : (Jvm.Cond.selects "SpinStrip$Strip" ({ cls := "java/lang/Object", name := "getClass", desc := "()Ljava/lang/Class;" } : Jvm.MethodName) ({ cls := "java/lang/Object", name := "getClass", desc := "()Ljava/lang/Class;" } : Jvm.MethodName)) ∈ lw_all := lw_g (lw_at lw_m4 55 rfl) rfl
theorem q936 : (Jvm.Cond.instanceMethod ({ cls := "SpinStrip$Strip", name := "isPinned", desc := "(I)Z" } : Jvm.MethodName)) ∈ lw_all := lw_g (lw_at lw_m4 109 rfl) rfl
theorem q937 : (Jvm.Cond.selects "SpinStrip$Strip" ({ cls := "SpinStrip$Strip", name := "isPinned", desc := "(I)Z" } : Jvm.MethodName) ({ cls := "SpinStrip$Strip", name := "isPinned", desc := "(I)Z" } : Jvm.MethodName)) ∈ lw_all := lw_g (lw_at lw_m4 110 rfl) rfl
theorem q938 : (Jvm.Cond.code ({ cls := "SpinStrip$Strip", name := "isPinned", desc := "(I)Z" } : Jvm.MethodName) prog_11_method_6_code (2 : Nat) (Option.some Jvm.ClassFile.FieldType.boolean)) ∈ lw_all := lw_g (lw_at lw_m4 111 rfl) rfl
theorem q960 : (Jvm.Cond.instanceMethod ({ cls := "SpinStrip$Strip", name := "states", desc := "()I" } : Jvm.MethodName)) ∈ lw_all := lw_g (lw_at lw_m4 133 rfl) rfl
theorem q961 : (Jvm.Cond.selects "SpinStrip$Strip" ({ cls := "SpinStrip$Strip", name := "states", desc := "()I" } : Jvm.MethodName) ({ cls := "SpinStrip$Strip", name := "states", desc := "()I" } : Jvm.MethodName)) ∈ lw_all := lw_g (lw_at lw_m4 134 rfl) rfl
theorem q962 : (Jvm.Cond.code ({ cls := "SpinStrip$Strip", name := "states", desc := "()I" } : Jvm.MethodName) prog_11_method_4_code (1 : Nat) (Option.some Jvm.ClassFile.FieldType.int)) ∈ lw_all := lw_g (lw_at lw_m4 135 rfl) rfl
theorem q964 : (Jvm.Cond.instanceMethod ({ cls := "SpinStrip$Strip", name := "lowest", desc := "()I" } : Jvm.MethodName)) ∈ lw_all := lw_g (lw_at lw_m4 137 rfl) rfl
theorem q965 : (Jvm.Cond.selects "SpinStrip$Strip" ({ cls := "SpinStrip$Strip", name := "lowest", desc := "()I" } : Jvm.MethodName) ({ cls := "SpinStrip$Strip", name := "lowest", desc := "()I" } : Jvm.MethodName)) ∈ lw_all := lw_g (lw_at lw_m4 138 rfl) rfl
theorem q966 : (Jvm.Cond.code ({ cls := "SpinStrip$Strip", name := "lowest", desc := "()I" } : Jvm.MethodName) prog_11_method_15_code (4 : Nat) (Option.some Jvm.ClassFile.FieldType.int)) ∈ lw_all := lw_g (lw_at lw_m4 139 rfl) rfl
theorem q967 : (Jvm.Cond.methodLink "SpinStrip$Strip" (64 : Nat) ({ cls := "SpinStrip$Strip", name := "other", desc := "(IZ)I" } : Jvm.MethodName)) ∈ lw_all := lw_g (lw_at lw_m4 140 rfl) rfl
theorem q968 : (Jvm.Cond.methodLink "SpinStrip$Strip" (68 : Nat) ({ cls := "SpinStrip$Strip", name := "j", desc := "(IZ)I" } : Jvm.MethodName)) ∈ lw_all := lw_g (lw_at lw_m4 141 rfl) rfl
theorem q974 : (Jvm.Cond.instanceMethod ({ cls := "SpinStrip$Strip", name := "cost", desc := "(II)I" } : Jvm.MethodName)) ∈ lw_all := lw_g (lw_at lw_m4 147 rfl) rfl
theorem q975 : (Jvm.Cond.selects "SpinStrip$Strip" ({ cls := "SpinStrip$Strip", name := "cost", desc := "(II)I" } : Jvm.MethodName) ({ cls := "SpinStrip$Strip", name := "cost", desc := "(II)I" } : Jvm.MethodName)) ∈ lw_all := lw_g (lw_at lw_m4 148 rfl) rfl
theorem q976 : (Jvm.Cond.code ({ cls := "SpinStrip$Strip", name := "cost", desc := "(II)I" } : Jvm.MethodName) prog_11_method_14_code (3 : Nat) (Option.some Jvm.ClassFile.FieldType.int)) ∈ lw_all := lw_g (lw_at lw_m4 149 rfl) rfl
theorem q977 : (Jvm.Cond.methodLink "SpinStrip$Strip" (71 : Nat) ({ cls := "SpinStrip$Strip", name := "spin", desc := "(II)I" } : Jvm.MethodName)) ∈ lw_all := lw_g (lw_at lw_m4 150 rfl) rfl
theorem q978 : (Jvm.Cond.static ({ cls := "SpinStrip$Strip", name := "spin", desc := "(II)I" } : Jvm.MethodName)) ∈ lw_all := lw_g (lw_at lw_m4 151 rfl) rfl
theorem q979 : (Jvm.Cond.code ({ cls := "SpinStrip$Strip", name := "spin", desc := "(II)I" } : Jvm.MethodName) prog_11_method_11_code (2 : Nat) (Option.some Jvm.ClassFile.FieldType.int)) ∈ lw_all := lw_g (lw_at lw_m4 152 rfl) rfl
theorem q980 : (Jvm.Cond.methodLink "SpinStrip$Strip" (78 : Nat) ({ cls := "SpinStrip$Strip", name := "pulls", desc := "(II)I" } : Jvm.MethodName)) ∈ lw_all := lw_g (lw_at lw_m4 153 rfl) rfl
theorem q981 : (Jvm.Cond.privateMethod ({ cls := "SpinStrip$Strip", name := "pulls", desc := "(II)I" } : Jvm.MethodName)) ∈ lw_tbl := lw_at lw_m4 154 rfl
theorem q982 : (Jvm.Cond.instanceMethod ({ cls := "SpinStrip$Strip", name := "pulls", desc := "(II)I" } : Jvm.MethodName)) ∈ lw_all := lw_g (lw_at lw_m4 155 rfl) rfl
theorem q983 : (Jvm.Cond.code ({ cls := "SpinStrip$Strip", name := "pulls", desc := "(II)I" } : Jvm.MethodName) prog_11_method_12_code (6 : Nat) (Option.some Jvm.ClassFile.FieldType.int)) ∈ lw_all := lw_g (lw_at lw_m4 156 rfl) rfl
theorem q984 : (Jvm.Cond.methodLink "SpinStrip$Strip" (75 : Nat) ({ cls := "SpinStrip$Strip", name := "ahead", desc := "(IZ)I" } : Jvm.MethodName)) ∈ lw_all := lw_g (lw_at lw_m4 157 rfl) rfl
theorem q985 : (Jvm.Cond.privateMethod ({ cls := "SpinStrip$Strip", name := "ahead", desc := "(IZ)I" } : Jvm.MethodName)) ∈ lw_tbl := lw_at lw_m4 158 rfl
theorem q986 : (Jvm.Cond.instanceMethod ({ cls := "SpinStrip$Strip", name := "ahead", desc := "(IZ)I" } : Jvm.MethodName)) ∈ lw_all := lw_g (lw_at lw_m4 159 rfl) rfl
theorem q987 : (Jvm.Cond.code ({ cls := "SpinStrip$Strip", name := "ahead", desc := "(IZ)I" } : Jvm.MethodName) prog_11_method_13_code (5 : Nat) (Option.some Jvm.ClassFile.FieldType.int)) ∈ lw_all := lw_g (lw_at lw_m4 160 rfl) rfl
theorem q989 : (Jvm.Cond.instanceMethod ({ cls := "SpinStrip$Strip", name := "isLawful", desc := "(I)Z" } : Jvm.MethodName)) ∈ lw_all := lw_g (lw_at lw_m4 162 rfl) rfl
theorem q990 : (Jvm.Cond.selects "SpinStrip$Strip" ({ cls := "SpinStrip$Strip", name := "isLawful", desc := "(I)Z" } : Jvm.MethodName) ({ cls := "SpinStrip$Strip", name := "isLawful", desc := "(I)Z" } : Jvm.MethodName)) ∈ lw_all := lw_g (lw_at lw_m4 163 rfl) rfl
theorem q991 : (Jvm.Cond.code ({ cls := "SpinStrip$Strip", name := "isLawful", desc := "(I)Z" } : Jvm.MethodName) prog_11_method_7_code (2 : Nat) (Option.some Jvm.ClassFile.FieldType.boolean)) ∈ lw_all := lw_g (lw_at lw_m4 164 rfl) rfl
theorem q992 : (Jvm.Cond.methodLink "SpinStrip$Strip" (61 : Nat) ({ cls := "SpinStrip$Strip", name := "states", desc := "()I" } : Jvm.MethodName)) ∈ lw_all := lw_g (lw_at lw_m4 165 rfl) rfl
theorem q1347 : (Jvm.Cond.instanceMethod ({ cls := "SpinStrip$Strip", name := "broken", desc := "(I)I" } : Jvm.MethodName)) ∈ lw_all := lw_g (lw_at lw_m6 40 rfl) rfl
theorem q1348 : (Jvm.Cond.selects "SpinStrip$Strip" ({ cls := "SpinStrip$Strip", name := "broken", desc := "(I)I" } : Jvm.MethodName) ({ cls := "SpinStrip$Strip", name := "broken", desc := "(I)I" } : Jvm.MethodName)) ∈ lw_all := lw_g (lw_at lw_m6 41 rfl) rfl
theorem q1349 : (Jvm.Cond.code ({ cls := "SpinStrip$Strip", name := "broken", desc := "(I)I" } : Jvm.MethodName) prog_11_method_16_code (6 : Nat) (Option.some Jvm.ClassFile.FieldType.int)) ∈ lw_all := lw_g (lw_at lw_m6 42 rfl) rfl
theorem q1615 : (Jvm.Cond.instanceMethod ({ cls := "SpinStrip$Strip", name := "square", desc := "(I)I" } : Jvm.MethodName)) ∈ lw_all := lw_g (lw_at lw_m7 68 rfl) rfl
theorem q1616 : (Jvm.Cond.selects "SpinStrip$Strip" ({ cls := "SpinStrip$Strip", name := "square", desc := "(I)I" } : Jvm.MethodName) ({ cls := "SpinStrip$Strip", name := "square", desc := "(I)I" } : Jvm.MethodName)) ∈ lw_all := lw_g (lw_at lw_m7 69 rfl) rfl
theorem q1617 : (Jvm.Cond.code ({ cls := "SpinStrip$Strip", name := "square", desc := "(I)I" } : Jvm.MethodName) prog_11_method_17_code (5 : Nat) (Option.some Jvm.ClassFile.FieldType.int)) ∈ lw_all := lw_g (lw_at lw_m7 70 rfl) rfl
theorem q1815 : (Jvm.Cond.instanceMethod ({ cls := "SpinStrip$Strip", name := "cluster", desc := "(I)I" } : Jvm.MethodName)) ∈ lw_all := lw_g (lw_at lw_m8 28 rfl) rfl
theorem q1816 : (Jvm.Cond.selects "SpinStrip$Strip" ({ cls := "SpinStrip$Strip", name := "cluster", desc := "(I)I" } : Jvm.MethodName) ({ cls := "SpinStrip$Strip", name := "cluster", desc := "(I)I" } : Jvm.MethodName)) ∈ lw_all := lw_g (lw_at lw_m8 29 rfl) rfl
theorem q1817 : (Jvm.Cond.code ({ cls := "SpinStrip$Strip", name := "cluster", desc := "(I)I" } : Jvm.MethodName) prog_11_method_19_code (7 : Nat) (Option.some Jvm.ClassFile.FieldType.int)) ∈ lw_all := lw_g (lw_at lw_m8 30 rfl) rfl
theorem q1836 : (Jvm.Cond.instanceMethod ({ cls := "SpinStrip$Strip", name := "tieMany", desc := "()I" } : Jvm.MethodName)) ∈ lw_all := lw_g (lw_at lw_m8 49 rfl) rfl
theorem q1837 : (Jvm.Cond.selects "SpinStrip$Strip" ({ cls := "SpinStrip$Strip", name := "tieMany", desc := "()I" } : Jvm.MethodName) ({ cls := "SpinStrip$Strip", name := "tieMany", desc := "()I" } : Jvm.MethodName)) ∈ lw_all := lw_g (lw_at lw_m8 50 rfl) rfl
theorem q1838 : (Jvm.Cond.code ({ cls := "SpinStrip$Strip", name := "tieMany", desc := "()I" } : Jvm.MethodName) prog_11_method_18_code (4 : Nat) (Option.some Jvm.ClassFile.FieldType.int)) ∈ lw_all := lw_g (lw_at lw_m8 51 rfl) rfl
theorem q2389 : (Jvm.Cond.castable "SpinStrip$Strip" "java/lang/Object") ∈ lw_tbl := lw_at lw_m10 122 rfl
theorem in_X4 : ∀ w ∈ wsX40, w ∈ lw_all := lw_in wsX40 [329, 331, 333, 335, 337, 339, 341, 343, 345, 347] (by decide +kernel) (by decide +kernel)

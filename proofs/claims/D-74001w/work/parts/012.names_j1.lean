/-! java/lang/Throwable -/
set_option maxRecDepth 100000
def RJ0 : String := "java/lang/Throwable"
def TJ0 : u_T := fun k => match k with
  | 0 => ("java/lang/Throwable", "cause", "Ljava/lang/Throwable;", false)
  | 1 => ("java/lang/Throwable", "stackTrace", "[Ljava/lang/StackTraceElement;", false)
  | 2 => ("java/lang/Throwable", "suppressedExceptions", "Ljava/util/List;", false)
  | 3 => ("java/lang/Throwable", "detailMessage", "Ljava/lang/String;", false)
  | _ => ("java/lang/Throwable", "backtrace", "Ljava/lang/Object;", false)
def tyJ0 : Nat → FieldType := fun k => match k with
  | 0 => .object "java/lang/Throwable"
  | 1 => .array (.object "java/lang/StackTraceElement")
  | 2 => .object "java/util/List"
  | 3 => .object "java/lang/String"
  | _ => .object "java/lang/Object"
abbrev wsJ00 : List Cond := u_ws RJ0 TJ0 5
theorem nmJ0 : ∀ a, a < 5 → ∀ b, b < 5 → a ≠ b → (TJ0 a).2.1 ≠ (TJ0 b).2.1 := by decide +kernel
theorem tyJ0_ok : ∀ k, k < 5 → parseFieldDescriptor (TJ0 k).2.2.1 = some (tyJ0 k) := by decide +kernel
abbrev cJ0_init : ByteArray := prog_32_method_1_code
def yJ0_init : MethodName := ⟨RJ0, "<init>", "()V"⟩
def dkwJ0_init_1 : List UInt8 := [182, 0, 27, 87, 177]
abbrev dktJ0_init_1 : List UInt8 := dkwJ0_init_1 ++ []
def dkwJ0_init_0 : List UInt8 := [42, 183, 0, 1, 42, 42, 181, 0, 7, 42, 178, 0, 13, 181, 0, 17, 42, 178, 0, 20, 181, 0, 24, 42]
abbrev dktJ0_init_0 : List UInt8 := dkwJ0_init_0 ++ dktJ0_init_1
theorem dksJ0_init_0 : cJ0_init.data.toList.drop 0 = dktJ0_init_0 := by decide +kernel
theorem dksJ0_init_1 : cJ0_init.data.toList.drop 24 = dktJ0_init_1 := dk_seg dksJ0_init_0 24 rfl rfl
theorem dJ0_init_0 : decode cJ0_init 0 = .ok (.aload_n 0, 1) := dk_42 (dk_at dksJ0_init_0 0 rfl rfl)
theorem dJ0_init_1 : decode cJ0_init 1 = .ok (.invokespecial 1, 3) := dk_183 0 1 (dk_at dksJ0_init_0 1 rfl rfl)
theorem dJ0_init_4 : decode cJ0_init 4 = .ok (.aload_n 0, 1) := dk_42 (dk_at dksJ0_init_0 4 rfl rfl)
theorem dJ0_init_5 : decode cJ0_init 5 = .ok (.aload_n 0, 1) := dk_42 (dk_at dksJ0_init_0 5 rfl rfl)
theorem dJ0_init_6 : decode cJ0_init 6 = .ok (.putfield 7, 3) := dk_181 0 7 (dk_at dksJ0_init_0 6 rfl rfl)
theorem dJ0_init_9 : decode cJ0_init 9 = .ok (.aload_n 0, 1) := dk_42 (dk_at dksJ0_init_0 9 rfl rfl)
theorem dJ0_init_10 : decode cJ0_init 10 = .ok (.getstatic 13, 3) := dk_178 0 13 (dk_at dksJ0_init_0 10 rfl rfl)
theorem dJ0_init_13 : decode cJ0_init 13 = .ok (.putfield 17, 3) := dk_181 0 17 (dk_at dksJ0_init_0 13 rfl rfl)
theorem dJ0_init_16 : decode cJ0_init 16 = .ok (.aload_n 0, 1) := dk_42 (dk_at dksJ0_init_0 16 rfl rfl)
theorem dJ0_init_17 : decode cJ0_init 17 = .ok (.getstatic 20, 3) := dk_178 0 20 (dk_at dksJ0_init_0 17 rfl rfl)
theorem dJ0_init_20 : decode cJ0_init 20 = .ok (.putfield 24, 3) := dk_181 0 24 (dk_at dksJ0_init_0 20 rfl rfl)
theorem dJ0_init_23 : decode cJ0_init 23 = .ok (.aload_n 0, 1) := dk_42 (dk_at dksJ0_init_0 23 rfl rfl)
theorem dJ0_init_24 : decode cJ0_init 24 = .ok (.invokevirtual 27, 3) := dk_182 0 27 (dk_at dksJ0_init_1 0 rfl rfl)
theorem dJ0_init_27 : decode cJ0_init 27 = .ok (.pop, 1) := dk_87 (dk_at dksJ0_init_1 3 rfl rfl)
theorem dJ0_init_28 : decode cJ0_init 28 = .ok (.return_, 1) := dk_177 (dk_at dksJ0_init_1 4 rfl rfl)
abbrev cJ0_init_2 : ByteArray := prog_32_method_5_code
def yJ0_init_2 : MethodName := ⟨RJ0, "<init>", "(Ljava/lang/String;Ljava/lang/Throwable;ZZ)V"⟩
def dkwJ0_init_2_2 : List UInt8 := [44, 181, 0, 7, 29, 154, 0, 8, 42, 1, 181, 0, 24, 177]
abbrev dktJ0_init_2_2 : List UInt8 := dkwJ0_init_2_2 ++ []
def dkwJ0_init_2_1 : List UInt8 := [21, 4, 153, 0, 11, 42, 182, 0, 27, 87, 167, 0, 8, 42, 1, 181, 0, 17, 42, 43, 181, 0, 31, 42]
abbrev dktJ0_init_2_1 : List UInt8 := dkwJ0_init_2_1 ++ dktJ0_init_2_2
def dkwJ0_init_2_0 : List UInt8 := [42, 183, 0, 1, 42, 42, 181, 0, 7, 42, 178, 0, 13, 181, 0, 17, 42, 178, 0, 20, 181, 0, 24]
abbrev dktJ0_init_2_0 : List UInt8 := dkwJ0_init_2_0 ++ dktJ0_init_2_1
theorem dksJ0_init_2_0 : cJ0_init_2.data.toList.drop 0 = dktJ0_init_2_0 := by decide +kernel
theorem dksJ0_init_2_1 : cJ0_init_2.data.toList.drop 23 = dktJ0_init_2_1 := dk_seg dksJ0_init_2_0 23 rfl rfl
theorem dksJ0_init_2_2 : cJ0_init_2.data.toList.drop 47 = dktJ0_init_2_2 := dk_seg dksJ0_init_2_1 24 rfl rfl
theorem dJ0_init_2_0 : decode cJ0_init_2 0 = .ok (.aload_n 0, 1) := dk_42 (dk_at dksJ0_init_2_0 0 rfl rfl)
theorem dJ0_init_2_1 : decode cJ0_init_2 1 = .ok (.invokespecial 1, 3) := dk_183 0 1 (dk_at dksJ0_init_2_0 1 rfl rfl)
theorem dJ0_init_2_4 : decode cJ0_init_2 4 = .ok (.aload_n 0, 1) := dk_42 (dk_at dksJ0_init_2_0 4 rfl rfl)
theorem dJ0_init_2_5 : decode cJ0_init_2 5 = .ok (.aload_n 0, 1) := dk_42 (dk_at dksJ0_init_2_0 5 rfl rfl)
theorem dJ0_init_2_6 : decode cJ0_init_2 6 = .ok (.putfield 7, 3) := dk_181 0 7 (dk_at dksJ0_init_2_0 6 rfl rfl)
theorem dJ0_init_2_9 : decode cJ0_init_2 9 = .ok (.aload_n 0, 1) := dk_42 (dk_at dksJ0_init_2_0 9 rfl rfl)
theorem dJ0_init_2_10 : decode cJ0_init_2 10 = .ok (.getstatic 13, 3) := dk_178 0 13 (dk_at dksJ0_init_2_0 10 rfl rfl)
theorem dJ0_init_2_13 : decode cJ0_init_2 13 = .ok (.putfield 17, 3) := dk_181 0 17 (dk_at dksJ0_init_2_0 13 rfl rfl)
theorem dJ0_init_2_16 : decode cJ0_init_2 16 = .ok (.aload_n 0, 1) := dk_42 (dk_at dksJ0_init_2_0 16 rfl rfl)
theorem dJ0_init_2_17 : decode cJ0_init_2 17 = .ok (.getstatic 20, 3) := dk_178 0 20 (dk_at dksJ0_init_2_0 17 rfl rfl)
theorem dJ0_init_2_20 : decode cJ0_init_2 20 = .ok (.putfield 24, 3) := dk_181 0 24 (dk_at dksJ0_init_2_0 20 rfl rfl)
theorem dJ0_init_2_23 : decode cJ0_init_2 23 = .ok (.iload 4, 2) := dk_21 4 (dk_at dksJ0_init_2_1 0 rfl rfl)
theorem dJ0_init_2_25 : decode cJ0_init_2 25 = .ok (.ifCond .eq 11, 3) := dk_153 0 11 (dk_at dksJ0_init_2_1 2 rfl rfl)
theorem dJ0_init_2_28 : decode cJ0_init_2 28 = .ok (.aload_n 0, 1) := dk_42 (dk_at dksJ0_init_2_1 5 rfl rfl)
theorem dJ0_init_2_29 : decode cJ0_init_2 29 = .ok (.invokevirtual 27, 3) := dk_182 0 27 (dk_at dksJ0_init_2_1 6 rfl rfl)
theorem dJ0_init_2_32 : decode cJ0_init_2 32 = .ok (.pop, 1) := dk_87 (dk_at dksJ0_init_2_1 9 rfl rfl)
theorem dJ0_init_2_33 : decode cJ0_init_2 33 = .ok (.goto 8, 3) := dk_167 0 8 (dk_at dksJ0_init_2_1 10 rfl rfl)
theorem dJ0_init_2_36 : decode cJ0_init_2 36 = .ok (.aload_n 0, 1) := dk_42 (dk_at dksJ0_init_2_1 13 rfl rfl)
theorem dJ0_init_2_37 : decode cJ0_init_2 37 = .ok (.aconst_null, 1) := dk_1 (dk_at dksJ0_init_2_1 14 rfl rfl)
theorem dJ0_init_2_38 : decode cJ0_init_2 38 = .ok (.putfield 17, 3) := dk_181 0 17 (dk_at dksJ0_init_2_1 15 rfl rfl)
theorem dJ0_init_2_41 : decode cJ0_init_2 41 = .ok (.aload_n 0, 1) := dk_42 (dk_at dksJ0_init_2_1 18 rfl rfl)
theorem dJ0_init_2_42 : decode cJ0_init_2 42 = .ok (.aload_n 1, 1) := dk_43 (dk_at dksJ0_init_2_1 19 rfl rfl)
theorem dJ0_init_2_43 : decode cJ0_init_2 43 = .ok (.putfield 31, 3) := dk_181 0 31 (dk_at dksJ0_init_2_1 20 rfl rfl)
theorem dJ0_init_2_46 : decode cJ0_init_2 46 = .ok (.aload_n 0, 1) := dk_42 (dk_at dksJ0_init_2_1 23 rfl rfl)
theorem dJ0_init_2_47 : decode cJ0_init_2 47 = .ok (.aload_n 2, 1) := dk_44 (dk_at dksJ0_init_2_2 0 rfl rfl)
theorem dJ0_init_2_48 : decode cJ0_init_2 48 = .ok (.putfield 7, 3) := dk_181 0 7 (dk_at dksJ0_init_2_2 1 rfl rfl)
theorem dJ0_init_2_51 : decode cJ0_init_2 51 = .ok (.iload_n 3, 1) := dk_29 (dk_at dksJ0_init_2_2 4 rfl rfl)
theorem dJ0_init_2_52 : decode cJ0_init_2 52 = .ok (.ifCond .ne 8, 3) := dk_154 0 8 (dk_at dksJ0_init_2_2 5 rfl rfl)
theorem dJ0_init_2_55 : decode cJ0_init_2 55 = .ok (.aload_n 0, 1) := dk_42 (dk_at dksJ0_init_2_2 8 rfl rfl)
theorem dJ0_init_2_56 : decode cJ0_init_2 56 = .ok (.aconst_null, 1) := dk_1 (dk_at dksJ0_init_2_2 9 rfl rfl)
theorem dJ0_init_2_57 : decode cJ0_init_2 57 = .ok (.putfield 24, 3) := dk_181 0 24 (dk_at dksJ0_init_2_2 10 rfl rfl)
theorem dJ0_init_2_60 : decode cJ0_init_2 60 = .ok (.return_, 1) := dk_177 (dk_at dksJ0_init_2_2 13 rfl rfl)
theorem q109 : (Jvm.Cond.initialized "java/lang/Throwable") ∈ lw_all := lw_g (lw_at lw_m1 2 rfl) rfl
theorem q164 : (Jvm.Cond.declares ({ cls := "java/lang/Throwable", name := "<init>", desc := "()V" } : Jvm.MethodName)) ∈ lw_tbl := lw_at lw_m1 57 rfl
theorem q165 : (Jvm.Cond.declares ({ cls := "java/lang/Throwable", name := "<init>", desc := "(Ljava/lang/String;)V" } : Jvm.MethodName)) ∈ lw_tbl := lw_at lw_m1 58 rfl
theorem q169 : (Jvm.Cond.lays "java/lang/Throwable" "java/lang/Throwable" "cause" "Ljava/lang/Throwable;") ∈ lw_all := lw_g (lw_at lw_m1 62 rfl) rfl
theorem q171 : (Jvm.Cond.lays "java/lang/Throwable" "java/lang/Throwable" "stackTrace" "[Ljava/lang/StackTraceElement;") ∈ lw_all := lw_g (lw_at lw_m1 64 rfl) rfl
theorem q173 : (Jvm.Cond.lays "java/lang/Throwable" "java/lang/Throwable" "suppressedExceptions" "Ljava/util/List;") ∈ lw_all := lw_g (lw_at lw_m1 66 rfl) rfl
theorem q175 : (Jvm.Cond.lays "java/lang/Throwable" "java/lang/Throwable" "detailMessage" "Ljava/lang/String;") ∈ lw_all := lw_g (lw_at lw_m1 68 rfl) rfl
theorem q177 : (Jvm.Cond.lays "java/lang/Throwable" "java/lang/Throwable" "backtrace" "Ljava/lang/Object;") ∈ lw_all := lw_g (lw_at lw_m1 70 rfl) rfl
theorem q178 : (Jvm.Cond.fieldLink "java/lang/Throwable" (198 : Nat) "java/lang/Throwable" "backtrace" "Ljava/lang/Object;") ∈ lw_all := lw_g (lw_at lw_m1 71 rfl) rfl
theorem q179 : (Jvm.Cond.superclass "java/lang/Throwable" "java/lang/Object") ∈ lw_all := lw_g (lw_at lw_m1 72 rfl) rfl
theorem q180 : (Jvm.Cond.instanceMethod ({ cls := "java/lang/Throwable", name := "<init>", desc := "()V" } : Jvm.MethodName)) ∈ lw_all := lw_g (lw_at lw_m1 73 rfl) rfl
theorem q181 : (Jvm.Cond.code ({ cls := "java/lang/Throwable", name := "<init>", desc := "()V" } : Jvm.MethodName) prog_32_method_1_code (1 : Nat) (Option.none : Option Jvm.ClassFile.FieldType)) ∈ lw_all := lw_g (lw_at lw_m1 74 rfl) rfl
theorem q182 : (Jvm.Cond.methodLink "java/lang/Throwable" (1 : Nat) ({ cls := "java/lang/Object", name := "<init>", desc := "()V" } : Jvm.MethodName)) ∈ lw_all := lw_g (lw_at lw_m1 75 rfl) rfl
theorem q183 : (Jvm.Cond.fieldLink "java/lang/Throwable" (13 : Nat) "java/lang/Throwable" "UNASSIGNED_STACK" "[Ljava/lang/StackTraceElement;") ∈ lw_all := lw_g (lw_at lw_m1 76 rfl) rfl
theorem q184 : (Jvm.Cond.laysStatic "java/lang/Throwable" "UNASSIGNED_STACK" "[Ljava/lang/StackTraceElement;") ∈ lw_tbl := lw_at lw_m1 77 rfl
theorem q185 : (Jvm.Cond.fieldLink "java/lang/Throwable" (20 : Nat) "java/lang/Throwable" "SUPPRESSED_SENTINEL" "Ljava/util/List;") ∈ lw_all := lw_g (lw_at lw_m1 78 rfl) rfl
theorem q186 : (Jvm.Cond.laysStatic "java/lang/Throwable" "SUPPRESSED_SENTINEL" "Ljava/util/List;") ∈ lw_tbl := lw_at lw_m1 79 rfl
theorem q187 : (Jvm.Cond.methodLink "java/lang/Throwable" (27 : Nat) ({ cls := "java/lang/Throwable", name := "fillInStackTrace", desc := "()Ljava/lang/Throwable;" } : Jvm.MethodName)) ∈ lw_all := lw_g (lw_at lw_m1 80 rfl) rfl
theorem q188 : (Jvm.Cond.instanceMethod ({ cls := "java/lang/Throwable", name := "fillInStackTrace", desc := "()Ljava/lang/Throwable;" } : Jvm.MethodName)) ∈ lw_all := lw_g (lw_at lw_m1 81 rfl) rfl
theorem q189 : (Jvm.Cond.sameMethod "java/lang/Throwable" "java/lang/Throwable" "fillInStackTrace" "()Ljava/lang/Throwable;") ∈ lw_all := lw_g (lw_at lw_m1 82 rfl) rfl
theorem q190 : (Jvm.Cond.codeSync ({ cls := "java/lang/Throwable", name := "fillInStackTrace", desc := "()Ljava/lang/Throwable;" } : Jvm.MethodName) prog_32_method_18_code (1 : Nat) (Option.some (Jvm.ClassFile.FieldType.object "java/lang/Throwable"))) ∈ lw_all := lw_g (lw_at lw_m1 83 rfl) rfl
theorem q191 : (Jvm.Cond.methodLink "java/lang/Throwable" (202 : Nat) ({ cls := "java/lang/Throwable", name := "fillInStackTrace", desc := "(I)Ljava/lang/Throwable;" } : Jvm.MethodName)) ∈ lw_all := lw_g (lw_at lw_m1 84 rfl) rfl
theorem q192 : (Jvm.Cond.privateMethod ({ cls := "java/lang/Throwable", name := "fillInStackTrace", desc := "(I)Ljava/lang/Throwable;" } : Jvm.MethodName)) ∈ lw_tbl := lw_at lw_m1 85 rfl
theorem q193 : (Jvm.Cond.instanceMethod ({ cls := "java/lang/Throwable", name := "fillInStackTrace", desc := "(I)Ljava/lang/Throwable;" } : Jvm.MethodName)) ∈ lw_all := lw_g (lw_at lw_m1 86 rfl) rfl
theorem q194 : (Jvm.Cond.instantiable "java/lang/Throwable" (6 : Nat)) ∈ lw_all := lw_g (lw_at lw_m1 87 rfl) rfl
theorem q195 : (Jvm.Cond.native ({ cls := "java/lang/Throwable", name := "fillInStackTrace", desc := "(I)Ljava/lang/Throwable;" } : Jvm.MethodName)) ∈ lw_all := lw_g (lw_at lw_m1 88 rfl) rfl
theorem q207 : (Jvm.Cond.instanceMethod ({ cls := "java/lang/Throwable", name := "<init>", desc := "(Ljava/lang/String;Ljava/lang/Throwable;ZZ)V" } : Jvm.MethodName)) ∈ lw_all := lw_g (lw_at lw_m1 100 rfl) rfl
theorem q208 : (Jvm.Cond.code ({ cls := "java/lang/Throwable", name := "<init>", desc := "(Ljava/lang/String;Ljava/lang/Throwable;ZZ)V" } : Jvm.MethodName) prog_32_method_5_code (5 : Nat) (Option.none : Option Jvm.ClassFile.FieldType)) ∈ lw_all := lw_g (lw_at lw_m1 101 rfl) rfl
theorem q213 : (Jvm.Cond.fieldLink "java/lang/Throwable" (198 : Nat) "java/lang/Throwable" "backtrace" "Ljava/lang/Object;") ∈ lw_all := lw_g (lw_at lw_m1 106 rfl) rfl
theorem q214 : (Jvm.Cond.fieldLink "java/lang/Throwable" (31 : Nat) "java/lang/Throwable" "detailMessage" "Ljava/lang/String;") ∈ lw_all := lw_g (lw_at lw_m1 107 rfl) rfl
theorem q215 : (Jvm.Cond.fieldLink "java/lang/Throwable" (7 : Nat) "java/lang/Throwable" "cause" "Ljava/lang/Throwable;") ∈ lw_all := lw_g (lw_at lw_m1 108 rfl) rfl
theorem q216 : (Jvm.Cond.fieldLink "java/lang/Throwable" (17 : Nat) "java/lang/Throwable" "stackTrace" "[Ljava/lang/StackTraceElement;") ∈ lw_all := lw_g (lw_at lw_m1 109 rfl) rfl
theorem q217 : (Jvm.Cond.fieldLink "java/lang/Throwable" (24 : Nat) "java/lang/Throwable" "suppressedExceptions" "Ljava/util/List;") ∈ lw_all := lw_g (lw_at lw_m1 110 rfl) rfl
theorem q222 : (Jvm.Cond.soleField "java/lang/Throwable" "backtrace") ∈ lw_all := lw_g (lw_at lw_m1 115 rfl) rfl
theorem q223 : (Jvm.Cond.soleField "java/lang/Throwable" "detailMessage") ∈ lw_all := lw_g (lw_at lw_m1 116 rfl) rfl
theorem q224 : (Jvm.Cond.soleField "java/lang/Throwable" "cause") ∈ lw_all := lw_g (lw_at lw_m1 117 rfl) rfl
theorem q225 : (Jvm.Cond.soleField "java/lang/Throwable" "stackTrace") ∈ lw_all := lw_g (lw_at lw_m1 118 rfl) rfl
theorem q227 : (Jvm.Cond.soleField "java/lang/Throwable" "depth") ∈ lw_all := lw_g (lw_at lw_m1 120 rfl) rfl
theorem q228 : (Jvm.Cond.soleField "java/lang/Throwable" "suppressedExceptions") ∈ lw_all := lw_g (lw_at lw_m1 121 rfl) rfl
theorem q2385 : (Jvm.Cond.sameMethod "java/lang/Throwable" "java/lang/Throwable" "fillInStackTrace" "(I)Ljava/lang/Throwable;") ∈ lw_all := lw_g (lw_at lw_m10 118 rfl) rfl
theorem q2409 : (Jvm.Cond.castable "java/lang/Throwable" "java/lang/Object") ∈ lw_tbl := lw_at lw_m10 142 rfl
theorem in_J0 : ∀ w ∈ wsJ00, w ∈ lw_all := lw_in wsJ00 [169, 171, 173, 175, 177] (by decide +kernel) (by decide +kernel)
/-! java/lang/Exception -/
set_option maxRecDepth 100000
def RJ1 : String := "java/lang/Exception"
abbrev cJ1_init : ByteArray := prog_19_method_5_code
def yJ1_init : MethodName := ⟨RJ1, "<init>", "(Ljava/lang/String;Ljava/lang/Throwable;ZZ)V"⟩
def dkwJ1_init_0 : List UInt8 := [42, 43, 44, 29, 21, 4, 183, 0, 16, 177]
abbrev dktJ1_init_0 : List UInt8 := dkwJ1_init_0 ++ []
theorem dksJ1_init_0 : cJ1_init.data.toList.drop 0 = dktJ1_init_0 := by decide +kernel
theorem dJ1_init_0 : decode cJ1_init 0 = .ok (.aload_n 0, 1) := dk_42 (dk_at dksJ1_init_0 0 rfl rfl)
theorem dJ1_init_1 : decode cJ1_init 1 = .ok (.aload_n 1, 1) := dk_43 (dk_at dksJ1_init_0 1 rfl rfl)
theorem dJ1_init_2 : decode cJ1_init 2 = .ok (.aload_n 2, 1) := dk_44 (dk_at dksJ1_init_0 2 rfl rfl)
theorem dJ1_init_3 : decode cJ1_init 3 = .ok (.iload_n 3, 1) := dk_29 (dk_at dksJ1_init_0 3 rfl rfl)
theorem dJ1_init_4 : decode cJ1_init 4 = .ok (.iload 4, 2) := dk_21 4 (dk_at dksJ1_init_0 4 rfl rfl)
theorem dJ1_init_6 : decode cJ1_init 6 = .ok (.invokespecial 16, 3) := dk_183 0 16 (dk_at dksJ1_init_0 6 rfl rfl)
theorem dJ1_init_9 : decode cJ1_init 9 = .ok (.return_, 1) := dk_177 (dk_at dksJ1_init_0 9 rfl rfl)
theorem q110 : (Jvm.Cond.initialized "java/lang/Exception") ∈ lw_all := lw_g (lw_at lw_m1 3 rfl) rfl
theorem q162 : (Jvm.Cond.declares ({ cls := "java/lang/Exception", name := "<init>", desc := "()V" } : Jvm.MethodName)) ∈ lw_tbl := lw_at lw_m1 55 rfl
theorem q163 : (Jvm.Cond.declares ({ cls := "java/lang/Exception", name := "<init>", desc := "(Ljava/lang/String;)V" } : Jvm.MethodName)) ∈ lw_tbl := lw_at lw_m1 56 rfl
theorem q204 : (Jvm.Cond.instanceMethod ({ cls := "java/lang/Exception", name := "<init>", desc := "(Ljava/lang/String;Ljava/lang/Throwable;ZZ)V" } : Jvm.MethodName)) ∈ lw_all := lw_g (lw_at lw_m1 97 rfl) rfl
theorem q205 : (Jvm.Cond.code ({ cls := "java/lang/Exception", name := "<init>", desc := "(Ljava/lang/String;Ljava/lang/Throwable;ZZ)V" } : Jvm.MethodName) prog_19_method_5_code (5 : Nat) (Option.none : Option Jvm.ClassFile.FieldType)) ∈ lw_all := lw_g (lw_at lw_m1 98 rfl) rfl
theorem q206 : (Jvm.Cond.methodLink "java/lang/Exception" (16 : Nat) ({ cls := "java/lang/Throwable", name := "<init>", desc := "(Ljava/lang/String;Ljava/lang/Throwable;ZZ)V" } : Jvm.MethodName)) ∈ lw_all := lw_g (lw_at lw_m1 99 rfl) rfl
/-! java/lang/RuntimeException -/
set_option maxRecDepth 100000
def RJ2 : String := "java/lang/RuntimeException"
abbrev cJ2_init : ByteArray := prog_27_method_5_code
def yJ2_init : MethodName := ⟨RJ2, "<init>", "(Ljava/lang/String;Ljava/lang/Throwable;ZZ)V"⟩
def dkwJ2_init_0 : List UInt8 := [42, 43, 44, 29, 21, 4, 183, 0, 16, 177]
abbrev dktJ2_init_0 : List UInt8 := dkwJ2_init_0 ++ []
theorem dksJ2_init_0 : cJ2_init.data.toList.drop 0 = dktJ2_init_0 := by decide +kernel
theorem dJ2_init_0 : decode cJ2_init 0 = .ok (.aload_n 0, 1) := dk_42 (dk_at dksJ2_init_0 0 rfl rfl)
theorem dJ2_init_1 : decode cJ2_init 1 = .ok (.aload_n 1, 1) := dk_43 (dk_at dksJ2_init_0 1 rfl rfl)
theorem dJ2_init_2 : decode cJ2_init 2 = .ok (.aload_n 2, 1) := dk_44 (dk_at dksJ2_init_0 2 rfl rfl)
theorem dJ2_init_3 : decode cJ2_init 3 = .ok (.iload_n 3, 1) := dk_29 (dk_at dksJ2_init_0 3 rfl rfl)
theorem dJ2_init_4 : decode cJ2_init 4 = .ok (.iload 4, 2) := dk_21 4 (dk_at dksJ2_init_0 4 rfl rfl)
theorem dJ2_init_6 : decode cJ2_init 6 = .ok (.invokespecial 16, 3) := dk_183 0 16 (dk_at dksJ2_init_0 6 rfl rfl)
theorem dJ2_init_9 : decode cJ2_init 9 = .ok (.return_, 1) := dk_177 (dk_at dksJ2_init_0 9 rfl rfl)
theorem q111 : (Jvm.Cond.initialized "java/lang/RuntimeException") ∈ lw_all := lw_g (lw_at lw_m1 4 rfl) rfl
theorem q160 : (Jvm.Cond.declares ({ cls := "java/lang/RuntimeException", name := "<init>", desc := "()V" } : Jvm.MethodName)) ∈ lw_tbl := lw_at lw_m1 53 rfl
theorem q161 : (Jvm.Cond.declares ({ cls := "java/lang/RuntimeException", name := "<init>", desc := "(Ljava/lang/String;)V" } : Jvm.MethodName)) ∈ lw_tbl := lw_at lw_m1 54 rfl
theorem q201 : (Jvm.Cond.instanceMethod ({ cls := "java/lang/RuntimeException", name := "<init>", desc := "(Ljava/lang/String;Ljava/lang/Throwable;ZZ)V" } : Jvm.MethodName)) ∈ lw_all := lw_g (lw_at lw_m1 94 rfl) rfl
theorem q202 : (Jvm.Cond.code ({ cls := "java/lang/RuntimeException", name := "<init>", desc := "(Ljava/lang/String;Ljava/lang/Throwable;ZZ)V" } : Jvm.MethodName) prog_27_method_5_code (5 : Nat) (Option.none : Option Jvm.ClassFile.FieldType)) ∈ lw_all := lw_g (lw_at lw_m1 95 rfl) rfl
theorem q203 : (Jvm.Cond.methodLink "java/lang/RuntimeException" (16 : Nat) ({ cls := "java/lang/Exception", name := "<init>", desc := "(Ljava/lang/String;Ljava/lang/Throwable;ZZ)V" } : Jvm.MethodName)) ∈ lw_all := lw_g (lw_at lw_m1 96 rfl) rfl
/-! java/util/AbstractMap -/
set_option maxRecDepth 100000
def RJ3 : String := "java/util/AbstractMap"
abbrev cJ3_init : ByteArray := prog_36_method_1_code
def yJ3_init : MethodName := ⟨RJ3, "<init>", "()V"⟩
theorem dJ3_init_0 : decode cJ3_init 0 = .ok (.aload_n 0, 1) := by decide +kernel
theorem dJ3_init_1 : decode cJ3_init 1 = .ok (.invokespecial 1, 3) := by decide +kernel
theorem dJ3_init_4 : decode cJ3_init 4 = .ok (.return_, 1) := by decide +kernel
abbrev cJ3_isEmpty : ByteArray := prog_36_method_3_code
def yJ3_isEmpty : MethodName := ⟨RJ3, "isEmpty", "()Z"⟩
def dkwJ3_isEmpty_0 : List UInt8 := [42, 182, 0, 19, 154, 0, 7, 4, 167, 0, 4, 3, 172]
abbrev dktJ3_isEmpty_0 : List UInt8 := dkwJ3_isEmpty_0 ++ []
theorem dksJ3_isEmpty_0 : cJ3_isEmpty.data.toList.drop 0 = dktJ3_isEmpty_0 := by decide +kernel
theorem dJ3_isEmpty_0 : decode cJ3_isEmpty 0 = .ok (.aload_n 0, 1) := dk_42 (dk_at dksJ3_isEmpty_0 0 rfl rfl)
theorem dJ3_isEmpty_1 : decode cJ3_isEmpty 1 = .ok (.invokevirtual 19, 3) := dk_182 0 19 (dk_at dksJ3_isEmpty_0 1 rfl rfl)
theorem dJ3_isEmpty_4 : decode cJ3_isEmpty 4 = .ok (.ifCond .ne 7, 3) := dk_154 0 7 (dk_at dksJ3_isEmpty_0 4 rfl rfl)
theorem dJ3_isEmpty_7 : decode cJ3_isEmpty 7 = .ok (.iconst 1, 1) := dk_4 (dk_at dksJ3_isEmpty_0 7 rfl rfl)
theorem dJ3_isEmpty_8 : decode cJ3_isEmpty 8 = .ok (.goto 4, 3) := dk_167 0 4 (dk_at dksJ3_isEmpty_0 8 rfl rfl)
theorem dJ3_isEmpty_11 : decode cJ3_isEmpty 11 = .ok (.iconst 0, 1) := dk_3 (dk_at dksJ3_isEmpty_0 11 rfl rfl)
theorem dJ3_isEmpty_12 : decode cJ3_isEmpty 12 = .ok (.ireturn, 1) := dk_172 (dk_at dksJ3_isEmpty_0 12 rfl rfl)
theorem q117 : (Jvm.Cond.initialized "java/util/AbstractMap") ∈ lw_all := lw_g (lw_at lw_m1 10 rfl) rfl
theorem q388 : (Jvm.Cond.instanceMethod ({ cls := "java/util/AbstractMap", name := "<init>", desc := "()V" } : Jvm.MethodName)) ∈ lw_all := lw_g (lw_at lw_m2 41 rfl) rfl
theorem q389 : (Jvm.Cond.code ({ cls := "java/util/AbstractMap", name := "<init>", desc := "()V" } : Jvm.MethodName) prog_36_method_1_code (1 : Nat) (Option.none : Option Jvm.ClassFile.FieldType)) ∈ lw_all := lw_g (lw_at lw_m2 42 rfl) rfl
theorem q390 : (Jvm.Cond.methodLink "java/util/AbstractMap" (1 : Nat) ({ cls := "java/lang/Object", name := "<init>", desc := "()V" } : Jvm.MethodName)) ∈ lw_all := lw_g (lw_at lw_m2 43 rfl) rfl
theorem q411 : (Jvm.Cond.soleField "java/util/AbstractMap" "keySet") ∈ lw_all := lw_g (lw_at lw_m2 64 rfl) rfl
theorem q413 : (Jvm.Cond.soleField "java/util/AbstractMap" "values") ∈ lw_all := lw_g (lw_at lw_m2 66 rfl) rfl
theorem q1352 : (Jvm.Cond.declares ({ cls := "java/util/AbstractMap", name := "isEmpty", desc := "()Z" } : Jvm.MethodName)) ∈ lw_tbl := lw_at lw_m6 45 rfl
theorem q1354 : (Jvm.Cond.instanceMethod ({ cls := "java/util/AbstractMap", name := "isEmpty", desc := "()Z" } : Jvm.MethodName)) ∈ lw_all := lw_g (lw_at lw_m6 47 rfl) rfl
theorem q1355 : (Jvm.Cond.code ({ cls := "java/util/AbstractMap", name := "isEmpty", desc := "()Z" } : Jvm.MethodName) prog_36_method_3_code (1 : Nat) (Option.some Jvm.ClassFile.FieldType.boolean)) ∈ lw_all := lw_g (lw_at lw_m6 48 rfl) rfl
theorem q1356 : (Jvm.Cond.methodLink "java/util/AbstractMap" (19 : Nat) ({ cls := "java/util/AbstractMap", name := "size", desc := "()I" } : Jvm.MethodName)) ∈ lw_all := lw_g (lw_at lw_m6 49 rfl) rfl
theorem q1357 : (Jvm.Cond.instanceMethod ({ cls := "java/util/AbstractMap", name := "size", desc := "()I" } : Jvm.MethodName)) ∈ lw_all := lw_g (lw_at lw_m6 50 rfl) rfl
theorem q1358 : (Jvm.Cond.sameMethod "java/util/AbstractMap" "java/util/AbstractMap" "size" "()I") ∈ lw_all := lw_g (lw_at lw_m6 51 rfl) rfl
theorem q1362 : (Jvm.Cond.declares ({ cls := "java/util/AbstractMap", name := "size", desc := "()I" } : Jvm.MethodName)) ∈ lw_tbl := lw_at lw_m6 55 rfl
/-! java/util/AbstractCollection -/
set_option maxRecDepth 100000
def RJ5 : String := "java/util/AbstractCollection"
abbrev cJ5_init : ByteArray := prog_35_method_1_code
def yJ5_init : MethodName := ⟨RJ5, "<init>", "()V"⟩
theorem dJ5_init_0 : decode cJ5_init 0 = .ok (.aload_n 0, 1) := by decide +kernel
theorem dJ5_init_1 : decode cJ5_init 1 = .ok (.invokespecial 1, 3) := by decide +kernel
theorem dJ5_init_4 : decode cJ5_init 4 = .ok (.return_, 1) := by decide +kernel
theorem q122 : (Jvm.Cond.initialized "java/util/AbstractCollection") ∈ lw_all := lw_g (lw_at lw_m1 15 rfl) rfl
theorem q507 : (Jvm.Cond.instanceMethod ({ cls := "java/util/AbstractCollection", name := "<init>", desc := "()V" } : Jvm.MethodName)) ∈ lw_all := lw_g (lw_at lw_m2 160 rfl) rfl
theorem q508 : (Jvm.Cond.code ({ cls := "java/util/AbstractCollection", name := "<init>", desc := "()V" } : Jvm.MethodName) prog_35_method_1_code (1 : Nat) (Option.none : Option Jvm.ClassFile.FieldType)) ∈ lw_all := lw_g (lw_at lw_m2 161 rfl) rfl
theorem q509 : (Jvm.Cond.methodLink "java/util/AbstractCollection" (1 : Nat) ({ cls := "java/lang/Object", name := "<init>", desc := "()V" } : Jvm.MethodName)) ∈ lw_all := lw_g (lw_at lw_m2 162 rfl) rfl
/-! java/util/ArrayDeque -/
set_option maxRecDepth 100000
def RJ6 : String := "java/util/ArrayDeque"
def TJ6 : u_T := fun k => match k with
  | 0 => ("java/util/ArrayDeque", "elements", "[Ljava/lang/Object;", false)
  | 1 => ("java/util/ArrayDeque", "head", "I", false)
  | _ => ("java/util/ArrayDeque", "tail", "I", false)
def tyJ6 : Nat → FieldType := fun k => match k with
  | 0 => .array (.object "java/lang/Object")
  | 1 => .int
  | _ => .int
abbrev wsJ60 : List Cond := u_ws RJ6 TJ6 3
theorem nmJ6 : ∀ a, a < 3 → ∀ b, b < 3 → a ≠ b → (TJ6 a).2.1 ≠ (TJ6 b).2.1 := by decide +kernel
theorem tyJ6_ok : ∀ k, k < 3 → parseFieldDescriptor (TJ6 k).2.2.1 = some (tyJ6 k) := by decide +kernel
abbrev cJ6_init : ByteArray := prog_39_method_3_code
def yJ6_init : MethodName := ⟨RJ6, "<init>", "()V"⟩
def dkwJ6_init_0 : List UInt8 := [42, 183, 0, 42, 42, 16, 17, 189, 0, 47, 181, 0, 3, 177]
abbrev dktJ6_init_0 : List UInt8 := dkwJ6_init_0 ++ []
theorem dksJ6_init_0 : cJ6_init.data.toList.drop 0 = dktJ6_init_0 := by decide +kernel
theorem dJ6_init_0 : decode cJ6_init 0 = .ok (.aload_n 0, 1) := dk_42 (dk_at dksJ6_init_0 0 rfl rfl)
theorem dJ6_init_1 : decode cJ6_init 1 = .ok (.invokespecial 42, 3) := dk_183 0 42 (dk_at dksJ6_init_0 1 rfl rfl)
theorem dJ6_init_4 : decode cJ6_init 4 = .ok (.aload_n 0, 1) := dk_42 (dk_at dksJ6_init_0 4 rfl rfl)
theorem dJ6_init_5 : decode cJ6_init 5 = .ok (.bipush 17, 2) := dk_16 17 (dk_at dksJ6_init_0 5 rfl rfl)
theorem dJ6_init_7 : decode cJ6_init 7 = .ok (.anewarray 47, 3) := dk_189 0 47 (dk_at dksJ6_init_0 7 rfl rfl)
theorem dJ6_init_10 : decode cJ6_init 10 = .ok (.putfield 3, 3) := dk_181 0 3 (dk_at dksJ6_init_0 10 rfl rfl)
theorem dJ6_init_13 : decode cJ6_init 13 = .ok (.return_, 1) := dk_177 (dk_at dksJ6_init_0 13 rfl rfl)
abbrev cJ6_clear : ByteArray := prog_39_method_53_code
def yJ6_clear : MethodName := ⟨RJ6, "clear", "()V"⟩
def dkwJ6_clear_1 : List UInt8 := [181, 0, 24, 177]
abbrev dktJ6_clear_1 : List UInt8 := dkwJ6_clear_1 ++ []
def dkwJ6_clear_0 : List UInt8 := [42, 180, 0, 3, 42, 180, 0, 24, 42, 180, 0, 20, 184, 0, 181, 42, 42, 3, 90, 181, 0, 20]
abbrev dktJ6_clear_0 : List UInt8 := dkwJ6_clear_0 ++ dktJ6_clear_1
theorem dksJ6_clear_0 : cJ6_clear.data.toList.drop 0 = dktJ6_clear_0 := by decide +kernel
theorem dksJ6_clear_1 : cJ6_clear.data.toList.drop 22 = dktJ6_clear_1 := dk_seg dksJ6_clear_0 22 rfl rfl
theorem dJ6_clear_0 : decode cJ6_clear 0 = .ok (.aload_n 0, 1) := dk_42 (dk_at dksJ6_clear_0 0 rfl rfl)
theorem dJ6_clear_1 : decode cJ6_clear 1 = .ok (.getfield 3, 3) := dk_180 0 3 (dk_at dksJ6_clear_0 1 rfl rfl)
theorem dJ6_clear_4 : decode cJ6_clear 4 = .ok (.aload_n 0, 1) := dk_42 (dk_at dksJ6_clear_0 4 rfl rfl)
theorem dJ6_clear_5 : decode cJ6_clear 5 = .ok (.getfield 24, 3) := dk_180 0 24 (dk_at dksJ6_clear_0 5 rfl rfl)
theorem dJ6_clear_8 : decode cJ6_clear 8 = .ok (.aload_n 0, 1) := dk_42 (dk_at dksJ6_clear_0 8 rfl rfl)
theorem dJ6_clear_9 : decode cJ6_clear 9 = .ok (.getfield 20, 3) := dk_180 0 20 (dk_at dksJ6_clear_0 9 rfl rfl)
theorem dJ6_clear_12 : decode cJ6_clear 12 = .ok (.invokestatic 181, 3) := dk_184 0 181 (dk_at dksJ6_clear_0 12 rfl rfl)
theorem dJ6_clear_15 : decode cJ6_clear 15 = .ok (.aload_n 0, 1) := dk_42 (dk_at dksJ6_clear_0 15 rfl rfl)
theorem dJ6_clear_16 : decode cJ6_clear 16 = .ok (.aload_n 0, 1) := dk_42 (dk_at dksJ6_clear_0 16 rfl rfl)
theorem dJ6_clear_17 : decode cJ6_clear 17 = .ok (.iconst 0, 1) := dk_3 (dk_at dksJ6_clear_0 17 rfl rfl)
theorem dJ6_clear_18 : decode cJ6_clear 18 = .ok (.dup_x1, 1) := dk_90 (dk_at dksJ6_clear_0 18 rfl rfl)
theorem dJ6_clear_19 : decode cJ6_clear 19 = .ok (.putfield 20, 3) := dk_181 0 20 (dk_at dksJ6_clear_0 19 rfl rfl)
theorem dJ6_clear_22 : decode cJ6_clear 22 = .ok (.putfield 24, 3) := dk_181 0 24 (dk_at dksJ6_clear_1 0 rfl rfl)
theorem dJ6_clear_25 : decode cJ6_clear 25 = .ok (.return_, 1) := dk_177 (dk_at dksJ6_clear_1 3 rfl rfl)
abbrev cJ6_circularClear : ByteArray := prog_39_method_54_code
def yJ6_circularClear : MethodName := ⟨RJ6, "circularClear", "([Ljava/lang/Object;II)V"⟩
def dkwJ6_circularClear_1 : List UInt8 := [167, 255, 244, 29, 28, 160, 0, 6, 167, 0, 10, 3, 60, 28, 62, 167, 255, 229, 177]
abbrev dktJ6_circularClear_1 : List UInt8 := dkwJ6_circularClear_1 ++ []
def dkwJ6_circularClear_0 : List UInt8 := [27, 28, 163, 0, 7, 28, 167, 0, 5, 42, 190, 62, 27, 29, 162, 0, 13, 42, 27, 1, 83, 132, 1, 1]
abbrev dktJ6_circularClear_0 : List UInt8 := dkwJ6_circularClear_0 ++ dktJ6_circularClear_1
theorem dksJ6_circularClear_0 : cJ6_circularClear.data.toList.drop 0 = dktJ6_circularClear_0 := by decide +kernel
theorem dksJ6_circularClear_1 : cJ6_circularClear.data.toList.drop 24 = dktJ6_circularClear_1 := dk_seg dksJ6_circularClear_0 24 rfl rfl
theorem dJ6_circularClear_0 : decode cJ6_circularClear 0 = .ok (.iload_n 1, 1) := dk_27 (dk_at dksJ6_circularClear_0 0 rfl rfl)
theorem dJ6_circularClear_1 : decode cJ6_circularClear 1 = .ok (.iload_n 2, 1) := dk_28 (dk_at dksJ6_circularClear_0 1 rfl rfl)
theorem dJ6_circularClear_2 : decode cJ6_circularClear 2 = .ok (.if_icmp .gt 7, 3) := dk_163 0 7 (dk_at dksJ6_circularClear_0 2 rfl rfl)
theorem dJ6_circularClear_5 : decode cJ6_circularClear 5 = .ok (.iload_n 2, 1) := dk_28 (dk_at dksJ6_circularClear_0 5 rfl rfl)
theorem dJ6_circularClear_6 : decode cJ6_circularClear 6 = .ok (.goto 5, 3) := dk_167 0 5 (dk_at dksJ6_circularClear_0 6 rfl rfl)
theorem dJ6_circularClear_9 : decode cJ6_circularClear 9 = .ok (.aload_n 0, 1) := dk_42 (dk_at dksJ6_circularClear_0 9 rfl rfl)
theorem dJ6_circularClear_10 : decode cJ6_circularClear 10 = .ok (.arraylength, 1) := dk_190 (dk_at dksJ6_circularClear_0 10 rfl rfl)
theorem dJ6_circularClear_11 : decode cJ6_circularClear 11 = .ok (.istore_n 3, 1) := dk_62 (dk_at dksJ6_circularClear_0 11 rfl rfl)
theorem dJ6_circularClear_12 : decode cJ6_circularClear 12 = .ok (.iload_n 1, 1) := dk_27 (dk_at dksJ6_circularClear_0 12 rfl rfl)
theorem dJ6_circularClear_13 : decode cJ6_circularClear 13 = .ok (.iload_n 3, 1) := dk_29 (dk_at dksJ6_circularClear_0 13 rfl rfl)
theorem dJ6_circularClear_14 : decode cJ6_circularClear 14 = .ok (.if_icmp .ge 13, 3) := dk_162 0 13 (dk_at dksJ6_circularClear_0 14 rfl rfl)
theorem dJ6_circularClear_17 : decode cJ6_circularClear 17 = .ok (.aload_n 0, 1) := dk_42 (dk_at dksJ6_circularClear_0 17 rfl rfl)
theorem dJ6_circularClear_18 : decode cJ6_circularClear 18 = .ok (.iload_n 1, 1) := dk_27 (dk_at dksJ6_circularClear_0 18 rfl rfl)
theorem dJ6_circularClear_19 : decode cJ6_circularClear 19 = .ok (.aconst_null, 1) := dk_1 (dk_at dksJ6_circularClear_0 19 rfl rfl)
theorem dJ6_circularClear_20 : decode cJ6_circularClear 20 = .ok (.aastore, 1) := dk_83 (dk_at dksJ6_circularClear_0 20 rfl rfl)
theorem dJ6_circularClear_21 : decode cJ6_circularClear 21 = .ok (.iinc 1 1, 3) := dk_132 1 1 (dk_at dksJ6_circularClear_0 21 rfl rfl)
theorem dJ6_circularClear_24 : decode cJ6_circularClear 24 = .ok (.goto (-12), 3) := dk_167 255 244 (dk_at dksJ6_circularClear_1 0 rfl rfl)
theorem dJ6_circularClear_27 : decode cJ6_circularClear 27 = .ok (.iload_n 3, 1) := dk_29 (dk_at dksJ6_circularClear_1 3 rfl rfl)
theorem dJ6_circularClear_28 : decode cJ6_circularClear 28 = .ok (.iload_n 2, 1) := dk_28 (dk_at dksJ6_circularClear_1 4 rfl rfl)
theorem dJ6_circularClear_29 : decode cJ6_circularClear 29 = .ok (.if_icmp .ne 6, 3) := dk_160 0 6 (dk_at dksJ6_circularClear_1 5 rfl rfl)
theorem dJ6_circularClear_32 : decode cJ6_circularClear 32 = .ok (.goto 10, 3) := dk_167 0 10 (dk_at dksJ6_circularClear_1 8 rfl rfl)
theorem dJ6_circularClear_35 : decode cJ6_circularClear 35 = .ok (.iconst 0, 1) := dk_3 (dk_at dksJ6_circularClear_1 11 rfl rfl)
theorem dJ6_circularClear_36 : decode cJ6_circularClear 36 = .ok (.istore_n 1, 1) := dk_60 (dk_at dksJ6_circularClear_1 12 rfl rfl)
theorem dJ6_circularClear_37 : decode cJ6_circularClear 37 = .ok (.iload_n 2, 1) := dk_28 (dk_at dksJ6_circularClear_1 13 rfl rfl)
theorem dJ6_circularClear_38 : decode cJ6_circularClear 38 = .ok (.istore_n 3, 1) := dk_62 (dk_at dksJ6_circularClear_1 14 rfl rfl)
theorem dJ6_circularClear_39 : decode cJ6_circularClear 39 = .ok (.goto (-27), 3) := dk_167 255 229 (dk_at dksJ6_circularClear_1 15 rfl rfl)
theorem dJ6_circularClear_42 : decode cJ6_circularClear 42 = .ok (.return_, 1) := dk_177 (dk_at dksJ6_circularClear_1 18 rfl rfl)
abbrev cJ6_size : ByteArray := prog_39_method_37_code
def yJ6_size : MethodName := ⟨RJ6, "size", "()I"⟩
def dkwJ6_size_0 : List UInt8 := [42, 180, 0, 20, 42, 180, 0, 24, 42, 180, 0, 3, 190, 184, 0, 127, 172]
abbrev dktJ6_size_0 : List UInt8 := dkwJ6_size_0 ++ []
theorem dksJ6_size_0 : cJ6_size.data.toList.drop 0 = dktJ6_size_0 := by decide +kernel
theorem dJ6_size_0 : decode cJ6_size 0 = .ok (.aload_n 0, 1) := dk_42 (dk_at dksJ6_size_0 0 rfl rfl)
theorem dJ6_size_1 : decode cJ6_size 1 = .ok (.getfield 20, 3) := dk_180 0 20 (dk_at dksJ6_size_0 1 rfl rfl)
theorem dJ6_size_4 : decode cJ6_size 4 = .ok (.aload_n 0, 1) := dk_42 (dk_at dksJ6_size_0 4 rfl rfl)
theorem dJ6_size_5 : decode cJ6_size 5 = .ok (.getfield 24, 3) := dk_180 0 24 (dk_at dksJ6_size_0 5 rfl rfl)
theorem dJ6_size_8 : decode cJ6_size 8 = .ok (.aload_n 0, 1) := dk_42 (dk_at dksJ6_size_0 8 rfl rfl)
theorem dJ6_size_9 : decode cJ6_size 9 = .ok (.getfield 3, 3) := dk_180 0 3 (dk_at dksJ6_size_0 9 rfl rfl)
theorem dJ6_size_12 : decode cJ6_size 12 = .ok (.arraylength, 1) := dk_190 (dk_at dksJ6_size_0 12 rfl rfl)
theorem dJ6_size_13 : decode cJ6_size 13 = .ok (.invokestatic 127, 3) := dk_184 0 127 (dk_at dksJ6_size_0 13 rfl rfl)
theorem dJ6_size_16 : decode cJ6_size 16 = .ok (.ireturn, 1) := dk_172 (dk_at dksJ6_size_0 16 rfl rfl)
abbrev cJ6_sub : ByteArray := prog_39_method_9_code
def yJ6_sub : MethodName := ⟨RJ6, "sub", "(III)I"⟩
def dkwJ6_sub_0 : List UInt8 := [26, 27, 100, 89, 59, 156, 0, 7, 26, 28, 96, 59, 26, 172]
abbrev dktJ6_sub_0 : List UInt8 := dkwJ6_sub_0 ++ []
theorem dksJ6_sub_0 : cJ6_sub.data.toList.drop 0 = dktJ6_sub_0 := by decide +kernel
theorem dJ6_sub_0 : decode cJ6_sub 0 = .ok (.iload_n 0, 1) := dk_26 (dk_at dksJ6_sub_0 0 rfl rfl)
theorem dJ6_sub_1 : decode cJ6_sub 1 = .ok (.iload_n 1, 1) := dk_27 (dk_at dksJ6_sub_0 1 rfl rfl)
theorem dJ6_sub_2 : decode cJ6_sub 2 = .ok (.isub, 1) := dk_100 (dk_at dksJ6_sub_0 2 rfl rfl)
theorem dJ6_sub_3 : decode cJ6_sub 3 = .ok (.dup, 1) := dk_89 (dk_at dksJ6_sub_0 3 rfl rfl)
theorem dJ6_sub_4 : decode cJ6_sub 4 = .ok (.istore_n 0, 1) := dk_59 (dk_at dksJ6_sub_0 4 rfl rfl)
theorem dJ6_sub_5 : decode cJ6_sub 5 = .ok (.ifCond .ge 7, 3) := dk_156 0 7 (dk_at dksJ6_sub_0 5 rfl rfl)
theorem dJ6_sub_8 : decode cJ6_sub 8 = .ok (.iload_n 0, 1) := dk_26 (dk_at dksJ6_sub_0 8 rfl rfl)
theorem dJ6_sub_9 : decode cJ6_sub 9 = .ok (.iload_n 2, 1) := dk_28 (dk_at dksJ6_sub_0 9 rfl rfl)
theorem dJ6_sub_10 : decode cJ6_sub 10 = .ok (.iadd, 1) := dk_96 (dk_at dksJ6_sub_0 10 rfl rfl)
theorem dJ6_sub_11 : decode cJ6_sub 11 = .ok (.istore_n 0, 1) := dk_59 (dk_at dksJ6_sub_0 11 rfl rfl)
theorem dJ6_sub_12 : decode cJ6_sub 12 = .ok (.iload_n 0, 1) := dk_26 (dk_at dksJ6_sub_0 12 rfl rfl)
theorem dJ6_sub_13 : decode cJ6_sub 13 = .ok (.ireturn, 1) := dk_172 (dk_at dksJ6_sub_0 13 rfl rfl)
abbrev cJ6_pollFirst : ByteArray := prog_39_method_20_code
def yJ6_pollFirst : MethodName := ⟨RJ6, "pollFirst", "()Ljava/lang/Object;"⟩
def dkwJ6_pollFirst_1 : List UInt8 := [42, 28, 43, 190, 184, 0, 74, 181, 0, 24, 45, 176]
abbrev dktJ6_pollFirst_1 : List UInt8 := dkwJ6_pollFirst_1 ++ []
def dkwJ6_pollFirst_0 : List UInt8 := [42, 180, 0, 3, 89, 76, 42, 180, 0, 24, 89, 61, 184, 0, 103, 78, 45, 198, 0, 17, 43, 28, 1, 83]
abbrev dktJ6_pollFirst_0 : List UInt8 := dkwJ6_pollFirst_0 ++ dktJ6_pollFirst_1
theorem dksJ6_pollFirst_0 : cJ6_pollFirst.data.toList.drop 0 = dktJ6_pollFirst_0 := by decide +kernel
theorem dksJ6_pollFirst_1 : cJ6_pollFirst.data.toList.drop 24 = dktJ6_pollFirst_1 := dk_seg dksJ6_pollFirst_0 24 rfl rfl
theorem dJ6_pollFirst_0 : decode cJ6_pollFirst 0 = .ok (.aload_n 0, 1) := dk_42 (dk_at dksJ6_pollFirst_0 0 rfl rfl)
theorem dJ6_pollFirst_1 : decode cJ6_pollFirst 1 = .ok (.getfield 3, 3) := dk_180 0 3 (dk_at dksJ6_pollFirst_0 1 rfl rfl)
theorem dJ6_pollFirst_4 : decode cJ6_pollFirst 4 = .ok (.dup, 1) := dk_89 (dk_at dksJ6_pollFirst_0 4 rfl rfl)
theorem dJ6_pollFirst_5 : decode cJ6_pollFirst 5 = .ok (.astore_n 1, 1) := dk_76 (dk_at dksJ6_pollFirst_0 5 rfl rfl)
theorem dJ6_pollFirst_6 : decode cJ6_pollFirst 6 = .ok (.aload_n 0, 1) := dk_42 (dk_at dksJ6_pollFirst_0 6 rfl rfl)
theorem dJ6_pollFirst_7 : decode cJ6_pollFirst 7 = .ok (.getfield 24, 3) := dk_180 0 24 (dk_at dksJ6_pollFirst_0 7 rfl rfl)
theorem dJ6_pollFirst_10 : decode cJ6_pollFirst 10 = .ok (.dup, 1) := dk_89 (dk_at dksJ6_pollFirst_0 10 rfl rfl)
theorem dJ6_pollFirst_11 : decode cJ6_pollFirst 11 = .ok (.istore_n 2, 1) := dk_61 (dk_at dksJ6_pollFirst_0 11 rfl rfl)
theorem dJ6_pollFirst_12 : decode cJ6_pollFirst 12 = .ok (.invokestatic 103, 3) := dk_184 0 103 (dk_at dksJ6_pollFirst_0 12 rfl rfl)
theorem dJ6_pollFirst_15 : decode cJ6_pollFirst 15 = .ok (.astore_n 3, 1) := dk_78 (dk_at dksJ6_pollFirst_0 15 rfl rfl)
theorem dJ6_pollFirst_16 : decode cJ6_pollFirst 16 = .ok (.aload_n 3, 1) := dk_45 (dk_at dksJ6_pollFirst_0 16 rfl rfl)
theorem dJ6_pollFirst_17 : decode cJ6_pollFirst 17 = .ok (.ifnull 17, 3) := dk_198 0 17 (dk_at dksJ6_pollFirst_0 17 rfl rfl)
theorem dJ6_pollFirst_20 : decode cJ6_pollFirst 20 = .ok (.aload_n 1, 1) := dk_43 (dk_at dksJ6_pollFirst_0 20 rfl rfl)
theorem dJ6_pollFirst_21 : decode cJ6_pollFirst 21 = .ok (.iload_n 2, 1) := dk_28 (dk_at dksJ6_pollFirst_0 21 rfl rfl)
theorem dJ6_pollFirst_22 : decode cJ6_pollFirst 22 = .ok (.aconst_null, 1) := dk_1 (dk_at dksJ6_pollFirst_0 22 rfl rfl)
theorem dJ6_pollFirst_23 : decode cJ6_pollFirst 23 = .ok (.aastore, 1) := dk_83 (dk_at dksJ6_pollFirst_0 23 rfl rfl)
theorem dJ6_pollFirst_24 : decode cJ6_pollFirst 24 = .ok (.aload_n 0, 1) := dk_42 (dk_at dksJ6_pollFirst_1 0 rfl rfl)
theorem dJ6_pollFirst_25 : decode cJ6_pollFirst 25 = .ok (.iload_n 2, 1) := dk_28 (dk_at dksJ6_pollFirst_1 1 rfl rfl)
theorem dJ6_pollFirst_26 : decode cJ6_pollFirst 26 = .ok (.aload_n 1, 1) := dk_43 (dk_at dksJ6_pollFirst_1 2 rfl rfl)
theorem dJ6_pollFirst_27 : decode cJ6_pollFirst 27 = .ok (.arraylength, 1) := dk_190 (dk_at dksJ6_pollFirst_1 3 rfl rfl)
theorem dJ6_pollFirst_28 : decode cJ6_pollFirst 28 = .ok (.invokestatic 74, 3) := dk_184 0 74 (dk_at dksJ6_pollFirst_1 4 rfl rfl)
theorem dJ6_pollFirst_31 : decode cJ6_pollFirst 31 = .ok (.putfield 24, 3) := dk_181 0 24 (dk_at dksJ6_pollFirst_1 7 rfl rfl)
theorem dJ6_pollFirst_34 : decode cJ6_pollFirst 34 = .ok (.aload_n 3, 1) := dk_45 (dk_at dksJ6_pollFirst_1 10 rfl rfl)
theorem dJ6_pollFirst_35 : decode cJ6_pollFirst 35 = .ok (.areturn, 1) := dk_176 (dk_at dksJ6_pollFirst_1 11 rfl rfl)
abbrev cJ6_elementAt : ByteArray := prog_39_method_10_code
def yJ6_elementAt : MethodName := ⟨RJ6, "elementAt", "([Ljava/lang/Object;I)Ljava/lang/Object;"⟩
def dkwJ6_elementAt_0 : List UInt8 := [42, 27, 50, 176]
abbrev dktJ6_elementAt_0 : List UInt8 := dkwJ6_elementAt_0 ++ []
theorem dksJ6_elementAt_0 : cJ6_elementAt.data.toList.drop 0 = dktJ6_elementAt_0 := by decide +kernel
theorem dJ6_elementAt_0 : decode cJ6_elementAt 0 = .ok (.aload_n 0, 1) := dk_42 (dk_at dksJ6_elementAt_0 0 rfl rfl)
theorem dJ6_elementAt_1 : decode cJ6_elementAt 1 = .ok (.iload_n 1, 1) := dk_27 (dk_at dksJ6_elementAt_0 1 rfl rfl)
theorem dJ6_elementAt_2 : decode cJ6_elementAt 2 = .ok (.aaload, 1) := dk_50 (dk_at dksJ6_elementAt_0 2 rfl rfl)
theorem dJ6_elementAt_3 : decode cJ6_elementAt 3 = .ok (.areturn, 1) := dk_176 (dk_at dksJ6_elementAt_0 3 rfl rfl)
abbrev cJ6_inc : ByteArray := prog_39_method_6_code
def yJ6_inc : MethodName := ⟨RJ6, "inc", "(II)I"⟩
def dkwJ6_inc_0 : List UInt8 := [132, 0, 1, 26, 27, 161, 0, 5, 3, 59, 26, 172]
abbrev dktJ6_inc_0 : List UInt8 := dkwJ6_inc_0 ++ []
theorem dksJ6_inc_0 : cJ6_inc.data.toList.drop 0 = dktJ6_inc_0 := by decide +kernel
theorem dJ6_inc_0 : decode cJ6_inc 0 = .ok (.iinc 0 1, 3) := dk_132 0 1 (dk_at dksJ6_inc_0 0 rfl rfl)
theorem dJ6_inc_3 : decode cJ6_inc 3 = .ok (.iload_n 0, 1) := dk_26 (dk_at dksJ6_inc_0 3 rfl rfl)
theorem dJ6_inc_4 : decode cJ6_inc 4 = .ok (.iload_n 1, 1) := dk_27 (dk_at dksJ6_inc_0 4 rfl rfl)
theorem dJ6_inc_5 : decode cJ6_inc 5 = .ok (.if_icmp .lt 5, 3) := dk_161 0 5 (dk_at dksJ6_inc_0 5 rfl rfl)
theorem dJ6_inc_8 : decode cJ6_inc 8 = .ok (.iconst 0, 1) := dk_3 (dk_at dksJ6_inc_0 8 rfl rfl)
theorem dJ6_inc_9 : decode cJ6_inc 9 = .ok (.istore_n 0, 1) := dk_59 (dk_at dksJ6_inc_0 9 rfl rfl)
theorem dJ6_inc_10 : decode cJ6_inc 10 = .ok (.iload_n 0, 1) := dk_26 (dk_at dksJ6_inc_0 10 rfl rfl)
theorem dJ6_inc_11 : decode cJ6_inc 11 = .ok (.ireturn, 1) := dk_172 (dk_at dksJ6_inc_0 11 rfl rfl)
abbrev cJ6_addLast : ByteArray := prog_39_method_13_code
def yJ6_addLast : MethodName := ⟨RJ6, "addLast", "(Ljava/lang/Object;)V"⟩
def dkwJ6_addLast_2 : List UInt8 := [182, 0, 71, 177]
abbrev dktJ6_addLast_2 : List UInt8 := dkwJ6_addLast_2 ++ []
def dkwJ6_addLast_1 : List UInt8 := [42, 180, 0, 24, 42, 42, 180, 0, 20, 44, 190, 184, 0, 74, 90, 181, 0, 20, 160, 0, 8, 42, 4]
abbrev dktJ6_addLast_1 : List UInt8 := dkwJ6_addLast_1 ++ dktJ6_addLast_2
def dkwJ6_addLast_0 : List UInt8 := [43, 199, 0, 11, 187, 0, 65, 89, 183, 0, 67, 191, 42, 180, 0, 3, 77, 44, 42, 180, 0, 20, 43, 83]
abbrev dktJ6_addLast_0 : List UInt8 := dkwJ6_addLast_0 ++ dktJ6_addLast_1
theorem dksJ6_addLast_0 : cJ6_addLast.data.toList.drop 0 = dktJ6_addLast_0 := by decide +kernel
theorem dksJ6_addLast_1 : cJ6_addLast.data.toList.drop 24 = dktJ6_addLast_1 := dk_seg dksJ6_addLast_0 24 rfl rfl
theorem dksJ6_addLast_2 : cJ6_addLast.data.toList.drop 47 = dktJ6_addLast_2 := dk_seg dksJ6_addLast_1 23 rfl rfl
theorem dJ6_addLast_0 : decode cJ6_addLast 0 = .ok (.aload_n 1, 1) := dk_43 (dk_at dksJ6_addLast_0 0 rfl rfl)
theorem dJ6_addLast_1 : decode cJ6_addLast 1 = .ok (.ifnonnull 11, 3) := dk_199 0 11 (dk_at dksJ6_addLast_0 1 rfl rfl)
theorem dJ6_addLast_4 : decode cJ6_addLast 4 = .ok (.new 65, 3) := dk_187 0 65 (dk_at dksJ6_addLast_0 4 rfl rfl)
theorem dJ6_addLast_7 : decode cJ6_addLast 7 = .ok (.dup, 1) := dk_89 (dk_at dksJ6_addLast_0 7 rfl rfl)
theorem dJ6_addLast_8 : decode cJ6_addLast 8 = .ok (.invokespecial 67, 3) := dk_183 0 67 (dk_at dksJ6_addLast_0 8 rfl rfl)
theorem dJ6_addLast_11 : decode cJ6_addLast 11 = .ok (.athrow, 1) := dk_191 (dk_at dksJ6_addLast_0 11 rfl rfl)
theorem dJ6_addLast_12 : decode cJ6_addLast 12 = .ok (.aload_n 0, 1) := dk_42 (dk_at dksJ6_addLast_0 12 rfl rfl)
theorem dJ6_addLast_13 : decode cJ6_addLast 13 = .ok (.getfield 3, 3) := dk_180 0 3 (dk_at dksJ6_addLast_0 13 rfl rfl)
theorem dJ6_addLast_16 : decode cJ6_addLast 16 = .ok (.astore_n 2, 1) := dk_77 (dk_at dksJ6_addLast_0 16 rfl rfl)
theorem dJ6_addLast_17 : decode cJ6_addLast 17 = .ok (.aload_n 2, 1) := dk_44 (dk_at dksJ6_addLast_0 17 rfl rfl)
theorem dJ6_addLast_18 : decode cJ6_addLast 18 = .ok (.aload_n 0, 1) := dk_42 (dk_at dksJ6_addLast_0 18 rfl rfl)
theorem dJ6_addLast_19 : decode cJ6_addLast 19 = .ok (.getfield 20, 3) := dk_180 0 20 (dk_at dksJ6_addLast_0 19 rfl rfl)
theorem dJ6_addLast_22 : decode cJ6_addLast 22 = .ok (.aload_n 1, 1) := dk_43 (dk_at dksJ6_addLast_0 22 rfl rfl)
theorem dJ6_addLast_23 : decode cJ6_addLast 23 = .ok (.aastore, 1) := dk_83 (dk_at dksJ6_addLast_0 23 rfl rfl)
theorem dJ6_addLast_24 : decode cJ6_addLast 24 = .ok (.aload_n 0, 1) := dk_42 (dk_at dksJ6_addLast_1 0 rfl rfl)
theorem dJ6_addLast_25 : decode cJ6_addLast 25 = .ok (.getfield 24, 3) := dk_180 0 24 (dk_at dksJ6_addLast_1 1 rfl rfl)
theorem dJ6_addLast_28 : decode cJ6_addLast 28 = .ok (.aload_n 0, 1) := dk_42 (dk_at dksJ6_addLast_1 4 rfl rfl)
theorem dJ6_addLast_29 : decode cJ6_addLast 29 = .ok (.aload_n 0, 1) := dk_42 (dk_at dksJ6_addLast_1 5 rfl rfl)
theorem dJ6_addLast_30 : decode cJ6_addLast 30 = .ok (.getfield 20, 3) := dk_180 0 20 (dk_at dksJ6_addLast_1 6 rfl rfl)
theorem dJ6_addLast_33 : decode cJ6_addLast 33 = .ok (.aload_n 2, 1) := dk_44 (dk_at dksJ6_addLast_1 9 rfl rfl)
theorem dJ6_addLast_34 : decode cJ6_addLast 34 = .ok (.arraylength, 1) := dk_190 (dk_at dksJ6_addLast_1 10 rfl rfl)
theorem dJ6_addLast_35 : decode cJ6_addLast 35 = .ok (.invokestatic 74, 3) := dk_184 0 74 (dk_at dksJ6_addLast_1 11 rfl rfl)
theorem dJ6_addLast_38 : decode cJ6_addLast 38 = .ok (.dup_x1, 1) := dk_90 (dk_at dksJ6_addLast_1 14 rfl rfl)
theorem dJ6_addLast_39 : decode cJ6_addLast 39 = .ok (.putfield 20, 3) := dk_181 0 20 (dk_at dksJ6_addLast_1 15 rfl rfl)
theorem dJ6_addLast_42 : decode cJ6_addLast 42 = .ok (.if_icmp .ne 8, 3) := dk_160 0 8 (dk_at dksJ6_addLast_1 18 rfl rfl)
theorem dJ6_addLast_45 : decode cJ6_addLast 45 = .ok (.aload_n 0, 1) := dk_42 (dk_at dksJ6_addLast_1 21 rfl rfl)
theorem dJ6_addLast_46 : decode cJ6_addLast 46 = .ok (.iconst 1, 1) := dk_4 (dk_at dksJ6_addLast_1 22 rfl rfl)
theorem dJ6_addLast_47 : decode cJ6_addLast 47 = .ok (.invokevirtual 71, 3) := dk_182 0 71 (dk_at dksJ6_addLast_2 0 rfl rfl)
theorem dJ6_addLast_50 : decode cJ6_addLast 50 = .ok (.return_, 1) := dk_177 (dk_at dksJ6_addLast_2 3 rfl rfl)
abbrev cJ6_grow : ByteArray := prog_39_method_1_code
def yJ6_grow : MethodName := ⟨RJ6, "grow", "(I)V"⟩
def dkwJ6_grow_7 : List UInt8 := [177]
abbrev dktJ6_grow_7 : List UInt8 := dkwJ6_grow_7 ++ []
def dkwJ6_grow_6 : List UInt8 := [181, 0, 24, 54, 8, 21, 7, 21, 8, 162, 0, 15, 25, 5, 21, 7, 1, 83, 132, 7, 1, 167, 255, 240]
abbrev dktJ6_grow_6 : List UInt8 := dkwJ6_grow_6 ++ dktJ6_grow_7
def dkwJ6_grow_5 : List UInt8 := [42, 180, 0, 24, 100, 184, 0, 27, 42, 180, 0, 24, 54, 7, 42, 89, 180, 0, 24, 21, 6, 96, 90]
abbrev dktJ6_grow_5 : List UInt8 := dkwJ6_grow_5 ++ dktJ6_grow_6
def dkwJ6_grow_4 : List UInt8 := [198, 0, 71, 29, 28, 100, 54, 6, 25, 5, 42, 180, 0, 24, 25, 5, 42, 180, 0, 24, 21, 6, 96, 28]
abbrev dktJ6_grow_4 : List UInt8 := dkwJ6_grow_4 ++ dktJ6_grow_5
def dkwJ6_grow_3 : List UInt8 := [180, 0, 24, 161, 0, 24, 42, 180, 0, 20, 42, 180, 0, 24, 160, 0, 81, 25, 5, 42, 180, 0, 24, 50]
abbrev dktJ6_grow_3 : List UInt8 := dkwJ6_grow_3 ++ dktJ6_grow_4
def dkwJ6_grow_2 : List UInt8 := [182, 0, 10, 62, 42, 42, 180, 0, 3, 29, 184, 0, 14, 90, 181, 0, 3, 58, 5, 42, 180, 0, 20, 42]
abbrev dktJ6_grow_2 : List UInt8 := dkwJ6_grow_2 ++ dktJ6_grow_3
def dkwJ6_grow_1 : List UInt8 := [21, 4, 27, 161, 0, 15, 28, 21, 4, 96, 89, 62, 18, 9, 100, 158, 0, 11, 42, 27, 21, 4]
abbrev dktJ6_grow_1 : List UInt8 := dkwJ6_grow_1 ++ dktJ6_grow_2
def dkwJ6_grow_0 : List UInt8 := [42, 180, 0, 3, 190, 61, 28, 16, 64, 162, 0, 9, 28, 5, 96, 167, 0, 6, 28, 4, 122, 54, 4]
abbrev dktJ6_grow_0 : List UInt8 := dkwJ6_grow_0 ++ dktJ6_grow_1
theorem dksJ6_grow_0 : cJ6_grow.data.toList.drop 0 = dktJ6_grow_0 := by decide +kernel
theorem dksJ6_grow_1 : cJ6_grow.data.toList.drop 23 = dktJ6_grow_1 := dk_seg dksJ6_grow_0 23 rfl rfl
theorem dksJ6_grow_2 : cJ6_grow.data.toList.drop 45 = dktJ6_grow_2 := dk_seg dksJ6_grow_1 22 rfl rfl
theorem dksJ6_grow_3 : cJ6_grow.data.toList.drop 69 = dktJ6_grow_3 := dk_seg dksJ6_grow_2 24 rfl rfl
theorem dksJ6_grow_4 : cJ6_grow.data.toList.drop 93 = dktJ6_grow_4 := dk_seg dksJ6_grow_3 24 rfl rfl
theorem dksJ6_grow_5 : cJ6_grow.data.toList.drop 117 = dktJ6_grow_5 := dk_seg dksJ6_grow_4 24 rfl rfl
theorem dksJ6_grow_6 : cJ6_grow.data.toList.drop 140 = dktJ6_grow_6 := dk_seg dksJ6_grow_5 23 rfl rfl
theorem dksJ6_grow_7 : cJ6_grow.data.toList.drop 164 = dktJ6_grow_7 := dk_seg dksJ6_grow_6 24 rfl rfl
theorem dJ6_grow_0 : decode cJ6_grow 0 = .ok (.aload_n 0, 1) := dk_42 (dk_at dksJ6_grow_0 0 rfl rfl)
theorem dJ6_grow_1 : decode cJ6_grow 1 = .ok (.getfield 3, 3) := dk_180 0 3 (dk_at dksJ6_grow_0 1 rfl rfl)
theorem dJ6_grow_4 : decode cJ6_grow 4 = .ok (.arraylength, 1) := dk_190 (dk_at dksJ6_grow_0 4 rfl rfl)
theorem dJ6_grow_5 : decode cJ6_grow 5 = .ok (.istore_n 2, 1) := dk_61 (dk_at dksJ6_grow_0 5 rfl rfl)
theorem dJ6_grow_6 : decode cJ6_grow 6 = .ok (.iload_n 2, 1) := dk_28 (dk_at dksJ6_grow_0 6 rfl rfl)
theorem dJ6_grow_7 : decode cJ6_grow 7 = .ok (.bipush 64, 2) := dk_16 64 (dk_at dksJ6_grow_0 7 rfl rfl)
theorem dJ6_grow_9 : decode cJ6_grow 9 = .ok (.if_icmp .ge 9, 3) := dk_162 0 9 (dk_at dksJ6_grow_0 9 rfl rfl)
theorem dJ6_grow_12 : decode cJ6_grow 12 = .ok (.iload_n 2, 1) := dk_28 (dk_at dksJ6_grow_0 12 rfl rfl)
theorem dJ6_grow_13 : decode cJ6_grow 13 = .ok (.iconst 2, 1) := dk_5 (dk_at dksJ6_grow_0 13 rfl rfl)
theorem dJ6_grow_14 : decode cJ6_grow 14 = .ok (.iadd, 1) := dk_96 (dk_at dksJ6_grow_0 14 rfl rfl)
theorem dJ6_grow_15 : decode cJ6_grow 15 = .ok (.goto 6, 3) := dk_167 0 6 (dk_at dksJ6_grow_0 15 rfl rfl)
theorem dJ6_grow_18 : decode cJ6_grow 18 = .ok (.iload_n 2, 1) := dk_28 (dk_at dksJ6_grow_0 18 rfl rfl)
theorem dJ6_grow_19 : decode cJ6_grow 19 = .ok (.iconst 1, 1) := dk_4 (dk_at dksJ6_grow_0 19 rfl rfl)
theorem dJ6_grow_20 : decode cJ6_grow 20 = .ok (.ishr, 1) := dk_122 (dk_at dksJ6_grow_0 20 rfl rfl)
theorem dJ6_grow_21 : decode cJ6_grow 21 = .ok (.istore 4, 2) := dk_54 4 (dk_at dksJ6_grow_0 21 rfl rfl)
theorem dJ6_grow_23 : decode cJ6_grow 23 = .ok (.iload 4, 2) := dk_21 4 (dk_at dksJ6_grow_1 0 rfl rfl)
theorem dJ6_grow_25 : decode cJ6_grow 25 = .ok (.iload_n 1, 1) := dk_27 (dk_at dksJ6_grow_1 2 rfl rfl)
theorem dJ6_grow_26 : decode cJ6_grow 26 = .ok (.if_icmp .lt 15, 3) := dk_161 0 15 (dk_at dksJ6_grow_1 3 rfl rfl)
theorem dJ6_grow_29 : decode cJ6_grow 29 = .ok (.iload_n 2, 1) := dk_28 (dk_at dksJ6_grow_1 6 rfl rfl)
theorem dJ6_grow_30 : decode cJ6_grow 30 = .ok (.iload 4, 2) := dk_21 4 (dk_at dksJ6_grow_1 7 rfl rfl)
theorem dJ6_grow_32 : decode cJ6_grow 32 = .ok (.iadd, 1) := dk_96 (dk_at dksJ6_grow_1 9 rfl rfl)
theorem dJ6_grow_33 : decode cJ6_grow 33 = .ok (.dup, 1) := dk_89 (dk_at dksJ6_grow_1 10 rfl rfl)
theorem dJ6_grow_34 : decode cJ6_grow 34 = .ok (.istore_n 3, 1) := dk_62 (dk_at dksJ6_grow_1 11 rfl rfl)
theorem dJ6_grow_35 : decode cJ6_grow 35 = .ok (.ldc 9, 2) := dk_18 9 (dk_at dksJ6_grow_1 12 rfl rfl)
theorem dJ6_grow_37 : decode cJ6_grow 37 = .ok (.isub, 1) := dk_100 (dk_at dksJ6_grow_1 14 rfl rfl)
theorem dJ6_grow_38 : decode cJ6_grow 38 = .ok (.ifCond .le 11, 3) := dk_158 0 11 (dk_at dksJ6_grow_1 15 rfl rfl)
theorem dJ6_grow_41 : decode cJ6_grow 41 = .ok (.aload_n 0, 1) := dk_42 (dk_at dksJ6_grow_1 18 rfl rfl)
theorem dJ6_grow_42 : decode cJ6_grow 42 = .ok (.iload_n 1, 1) := dk_27 (dk_at dksJ6_grow_1 19 rfl rfl)
theorem dJ6_grow_43 : decode cJ6_grow 43 = .ok (.iload 4, 2) := dk_21 4 (dk_at dksJ6_grow_1 20 rfl rfl)
theorem dJ6_grow_45 : decode cJ6_grow 45 = .ok (.invokevirtual 10, 3) := dk_182 0 10 (dk_at dksJ6_grow_2 0 rfl rfl)
theorem dJ6_grow_48 : decode cJ6_grow 48 = .ok (.istore_n 3, 1) := dk_62 (dk_at dksJ6_grow_2 3 rfl rfl)
theorem dJ6_grow_49 : decode cJ6_grow 49 = .ok (.aload_n 0, 1) := dk_42 (dk_at dksJ6_grow_2 4 rfl rfl)
theorem dJ6_grow_50 : decode cJ6_grow 50 = .ok (.aload_n 0, 1) := dk_42 (dk_at dksJ6_grow_2 5 rfl rfl)
theorem dJ6_grow_51 : decode cJ6_grow 51 = .ok (.getfield 3, 3) := dk_180 0 3 (dk_at dksJ6_grow_2 6 rfl rfl)
theorem dJ6_grow_54 : decode cJ6_grow 54 = .ok (.iload_n 3, 1) := dk_29 (dk_at dksJ6_grow_2 9 rfl rfl)
theorem dJ6_grow_55 : decode cJ6_grow 55 = .ok (.invokestatic 14, 3) := dk_184 0 14 (dk_at dksJ6_grow_2 10 rfl rfl)
theorem dJ6_grow_58 : decode cJ6_grow 58 = .ok (.dup_x1, 1) := dk_90 (dk_at dksJ6_grow_2 13 rfl rfl)
theorem dJ6_grow_59 : decode cJ6_grow 59 = .ok (.putfield 3, 3) := dk_181 0 3 (dk_at dksJ6_grow_2 14 rfl rfl)
theorem dJ6_grow_62 : decode cJ6_grow 62 = .ok (.astore 5, 2) := dk_58 5 (dk_at dksJ6_grow_2 17 rfl rfl)
theorem dJ6_grow_64 : decode cJ6_grow 64 = .ok (.aload_n 0, 1) := dk_42 (dk_at dksJ6_grow_2 19 rfl rfl)
theorem dJ6_grow_65 : decode cJ6_grow 65 = .ok (.getfield 20, 3) := dk_180 0 20 (dk_at dksJ6_grow_2 20 rfl rfl)
theorem dJ6_grow_68 : decode cJ6_grow 68 = .ok (.aload_n 0, 1) := dk_42 (dk_at dksJ6_grow_2 23 rfl rfl)
theorem dJ6_grow_69 : decode cJ6_grow 69 = .ok (.getfield 24, 3) := dk_180 0 24 (dk_at dksJ6_grow_3 0 rfl rfl)
theorem dJ6_grow_72 : decode cJ6_grow 72 = .ok (.if_icmp .lt 24, 3) := dk_161 0 24 (dk_at dksJ6_grow_3 3 rfl rfl)
theorem dJ6_grow_75 : decode cJ6_grow 75 = .ok (.aload_n 0, 1) := dk_42 (dk_at dksJ6_grow_3 6 rfl rfl)
theorem dJ6_grow_76 : decode cJ6_grow 76 = .ok (.getfield 20, 3) := dk_180 0 20 (dk_at dksJ6_grow_3 7 rfl rfl)
theorem dJ6_grow_79 : decode cJ6_grow 79 = .ok (.aload_n 0, 1) := dk_42 (dk_at dksJ6_grow_3 10 rfl rfl)
theorem dJ6_grow_80 : decode cJ6_grow 80 = .ok (.getfield 24, 3) := dk_180 0 24 (dk_at dksJ6_grow_3 11 rfl rfl)
theorem dJ6_grow_83 : decode cJ6_grow 83 = .ok (.if_icmp .ne 81, 3) := dk_160 0 81 (dk_at dksJ6_grow_3 14 rfl rfl)
theorem dJ6_grow_86 : decode cJ6_grow 86 = .ok (.aload 5, 2) := dk_25 5 (dk_at dksJ6_grow_3 17 rfl rfl)
theorem dJ6_grow_88 : decode cJ6_grow 88 = .ok (.aload_n 0, 1) := dk_42 (dk_at dksJ6_grow_3 19 rfl rfl)
theorem dJ6_grow_89 : decode cJ6_grow 89 = .ok (.getfield 24, 3) := dk_180 0 24 (dk_at dksJ6_grow_3 20 rfl rfl)
theorem dJ6_grow_92 : decode cJ6_grow 92 = .ok (.aaload, 1) := dk_50 (dk_at dksJ6_grow_3 23 rfl rfl)
theorem dJ6_grow_93 : decode cJ6_grow 93 = .ok (.ifnull 71, 3) := dk_198 0 71 (dk_at dksJ6_grow_4 0 rfl rfl)
theorem dJ6_grow_96 : decode cJ6_grow 96 = .ok (.iload_n 3, 1) := dk_29 (dk_at dksJ6_grow_4 3 rfl rfl)
theorem dJ6_grow_97 : decode cJ6_grow 97 = .ok (.iload_n 2, 1) := dk_28 (dk_at dksJ6_grow_4 4 rfl rfl)
theorem dJ6_grow_98 : decode cJ6_grow 98 = .ok (.isub, 1) := dk_100 (dk_at dksJ6_grow_4 5 rfl rfl)
theorem dJ6_grow_99 : decode cJ6_grow 99 = .ok (.istore 6, 2) := dk_54 6 (dk_at dksJ6_grow_4 6 rfl rfl)
theorem dJ6_grow_101 : decode cJ6_grow 101 = .ok (.aload 5, 2) := dk_25 5 (dk_at dksJ6_grow_4 8 rfl rfl)
theorem dJ6_grow_103 : decode cJ6_grow 103 = .ok (.aload_n 0, 1) := dk_42 (dk_at dksJ6_grow_4 10 rfl rfl)
theorem dJ6_grow_104 : decode cJ6_grow 104 = .ok (.getfield 24, 3) := dk_180 0 24 (dk_at dksJ6_grow_4 11 rfl rfl)
theorem dJ6_grow_107 : decode cJ6_grow 107 = .ok (.aload 5, 2) := dk_25 5 (dk_at dksJ6_grow_4 14 rfl rfl)
theorem dJ6_grow_109 : decode cJ6_grow 109 = .ok (.aload_n 0, 1) := dk_42 (dk_at dksJ6_grow_4 16 rfl rfl)
theorem dJ6_grow_110 : decode cJ6_grow 110 = .ok (.getfield 24, 3) := dk_180 0 24 (dk_at dksJ6_grow_4 17 rfl rfl)
theorem dJ6_grow_113 : decode cJ6_grow 113 = .ok (.iload 6, 2) := dk_21 6 (dk_at dksJ6_grow_4 20 rfl rfl)
theorem dJ6_grow_115 : decode cJ6_grow 115 = .ok (.iadd, 1) := dk_96 (dk_at dksJ6_grow_4 22 rfl rfl)
theorem dJ6_grow_116 : decode cJ6_grow 116 = .ok (.iload_n 2, 1) := dk_28 (dk_at dksJ6_grow_4 23 rfl rfl)
theorem dJ6_grow_117 : decode cJ6_grow 117 = .ok (.aload_n 0, 1) := dk_42 (dk_at dksJ6_grow_5 0 rfl rfl)
theorem dJ6_grow_118 : decode cJ6_grow 118 = .ok (.getfield 24, 3) := dk_180 0 24 (dk_at dksJ6_grow_5 1 rfl rfl)
theorem dJ6_grow_121 : decode cJ6_grow 121 = .ok (.isub, 1) := dk_100 (dk_at dksJ6_grow_5 4 rfl rfl)
theorem dJ6_grow_122 : decode cJ6_grow 122 = .ok (.invokestatic 27, 3) := dk_184 0 27 (dk_at dksJ6_grow_5 5 rfl rfl)
theorem dJ6_grow_125 : decode cJ6_grow 125 = .ok (.aload_n 0, 1) := dk_42 (dk_at dksJ6_grow_5 8 rfl rfl)
theorem dJ6_grow_126 : decode cJ6_grow 126 = .ok (.getfield 24, 3) := dk_180 0 24 (dk_at dksJ6_grow_5 9 rfl rfl)
theorem dJ6_grow_129 : decode cJ6_grow 129 = .ok (.istore 7, 2) := dk_54 7 (dk_at dksJ6_grow_5 12 rfl rfl)
theorem dJ6_grow_131 : decode cJ6_grow 131 = .ok (.aload_n 0, 1) := dk_42 (dk_at dksJ6_grow_5 14 rfl rfl)
theorem dJ6_grow_132 : decode cJ6_grow 132 = .ok (.dup, 1) := dk_89 (dk_at dksJ6_grow_5 15 rfl rfl)
theorem dJ6_grow_133 : decode cJ6_grow 133 = .ok (.getfield 24, 3) := dk_180 0 24 (dk_at dksJ6_grow_5 16 rfl rfl)
theorem dJ6_grow_136 : decode cJ6_grow 136 = .ok (.iload 6, 2) := dk_21 6 (dk_at dksJ6_grow_5 19 rfl rfl)
theorem dJ6_grow_138 : decode cJ6_grow 138 = .ok (.iadd, 1) := dk_96 (dk_at dksJ6_grow_5 21 rfl rfl)
theorem dJ6_grow_139 : decode cJ6_grow 139 = .ok (.dup_x1, 1) := dk_90 (dk_at dksJ6_grow_5 22 rfl rfl)
theorem dJ6_grow_140 : decode cJ6_grow 140 = .ok (.putfield 24, 3) := dk_181 0 24 (dk_at dksJ6_grow_6 0 rfl rfl)
theorem dJ6_grow_143 : decode cJ6_grow 143 = .ok (.istore 8, 2) := dk_54 8 (dk_at dksJ6_grow_6 3 rfl rfl)
theorem dJ6_grow_145 : decode cJ6_grow 145 = .ok (.iload 7, 2) := dk_21 7 (dk_at dksJ6_grow_6 5 rfl rfl)
theorem dJ6_grow_147 : decode cJ6_grow 147 = .ok (.iload 8, 2) := dk_21 8 (dk_at dksJ6_grow_6 7 rfl rfl)
theorem dJ6_grow_149 : decode cJ6_grow 149 = .ok (.if_icmp .ge 15, 3) := dk_162 0 15 (dk_at dksJ6_grow_6 9 rfl rfl)
theorem dJ6_grow_152 : decode cJ6_grow 152 = .ok (.aload 5, 2) := dk_25 5 (dk_at dksJ6_grow_6 12 rfl rfl)
theorem dJ6_grow_154 : decode cJ6_grow 154 = .ok (.iload 7, 2) := dk_21 7 (dk_at dksJ6_grow_6 14 rfl rfl)
theorem dJ6_grow_156 : decode cJ6_grow 156 = .ok (.aconst_null, 1) := dk_1 (dk_at dksJ6_grow_6 16 rfl rfl)
theorem dJ6_grow_157 : decode cJ6_grow 157 = .ok (.aastore, 1) := dk_83 (dk_at dksJ6_grow_6 17 rfl rfl)
theorem dJ6_grow_158 : decode cJ6_grow 158 = .ok (.iinc 7 1, 3) := dk_132 7 1 (dk_at dksJ6_grow_6 18 rfl rfl)
theorem dJ6_grow_161 : decode cJ6_grow 161 = .ok (.goto (-16), 3) := dk_167 255 240 (dk_at dksJ6_grow_6 21 rfl rfl)
theorem dJ6_grow_164 : decode cJ6_grow 164 = .ok (.return_, 1) := dk_177 (dk_at dksJ6_grow_7 0 rfl rfl)
abbrev cJ6_newCapacity : ByteArray := prog_39_method_2_code
def yJ6_newCapacity : MethodName := ⟨RJ6, "newCapacity", "(II)I"⟩
def dkwJ6_newCapacity_2 : List UInt8 := [18, 9, 100, 156, 0, 9, 29, 28, 96, 167, 0, 5, 18, 9, 172]
abbrev dktJ6_newCapacity_2 : List UInt8 := dkwJ6_newCapacity_2 ++ []
def dkwJ6_newCapacity_1 : List UInt8 := [187, 0, 33, 89, 18, 35, 183, 0, 37, 191, 18, 41, 172, 27, 28, 164, 0, 6, 21, 4, 172, 29, 28, 96]
abbrev dktJ6_newCapacity_1 : List UInt8 := dkwJ6_newCapacity_1 ++ dktJ6_newCapacity_2
def dkwJ6_newCapacity_0 : List UInt8 := [42, 180, 0, 3, 190, 62, 29, 27, 96, 89, 54, 4, 18, 9, 100, 158, 0, 21, 21, 4, 156, 0, 13]
abbrev dktJ6_newCapacity_0 : List UInt8 := dkwJ6_newCapacity_0 ++ dktJ6_newCapacity_1
theorem dksJ6_newCapacity_0 : cJ6_newCapacity.data.toList.drop 0 = dktJ6_newCapacity_0 := by decide +kernel
theorem dksJ6_newCapacity_1 : cJ6_newCapacity.data.toList.drop 23 = dktJ6_newCapacity_1 := dk_seg dksJ6_newCapacity_0 23 rfl rfl
theorem dksJ6_newCapacity_2 : cJ6_newCapacity.data.toList.drop 47 = dktJ6_newCapacity_2 := dk_seg dksJ6_newCapacity_1 24 rfl rfl
theorem dJ6_newCapacity_0 : decode cJ6_newCapacity 0 = .ok (.aload_n 0, 1) := dk_42 (dk_at dksJ6_newCapacity_0 0 rfl rfl)
theorem dJ6_newCapacity_1 : decode cJ6_newCapacity 1 = .ok (.getfield 3, 3) := dk_180 0 3 (dk_at dksJ6_newCapacity_0 1 rfl rfl)
theorem dJ6_newCapacity_4 : decode cJ6_newCapacity 4 = .ok (.arraylength, 1) := dk_190 (dk_at dksJ6_newCapacity_0 4 rfl rfl)
theorem dJ6_newCapacity_5 : decode cJ6_newCapacity 5 = .ok (.istore_n 3, 1) := dk_62 (dk_at dksJ6_newCapacity_0 5 rfl rfl)
theorem dJ6_newCapacity_6 : decode cJ6_newCapacity 6 = .ok (.iload_n 3, 1) := dk_29 (dk_at dksJ6_newCapacity_0 6 rfl rfl)
theorem dJ6_newCapacity_7 : decode cJ6_newCapacity 7 = .ok (.iload_n 1, 1) := dk_27 (dk_at dksJ6_newCapacity_0 7 rfl rfl)
theorem dJ6_newCapacity_8 : decode cJ6_newCapacity 8 = .ok (.iadd, 1) := dk_96 (dk_at dksJ6_newCapacity_0 8 rfl rfl)
theorem dJ6_newCapacity_9 : decode cJ6_newCapacity 9 = .ok (.dup, 1) := dk_89 (dk_at dksJ6_newCapacity_0 9 rfl rfl)
theorem dJ6_newCapacity_10 : decode cJ6_newCapacity 10 = .ok (.istore 4, 2) := dk_54 4 (dk_at dksJ6_newCapacity_0 10 rfl rfl)
theorem dJ6_newCapacity_12 : decode cJ6_newCapacity 12 = .ok (.ldc 9, 2) := dk_18 9 (dk_at dksJ6_newCapacity_0 12 rfl rfl)
theorem dJ6_newCapacity_14 : decode cJ6_newCapacity 14 = .ok (.isub, 1) := dk_100 (dk_at dksJ6_newCapacity_0 14 rfl rfl)
theorem dJ6_newCapacity_15 : decode cJ6_newCapacity 15 = .ok (.ifCond .le 21, 3) := dk_158 0 21 (dk_at dksJ6_newCapacity_0 15 rfl rfl)
theorem dJ6_newCapacity_18 : decode cJ6_newCapacity 18 = .ok (.iload 4, 2) := dk_21 4 (dk_at dksJ6_newCapacity_0 18 rfl rfl)
theorem dJ6_newCapacity_20 : decode cJ6_newCapacity 20 = .ok (.ifCond .ge 13, 3) := dk_156 0 13 (dk_at dksJ6_newCapacity_0 20 rfl rfl)
theorem dJ6_newCapacity_23 : decode cJ6_newCapacity 23 = .ok (.new 33, 3) := dk_187 0 33 (dk_at dksJ6_newCapacity_1 0 rfl rfl)
theorem dJ6_newCapacity_26 : decode cJ6_newCapacity 26 = .ok (.dup, 1) := dk_89 (dk_at dksJ6_newCapacity_1 3 rfl rfl)
theorem dJ6_newCapacity_27 : decode cJ6_newCapacity 27 = .ok (.ldc 35, 2) := dk_18 35 (dk_at dksJ6_newCapacity_1 4 rfl rfl)
theorem dJ6_newCapacity_29 : decode cJ6_newCapacity 29 = .ok (.invokespecial 37, 3) := dk_183 0 37 (dk_at dksJ6_newCapacity_1 6 rfl rfl)
theorem dJ6_newCapacity_32 : decode cJ6_newCapacity 32 = .ok (.athrow, 1) := dk_191 (dk_at dksJ6_newCapacity_1 9 rfl rfl)
theorem dJ6_newCapacity_33 : decode cJ6_newCapacity 33 = .ok (.ldc 41, 2) := dk_18 41 (dk_at dksJ6_newCapacity_1 10 rfl rfl)
theorem dJ6_newCapacity_35 : decode cJ6_newCapacity 35 = .ok (.ireturn, 1) := dk_172 (dk_at dksJ6_newCapacity_1 12 rfl rfl)
theorem dJ6_newCapacity_36 : decode cJ6_newCapacity 36 = .ok (.iload_n 1, 1) := dk_27 (dk_at dksJ6_newCapacity_1 13 rfl rfl)
theorem dJ6_newCapacity_37 : decode cJ6_newCapacity 37 = .ok (.iload_n 2, 1) := dk_28 (dk_at dksJ6_newCapacity_1 14 rfl rfl)
theorem dJ6_newCapacity_38 : decode cJ6_newCapacity 38 = .ok (.if_icmp .le 6, 3) := dk_164 0 6 (dk_at dksJ6_newCapacity_1 15 rfl rfl)
theorem dJ6_newCapacity_41 : decode cJ6_newCapacity 41 = .ok (.iload 4, 2) := dk_21 4 (dk_at dksJ6_newCapacity_1 18 rfl rfl)
theorem dJ6_newCapacity_43 : decode cJ6_newCapacity 43 = .ok (.ireturn, 1) := dk_172 (dk_at dksJ6_newCapacity_1 20 rfl rfl)
theorem dJ6_newCapacity_44 : decode cJ6_newCapacity 44 = .ok (.iload_n 3, 1) := dk_29 (dk_at dksJ6_newCapacity_1 21 rfl rfl)
theorem dJ6_newCapacity_45 : decode cJ6_newCapacity 45 = .ok (.iload_n 2, 1) := dk_28 (dk_at dksJ6_newCapacity_1 22 rfl rfl)
theorem dJ6_newCapacity_46 : decode cJ6_newCapacity 46 = .ok (.iadd, 1) := dk_96 (dk_at dksJ6_newCapacity_1 23 rfl rfl)
theorem dJ6_newCapacity_47 : decode cJ6_newCapacity 47 = .ok (.ldc 9, 2) := dk_18 9 (dk_at dksJ6_newCapacity_2 0 rfl rfl)
theorem dJ6_newCapacity_49 : decode cJ6_newCapacity 49 = .ok (.isub, 1) := dk_100 (dk_at dksJ6_newCapacity_2 2 rfl rfl)
theorem dJ6_newCapacity_50 : decode cJ6_newCapacity 50 = .ok (.ifCond .ge 9, 3) := dk_156 0 9 (dk_at dksJ6_newCapacity_2 3 rfl rfl)
theorem dJ6_newCapacity_53 : decode cJ6_newCapacity 53 = .ok (.iload_n 3, 1) := dk_29 (dk_at dksJ6_newCapacity_2 6 rfl rfl)
theorem dJ6_newCapacity_54 : decode cJ6_newCapacity 54 = .ok (.iload_n 2, 1) := dk_28 (dk_at dksJ6_newCapacity_2 7 rfl rfl)
theorem dJ6_newCapacity_55 : decode cJ6_newCapacity 55 = .ok (.iadd, 1) := dk_96 (dk_at dksJ6_newCapacity_2 8 rfl rfl)
theorem dJ6_newCapacity_56 : decode cJ6_newCapacity 56 = .ok (.goto 5, 3) := dk_167 0 5 (dk_at dksJ6_newCapacity_2 9 rfl rfl)
theorem dJ6_newCapacity_59 : decode cJ6_newCapacity 59 = .ok (.ldc 9, 2) := dk_18 9 (dk_at dksJ6_newCapacity_2 12 rfl rfl)
theorem dJ6_newCapacity_61 : decode cJ6_newCapacity 61 = .ok (.ireturn, 1) := dk_172 (dk_at dksJ6_newCapacity_2 14 rfl rfl)
abbrev cJ6_isEmpty : ByteArray := prog_39_method_38_code
def yJ6_isEmpty : MethodName := ⟨RJ6, "isEmpty", "()Z"⟩
def dkwJ6_isEmpty_0 : List UInt8 := [42, 180, 0, 24, 42, 180, 0, 20, 160, 0, 7, 4, 167, 0, 4, 3, 172]
abbrev dktJ6_isEmpty_0 : List UInt8 := dkwJ6_isEmpty_0 ++ []
theorem dksJ6_isEmpty_0 : cJ6_isEmpty.data.toList.drop 0 = dktJ6_isEmpty_0 := by decide +kernel
theorem dJ6_isEmpty_0 : decode cJ6_isEmpty 0 = .ok (.aload_n 0, 1) := dk_42 (dk_at dksJ6_isEmpty_0 0 rfl rfl)
theorem dJ6_isEmpty_1 : decode cJ6_isEmpty 1 = .ok (.getfield 24, 3) := dk_180 0 24 (dk_at dksJ6_isEmpty_0 1 rfl rfl)
theorem dJ6_isEmpty_4 : decode cJ6_isEmpty 4 = .ok (.aload_n 0, 1) := dk_42 (dk_at dksJ6_isEmpty_0 4 rfl rfl)
theorem dJ6_isEmpty_5 : decode cJ6_isEmpty 5 = .ok (.getfield 20, 3) := dk_180 0 20 (dk_at dksJ6_isEmpty_0 5 rfl rfl)
theorem dJ6_isEmpty_8 : decode cJ6_isEmpty 8 = .ok (.if_icmp .ne 7, 3) := dk_160 0 7 (dk_at dksJ6_isEmpty_0 8 rfl rfl)
theorem dJ6_isEmpty_11 : decode cJ6_isEmpty 11 = .ok (.iconst 1, 1) := dk_4 (dk_at dksJ6_isEmpty_0 11 rfl rfl)
theorem dJ6_isEmpty_12 : decode cJ6_isEmpty 12 = .ok (.goto 4, 3) := dk_167 0 4 (dk_at dksJ6_isEmpty_0 12 rfl rfl)
theorem dJ6_isEmpty_15 : decode cJ6_isEmpty 15 = .ok (.iconst 0, 1) := dk_3 (dk_at dksJ6_isEmpty_0 15 rfl rfl)
theorem dJ6_isEmpty_16 : decode cJ6_isEmpty 16 = .ok (.ireturn, 1) := dk_172 (dk_at dksJ6_isEmpty_0 16 rfl rfl)
abbrev cJ6_pollLast : ByteArray := prog_39_method_21_code
def yJ6_pollLast : MethodName := ⟨RJ6, "pollLast", "()Ljava/lang/Object;"⟩
def dkwJ6_pollLast_1 : List UInt8 := [198, 0, 12, 43, 42, 28, 90, 181, 0, 20, 1, 83, 45, 176]
abbrev dktJ6_pollLast_1 : List UInt8 := dkwJ6_pollLast_1 ++ []
def dkwJ6_pollLast_0 : List UInt8 := [42, 180, 0, 3, 89, 76, 42, 180, 0, 20, 43, 190, 184, 0, 68, 89, 61, 184, 0, 103, 78, 45]
abbrev dktJ6_pollLast_0 : List UInt8 := dkwJ6_pollLast_0 ++ dktJ6_pollLast_1
theorem dksJ6_pollLast_0 : cJ6_pollLast.data.toList.drop 0 = dktJ6_pollLast_0 := by decide +kernel
theorem dksJ6_pollLast_1 : cJ6_pollLast.data.toList.drop 22 = dktJ6_pollLast_1 := dk_seg dksJ6_pollLast_0 22 rfl rfl
theorem dJ6_pollLast_0 : decode cJ6_pollLast 0 = .ok (.aload_n 0, 1) := dk_42 (dk_at dksJ6_pollLast_0 0 rfl rfl)
theorem dJ6_pollLast_1 : decode cJ6_pollLast 1 = .ok (.getfield 3, 3) := dk_180 0 3 (dk_at dksJ6_pollLast_0 1 rfl rfl)
theorem dJ6_pollLast_4 : decode cJ6_pollLast 4 = .ok (.dup, 1) := dk_89 (dk_at dksJ6_pollLast_0 4 rfl rfl)
theorem dJ6_pollLast_5 : decode cJ6_pollLast 5 = .ok (.astore_n 1, 1) := dk_76 (dk_at dksJ6_pollLast_0 5 rfl rfl)
theorem dJ6_pollLast_6 : decode cJ6_pollLast 6 = .ok (.aload_n 0, 1) := dk_42 (dk_at dksJ6_pollLast_0 6 rfl rfl)
theorem dJ6_pollLast_7 : decode cJ6_pollLast 7 = .ok (.getfield 20, 3) := dk_180 0 20 (dk_at dksJ6_pollLast_0 7 rfl rfl)
theorem dJ6_pollLast_10 : decode cJ6_pollLast 10 = .ok (.aload_n 1, 1) := dk_43 (dk_at dksJ6_pollLast_0 10 rfl rfl)
theorem dJ6_pollLast_11 : decode cJ6_pollLast 11 = .ok (.arraylength, 1) := dk_190 (dk_at dksJ6_pollLast_0 11 rfl rfl)
theorem dJ6_pollLast_12 : decode cJ6_pollLast 12 = .ok (.invokestatic 68, 3) := dk_184 0 68 (dk_at dksJ6_pollLast_0 12 rfl rfl)
theorem dJ6_pollLast_15 : decode cJ6_pollLast 15 = .ok (.dup, 1) := dk_89 (dk_at dksJ6_pollLast_0 15 rfl rfl)
theorem dJ6_pollLast_16 : decode cJ6_pollLast 16 = .ok (.istore_n 2, 1) := dk_61 (dk_at dksJ6_pollLast_0 16 rfl rfl)
theorem dJ6_pollLast_17 : decode cJ6_pollLast 17 = .ok (.invokestatic 103, 3) := dk_184 0 103 (dk_at dksJ6_pollLast_0 17 rfl rfl)
theorem dJ6_pollLast_20 : decode cJ6_pollLast 20 = .ok (.astore_n 3, 1) := dk_78 (dk_at dksJ6_pollLast_0 20 rfl rfl)
theorem dJ6_pollLast_21 : decode cJ6_pollLast 21 = .ok (.aload_n 3, 1) := dk_45 (dk_at dksJ6_pollLast_0 21 rfl rfl)
theorem dJ6_pollLast_22 : decode cJ6_pollLast 22 = .ok (.ifnull 12, 3) := dk_198 0 12 (dk_at dksJ6_pollLast_1 0 rfl rfl)
theorem dJ6_pollLast_25 : decode cJ6_pollLast 25 = .ok (.aload_n 1, 1) := dk_43 (dk_at dksJ6_pollLast_1 3 rfl rfl)
theorem dJ6_pollLast_26 : decode cJ6_pollLast 26 = .ok (.aload_n 0, 1) := dk_42 (dk_at dksJ6_pollLast_1 4 rfl rfl)
theorem dJ6_pollLast_27 : decode cJ6_pollLast 27 = .ok (.iload_n 2, 1) := dk_28 (dk_at dksJ6_pollLast_1 5 rfl rfl)
theorem dJ6_pollLast_28 : decode cJ6_pollLast 28 = .ok (.dup_x1, 1) := dk_90 (dk_at dksJ6_pollLast_1 6 rfl rfl)
theorem dJ6_pollLast_29 : decode cJ6_pollLast 29 = .ok (.putfield 20, 3) := dk_181 0 20 (dk_at dksJ6_pollLast_1 7 rfl rfl)
theorem dJ6_pollLast_32 : decode cJ6_pollLast 32 = .ok (.aconst_null, 1) := dk_1 (dk_at dksJ6_pollLast_1 10 rfl rfl)
theorem dJ6_pollLast_33 : decode cJ6_pollLast 33 = .ok (.aastore, 1) := dk_83 (dk_at dksJ6_pollLast_1 11 rfl rfl)
theorem dJ6_pollLast_34 : decode cJ6_pollLast 34 = .ok (.aload_n 3, 1) := dk_45 (dk_at dksJ6_pollLast_1 12 rfl rfl)
theorem dJ6_pollLast_35 : decode cJ6_pollLast 35 = .ok (.areturn, 1) := dk_176 (dk_at dksJ6_pollLast_1 13 rfl rfl)
abbrev cJ6_dec : ByteArray := prog_39_method_7_code
def yJ6_dec : MethodName := ⟨RJ6, "dec", "(II)I"⟩
def dkwJ6_dec_0 : List UInt8 := [132, 0, 255, 26, 156, 0, 7, 27, 4, 100, 59, 26, 172]
abbrev dktJ6_dec_0 : List UInt8 := dkwJ6_dec_0 ++ []
theorem dksJ6_dec_0 : cJ6_dec.data.toList.drop 0 = dktJ6_dec_0 := by decide +kernel
theorem dJ6_dec_0 : decode cJ6_dec 0 = .ok (.iinc 0 (-1), 3) := dk_132 0 255 (dk_at dksJ6_dec_0 0 rfl rfl)
theorem dJ6_dec_3 : decode cJ6_dec 3 = .ok (.iload_n 0, 1) := dk_26 (dk_at dksJ6_dec_0 3 rfl rfl)
theorem dJ6_dec_4 : decode cJ6_dec 4 = .ok (.ifCond .ge 7, 3) := dk_156 0 7 (dk_at dksJ6_dec_0 4 rfl rfl)
theorem dJ6_dec_7 : decode cJ6_dec 7 = .ok (.iload_n 1, 1) := dk_27 (dk_at dksJ6_dec_0 7 rfl rfl)
theorem dJ6_dec_8 : decode cJ6_dec 8 = .ok (.iconst 1, 1) := dk_4 (dk_at dksJ6_dec_0 8 rfl rfl)
theorem dJ6_dec_9 : decode cJ6_dec 9 = .ok (.isub, 1) := dk_100 (dk_at dksJ6_dec_0 9 rfl rfl)
theorem dJ6_dec_10 : decode cJ6_dec 10 = .ok (.istore_n 0, 1) := dk_59 (dk_at dksJ6_dec_0 10 rfl rfl)
theorem dJ6_dec_11 : decode cJ6_dec 11 = .ok (.iload_n 0, 1) := dk_26 (dk_at dksJ6_dec_0 11 rfl rfl)
theorem dJ6_dec_12 : decode cJ6_dec 12 = .ok (.ireturn, 1) := dk_172 (dk_at dksJ6_dec_0 12 rfl rfl)
theorem q123 : (Jvm.Cond.initialized "java/util/ArrayDeque") ∈ lw_all := lw_g (lw_at lw_m1 16 rfl) rfl
theorem q502 : (Jvm.Cond.instantiable "java/util/ArrayDeque" (3 : Nat)) ∈ lw_all := lw_g (lw_at lw_m2 155 rfl) rfl
theorem q504 : (Jvm.Cond.instanceMethod ({ cls := "java/util/ArrayDeque", name := "<init>", desc := "()V" } : Jvm.MethodName)) ∈ lw_all := lw_g (lw_at lw_m2 157 rfl) rfl
theorem q505 : (Jvm.Cond.code ({ cls := "java/util/ArrayDeque", name := "<init>", desc := "()V" } : Jvm.MethodName) prog_39_method_3_code (1 : Nat) (Option.none : Option Jvm.ClassFile.FieldType)) ∈ lw_all := lw_g (lw_at lw_m2 158 rfl) rfl
theorem q506 : (Jvm.Cond.methodLink "java/util/ArrayDeque" (42 : Nat) ({ cls := "java/util/AbstractCollection", name := "<init>", desc := "()V" } : Jvm.MethodName)) ∈ lw_all := lw_g (lw_at lw_m2 159 rfl) rfl
theorem q510 : (Jvm.Cond.classLink "java/util/ArrayDeque" (47 : Nat) "java/lang/Object") ∈ lw_all := lw_g (lw_at lw_m2 163 rfl) rfl
theorem q512 : (Jvm.Cond.fieldLink "java/util/ArrayDeque" (3 : Nat) "java/util/ArrayDeque" "elements" "[Ljava/lang/Object;") ∈ lw_all := lw_g (lw_at lw_m2 165 rfl) rfl
theorem q513 : (Jvm.Cond.fieldLink "java/util/ArrayDeque" (24 : Nat) "java/util/ArrayDeque" "head" "I") ∈ lw_all := lw_g (lw_at lw_m2 166 rfl) rfl
theorem q514 : (Jvm.Cond.fieldLink "java/util/ArrayDeque" (20 : Nat) "java/util/ArrayDeque" "tail" "I") ∈ lw_all := lw_g (lw_at lw_m2 167 rfl) rfl
theorem q515 : (Jvm.Cond.lays "java/util/ArrayDeque" "java/util/ArrayDeque" "elements" "[Ljava/lang/Object;") ∈ lw_all := lw_g (lw_at lw_m2 168 rfl) rfl
theorem q516 : (Jvm.Cond.soleField "java/util/ArrayDeque" "elements") ∈ lw_all := lw_g (lw_at lw_m2 169 rfl) rfl
theorem q517 : (Jvm.Cond.lays "java/util/ArrayDeque" "java/util/ArrayDeque" "head" "I") ∈ lw_all := lw_g (lw_at lw_m2 170 rfl) rfl
theorem q518 : (Jvm.Cond.soleField "java/util/ArrayDeque" "head") ∈ lw_all := lw_g (lw_at lw_m2 171 rfl) rfl
theorem q519 : (Jvm.Cond.lays "java/util/ArrayDeque" "java/util/ArrayDeque" "tail" "I") ∈ lw_all := lw_g (lw_at lw_m2 172 rfl) rfl
theorem q520 : (Jvm.Cond.soleField "java/util/ArrayDeque" "tail") ∈ lw_all := lw_g (lw_at lw_m2 173 rfl) rfl
theorem q521 : (Jvm.Cond.superclass "java/util/ArrayDeque" "java/util/AbstractCollection") ∈ lw_all := lw_g (lw_at lw_m2 174 rfl) rfl
theorem q810 : (Jvm.Cond.instanceMethod ({ cls := "java/util/ArrayDeque", name := "clear", desc := "()V" } : Jvm.MethodName)) ∈ lw_all := lw_g (lw_at lw_m3 223 rfl) rfl
theorem q811 : (Jvm.Cond.selects "java/util/ArrayDeque" ({ cls := "java/util/ArrayDeque", name := "clear", desc := "()V" } : Jvm.MethodName) ({ cls := "java/util/ArrayDeque", name := "clear", desc := "()V" } : Jvm.MethodName)) ∈ lw_all := lw_g (lw_at lw_m3 224 rfl) rfl
theorem q812 : (Jvm.Cond.code ({ cls := "java/util/ArrayDeque", name := "clear", desc := "()V" } : Jvm.MethodName) prog_39_method_53_code (1 : Nat) (Option.none : Option Jvm.ClassFile.FieldType)) ∈ lw_all := lw_g (lw_at lw_m3 225 rfl) rfl
theorem q813 : (Jvm.Cond.methodLink "java/util/ArrayDeque" (181 : Nat) ({ cls := "java/util/ArrayDeque", name := "circularClear", desc := "([Ljava/lang/Object;II)V" } : Jvm.MethodName)) ∈ lw_all := lw_g (lw_at lw_m3 226 rfl) rfl
theorem q814 : (Jvm.Cond.static ({ cls := "java/util/ArrayDeque", name := "circularClear", desc := "([Ljava/lang/Object;II)V" } : Jvm.MethodName)) ∈ lw_all := lw_g (lw_at lw_m3 227 rfl) rfl
theorem q815 : (Jvm.Cond.code ({ cls := "java/util/ArrayDeque", name := "circularClear", desc := "([Ljava/lang/Object;II)V" } : Jvm.MethodName) prog_39_method_54_code (4 : Nat) (Option.none : Option Jvm.ClassFile.FieldType)) ∈ lw_all := lw_g (lw_at lw_m3 228 rfl) rfl
theorem q836 : (Jvm.Cond.instanceMethod ({ cls := "java/util/ArrayDeque", name := "size", desc := "()I" } : Jvm.MethodName)) ∈ lw_all := lw_g (lw_at lw_m4 9 rfl) rfl
theorem q837 : (Jvm.Cond.selects "java/util/ArrayDeque" ({ cls := "java/util/ArrayDeque", name := "size", desc := "()I" } : Jvm.MethodName) ({ cls := "java/util/ArrayDeque", name := "size", desc := "()I" } : Jvm.MethodName)) ∈ lw_all := lw_g (lw_at lw_m4 10 rfl) rfl
theorem q838 : (Jvm.Cond.code ({ cls := "java/util/ArrayDeque", name := "size", desc := "()I" } : Jvm.MethodName) prog_39_method_37_code (1 : Nat) (Option.some Jvm.ClassFile.FieldType.int)) ∈ lw_all := lw_g (lw_at lw_m4 11 rfl) rfl
theorem q839 : (Jvm.Cond.methodLink "java/util/ArrayDeque" (127 : Nat) ({ cls := "java/util/ArrayDeque", name := "sub", desc := "(III)I" } : Jvm.MethodName)) ∈ lw_all := lw_g (lw_at lw_m4 12 rfl) rfl
theorem q840 : (Jvm.Cond.static ({ cls := "java/util/ArrayDeque", name := "sub", desc := "(III)I" } : Jvm.MethodName)) ∈ lw_all := lw_g (lw_at lw_m4 13 rfl) rfl
theorem q841 : (Jvm.Cond.code ({ cls := "java/util/ArrayDeque", name := "sub", desc := "(III)I" } : Jvm.MethodName) prog_39_method_9_code (3 : Nat) (Option.some Jvm.ClassFile.FieldType.int)) ∈ lw_all := lw_g (lw_at lw_m4 14 rfl) rfl
theorem q843 : (Jvm.Cond.instanceMethod ({ cls := "java/util/ArrayDeque", name := "pollFirst", desc := "()Ljava/lang/Object;" } : Jvm.MethodName)) ∈ lw_all := lw_g (lw_at lw_m4 16 rfl) rfl
theorem q844 : (Jvm.Cond.selects "java/util/ArrayDeque" ({ cls := "java/util/ArrayDeque", name := "pollFirst", desc := "()Ljava/lang/Object;" } : Jvm.MethodName) ({ cls := "java/util/ArrayDeque", name := "pollFirst", desc := "()Ljava/lang/Object;" } : Jvm.MethodName)) ∈ lw_all := lw_g (lw_at lw_m4 17 rfl) rfl
theorem q845 : (Jvm.Cond.code ({ cls := "java/util/ArrayDeque", name := "pollFirst", desc := "()Ljava/lang/Object;" } : Jvm.MethodName) prog_39_method_20_code (4 : Nat) (Option.some (Jvm.ClassFile.FieldType.object "java/lang/Object"))) ∈ lw_all := lw_g (lw_at lw_m4 18 rfl) rfl
theorem q846 : (Jvm.Cond.methodLink "java/util/ArrayDeque" (103 : Nat) ({ cls := "java/util/ArrayDeque", name := "elementAt", desc := "([Ljava/lang/Object;I)Ljava/lang/Object;" } : Jvm.MethodName)) ∈ lw_all := lw_g (lw_at lw_m4 19 rfl) rfl
theorem q847 : (Jvm.Cond.static ({ cls := "java/util/ArrayDeque", name := "elementAt", desc := "([Ljava/lang/Object;I)Ljava/lang/Object;" } : Jvm.MethodName)) ∈ lw_all := lw_g (lw_at lw_m4 20 rfl) rfl
theorem q848 : (Jvm.Cond.code ({ cls := "java/util/ArrayDeque", name := "elementAt", desc := "([Ljava/lang/Object;I)Ljava/lang/Object;" } : Jvm.MethodName) prog_39_method_10_code (2 : Nat) (Option.some (Jvm.ClassFile.FieldType.object "java/lang/Object"))) ∈ lw_all := lw_g (lw_at lw_m4 21 rfl) rfl
theorem q849 : (Jvm.Cond.methodLink "java/util/ArrayDeque" (74 : Nat) ({ cls := "java/util/ArrayDeque", name := "inc", desc := "(II)I" } : Jvm.MethodName)) ∈ lw_all := lw_g (lw_at lw_m4 22 rfl) rfl
theorem q850 : (Jvm.Cond.static ({ cls := "java/util/ArrayDeque", name := "inc", desc := "(II)I" } : Jvm.MethodName)) ∈ lw_all := lw_g (lw_at lw_m4 23 rfl) rfl
theorem q851 : (Jvm.Cond.code ({ cls := "java/util/ArrayDeque", name := "inc", desc := "(II)I" } : Jvm.MethodName) prog_39_method_6_code (2 : Nat) (Option.some Jvm.ClassFile.FieldType.int)) ∈ lw_all := lw_g (lw_at lw_m4 24 rfl) rfl
theorem q853 : (Jvm.Cond.instanceMethod ({ cls := "java/util/ArrayDeque", name := "addLast", desc := "(Ljava/lang/Object;)V" } : Jvm.MethodName)) ∈ lw_all := lw_g (lw_at lw_m4 26 rfl) rfl
theorem q854 : (Jvm.Cond.selects "java/util/ArrayDeque" ({ cls := "java/util/ArrayDeque", name := "addLast", desc := "(Ljava/lang/Object;)V" } : Jvm.MethodName) ({ cls := "java/util/ArrayDeque", name := "addLast", desc := "(Ljava/lang/Object;)V" } : Jvm.MethodName)) ∈ lw_all := lw_g (lw_at lw_m4 27 rfl) rfl
theorem q855 : (Jvm.Cond.code ({ cls := "java/util/ArrayDeque", name := "addLast", desc := "(Ljava/lang/Object;)V" } : Jvm.MethodName) prog_39_method_13_code (3 : Nat) (Option.none : Option Jvm.ClassFile.FieldType)) ∈ lw_all := lw_g (lw_at lw_m4 28 rfl) rfl
theorem q856 : (Jvm.Cond.methodLink "java/util/ArrayDeque" (71 : Nat) ({ cls := "java/util/ArrayDeque", name := "grow", desc := "(I)V" } : Jvm.MethodName)) ∈ lw_all := lw_g (lw_at lw_m4 29 rfl) rfl
theorem q857 : (Jvm.Cond.privateMethod ({ cls := "java/util/ArrayDeque", name := "grow", desc := "(I)V" } : Jvm.MethodName)) ∈ lw_tbl := lw_at lw_m4 30 rfl
theorem q858 : (Jvm.Cond.instanceMethod ({ cls := "java/util/ArrayDeque", name := "grow", desc := "(I)V" } : Jvm.MethodName)) ∈ lw_all := lw_g (lw_at lw_m4 31 rfl) rfl
theorem q859 : (Jvm.Cond.code ({ cls := "java/util/ArrayDeque", name := "grow", desc := "(I)V" } : Jvm.MethodName) prog_39_method_1_code (9 : Nat) (Option.none : Option Jvm.ClassFile.FieldType)) ∈ lw_all := lw_g (lw_at lw_m4 32 rfl) rfl
theorem q860 : (Jvm.Cond.constant "java/util/ArrayDeque" (9 : Nat) (2147483639 : Int32)) ∈ lw_all := lw_g (lw_at lw_m4 33 rfl) rfl
theorem q861 : (Jvm.Cond.methodLink "java/util/ArrayDeque" (10 : Nat) ({ cls := "java/util/ArrayDeque", name := "newCapacity", desc := "(II)I" } : Jvm.MethodName)) ∈ lw_all := lw_g (lw_at lw_m4 34 rfl) rfl
theorem q862 : (Jvm.Cond.privateMethod ({ cls := "java/util/ArrayDeque", name := "newCapacity", desc := "(II)I" } : Jvm.MethodName)) ∈ lw_tbl := lw_at lw_m4 35 rfl
theorem q863 : (Jvm.Cond.instanceMethod ({ cls := "java/util/ArrayDeque", name := "newCapacity", desc := "(II)I" } : Jvm.MethodName)) ∈ lw_all := lw_g (lw_at lw_m4 36 rfl) rfl
theorem q864 : (Jvm.Cond.code ({ cls := "java/util/ArrayDeque", name := "newCapacity", desc := "(II)I" } : Jvm.MethodName) prog_39_method_2_code (5 : Nat) (Option.some Jvm.ClassFile.FieldType.int)) ∈ lw_all := lw_g (lw_at lw_m4 37 rfl) rfl
theorem q865 : (Jvm.Cond.constant "java/util/ArrayDeque" (41 : Nat) (2147483647 : Int32)) ∈ lw_all := lw_g (lw_at lw_m4 38 rfl) rfl
theorem q866 : (Jvm.Cond.methodLink "java/util/ArrayDeque" (14 : Nat) ({ cls := "java/util/Arrays", name := "copyOf", desc := "([Ljava/lang/Object;I)[Ljava/lang/Object;" } : Jvm.MethodName)) ∈ lw_all := lw_g (lw_at lw_m4 39 rfl) rfl
theorem q887 : (Jvm.Cond.selects "java/util/ArrayDeque" ({ cls := "java/lang/Object", name := "getClass", desc := "()Ljava/lang/Class;" } : Jvm.MethodName) ({ cls := "java/lang/Object", name := "getClass", desc := "()Ljava/lang/Class;" } : Jvm.MethodName)) ∈ lw_all := lw_g (lw_at lw_m4 60 rfl) rfl
theorem q903 : (Jvm.Cond.methodLink "java/util/ArrayDeque" (27 : Nat) ({ cls := "java/lang/System", name := "arraycopy", desc := "(Ljava/lang/Object;ILjava/lang/Object;II)V" } : Jvm.MethodName)) ∈ lw_all := lw_g (lw_at lw_m4 76 rfl) rfl
theorem q1387 : (Jvm.Cond.instanceMethod ({ cls := "java/util/ArrayDeque", name := "isEmpty", desc := "()Z" } : Jvm.MethodName)) ∈ lw_all := lw_g (lw_at lw_m6 80 rfl) rfl
theorem q1388 : (Jvm.Cond.selects "java/util/ArrayDeque" ({ cls := "java/util/ArrayDeque", name := "isEmpty", desc := "()Z" } : Jvm.MethodName) ({ cls := "java/util/ArrayDeque", name := "isEmpty", desc := "()Z" } : Jvm.MethodName)) ∈ lw_all := lw_g (lw_at lw_m6 81 rfl) rfl
theorem q1389 : (Jvm.Cond.code ({ cls := "java/util/ArrayDeque", name := "isEmpty", desc := "()Z" } : Jvm.MethodName) prog_39_method_38_code (1 : Nat) (Option.some Jvm.ClassFile.FieldType.boolean)) ∈ lw_all := lw_g (lw_at lw_m6 82 rfl) rfl
theorem q1391 : (Jvm.Cond.instanceMethod ({ cls := "java/util/ArrayDeque", name := "pollLast", desc := "()Ljava/lang/Object;" } : Jvm.MethodName)) ∈ lw_all := lw_g (lw_at lw_m6 84 rfl) rfl
theorem q1392 : (Jvm.Cond.selects "java/util/ArrayDeque" ({ cls := "java/util/ArrayDeque", name := "pollLast", desc := "()Ljava/lang/Object;" } : Jvm.MethodName) ({ cls := "java/util/ArrayDeque", name := "pollLast", desc := "()Ljava/lang/Object;" } : Jvm.MethodName)) ∈ lw_all := lw_g (lw_at lw_m6 85 rfl) rfl
theorem q1393 : (Jvm.Cond.code ({ cls := "java/util/ArrayDeque", name := "pollLast", desc := "()Ljava/lang/Object;" } : Jvm.MethodName) prog_39_method_21_code (4 : Nat) (Option.some (Jvm.ClassFile.FieldType.object "java/lang/Object"))) ∈ lw_all := lw_g (lw_at lw_m6 86 rfl) rfl
theorem q1394 : (Jvm.Cond.methodLink "java/util/ArrayDeque" (68 : Nat) ({ cls := "java/util/ArrayDeque", name := "dec", desc := "(II)I" } : Jvm.MethodName)) ∈ lw_all := lw_g (lw_at lw_m6 87 rfl) rfl
theorem q1395 : (Jvm.Cond.static ({ cls := "java/util/ArrayDeque", name := "dec", desc := "(II)I" } : Jvm.MethodName)) ∈ lw_all := lw_g (lw_at lw_m6 88 rfl) rfl
theorem q1396 : (Jvm.Cond.code ({ cls := "java/util/ArrayDeque", name := "dec", desc := "(II)I" } : Jvm.MethodName) prog_39_method_7_code (2 : Nat) (Option.some Jvm.ClassFile.FieldType.int)) ∈ lw_all := lw_g (lw_at lw_m6 89 rfl) rfl
theorem q2399 : (Jvm.Cond.castable "java/util/ArrayDeque" "java/lang/Object") ∈ lw_tbl := lw_at lw_m10 132 rfl
theorem in_J6 : ∀ w ∈ wsJ60, w ∈ lw_all := lw_in wsJ60 [515, 517, 519] (by decide +kernel) (by decide +kernel)
/-! java/lang/String -/
set_option maxRecDepth 100000
def RJ7 : String := "java/lang/String"
abbrev cJ7_length : ByteArray := prog_28_method_54_code
def yJ7_length : MethodName := ⟨RJ7, "length", "()I"⟩
def dkwJ7_length_0 : List UInt8 := [42, 180, 0, 9, 190, 42, 182, 1, 79, 122, 172]
abbrev dktJ7_length_0 : List UInt8 := dkwJ7_length_0 ++ []
theorem dksJ7_length_0 : cJ7_length.data.toList.drop 0 = dktJ7_length_0 := by decide +kernel
theorem dJ7_length_0 : decode cJ7_length 0 = .ok (.aload_n 0, 1) := dk_42 (dk_at dksJ7_length_0 0 rfl rfl)
theorem dJ7_length_1 : decode cJ7_length 1 = .ok (.getfield 9, 3) := dk_180 0 9 (dk_at dksJ7_length_0 1 rfl rfl)
theorem dJ7_length_4 : decode cJ7_length 4 = .ok (.arraylength, 1) := dk_190 (dk_at dksJ7_length_0 4 rfl rfl)
theorem dJ7_length_5 : decode cJ7_length 5 = .ok (.aload_n 0, 1) := dk_42 (dk_at dksJ7_length_0 5 rfl rfl)
theorem dJ7_length_6 : decode cJ7_length 6 = .ok (.invokevirtual 335, 3) := dk_182 1 79 (dk_at dksJ7_length_0 6 rfl rfl)
theorem dJ7_length_9 : decode cJ7_length 9 = .ok (.ishr, 1) := dk_122 (dk_at dksJ7_length_0 9 rfl rfl)
theorem dJ7_length_10 : decode cJ7_length 10 = .ok (.ireturn, 1) := dk_172 (dk_at dksJ7_length_0 10 rfl rfl)
abbrev cJ7_coder : ByteArray := prog_28_method_152_code
def yJ7_coder : MethodName := ⟨RJ7, "coder", "()B"⟩
def dkwJ7_coder_0 : List UInt8 := [178, 0, 38, 153, 0, 10, 42, 180, 0, 15, 167, 0, 4, 4, 172]
abbrev dktJ7_coder_0 : List UInt8 := dkwJ7_coder_0 ++ []
theorem dksJ7_coder_0 : cJ7_coder.data.toList.drop 0 = dktJ7_coder_0 := by decide +kernel
theorem dJ7_coder_0 : decode cJ7_coder 0 = .ok (.getstatic 38, 3) := dk_178 0 38 (dk_at dksJ7_coder_0 0 rfl rfl)
theorem dJ7_coder_3 : decode cJ7_coder 3 = .ok (.ifCond .eq 10, 3) := dk_153 0 10 (dk_at dksJ7_coder_0 3 rfl rfl)
theorem dJ7_coder_6 : decode cJ7_coder 6 = .ok (.aload_n 0, 1) := dk_42 (dk_at dksJ7_coder_0 6 rfl rfl)
theorem dJ7_coder_7 : decode cJ7_coder 7 = .ok (.getfield 15, 3) := dk_180 0 15 (dk_at dksJ7_coder_0 7 rfl rfl)
theorem dJ7_coder_10 : decode cJ7_coder 10 = .ok (.goto 4, 3) := dk_167 0 4 (dk_at dksJ7_coder_0 10 rfl rfl)
theorem dJ7_coder_13 : decode cJ7_coder 13 = .ok (.iconst 1, 1) := dk_4 (dk_at dksJ7_coder_0 13 rfl rfl)
theorem dJ7_coder_14 : decode cJ7_coder 14 = .ok (.ireturn, 1) := dk_172 (dk_at dksJ7_coder_0 14 rfl rfl)
abbrev cJ7_charAt : ByteArray := prog_28_method_56_code
def yJ7_charAt : MethodName := ⟨RJ7, "charAt", "(I)C"⟩
def dkwJ7_charAt_1 : List UInt8 := [172]
abbrev dktJ7_charAt_1 : List UInt8 := dkwJ7_charAt_1 ++ []
def dkwJ7_charAt_0 : List UInt8 := [42, 182, 1, 236, 153, 0, 12, 42, 180, 0, 9, 27, 184, 1, 239, 172, 42, 180, 0, 9, 27, 184, 1, 242]
abbrev dktJ7_charAt_0 : List UInt8 := dkwJ7_charAt_0 ++ dktJ7_charAt_1
theorem dksJ7_charAt_0 : cJ7_charAt.data.toList.drop 0 = dktJ7_charAt_0 := by decide +kernel
theorem dksJ7_charAt_1 : cJ7_charAt.data.toList.drop 24 = dktJ7_charAt_1 := dk_seg dksJ7_charAt_0 24 rfl rfl
theorem dJ7_charAt_0 : decode cJ7_charAt 0 = .ok (.aload_n 0, 1) := dk_42 (dk_at dksJ7_charAt_0 0 rfl rfl)
theorem dJ7_charAt_1 : decode cJ7_charAt 1 = .ok (.invokevirtual 492, 3) := dk_182 1 236 (dk_at dksJ7_charAt_0 1 rfl rfl)
theorem dJ7_charAt_4 : decode cJ7_charAt 4 = .ok (.ifCond .eq 12, 3) := dk_153 0 12 (dk_at dksJ7_charAt_0 4 rfl rfl)
theorem dJ7_charAt_7 : decode cJ7_charAt 7 = .ok (.aload_n 0, 1) := dk_42 (dk_at dksJ7_charAt_0 7 rfl rfl)
theorem dJ7_charAt_8 : decode cJ7_charAt 8 = .ok (.getfield 9, 3) := dk_180 0 9 (dk_at dksJ7_charAt_0 8 rfl rfl)
theorem dJ7_charAt_11 : decode cJ7_charAt 11 = .ok (.iload_n 1, 1) := dk_27 (dk_at dksJ7_charAt_0 11 rfl rfl)
theorem dJ7_charAt_12 : decode cJ7_charAt 12 = .ok (.invokestatic 495, 3) := dk_184 1 239 (dk_at dksJ7_charAt_0 12 rfl rfl)
theorem dJ7_charAt_15 : decode cJ7_charAt 15 = .ok (.ireturn, 1) := dk_172 (dk_at dksJ7_charAt_0 15 rfl rfl)
theorem dJ7_charAt_16 : decode cJ7_charAt 16 = .ok (.aload_n 0, 1) := dk_42 (dk_at dksJ7_charAt_0 16 rfl rfl)
theorem dJ7_charAt_17 : decode cJ7_charAt 17 = .ok (.getfield 9, 3) := dk_180 0 9 (dk_at dksJ7_charAt_0 17 rfl rfl)
theorem dJ7_charAt_20 : decode cJ7_charAt 20 = .ok (.iload_n 1, 1) := dk_27 (dk_at dksJ7_charAt_0 20 rfl rfl)
theorem dJ7_charAt_21 : decode cJ7_charAt 21 = .ok (.invokestatic 498, 3) := dk_184 1 242 (dk_at dksJ7_charAt_0 21 rfl rfl)
theorem dJ7_charAt_24 : decode cJ7_charAt 24 = .ok (.ireturn, 1) := dk_172 (dk_at dksJ7_charAt_1 0 rfl rfl)
abbrev cJ7_isLatin1 : ByteArray := prog_28_method_154_code
def yJ7_isLatin1 : MethodName := ⟨RJ7, "isLatin1", "()Z"⟩
def dkwJ7_isLatin1_0 : List UInt8 := [178, 0, 38, 153, 0, 14, 42, 180, 0, 15, 154, 0, 7, 4, 167, 0, 4, 3, 172]
abbrev dktJ7_isLatin1_0 : List UInt8 := dkwJ7_isLatin1_0 ++ []
theorem dksJ7_isLatin1_0 : cJ7_isLatin1.data.toList.drop 0 = dktJ7_isLatin1_0 := by decide +kernel
theorem dJ7_isLatin1_0 : decode cJ7_isLatin1 0 = .ok (.getstatic 38, 3) := dk_178 0 38 (dk_at dksJ7_isLatin1_0 0 rfl rfl)
theorem dJ7_isLatin1_3 : decode cJ7_isLatin1 3 = .ok (.ifCond .eq 14, 3) := dk_153 0 14 (dk_at dksJ7_isLatin1_0 3 rfl rfl)
theorem dJ7_isLatin1_6 : decode cJ7_isLatin1 6 = .ok (.aload_n 0, 1) := dk_42 (dk_at dksJ7_isLatin1_0 6 rfl rfl)
theorem dJ7_isLatin1_7 : decode cJ7_isLatin1 7 = .ok (.getfield 15, 3) := dk_180 0 15 (dk_at dksJ7_isLatin1_0 7 rfl rfl)
theorem dJ7_isLatin1_10 : decode cJ7_isLatin1 10 = .ok (.ifCond .ne 7, 3) := dk_154 0 7 (dk_at dksJ7_isLatin1_0 10 rfl rfl)
theorem dJ7_isLatin1_13 : decode cJ7_isLatin1 13 = .ok (.iconst 1, 1) := dk_4 (dk_at dksJ7_isLatin1_0 13 rfl rfl)
theorem dJ7_isLatin1_14 : decode cJ7_isLatin1 14 = .ok (.goto 4, 3) := dk_167 0 4 (dk_at dksJ7_isLatin1_0 14 rfl rfl)
theorem dJ7_isLatin1_17 : decode cJ7_isLatin1 17 = .ok (.iconst 0, 1) := dk_3 (dk_at dksJ7_isLatin1_0 17 rfl rfl)
theorem dJ7_isLatin1_18 : decode cJ7_isLatin1 18 = .ok (.ireturn, 1) := dk_172 (dk_at dksJ7_isLatin1_0 18 rfl rfl)
abbrev cJ7_checkIndex : ByteArray := prog_28_method_155_code
def yJ7_checkIndex : MethodName := ⟨RJ7, "checkIndex", "(II)V"⟩
def dkwJ7_checkIndex_0 : List UInt8 := [26, 27, 178, 4, 29, 184, 4, 35, 87, 177]
abbrev dktJ7_checkIndex_0 : List UInt8 := dkwJ7_checkIndex_0 ++ []
theorem dksJ7_checkIndex_0 : cJ7_checkIndex.data.toList.drop 0 = dktJ7_checkIndex_0 := by decide +kernel
theorem dJ7_checkIndex_0 : decode cJ7_checkIndex 0 = .ok (.iload_n 0, 1) := dk_26 (dk_at dksJ7_checkIndex_0 0 rfl rfl)
theorem dJ7_checkIndex_1 : decode cJ7_checkIndex 1 = .ok (.iload_n 1, 1) := dk_27 (dk_at dksJ7_checkIndex_0 1 rfl rfl)
theorem dJ7_checkIndex_2 : decode cJ7_checkIndex 2 = .ok (.getstatic 1053, 3) := dk_178 4 29 (dk_at dksJ7_checkIndex_0 2 rfl rfl)
theorem dJ7_checkIndex_5 : decode cJ7_checkIndex 5 = .ok (.invokestatic 1059, 3) := dk_184 4 35 (dk_at dksJ7_checkIndex_0 5 rfl rfl)
theorem dJ7_checkIndex_8 : decode cJ7_checkIndex 8 = .ok (.pop, 1) := dk_87 (dk_at dksJ7_checkIndex_0 8 rfl rfl)
theorem dJ7_checkIndex_9 : decode cJ7_checkIndex 9 = .ok (.return_, 1) := dk_177 (dk_at dksJ7_checkIndex_0 9 rfl rfl)
abbrev cJ7_compareTo : ByteArray := prog_28_method_162_code
def yJ7_compareTo : MethodName := ⟨RJ7, "compareTo", "(Ljava/lang/Object;)I"⟩
def dkwJ7_compareTo_0 : List UInt8 := [42, 43, 192, 0, 10, 182, 4, 60, 172]
abbrev dktJ7_compareTo_0 : List UInt8 := dkwJ7_compareTo_0 ++ []
theorem dksJ7_compareTo_0 : cJ7_compareTo.data.toList.drop 0 = dktJ7_compareTo_0 := by decide +kernel
theorem dJ7_compareTo_0 : decode cJ7_compareTo 0 = .ok (.aload_n 0, 1) := dk_42 (dk_at dksJ7_compareTo_0 0 rfl rfl)
theorem dJ7_compareTo_1 : decode cJ7_compareTo 1 = .ok (.aload_n 1, 1) := dk_43 (dk_at dksJ7_compareTo_0 1 rfl rfl)
theorem dJ7_compareTo_2 : decode cJ7_compareTo 2 = .ok (.checkcast 10, 3) := dk_192 0 10 (dk_at dksJ7_compareTo_0 2 rfl rfl)
theorem dJ7_compareTo_5 : decode cJ7_compareTo 5 = .ok (.invokevirtual 1084, 3) := dk_182 4 60 (dk_at dksJ7_compareTo_0 5 rfl rfl)
theorem dJ7_compareTo_8 : decode cJ7_compareTo 8 = .ok (.ireturn, 1) := dk_172 (dk_at dksJ7_compareTo_0 8 rfl rfl)
abbrev cJ7_compareTo_2 : ByteArray := prog_28_method_71_code
def yJ7_compareTo_2 : MethodName := ⟨RJ7, "compareTo", "(Ljava/lang/String;)I"⟩
def dkwJ7_compareTo_2_2 : List UInt8 := [154, 0, 11, 44, 45, 184, 2, 79, 167, 0, 8, 44, 45, 184, 2, 82, 172]
abbrev dktJ7_compareTo_2_2 : List UInt8 := dkwJ7_compareTo_2_2 ++ []
def dkwJ7_compareTo_2_1 : List UInt8 := [160, 0, 22, 21, 4, 154, 0, 11, 44, 45, 184, 2, 74, 167, 0, 8, 44, 45, 184, 2, 78, 172, 21, 4]
abbrev dktJ7_compareTo_2_1 : List UInt8 := dkwJ7_compareTo_2_1 ++ dktJ7_compareTo_2_2
def dkwJ7_compareTo_2_0 : List UInt8 := [42, 180, 0, 9, 77, 43, 180, 0, 9, 78, 42, 182, 1, 79, 54, 4, 21, 4, 43, 182, 1, 79]
abbrev dktJ7_compareTo_2_0 : List UInt8 := dkwJ7_compareTo_2_0 ++ dktJ7_compareTo_2_1
theorem dksJ7_compareTo_2_0 : cJ7_compareTo_2.data.toList.drop 0 = dktJ7_compareTo_2_0 := by decide +kernel
theorem dksJ7_compareTo_2_1 : cJ7_compareTo_2.data.toList.drop 22 = dktJ7_compareTo_2_1 := dk_seg dksJ7_compareTo_2_0 22 rfl rfl
theorem dksJ7_compareTo_2_2 : cJ7_compareTo_2.data.toList.drop 46 = dktJ7_compareTo_2_2 := dk_seg dksJ7_compareTo_2_1 24 rfl rfl
theorem dJ7_compareTo_2_0 : decode cJ7_compareTo_2 0 = .ok (.aload_n 0, 1) := dk_42 (dk_at dksJ7_compareTo_2_0 0 rfl rfl)
theorem dJ7_compareTo_2_1 : decode cJ7_compareTo_2 1 = .ok (.getfield 9, 3) := dk_180 0 9 (dk_at dksJ7_compareTo_2_0 1 rfl rfl)
theorem dJ7_compareTo_2_4 : decode cJ7_compareTo_2 4 = .ok (.astore_n 2, 1) := dk_77 (dk_at dksJ7_compareTo_2_0 4 rfl rfl)
theorem dJ7_compareTo_2_5 : decode cJ7_compareTo_2 5 = .ok (.aload_n 1, 1) := dk_43 (dk_at dksJ7_compareTo_2_0 5 rfl rfl)
theorem dJ7_compareTo_2_6 : decode cJ7_compareTo_2 6 = .ok (.getfield 9, 3) := dk_180 0 9 (dk_at dksJ7_compareTo_2_0 6 rfl rfl)
theorem dJ7_compareTo_2_9 : decode cJ7_compareTo_2 9 = .ok (.astore_n 3, 1) := dk_78 (dk_at dksJ7_compareTo_2_0 9 rfl rfl)
theorem dJ7_compareTo_2_10 : decode cJ7_compareTo_2 10 = .ok (.aload_n 0, 1) := dk_42 (dk_at dksJ7_compareTo_2_0 10 rfl rfl)
theorem dJ7_compareTo_2_11 : decode cJ7_compareTo_2 11 = .ok (.invokevirtual 335, 3) := dk_182 1 79 (dk_at dksJ7_compareTo_2_0 11 rfl rfl)
theorem dJ7_compareTo_2_14 : decode cJ7_compareTo_2 14 = .ok (.istore 4, 2) := dk_54 4 (dk_at dksJ7_compareTo_2_0 14 rfl rfl)
theorem dJ7_compareTo_2_16 : decode cJ7_compareTo_2 16 = .ok (.iload 4, 2) := dk_21 4 (dk_at dksJ7_compareTo_2_0 16 rfl rfl)
theorem dJ7_compareTo_2_18 : decode cJ7_compareTo_2 18 = .ok (.aload_n 1, 1) := dk_43 (dk_at dksJ7_compareTo_2_0 18 rfl rfl)
theorem dJ7_compareTo_2_19 : decode cJ7_compareTo_2 19 = .ok (.invokevirtual 335, 3) := dk_182 1 79 (dk_at dksJ7_compareTo_2_0 19 rfl rfl)
theorem dJ7_compareTo_2_22 : decode cJ7_compareTo_2 22 = .ok (.if_icmp .ne 22, 3) := dk_160 0 22 (dk_at dksJ7_compareTo_2_1 0 rfl rfl)
theorem dJ7_compareTo_2_25 : decode cJ7_compareTo_2 25 = .ok (.iload 4, 2) := dk_21 4 (dk_at dksJ7_compareTo_2_1 3 rfl rfl)
theorem dJ7_compareTo_2_27 : decode cJ7_compareTo_2 27 = .ok (.ifCond .ne 11, 3) := dk_154 0 11 (dk_at dksJ7_compareTo_2_1 5 rfl rfl)
theorem dJ7_compareTo_2_30 : decode cJ7_compareTo_2 30 = .ok (.aload_n 2, 1) := dk_44 (dk_at dksJ7_compareTo_2_1 8 rfl rfl)
theorem dJ7_compareTo_2_31 : decode cJ7_compareTo_2 31 = .ok (.aload_n 3, 1) := dk_45 (dk_at dksJ7_compareTo_2_1 9 rfl rfl)
theorem dJ7_compareTo_2_32 : decode cJ7_compareTo_2 32 = .ok (.invokestatic 586, 3) := dk_184 2 74 (dk_at dksJ7_compareTo_2_1 10 rfl rfl)
theorem dJ7_compareTo_2_35 : decode cJ7_compareTo_2 35 = .ok (.goto 8, 3) := dk_167 0 8 (dk_at dksJ7_compareTo_2_1 13 rfl rfl)
theorem dJ7_compareTo_2_38 : decode cJ7_compareTo_2 38 = .ok (.aload_n 2, 1) := dk_44 (dk_at dksJ7_compareTo_2_1 16 rfl rfl)
theorem dJ7_compareTo_2_39 : decode cJ7_compareTo_2 39 = .ok (.aload_n 3, 1) := dk_45 (dk_at dksJ7_compareTo_2_1 17 rfl rfl)
theorem dJ7_compareTo_2_40 : decode cJ7_compareTo_2 40 = .ok (.invokestatic 590, 3) := dk_184 2 78 (dk_at dksJ7_compareTo_2_1 18 rfl rfl)
theorem dJ7_compareTo_2_43 : decode cJ7_compareTo_2 43 = .ok (.ireturn, 1) := dk_172 (dk_at dksJ7_compareTo_2_1 21 rfl rfl)
theorem dJ7_compareTo_2_44 : decode cJ7_compareTo_2 44 = .ok (.iload 4, 2) := dk_21 4 (dk_at dksJ7_compareTo_2_1 22 rfl rfl)
theorem dJ7_compareTo_2_46 : decode cJ7_compareTo_2 46 = .ok (.ifCond .ne 11, 3) := dk_154 0 11 (dk_at dksJ7_compareTo_2_2 0 rfl rfl)
theorem dJ7_compareTo_2_49 : decode cJ7_compareTo_2 49 = .ok (.aload_n 2, 1) := dk_44 (dk_at dksJ7_compareTo_2_2 3 rfl rfl)
theorem dJ7_compareTo_2_50 : decode cJ7_compareTo_2 50 = .ok (.aload_n 3, 1) := dk_45 (dk_at dksJ7_compareTo_2_2 4 rfl rfl)
theorem dJ7_compareTo_2_51 : decode cJ7_compareTo_2 51 = .ok (.invokestatic 591, 3) := dk_184 2 79 (dk_at dksJ7_compareTo_2_2 5 rfl rfl)
theorem dJ7_compareTo_2_54 : decode cJ7_compareTo_2 54 = .ok (.goto 8, 3) := dk_167 0 8 (dk_at dksJ7_compareTo_2_2 8 rfl rfl)
theorem dJ7_compareTo_2_57 : decode cJ7_compareTo_2 57 = .ok (.aload_n 2, 1) := dk_44 (dk_at dksJ7_compareTo_2_2 11 rfl rfl)
theorem dJ7_compareTo_2_58 : decode cJ7_compareTo_2 58 = .ok (.aload_n 3, 1) := dk_45 (dk_at dksJ7_compareTo_2_2 12 rfl rfl)
theorem dJ7_compareTo_2_59 : decode cJ7_compareTo_2 59 = .ok (.invokestatic 594, 3) := dk_184 2 82 (dk_at dksJ7_compareTo_2_2 13 rfl rfl)
theorem dJ7_compareTo_2_62 : decode cJ7_compareTo_2 62 = .ok (.ireturn, 1) := dk_172 (dk_at dksJ7_compareTo_2_2 16 rfl rfl)
theorem q125 : (Jvm.Cond.initialized "java/lang/String") ∈ lw_all := lw_g (lw_at lw_m1 18 rfl) rfl
theorem q623 : (Jvm.Cond.instanceMethod ({ cls := "java/lang/String", name := "length", desc := "()I" } : Jvm.MethodName)) ∈ lw_all := lw_g (lw_at lw_m3 36 rfl) rfl
theorem q624 : (Jvm.Cond.selects "java/lang/String" ({ cls := "java/lang/String", name := "length", desc := "()I" } : Jvm.MethodName) ({ cls := "java/lang/String", name := "length", desc := "()I" } : Jvm.MethodName)) ∈ lw_all := lw_g (lw_at lw_m3 37 rfl) rfl
theorem q625 : (Jvm.Cond.code ({ cls := "java/lang/String", name := "length", desc := "()I" } : Jvm.MethodName) prog_28_method_54_code (1 : Nat) (Option.some Jvm.ClassFile.FieldType.int)) ∈ lw_all := lw_g (lw_at lw_m3 38 rfl) rfl
theorem q626 : (Jvm.Cond.methodLink "java/lang/String" (335 : Nat) ({ cls := "java/lang/String", name := "coder", desc := "()B" } : Jvm.MethodName)) ∈ lw_all := lw_g (lw_at lw_m3 39 rfl) rfl
theorem q627 : (Jvm.Cond.instanceMethod ({ cls := "java/lang/String", name := "coder", desc := "()B" } : Jvm.MethodName)) ∈ lw_all := lw_g (lw_at lw_m3 40 rfl) rfl
theorem q628 : (Jvm.Cond.selects "java/lang/String" ({ cls := "java/lang/String", name := "coder", desc := "()B" } : Jvm.MethodName) ({ cls := "java/lang/String", name := "coder", desc := "()B" } : Jvm.MethodName)) ∈ lw_all := lw_g (lw_at lw_m3 41 rfl) rfl
theorem q629 : (Jvm.Cond.code ({ cls := "java/lang/String", name := "coder", desc := "()B" } : Jvm.MethodName) prog_28_method_152_code (1 : Nat) (Option.some Jvm.ClassFile.FieldType.byte)) ∈ lw_all := lw_g (lw_at lw_m3 42 rfl) rfl
theorem q630 : (Jvm.Cond.fieldLink "java/lang/String" (38 : Nat) "java/lang/String" "COMPACT_STRINGS" "Z") ∈ lw_all := lw_g (lw_at lw_m3 43 rfl) rfl
theorem q631 : (Jvm.Cond.laysStatic "java/lang/String" "COMPACT_STRINGS" "Z") ∈ lw_tbl := lw_at lw_m3 44 rfl
theorem q633 : (Jvm.Cond.instanceMethod ({ cls := "java/lang/String", name := "charAt", desc := "(I)C" } : Jvm.MethodName)) ∈ lw_all := lw_g (lw_at lw_m3 46 rfl) rfl
theorem q634 : (Jvm.Cond.selects "java/lang/String" ({ cls := "java/lang/String", name := "charAt", desc := "(I)C" } : Jvm.MethodName) ({ cls := "java/lang/String", name := "charAt", desc := "(I)C" } : Jvm.MethodName)) ∈ lw_all := lw_g (lw_at lw_m3 47 rfl) rfl
theorem q635 : (Jvm.Cond.code ({ cls := "java/lang/String", name := "charAt", desc := "(I)C" } : Jvm.MethodName) prog_28_method_56_code (2 : Nat) (Option.some Jvm.ClassFile.FieldType.char)) ∈ lw_all := lw_g (lw_at lw_m3 48 rfl) rfl
theorem q636 : (Jvm.Cond.methodLink "java/lang/String" (492 : Nat) ({ cls := "java/lang/String", name := "isLatin1", desc := "()Z" } : Jvm.MethodName)) ∈ lw_all := lw_g (lw_at lw_m3 49 rfl) rfl
theorem q637 : (Jvm.Cond.instanceMethod ({ cls := "java/lang/String", name := "isLatin1", desc := "()Z" } : Jvm.MethodName)) ∈ lw_all := lw_g (lw_at lw_m3 50 rfl) rfl
theorem q638 : (Jvm.Cond.selects "java/lang/String" ({ cls := "java/lang/String", name := "isLatin1", desc := "()Z" } : Jvm.MethodName) ({ cls := "java/lang/String", name := "isLatin1", desc := "()Z" } : Jvm.MethodName)) ∈ lw_all := lw_g (lw_at lw_m3 51 rfl) rfl
theorem q639 : (Jvm.Cond.code ({ cls := "java/lang/String", name := "isLatin1", desc := "()Z" } : Jvm.MethodName) prog_28_method_154_code (1 : Nat) (Option.some Jvm.ClassFile.FieldType.boolean)) ∈ lw_all := lw_g (lw_at lw_m3 52 rfl) rfl
theorem q640 : (Jvm.Cond.methodLink "java/lang/String" (495 : Nat) ({ cls := "java/lang/StringLatin1", name := "charAt", desc := "([BI)C" } : Jvm.MethodName)) ∈ lw_all := lw_g (lw_at lw_m3 53 rfl) rfl
theorem q644 : (Jvm.Cond.static ({ cls := "java/lang/String", name := "checkIndex", desc := "(II)V" } : Jvm.MethodName)) ∈ lw_all := lw_g (lw_at lw_m3 57 rfl) rfl
theorem q645 : (Jvm.Cond.code ({ cls := "java/lang/String", name := "checkIndex", desc := "(II)V" } : Jvm.MethodName) prog_28_method_155_code (2 : Nat) (Option.none : Option Jvm.ClassFile.FieldType)) ∈ lw_all := lw_g (lw_at lw_m3 58 rfl) rfl
theorem q646 : (Jvm.Cond.fieldLink "java/lang/String" (1053 : Nat) "jdk/internal/util/Preconditions" "SIOOBE_FORMATTER" "Ljava/util/function/BiFunction;") ∈ lw_all := lw_g (lw_at lw_m3 59 rfl) rfl
theorem q648 : (Jvm.Cond.methodLink "java/lang/String" (1059 : Nat) ({ cls := "jdk/internal/util/Preconditions", name := "checkIndex", desc := "(IILjava/util/function/BiFunction;)I" } : Jvm.MethodName)) ∈ lw_all := lw_g (lw_at lw_m3 61 rfl) rfl
theorem q651 : (Jvm.Cond.methodLink "java/lang/String" (498 : Nat) ({ cls := "java/lang/StringUTF16", name := "charAt", desc := "([BI)C" } : Jvm.MethodName)) ∈ lw_all := lw_g (lw_at lw_m3 64 rfl) rfl
theorem q1101 : (Jvm.Cond.castable "java/lang/String" "java/lang/Comparable") ∈ lw_tbl := lw_at lw_m5 34 rfl
theorem q1102 : (Jvm.Cond.selects "java/lang/String" ({ cls := "java/lang/Comparable", name := "compareTo", desc := "(Ljava/lang/Object;)I" } : Jvm.MethodName) ({ cls := "java/lang/String", name := "compareTo", desc := "(Ljava/lang/Object;)I" } : Jvm.MethodName)) ∈ lw_all := lw_g (lw_at lw_m5 35 rfl) rfl
theorem q1103 : (Jvm.Cond.unhidden "java/lang/String" "compareTo" "(Ljava/lang/Object;)I") ∈ lw_tbl := lw_at lw_m5 36 rfl
theorem q1104 : (Jvm.Cond.instanceMethod ({ cls := "java/lang/String", name := "compareTo", desc := "(Ljava/lang/Object;)I" } : Jvm.MethodName)) ∈ lw_all := lw_g (lw_at lw_m5 37 rfl) rfl
theorem q1105 : (Jvm.Cond.publicMethod ({ cls := "java/lang/String", name := "compareTo", desc := "(Ljava/lang/Object;)I" } : Jvm.MethodName)) ∈ lw_tbl := lw_at lw_m5 38 rfl
theorem q1106 : (Jvm.Cond.code ({ cls := "java/lang/String", name := "compareTo", desc := "(Ljava/lang/Object;)I" } : Jvm.MethodName) prog_28_method_162_code (2 : Nat) (Option.some Jvm.ClassFile.FieldType.int)) ∈ lw_all := lw_g (lw_at lw_m5 39 rfl) rfl
theorem q1107 : (Jvm.Cond.classLink "java/lang/String" (10 : Nat) "java/lang/String") ∈ lw_all := lw_g (lw_at lw_m5 40 rfl) rfl
theorem q1108 : (Jvm.Cond.methodLink "java/lang/String" (1084 : Nat) ({ cls := "java/lang/String", name := "compareTo", desc := "(Ljava/lang/String;)I" } : Jvm.MethodName)) ∈ lw_all := lw_g (lw_at lw_m5 41 rfl) rfl
theorem q1109 : (Jvm.Cond.instanceMethod ({ cls := "java/lang/String", name := "compareTo", desc := "(Ljava/lang/String;)I" } : Jvm.MethodName)) ∈ lw_all := lw_g (lw_at lw_m5 42 rfl) rfl
theorem q1110 : (Jvm.Cond.selects "java/lang/String" ({ cls := "java/lang/String", name := "compareTo", desc := "(Ljava/lang/String;)I" } : Jvm.MethodName) ({ cls := "java/lang/String", name := "compareTo", desc := "(Ljava/lang/String;)I" } : Jvm.MethodName)) ∈ lw_all := lw_g (lw_at lw_m5 43 rfl) rfl
theorem q1111 : (Jvm.Cond.code ({ cls := "java/lang/String", name := "compareTo", desc := "(Ljava/lang/String;)I" } : Jvm.MethodName) prog_28_method_71_code (5 : Nat) (Option.some Jvm.ClassFile.FieldType.int)) ∈ lw_all := lw_g (lw_at lw_m5 44 rfl) rfl
theorem q1112 : (Jvm.Cond.methodLink "java/lang/String" (586 : Nat) ({ cls := "java/lang/StringLatin1", name := "compareTo", desc := "([B[B)I" } : Jvm.MethodName)) ∈ lw_all := lw_g (lw_at lw_m5 45 rfl) rfl
theorem q1223 : (Jvm.Cond.methodLink "java/lang/String" (590 : Nat) ({ cls := "java/lang/StringUTF16", name := "compareTo", desc := "([B[B)I" } : Jvm.MethodName)) ∈ lw_all := lw_g (lw_at lw_m5 156 rfl) rfl
theorem q1230 : (Jvm.Cond.methodLink "java/lang/String" (591 : Nat) ({ cls := "java/lang/StringLatin1", name := "compareToUTF16", desc := "([B[B)I" } : Jvm.MethodName)) ∈ lw_all := lw_g (lw_at lw_m5 163 rfl) rfl
theorem q1241 : (Jvm.Cond.methodLink "java/lang/String" (594 : Nat) ({ cls := "java/lang/StringUTF16", name := "compareToLatin1", desc := "([B[B)I" } : Jvm.MethodName)) ∈ lw_all := lw_g (lw_at lw_m5 174 rfl) rfl
theorem q2387 : (Jvm.Cond.castable "java/lang/String" "java/lang/Object") ∈ lw_tbl := lw_at lw_m10 120 rfl
theorem q2423 : (Jvm.Cond.fieldLink "java/lang/String" (9 : Nat) "java/lang/String" "value" "[B") ∈ lw_all := lw_g (lw_at lw_m10 156 rfl) rfl
theorem q2424 : (Jvm.Cond.fieldLink "java/lang/String" (15 : Nat) "java/lang/String" "coder" "B") ∈ lw_all := lw_g (lw_at lw_m10 157 rfl) rfl
/-! java/lang/StringLatin1 -/
set_option maxRecDepth 100000
def RJ8 : String := "java/lang/StringLatin1"
abbrev cJ8_charAt : ByteArray := prog_29_method_2_code
def yJ8_charAt : MethodName := ⟨RJ8, "charAt", "([BI)C"⟩
def dkwJ8_charAt_0 : List UInt8 := [27, 42, 190, 184, 0, 9, 42, 27, 51, 17, 0, 255, 126, 146, 172]
abbrev dktJ8_charAt_0 : List UInt8 := dkwJ8_charAt_0 ++ []
theorem dksJ8_charAt_0 : cJ8_charAt.data.toList.drop 0 = dktJ8_charAt_0 := by decide +kernel
theorem dJ8_charAt_0 : decode cJ8_charAt 0 = .ok (.iload_n 1, 1) := dk_27 (dk_at dksJ8_charAt_0 0 rfl rfl)
theorem dJ8_charAt_1 : decode cJ8_charAt 1 = .ok (.aload_n 0, 1) := dk_42 (dk_at dksJ8_charAt_0 1 rfl rfl)
theorem dJ8_charAt_2 : decode cJ8_charAt 2 = .ok (.arraylength, 1) := dk_190 (dk_at dksJ8_charAt_0 2 rfl rfl)
theorem dJ8_charAt_3 : decode cJ8_charAt 3 = .ok (.invokestatic 9, 3) := dk_184 0 9 (dk_at dksJ8_charAt_0 3 rfl rfl)
theorem dJ8_charAt_6 : decode cJ8_charAt 6 = .ok (.aload_n 0, 1) := dk_42 (dk_at dksJ8_charAt_0 6 rfl rfl)
theorem dJ8_charAt_7 : decode cJ8_charAt 7 = .ok (.iload_n 1, 1) := dk_27 (dk_at dksJ8_charAt_0 7 rfl rfl)
theorem dJ8_charAt_8 : decode cJ8_charAt 8 = .ok (.baload, 1) := dk_51 (dk_at dksJ8_charAt_0 8 rfl rfl)
theorem dJ8_charAt_9 : decode cJ8_charAt 9 = .ok (.sipush 255, 3) := dk_17 0 255 (dk_at dksJ8_charAt_0 9 rfl rfl)
theorem dJ8_charAt_12 : decode cJ8_charAt 12 = .ok (.iand, 1) := dk_126 (dk_at dksJ8_charAt_0 12 rfl rfl)
theorem dJ8_charAt_13 : decode cJ8_charAt 13 = .ok (.i2c, 1) := dk_146 (dk_at dksJ8_charAt_0 13 rfl rfl)
theorem dJ8_charAt_14 : decode cJ8_charAt 14 = .ok (.ireturn, 1) := dk_172 (dk_at dksJ8_charAt_0 14 rfl rfl)
abbrev cJ8_compareTo : ByteArray := prog_29_method_14_code
def yJ8_compareTo : MethodName := ⟨RJ8, "compareTo", "([B[B)I"⟩
def dkwJ8_compareTo_0 : List UInt8 := [42, 190, 61, 43, 190, 62, 42, 43, 28, 29, 184, 0, 34, 172]
abbrev dktJ8_compareTo_0 : List UInt8 := dkwJ8_compareTo_0 ++ []
theorem dksJ8_compareTo_0 : cJ8_compareTo.data.toList.drop 0 = dktJ8_compareTo_0 := by decide +kernel
theorem dJ8_compareTo_0 : decode cJ8_compareTo 0 = .ok (.aload_n 0, 1) := dk_42 (dk_at dksJ8_compareTo_0 0 rfl rfl)
theorem dJ8_compareTo_1 : decode cJ8_compareTo 1 = .ok (.arraylength, 1) := dk_190 (dk_at dksJ8_compareTo_0 1 rfl rfl)
theorem dJ8_compareTo_2 : decode cJ8_compareTo 2 = .ok (.istore_n 2, 1) := dk_61 (dk_at dksJ8_compareTo_0 2 rfl rfl)
theorem dJ8_compareTo_3 : decode cJ8_compareTo 3 = .ok (.aload_n 1, 1) := dk_43 (dk_at dksJ8_compareTo_0 3 rfl rfl)
theorem dJ8_compareTo_4 : decode cJ8_compareTo 4 = .ok (.arraylength, 1) := dk_190 (dk_at dksJ8_compareTo_0 4 rfl rfl)
theorem dJ8_compareTo_5 : decode cJ8_compareTo 5 = .ok (.istore_n 3, 1) := dk_62 (dk_at dksJ8_compareTo_0 5 rfl rfl)
theorem dJ8_compareTo_6 : decode cJ8_compareTo 6 = .ok (.aload_n 0, 1) := dk_42 (dk_at dksJ8_compareTo_0 6 rfl rfl)
theorem dJ8_compareTo_7 : decode cJ8_compareTo 7 = .ok (.aload_n 1, 1) := dk_43 (dk_at dksJ8_compareTo_0 7 rfl rfl)
theorem dJ8_compareTo_8 : decode cJ8_compareTo 8 = .ok (.iload_n 2, 1) := dk_28 (dk_at dksJ8_compareTo_0 8 rfl rfl)
theorem dJ8_compareTo_9 : decode cJ8_compareTo 9 = .ok (.iload_n 3, 1) := dk_29 (dk_at dksJ8_compareTo_0 9 rfl rfl)
theorem dJ8_compareTo_10 : decode cJ8_compareTo 10 = .ok (.invokestatic 34, 3) := dk_184 0 34 (dk_at dksJ8_compareTo_0 10 rfl rfl)
theorem dJ8_compareTo_13 : decode cJ8_compareTo 13 = .ok (.ireturn, 1) := dk_172 (dk_at dksJ8_compareTo_0 13 rfl rfl)
abbrev cJ8_compareTo_2 : ByteArray := prog_29_method_15_code
def yJ8_compareTo_2 : MethodName := ⟨RJ8, "compareTo", "([B[BII)I"⟩
def dkwJ8_compareTo_2_1 : List UInt8 := [167, 0, 16, 42, 21, 5, 184, 0, 50, 43, 21, 5, 184, 0, 50, 100, 172]
abbrev dktJ8_compareTo_2_1 : List UInt8 := dkwJ8_compareTo_2_1 ++ []
def dkwJ8_compareTo_2_0 : List UInt8 := [28, 29, 184, 0, 38, 54, 4, 42, 43, 21, 4, 184, 0, 44, 54, 5, 21, 5, 156, 0, 9, 28, 29, 100]
abbrev dktJ8_compareTo_2_0 : List UInt8 := dkwJ8_compareTo_2_0 ++ dktJ8_compareTo_2_1
theorem dksJ8_compareTo_2_0 : cJ8_compareTo_2.data.toList.drop 0 = dktJ8_compareTo_2_0 := by decide +kernel
theorem dksJ8_compareTo_2_1 : cJ8_compareTo_2.data.toList.drop 24 = dktJ8_compareTo_2_1 := dk_seg dksJ8_compareTo_2_0 24 rfl rfl
theorem dJ8_compareTo_2_0 : decode cJ8_compareTo_2 0 = .ok (.iload_n 2, 1) := dk_28 (dk_at dksJ8_compareTo_2_0 0 rfl rfl)
theorem dJ8_compareTo_2_1 : decode cJ8_compareTo_2 1 = .ok (.iload_n 3, 1) := dk_29 (dk_at dksJ8_compareTo_2_0 1 rfl rfl)
theorem dJ8_compareTo_2_2 : decode cJ8_compareTo_2 2 = .ok (.invokestatic 38, 3) := dk_184 0 38 (dk_at dksJ8_compareTo_2_0 2 rfl rfl)
theorem dJ8_compareTo_2_5 : decode cJ8_compareTo_2 5 = .ok (.istore 4, 2) := dk_54 4 (dk_at dksJ8_compareTo_2_0 5 rfl rfl)
theorem dJ8_compareTo_2_7 : decode cJ8_compareTo_2 7 = .ok (.aload_n 0, 1) := dk_42 (dk_at dksJ8_compareTo_2_0 7 rfl rfl)
theorem dJ8_compareTo_2_8 : decode cJ8_compareTo_2 8 = .ok (.aload_n 1, 1) := dk_43 (dk_at dksJ8_compareTo_2_0 8 rfl rfl)
theorem dJ8_compareTo_2_9 : decode cJ8_compareTo_2 9 = .ok (.iload 4, 2) := dk_21 4 (dk_at dksJ8_compareTo_2_0 9 rfl rfl)
theorem dJ8_compareTo_2_11 : decode cJ8_compareTo_2 11 = .ok (.invokestatic 44, 3) := dk_184 0 44 (dk_at dksJ8_compareTo_2_0 11 rfl rfl)
theorem dJ8_compareTo_2_14 : decode cJ8_compareTo_2 14 = .ok (.istore 5, 2) := dk_54 5 (dk_at dksJ8_compareTo_2_0 14 rfl rfl)
theorem dJ8_compareTo_2_16 : decode cJ8_compareTo_2 16 = .ok (.iload 5, 2) := dk_21 5 (dk_at dksJ8_compareTo_2_0 16 rfl rfl)
theorem dJ8_compareTo_2_18 : decode cJ8_compareTo_2 18 = .ok (.ifCond .ge 9, 3) := dk_156 0 9 (dk_at dksJ8_compareTo_2_0 18 rfl rfl)
theorem dJ8_compareTo_2_21 : decode cJ8_compareTo_2 21 = .ok (.iload_n 2, 1) := dk_28 (dk_at dksJ8_compareTo_2_0 21 rfl rfl)
theorem dJ8_compareTo_2_22 : decode cJ8_compareTo_2 22 = .ok (.iload_n 3, 1) := dk_29 (dk_at dksJ8_compareTo_2_0 22 rfl rfl)
theorem dJ8_compareTo_2_23 : decode cJ8_compareTo_2 23 = .ok (.isub, 1) := dk_100 (dk_at dksJ8_compareTo_2_0 23 rfl rfl)
theorem dJ8_compareTo_2_24 : decode cJ8_compareTo_2 24 = .ok (.goto 16, 3) := dk_167 0 16 (dk_at dksJ8_compareTo_2_1 0 rfl rfl)
theorem dJ8_compareTo_2_27 : decode cJ8_compareTo_2 27 = .ok (.aload_n 0, 1) := dk_42 (dk_at dksJ8_compareTo_2_1 3 rfl rfl)
theorem dJ8_compareTo_2_28 : decode cJ8_compareTo_2 28 = .ok (.iload 5, 2) := dk_21 5 (dk_at dksJ8_compareTo_2_1 4 rfl rfl)
theorem dJ8_compareTo_2_30 : decode cJ8_compareTo_2 30 = .ok (.invokestatic 50, 3) := dk_184 0 50 (dk_at dksJ8_compareTo_2_1 6 rfl rfl)
theorem dJ8_compareTo_2_33 : decode cJ8_compareTo_2 33 = .ok (.aload_n 1, 1) := dk_43 (dk_at dksJ8_compareTo_2_1 9 rfl rfl)
theorem dJ8_compareTo_2_34 : decode cJ8_compareTo_2 34 = .ok (.iload 5, 2) := dk_21 5 (dk_at dksJ8_compareTo_2_1 10 rfl rfl)
theorem dJ8_compareTo_2_36 : decode cJ8_compareTo_2 36 = .ok (.invokestatic 50, 3) := dk_184 0 50 (dk_at dksJ8_compareTo_2_1 12 rfl rfl)
theorem dJ8_compareTo_2_39 : decode cJ8_compareTo_2 39 = .ok (.isub, 1) := dk_100 (dk_at dksJ8_compareTo_2_1 15 rfl rfl)
theorem dJ8_compareTo_2_40 : decode cJ8_compareTo_2 40 = .ok (.ireturn, 1) := dk_172 (dk_at dksJ8_compareTo_2_1 16 rfl rfl)
abbrev cJ8_getChar : ByteArray := prog_29_method_44_code
def yJ8_getChar : MethodName := ⟨RJ8, "getChar", "([BI)C"⟩
def dkwJ8_getChar_0 : List UInt8 := [42, 27, 51, 17, 0, 255, 126, 146, 172]
abbrev dktJ8_getChar_0 : List UInt8 := dkwJ8_getChar_0 ++ []
theorem dksJ8_getChar_0 : cJ8_getChar.data.toList.drop 0 = dktJ8_getChar_0 := by decide +kernel
theorem dJ8_getChar_0 : decode cJ8_getChar 0 = .ok (.aload_n 0, 1) := dk_42 (dk_at dksJ8_getChar_0 0 rfl rfl)
theorem dJ8_getChar_1 : decode cJ8_getChar 1 = .ok (.iload_n 1, 1) := dk_27 (dk_at dksJ8_getChar_0 1 rfl rfl)
theorem dJ8_getChar_2 : decode cJ8_getChar 2 = .ok (.baload, 1) := dk_51 (dk_at dksJ8_getChar_0 2 rfl rfl)
theorem dJ8_getChar_3 : decode cJ8_getChar 3 = .ok (.sipush 255, 3) := dk_17 0 255 (dk_at dksJ8_getChar_0 3 rfl rfl)
theorem dJ8_getChar_6 : decode cJ8_getChar 6 = .ok (.iand, 1) := dk_126 (dk_at dksJ8_getChar_0 6 rfl rfl)
theorem dJ8_getChar_7 : decode cJ8_getChar 7 = .ok (.i2c, 1) := dk_146 (dk_at dksJ8_getChar_0 7 rfl rfl)
theorem dJ8_getChar_8 : decode cJ8_getChar 8 = .ok (.ireturn, 1) := dk_172 (dk_at dksJ8_getChar_0 8 rfl rfl)
abbrev cJ8_compareToUTF16 : ByteArray := prog_29_method_16_code
def yJ8_compareToUTF16 : MethodName := ⟨RJ8, "compareToUTF16", "([B[B)I"⟩
def dkwJ8_compareToUTF16_0 : List UInt8 := [42, 184, 0, 54, 61, 43, 184, 0, 58, 62, 42, 43, 28, 29, 184, 0, 59, 172]
abbrev dktJ8_compareToUTF16_0 : List UInt8 := dkwJ8_compareToUTF16_0 ++ []
theorem dksJ8_compareToUTF16_0 : cJ8_compareToUTF16.data.toList.drop 0 = dktJ8_compareToUTF16_0 := by decide +kernel
theorem dJ8_compareToUTF16_0 : decode cJ8_compareToUTF16 0 = .ok (.aload_n 0, 1) := dk_42 (dk_at dksJ8_compareToUTF16_0 0 rfl rfl)
theorem dJ8_compareToUTF16_1 : decode cJ8_compareToUTF16 1 = .ok (.invokestatic 54, 3) := dk_184 0 54 (dk_at dksJ8_compareToUTF16_0 1 rfl rfl)
theorem dJ8_compareToUTF16_4 : decode cJ8_compareToUTF16 4 = .ok (.istore_n 2, 1) := dk_61 (dk_at dksJ8_compareToUTF16_0 4 rfl rfl)
theorem dJ8_compareToUTF16_5 : decode cJ8_compareToUTF16 5 = .ok (.aload_n 1, 1) := dk_43 (dk_at dksJ8_compareToUTF16_0 5 rfl rfl)
theorem dJ8_compareToUTF16_6 : decode cJ8_compareToUTF16 6 = .ok (.invokestatic 58, 3) := dk_184 0 58 (dk_at dksJ8_compareToUTF16_0 6 rfl rfl)
theorem dJ8_compareToUTF16_9 : decode cJ8_compareToUTF16 9 = .ok (.istore_n 3, 1) := dk_62 (dk_at dksJ8_compareToUTF16_0 9 rfl rfl)
theorem dJ8_compareToUTF16_10 : decode cJ8_compareToUTF16 10 = .ok (.aload_n 0, 1) := dk_42 (dk_at dksJ8_compareToUTF16_0 10 rfl rfl)
theorem dJ8_compareToUTF16_11 : decode cJ8_compareToUTF16 11 = .ok (.aload_n 1, 1) := dk_43 (dk_at dksJ8_compareToUTF16_0 11 rfl rfl)
theorem dJ8_compareToUTF16_12 : decode cJ8_compareToUTF16 12 = .ok (.iload_n 2, 1) := dk_28 (dk_at dksJ8_compareToUTF16_0 12 rfl rfl)
theorem dJ8_compareToUTF16_13 : decode cJ8_compareToUTF16 13 = .ok (.iload_n 3, 1) := dk_29 (dk_at dksJ8_compareToUTF16_0 13 rfl rfl)
theorem dJ8_compareToUTF16_14 : decode cJ8_compareToUTF16 14 = .ok (.invokestatic 59, 3) := dk_184 0 59 (dk_at dksJ8_compareToUTF16_0 14 rfl rfl)
theorem dJ8_compareToUTF16_17 : decode cJ8_compareToUTF16 17 = .ok (.ireturn, 1) := dk_172 (dk_at dksJ8_compareToUTF16_0 17 rfl rfl)
abbrev cJ8_length : ByteArray := prog_29_method_5_code
def yJ8_length : MethodName := ⟨RJ8, "length", "([B)I"⟩
theorem dJ8_length_0 : decode cJ8_length 0 = .ok (.aload_n 0, 1) := by decide +kernel
theorem dJ8_length_1 : decode cJ8_length 1 = .ok (.arraylength, 1) := by decide +kernel
theorem dJ8_length_2 : decode cJ8_length 2 = .ok (.ireturn, 1) := by decide +kernel
abbrev cJ8_compareToUTF16Values : ByteArray := prog_29_method_18_code
def yJ8_compareToUTF16Values : MethodName := ⟨RJ8, "compareToUTF16Values", "([B[BII)I"⟩
def dkwJ8_compareToUTF16Values_2 : List UInt8 := [132, 5, 1, 167, 255, 217, 28, 29, 100, 172]
abbrev dktJ8_compareToUTF16Values_2 : List UInt8 := dkwJ8_compareToUTF16Values_2 ++ []
def dkwJ8_compareToUTF16Values_1 : List UInt8 := [54, 6, 43, 21, 5, 184, 0, 65, 54, 7, 21, 6, 21, 7, 159, 0, 9, 21, 6, 21, 7, 100, 172]
abbrev dktJ8_compareToUTF16Values_1 : List UInt8 := dkwJ8_compareToUTF16Values_1 ++ dktJ8_compareToUTF16Values_2
def dkwJ8_compareToUTF16Values_0 : List UInt8 := [28, 29, 184, 0, 38, 54, 4, 3, 54, 5, 21, 5, 21, 4, 162, 0, 38, 42, 21, 5, 184, 0, 50]
abbrev dktJ8_compareToUTF16Values_0 : List UInt8 := dkwJ8_compareToUTF16Values_0 ++ dktJ8_compareToUTF16Values_1
theorem dksJ8_compareToUTF16Values_0 : cJ8_compareToUTF16Values.data.toList.drop 0 = dktJ8_compareToUTF16Values_0 := by decide +kernel
theorem dksJ8_compareToUTF16Values_1 : cJ8_compareToUTF16Values.data.toList.drop 23 = dktJ8_compareToUTF16Values_1 := dk_seg dksJ8_compareToUTF16Values_0 23 rfl rfl
theorem dksJ8_compareToUTF16Values_2 : cJ8_compareToUTF16Values.data.toList.drop 46 = dktJ8_compareToUTF16Values_2 := dk_seg dksJ8_compareToUTF16Values_1 23 rfl rfl
theorem dJ8_compareToUTF16Values_0 : decode cJ8_compareToUTF16Values 0 = .ok (.iload_n 2, 1) := dk_28 (dk_at dksJ8_compareToUTF16Values_0 0 rfl rfl)
theorem dJ8_compareToUTF16Values_1 : decode cJ8_compareToUTF16Values 1 = .ok (.iload_n 3, 1) := dk_29 (dk_at dksJ8_compareToUTF16Values_0 1 rfl rfl)
theorem dJ8_compareToUTF16Values_2 : decode cJ8_compareToUTF16Values 2 = .ok (.invokestatic 38, 3) := dk_184 0 38 (dk_at dksJ8_compareToUTF16Values_0 2 rfl rfl)
theorem dJ8_compareToUTF16Values_5 : decode cJ8_compareToUTF16Values 5 = .ok (.istore 4, 2) := dk_54 4 (dk_at dksJ8_compareToUTF16Values_0 5 rfl rfl)
theorem dJ8_compareToUTF16Values_7 : decode cJ8_compareToUTF16Values 7 = .ok (.iconst 0, 1) := dk_3 (dk_at dksJ8_compareToUTF16Values_0 7 rfl rfl)
theorem dJ8_compareToUTF16Values_8 : decode cJ8_compareToUTF16Values 8 = .ok (.istore 5, 2) := dk_54 5 (dk_at dksJ8_compareToUTF16Values_0 8 rfl rfl)
theorem dJ8_compareToUTF16Values_10 : decode cJ8_compareToUTF16Values 10 = .ok (.iload 5, 2) := dk_21 5 (dk_at dksJ8_compareToUTF16Values_0 10 rfl rfl)
theorem dJ8_compareToUTF16Values_12 : decode cJ8_compareToUTF16Values 12 = .ok (.iload 4, 2) := dk_21 4 (dk_at dksJ8_compareToUTF16Values_0 12 rfl rfl)
theorem dJ8_compareToUTF16Values_14 : decode cJ8_compareToUTF16Values 14 = .ok (.if_icmp .ge 38, 3) := dk_162 0 38 (dk_at dksJ8_compareToUTF16Values_0 14 rfl rfl)
theorem dJ8_compareToUTF16Values_17 : decode cJ8_compareToUTF16Values 17 = .ok (.aload_n 0, 1) := dk_42 (dk_at dksJ8_compareToUTF16Values_0 17 rfl rfl)
theorem dJ8_compareToUTF16Values_18 : decode cJ8_compareToUTF16Values 18 = .ok (.iload 5, 2) := dk_21 5 (dk_at dksJ8_compareToUTF16Values_0 18 rfl rfl)
theorem dJ8_compareToUTF16Values_20 : decode cJ8_compareToUTF16Values 20 = .ok (.invokestatic 50, 3) := dk_184 0 50 (dk_at dksJ8_compareToUTF16Values_0 20 rfl rfl)
theorem dJ8_compareToUTF16Values_23 : decode cJ8_compareToUTF16Values 23 = .ok (.istore 6, 2) := dk_54 6 (dk_at dksJ8_compareToUTF16Values_1 0 rfl rfl)
theorem dJ8_compareToUTF16Values_25 : decode cJ8_compareToUTF16Values 25 = .ok (.aload_n 1, 1) := dk_43 (dk_at dksJ8_compareToUTF16Values_1 2 rfl rfl)
theorem dJ8_compareToUTF16Values_26 : decode cJ8_compareToUTF16Values 26 = .ok (.iload 5, 2) := dk_21 5 (dk_at dksJ8_compareToUTF16Values_1 3 rfl rfl)
theorem dJ8_compareToUTF16Values_28 : decode cJ8_compareToUTF16Values 28 = .ok (.invokestatic 65, 3) := dk_184 0 65 (dk_at dksJ8_compareToUTF16Values_1 5 rfl rfl)
theorem dJ8_compareToUTF16Values_31 : decode cJ8_compareToUTF16Values 31 = .ok (.istore 7, 2) := dk_54 7 (dk_at dksJ8_compareToUTF16Values_1 8 rfl rfl)
theorem dJ8_compareToUTF16Values_33 : decode cJ8_compareToUTF16Values 33 = .ok (.iload 6, 2) := dk_21 6 (dk_at dksJ8_compareToUTF16Values_1 10 rfl rfl)
theorem dJ8_compareToUTF16Values_35 : decode cJ8_compareToUTF16Values 35 = .ok (.iload 7, 2) := dk_21 7 (dk_at dksJ8_compareToUTF16Values_1 12 rfl rfl)
theorem dJ8_compareToUTF16Values_37 : decode cJ8_compareToUTF16Values 37 = .ok (.if_icmp .eq 9, 3) := dk_159 0 9 (dk_at dksJ8_compareToUTF16Values_1 14 rfl rfl)
theorem dJ8_compareToUTF16Values_40 : decode cJ8_compareToUTF16Values 40 = .ok (.iload 6, 2) := dk_21 6 (dk_at dksJ8_compareToUTF16Values_1 17 rfl rfl)
theorem dJ8_compareToUTF16Values_42 : decode cJ8_compareToUTF16Values 42 = .ok (.iload 7, 2) := dk_21 7 (dk_at dksJ8_compareToUTF16Values_1 19 rfl rfl)
theorem dJ8_compareToUTF16Values_44 : decode cJ8_compareToUTF16Values 44 = .ok (.isub, 1) := dk_100 (dk_at dksJ8_compareToUTF16Values_1 21 rfl rfl)
theorem dJ8_compareToUTF16Values_45 : decode cJ8_compareToUTF16Values 45 = .ok (.ireturn, 1) := dk_172 (dk_at dksJ8_compareToUTF16Values_1 22 rfl rfl)
theorem dJ8_compareToUTF16Values_46 : decode cJ8_compareToUTF16Values 46 = .ok (.iinc 5 1, 3) := dk_132 5 1 (dk_at dksJ8_compareToUTF16Values_2 0 rfl rfl)
theorem dJ8_compareToUTF16Values_49 : decode cJ8_compareToUTF16Values 49 = .ok (.goto (-39), 3) := dk_167 255 217 (dk_at dksJ8_compareToUTF16Values_2 3 rfl rfl)
theorem dJ8_compareToUTF16Values_52 : decode cJ8_compareToUTF16Values 52 = .ok (.iload_n 2, 1) := dk_28 (dk_at dksJ8_compareToUTF16Values_2 6 rfl rfl)
theorem dJ8_compareToUTF16Values_53 : decode cJ8_compareToUTF16Values 53 = .ok (.iload_n 3, 1) := dk_29 (dk_at dksJ8_compareToUTF16Values_2 7 rfl rfl)
theorem dJ8_compareToUTF16Values_54 : decode cJ8_compareToUTF16Values 54 = .ok (.isub, 1) := dk_100 (dk_at dksJ8_compareToUTF16Values_2 8 rfl rfl)
theorem dJ8_compareToUTF16Values_55 : decode cJ8_compareToUTF16Values 55 = .ok (.ireturn, 1) := dk_172 (dk_at dksJ8_compareToUTF16Values_2 9 rfl rfl)
theorem q126 : (Jvm.Cond.initialized "java/lang/StringLatin1") ∈ lw_all := lw_g (lw_at lw_m1 19 rfl) rfl
theorem q641 : (Jvm.Cond.static ({ cls := "java/lang/StringLatin1", name := "charAt", desc := "([BI)C" } : Jvm.MethodName)) ∈ lw_all := lw_g (lw_at lw_m3 54 rfl) rfl
theorem q642 : (Jvm.Cond.code ({ cls := "java/lang/StringLatin1", name := "charAt", desc := "([BI)C" } : Jvm.MethodName) prog_29_method_2_code (2 : Nat) (Option.some Jvm.ClassFile.FieldType.char)) ∈ lw_all := lw_g (lw_at lw_m3 55 rfl) rfl
theorem q643 : (Jvm.Cond.methodLink "java/lang/StringLatin1" (9 : Nat) ({ cls := "java/lang/String", name := "checkIndex", desc := "(II)V" } : Jvm.MethodName)) ∈ lw_all := lw_g (lw_at lw_m3 56 rfl) rfl
theorem q1113 : (Jvm.Cond.static ({ cls := "java/lang/StringLatin1", name := "compareTo", desc := "([B[B)I" } : Jvm.MethodName)) ∈ lw_all := lw_g (lw_at lw_m5 46 rfl) rfl
theorem q1114 : (Jvm.Cond.code ({ cls := "java/lang/StringLatin1", name := "compareTo", desc := "([B[B)I" } : Jvm.MethodName) prog_29_method_14_code (4 : Nat) (Option.some Jvm.ClassFile.FieldType.int)) ∈ lw_all := lw_g (lw_at lw_m5 47 rfl) rfl
theorem q1115 : (Jvm.Cond.methodLink "java/lang/StringLatin1" (34 : Nat) ({ cls := "java/lang/StringLatin1", name := "compareTo", desc := "([B[BII)I" } : Jvm.MethodName)) ∈ lw_all := lw_g (lw_at lw_m5 48 rfl) rfl
theorem q1116 : (Jvm.Cond.static ({ cls := "java/lang/StringLatin1", name := "compareTo", desc := "([B[BII)I" } : Jvm.MethodName)) ∈ lw_all := lw_g (lw_at lw_m5 49 rfl) rfl
theorem q1117 : (Jvm.Cond.code ({ cls := "java/lang/StringLatin1", name := "compareTo", desc := "([B[BII)I" } : Jvm.MethodName) prog_29_method_15_code (6 : Nat) (Option.some Jvm.ClassFile.FieldType.int)) ∈ lw_all := lw_g (lw_at lw_m5 50 rfl) rfl
theorem q1118 : (Jvm.Cond.methodLink "java/lang/StringLatin1" (38 : Nat) ({ cls := "java/lang/Math", name := "min", desc := "(II)I" } : Jvm.MethodName)) ∈ lw_all := lw_g (lw_at lw_m5 51 rfl) rfl
theorem q1119 : (Jvm.Cond.methodLink "java/lang/StringLatin1" (44 : Nat) ({ cls := "jdk/internal/util/ArraysSupport", name := "mismatch", desc := "([B[BI)I" } : Jvm.MethodName)) ∈ lw_all := lw_g (lw_at lw_m5 52 rfl) rfl
theorem q1220 : (Jvm.Cond.methodLink "java/lang/StringLatin1" (50 : Nat) ({ cls := "java/lang/StringLatin1", name := "getChar", desc := "([BI)C" } : Jvm.MethodName)) ∈ lw_all := lw_g (lw_at lw_m5 153 rfl) rfl
theorem q1221 : (Jvm.Cond.static ({ cls := "java/lang/StringLatin1", name := "getChar", desc := "([BI)C" } : Jvm.MethodName)) ∈ lw_all := lw_g (lw_at lw_m5 154 rfl) rfl
theorem q1222 : (Jvm.Cond.code ({ cls := "java/lang/StringLatin1", name := "getChar", desc := "([BI)C" } : Jvm.MethodName) prog_29_method_44_code (2 : Nat) (Option.some Jvm.ClassFile.FieldType.char)) ∈ lw_all := lw_g (lw_at lw_m5 155 rfl) rfl
theorem q1231 : (Jvm.Cond.static ({ cls := "java/lang/StringLatin1", name := "compareToUTF16", desc := "([B[B)I" } : Jvm.MethodName)) ∈ lw_all := lw_g (lw_at lw_m5 164 rfl) rfl
theorem q1232 : (Jvm.Cond.code ({ cls := "java/lang/StringLatin1", name := "compareToUTF16", desc := "([B[B)I" } : Jvm.MethodName) prog_29_method_16_code (4 : Nat) (Option.some Jvm.ClassFile.FieldType.int)) ∈ lw_all := lw_g (lw_at lw_m5 165 rfl) rfl
theorem q1233 : (Jvm.Cond.methodLink "java/lang/StringLatin1" (54 : Nat) ({ cls := "java/lang/StringLatin1", name := "length", desc := "([B)I" } : Jvm.MethodName)) ∈ lw_all := lw_g (lw_at lw_m5 166 rfl) rfl
theorem q1234 : (Jvm.Cond.static ({ cls := "java/lang/StringLatin1", name := "length", desc := "([B)I" } : Jvm.MethodName)) ∈ lw_all := lw_g (lw_at lw_m5 167 rfl) rfl
theorem q1235 : (Jvm.Cond.code ({ cls := "java/lang/StringLatin1", name := "length", desc := "([B)I" } : Jvm.MethodName) prog_29_method_5_code (1 : Nat) (Option.some Jvm.ClassFile.FieldType.int)) ∈ lw_all := lw_g (lw_at lw_m5 168 rfl) rfl
theorem q1236 : (Jvm.Cond.methodLink "java/lang/StringLatin1" (58 : Nat) ({ cls := "java/lang/StringUTF16", name := "length", desc := "([B)I" } : Jvm.MethodName)) ∈ lw_all := lw_g (lw_at lw_m5 169 rfl) rfl
theorem q1237 : (Jvm.Cond.methodLink "java/lang/StringLatin1" (59 : Nat) ({ cls := "java/lang/StringLatin1", name := "compareToUTF16Values", desc := "([B[BII)I" } : Jvm.MethodName)) ∈ lw_all := lw_g (lw_at lw_m5 170 rfl) rfl
theorem q1238 : (Jvm.Cond.static ({ cls := "java/lang/StringLatin1", name := "compareToUTF16Values", desc := "([B[BII)I" } : Jvm.MethodName)) ∈ lw_all := lw_g (lw_at lw_m5 171 rfl) rfl
theorem q1239 : (Jvm.Cond.code ({ cls := "java/lang/StringLatin1", name := "compareToUTF16Values", desc := "([B[BII)I" } : Jvm.MethodName) prog_29_method_18_code (8 : Nat) (Option.some Jvm.ClassFile.FieldType.int)) ∈ lw_all := lw_g (lw_at lw_m5 172 rfl) rfl
theorem q1240 : (Jvm.Cond.methodLink "java/lang/StringLatin1" (65 : Nat) ({ cls := "java/lang/StringUTF16", name := "getChar", desc := "([BI)C" } : Jvm.MethodName)) ∈ lw_all := lw_g (lw_at lw_m5 173 rfl) rfl
/-! jdk/internal/util/Preconditions -/
set_option maxRecDepth 100000
def RJ9 : String := "jdk/internal/util/Preconditions"
abbrev cJ9_checkIndex : ByteArray := prog_60_method_11_code
def yJ9_checkIndex : MethodName := ⟨RJ9, "checkIndex", "(IILjava/util/function/BiFunction;)I"⟩
def dkwJ9_checkIndex_0 : List UInt8 := [26, 155, 0, 8, 26, 27, 161, 0, 10, 44, 26, 27, 184, 0, 95, 191, 26, 172]
abbrev dktJ9_checkIndex_0 : List UInt8 := dkwJ9_checkIndex_0 ++ []
theorem dksJ9_checkIndex_0 : cJ9_checkIndex.data.toList.drop 0 = dktJ9_checkIndex_0 := by decide +kernel
theorem dJ9_checkIndex_0 : decode cJ9_checkIndex 0 = .ok (.iload_n 0, 1) := dk_26 (dk_at dksJ9_checkIndex_0 0 rfl rfl)
theorem dJ9_checkIndex_1 : decode cJ9_checkIndex 1 = .ok (.ifCond .lt 8, 3) := dk_155 0 8 (dk_at dksJ9_checkIndex_0 1 rfl rfl)
theorem dJ9_checkIndex_4 : decode cJ9_checkIndex 4 = .ok (.iload_n 0, 1) := dk_26 (dk_at dksJ9_checkIndex_0 4 rfl rfl)
theorem dJ9_checkIndex_5 : decode cJ9_checkIndex 5 = .ok (.iload_n 1, 1) := dk_27 (dk_at dksJ9_checkIndex_0 5 rfl rfl)
theorem dJ9_checkIndex_6 : decode cJ9_checkIndex 6 = .ok (.if_icmp .lt 10, 3) := dk_161 0 10 (dk_at dksJ9_checkIndex_0 6 rfl rfl)
theorem dJ9_checkIndex_9 : decode cJ9_checkIndex 9 = .ok (.aload_n 2, 1) := dk_44 (dk_at dksJ9_checkIndex_0 9 rfl rfl)
theorem dJ9_checkIndex_10 : decode cJ9_checkIndex 10 = .ok (.iload_n 0, 1) := dk_26 (dk_at dksJ9_checkIndex_0 10 rfl rfl)
theorem dJ9_checkIndex_11 : decode cJ9_checkIndex 11 = .ok (.iload_n 1, 1) := dk_27 (dk_at dksJ9_checkIndex_0 11 rfl rfl)
theorem dJ9_checkIndex_12 : decode cJ9_checkIndex 12 = .ok (.invokestatic 95, 3) := dk_184 0 95 (dk_at dksJ9_checkIndex_0 12 rfl rfl)
theorem dJ9_checkIndex_15 : decode cJ9_checkIndex 15 = .ok (.athrow, 1) := dk_191 (dk_at dksJ9_checkIndex_0 15 rfl rfl)
theorem dJ9_checkIndex_16 : decode cJ9_checkIndex 16 = .ok (.iload_n 0, 1) := dk_26 (dk_at dksJ9_checkIndex_0 16 rfl rfl)
theorem dJ9_checkIndex_17 : decode cJ9_checkIndex 17 = .ok (.ireturn, 1) := dk_172 (dk_at dksJ9_checkIndex_0 17 rfl rfl)
theorem q127 : (Jvm.Cond.initialized "jdk/internal/util/Preconditions") ∈ lw_all := lw_g (lw_at lw_m1 20 rfl) rfl
theorem q647 : (Jvm.Cond.laysStatic "jdk/internal/util/Preconditions" "SIOOBE_FORMATTER" "Ljava/util/function/BiFunction;") ∈ lw_tbl := lw_at lw_m3 60 rfl
theorem q649 : (Jvm.Cond.static ({ cls := "jdk/internal/util/Preconditions", name := "checkIndex", desc := "(IILjava/util/function/BiFunction;)I" } : Jvm.MethodName)) ∈ lw_all := lw_g (lw_at lw_m3 62 rfl) rfl
theorem q650 : (Jvm.Cond.code ({ cls := "jdk/internal/util/Preconditions", name := "checkIndex", desc := "(IILjava/util/function/BiFunction;)I" } : Jvm.MethodName) prog_60_method_11_code (3 : Nat) (Option.some Jvm.ClassFile.FieldType.int)) ∈ lw_all := lw_g (lw_at lw_m3 63 rfl) rfl
/-! java/lang/StringUTF16 -/
set_option maxRecDepth 100000
def RJ10 : String := "java/lang/StringUTF16"
abbrev cJ10_charAt : ByteArray := prog_30_method_83_code
def yJ10_charAt : MethodName := ⟨RJ10, "charAt", "([BI)C"⟩
def dkwJ10_charAt_0 : List UInt8 := [27, 42, 184, 0, 67, 42, 27, 184, 0, 71, 172]
abbrev dktJ10_charAt_0 : List UInt8 := dkwJ10_charAt_0 ++ []
theorem dksJ10_charAt_0 : cJ10_charAt.data.toList.drop 0 = dktJ10_charAt_0 := by decide +kernel
theorem dJ10_charAt_0 : decode cJ10_charAt 0 = .ok (.iload_n 1, 1) := dk_27 (dk_at dksJ10_charAt_0 0 rfl rfl)
theorem dJ10_charAt_1 : decode cJ10_charAt 1 = .ok (.aload_n 0, 1) := dk_42 (dk_at dksJ10_charAt_0 1 rfl rfl)
theorem dJ10_charAt_2 : decode cJ10_charAt 2 = .ok (.invokestatic 67, 3) := dk_184 0 67 (dk_at dksJ10_charAt_0 2 rfl rfl)
theorem dJ10_charAt_5 : decode cJ10_charAt 5 = .ok (.aload_n 0, 1) := dk_42 (dk_at dksJ10_charAt_0 5 rfl rfl)
theorem dJ10_charAt_6 : decode cJ10_charAt 6 = .ok (.iload_n 1, 1) := dk_27 (dk_at dksJ10_charAt_0 6 rfl rfl)
theorem dJ10_charAt_7 : decode cJ10_charAt 7 = .ok (.invokestatic 71, 3) := dk_184 0 71 (dk_at dksJ10_charAt_0 7 rfl rfl)
theorem dJ10_charAt_10 : decode cJ10_charAt 10 = .ok (.ireturn, 1) := dk_172 (dk_at dksJ10_charAt_0 10 rfl rfl)
abbrev cJ10_checkIndex : ByteArray := prog_30_method_91_code
def yJ10_checkIndex : MethodName := ⟨RJ10, "checkIndex", "(I[B)V"⟩
def dkwJ10_checkIndex_0 : List UInt8 := [26, 43, 184, 0, 48, 184, 1, 158, 177]
abbrev dktJ10_checkIndex_0 : List UInt8 := dkwJ10_checkIndex_0 ++ []
theorem dksJ10_checkIndex_0 : cJ10_checkIndex.data.toList.drop 0 = dktJ10_checkIndex_0 := by decide +kernel
theorem dJ10_checkIndex_0 : decode cJ10_checkIndex 0 = .ok (.iload_n 0, 1) := dk_26 (dk_at dksJ10_checkIndex_0 0 rfl rfl)
theorem dJ10_checkIndex_1 : decode cJ10_checkIndex 1 = .ok (.aload_n 1, 1) := dk_43 (dk_at dksJ10_checkIndex_0 1 rfl rfl)
theorem dJ10_checkIndex_2 : decode cJ10_checkIndex 2 = .ok (.invokestatic 48, 3) := dk_184 0 48 (dk_at dksJ10_checkIndex_0 2 rfl rfl)
theorem dJ10_checkIndex_5 : decode cJ10_checkIndex 5 = .ok (.invokestatic 414, 3) := dk_184 1 158 (dk_at dksJ10_checkIndex_0 5 rfl rfl)
theorem dJ10_checkIndex_8 : decode cJ10_checkIndex 8 = .ok (.return_, 1) := dk_177 (dk_at dksJ10_checkIndex_0 8 rfl rfl)
abbrev cJ10_length : ByteArray := prog_30_method_6_code
def yJ10_length : MethodName := ⟨RJ10, "length", "([B)I"⟩
def dkwJ10_length_0 : List UInt8 := [42, 190, 4, 122, 172]
abbrev dktJ10_length_0 : List UInt8 := dkwJ10_length_0 ++ []
theorem dksJ10_length_0 : cJ10_length.data.toList.drop 0 = dktJ10_length_0 := by decide +kernel
theorem dJ10_length_0 : decode cJ10_length 0 = .ok (.aload_n 0, 1) := dk_42 (dk_at dksJ10_length_0 0 rfl rfl)
theorem dJ10_length_1 : decode cJ10_length 1 = .ok (.arraylength, 1) := dk_190 (dk_at dksJ10_length_0 1 rfl rfl)
theorem dJ10_length_2 : decode cJ10_length 2 = .ok (.iconst 1, 1) := dk_4 (dk_at dksJ10_length_0 2 rfl rfl)
theorem dJ10_length_3 : decode cJ10_length 3 = .ok (.ishr, 1) := dk_122 (dk_at dksJ10_length_0 3 rfl rfl)
theorem dJ10_length_4 : decode cJ10_length 4 = .ok (.ireturn, 1) := dk_172 (dk_at dksJ10_length_0 4 rfl rfl)
abbrev cJ10_getChar : ByteArray := prog_30_method_5_code
def yJ10_getChar : MethodName := ⟨RJ10, "getChar", "([BI)C"⟩
def dkwJ10_getChar_2 : List UInt8 := [51, 17, 0, 255, 126, 178, 0, 63, 120, 128, 146, 172]
abbrev dktJ10_getChar_2 : List UInt8 := dkwJ10_getChar_2 ++ []
def dkwJ10_getChar_1 : List UInt8 := [183, 0, 56, 191, 27, 4, 120, 60, 42, 27, 132, 1, 1, 51, 17, 0, 255, 126, 178, 0, 59, 120, 42, 27]
abbrev dktJ10_getChar_1 : List UInt8 := dkwJ10_getChar_1 ++ dktJ10_getChar_2
def dkwJ10_getChar_0 : List UInt8 := [178, 0, 44, 154, 0, 25, 27, 155, 0, 11, 27, 42, 184, 0, 48, 161, 0, 13, 187, 0, 52, 89, 18, 54]
abbrev dktJ10_getChar_0 : List UInt8 := dkwJ10_getChar_0 ++ dktJ10_getChar_1
theorem dksJ10_getChar_0 : cJ10_getChar.data.toList.drop 0 = dktJ10_getChar_0 := by decide +kernel
theorem dksJ10_getChar_1 : cJ10_getChar.data.toList.drop 24 = dktJ10_getChar_1 := dk_seg dksJ10_getChar_0 24 rfl rfl
theorem dksJ10_getChar_2 : cJ10_getChar.data.toList.drop 48 = dktJ10_getChar_2 := dk_seg dksJ10_getChar_1 24 rfl rfl
theorem dJ10_getChar_0 : decode cJ10_getChar 0 = .ok (.getstatic 44, 3) := dk_178 0 44 (dk_at dksJ10_getChar_0 0 rfl rfl)
theorem dJ10_getChar_3 : decode cJ10_getChar 3 = .ok (.ifCond .ne 25, 3) := dk_154 0 25 (dk_at dksJ10_getChar_0 3 rfl rfl)
theorem dJ10_getChar_6 : decode cJ10_getChar 6 = .ok (.iload_n 1, 1) := dk_27 (dk_at dksJ10_getChar_0 6 rfl rfl)
theorem dJ10_getChar_7 : decode cJ10_getChar 7 = .ok (.ifCond .lt 11, 3) := dk_155 0 11 (dk_at dksJ10_getChar_0 7 rfl rfl)
theorem dJ10_getChar_10 : decode cJ10_getChar 10 = .ok (.iload_n 1, 1) := dk_27 (dk_at dksJ10_getChar_0 10 rfl rfl)
theorem dJ10_getChar_11 : decode cJ10_getChar 11 = .ok (.aload_n 0, 1) := dk_42 (dk_at dksJ10_getChar_0 11 rfl rfl)
theorem dJ10_getChar_12 : decode cJ10_getChar 12 = .ok (.invokestatic 48, 3) := dk_184 0 48 (dk_at dksJ10_getChar_0 12 rfl rfl)
theorem dJ10_getChar_15 : decode cJ10_getChar 15 = .ok (.if_icmp .lt 13, 3) := dk_161 0 13 (dk_at dksJ10_getChar_0 15 rfl rfl)
theorem dJ10_getChar_18 : decode cJ10_getChar 18 = .ok (.new 52, 3) := dk_187 0 52 (dk_at dksJ10_getChar_0 18 rfl rfl)
theorem dJ10_getChar_21 : decode cJ10_getChar 21 = .ok (.dup, 1) := dk_89 (dk_at dksJ10_getChar_0 21 rfl rfl)
theorem dJ10_getChar_22 : decode cJ10_getChar 22 = .ok (.ldc 54, 2) := dk_18 54 (dk_at dksJ10_getChar_0 22 rfl rfl)
theorem dJ10_getChar_24 : decode cJ10_getChar 24 = .ok (.invokespecial 56, 3) := dk_183 0 56 (dk_at dksJ10_getChar_1 0 rfl rfl)
theorem dJ10_getChar_27 : decode cJ10_getChar 27 = .ok (.athrow, 1) := dk_191 (dk_at dksJ10_getChar_1 3 rfl rfl)
theorem dJ10_getChar_28 : decode cJ10_getChar 28 = .ok (.iload_n 1, 1) := dk_27 (dk_at dksJ10_getChar_1 4 rfl rfl)
theorem dJ10_getChar_29 : decode cJ10_getChar 29 = .ok (.iconst 1, 1) := dk_4 (dk_at dksJ10_getChar_1 5 rfl rfl)
theorem dJ10_getChar_30 : decode cJ10_getChar 30 = .ok (.ishl, 1) := dk_120 (dk_at dksJ10_getChar_1 6 rfl rfl)
theorem dJ10_getChar_31 : decode cJ10_getChar 31 = .ok (.istore_n 1, 1) := dk_60 (dk_at dksJ10_getChar_1 7 rfl rfl)
theorem dJ10_getChar_32 : decode cJ10_getChar 32 = .ok (.aload_n 0, 1) := dk_42 (dk_at dksJ10_getChar_1 8 rfl rfl)
theorem dJ10_getChar_33 : decode cJ10_getChar 33 = .ok (.iload_n 1, 1) := dk_27 (dk_at dksJ10_getChar_1 9 rfl rfl)
theorem dJ10_getChar_34 : decode cJ10_getChar 34 = .ok (.iinc 1 1, 3) := dk_132 1 1 (dk_at dksJ10_getChar_1 10 rfl rfl)
theorem dJ10_getChar_37 : decode cJ10_getChar 37 = .ok (.baload, 1) := dk_51 (dk_at dksJ10_getChar_1 13 rfl rfl)
theorem dJ10_getChar_38 : decode cJ10_getChar 38 = .ok (.sipush 255, 3) := dk_17 0 255 (dk_at dksJ10_getChar_1 14 rfl rfl)
theorem dJ10_getChar_41 : decode cJ10_getChar 41 = .ok (.iand, 1) := dk_126 (dk_at dksJ10_getChar_1 17 rfl rfl)
theorem dJ10_getChar_42 : decode cJ10_getChar 42 = .ok (.getstatic 59, 3) := dk_178 0 59 (dk_at dksJ10_getChar_1 18 rfl rfl)
theorem dJ10_getChar_45 : decode cJ10_getChar 45 = .ok (.ishl, 1) := dk_120 (dk_at dksJ10_getChar_1 21 rfl rfl)
theorem dJ10_getChar_46 : decode cJ10_getChar 46 = .ok (.aload_n 0, 1) := dk_42 (dk_at dksJ10_getChar_1 22 rfl rfl)
theorem dJ10_getChar_47 : decode cJ10_getChar 47 = .ok (.iload_n 1, 1) := dk_27 (dk_at dksJ10_getChar_1 23 rfl rfl)
theorem dJ10_getChar_48 : decode cJ10_getChar 48 = .ok (.baload, 1) := dk_51 (dk_at dksJ10_getChar_2 0 rfl rfl)
theorem dJ10_getChar_49 : decode cJ10_getChar 49 = .ok (.sipush 255, 3) := dk_17 0 255 (dk_at dksJ10_getChar_2 1 rfl rfl)
theorem dJ10_getChar_52 : decode cJ10_getChar 52 = .ok (.iand, 1) := dk_126 (dk_at dksJ10_getChar_2 4 rfl rfl)
theorem dJ10_getChar_53 : decode cJ10_getChar 53 = .ok (.getstatic 63, 3) := dk_178 0 63 (dk_at dksJ10_getChar_2 5 rfl rfl)
theorem dJ10_getChar_56 : decode cJ10_getChar 56 = .ok (.ishl, 1) := dk_120 (dk_at dksJ10_getChar_2 8 rfl rfl)
theorem dJ10_getChar_57 : decode cJ10_getChar 57 = .ok (.ior, 1) := dk_128 (dk_at dksJ10_getChar_2 9 rfl rfl)
theorem dJ10_getChar_58 : decode cJ10_getChar 58 = .ok (.i2c, 1) := dk_146 (dk_at dksJ10_getChar_2 10 rfl rfl)
theorem dJ10_getChar_59 : decode cJ10_getChar 59 = .ok (.ireturn, 1) := dk_172 (dk_at dksJ10_getChar_2 11 rfl rfl)
abbrev cJ10_compareTo : ByteArray := prog_30_method_29_code
def yJ10_compareTo : MethodName := ⟨RJ10, "compareTo", "([B[B)I"⟩
def dkwJ10_compareTo_0 : List UInt8 := [42, 184, 0, 48, 61, 43, 184, 0, 48, 62, 42, 43, 28, 29, 184, 0, 176, 172]
abbrev dktJ10_compareTo_0 : List UInt8 := dkwJ10_compareTo_0 ++ []
theorem dksJ10_compareTo_0 : cJ10_compareTo.data.toList.drop 0 = dktJ10_compareTo_0 := by decide +kernel
theorem dJ10_compareTo_0 : decode cJ10_compareTo 0 = .ok (.aload_n 0, 1) := dk_42 (dk_at dksJ10_compareTo_0 0 rfl rfl)
theorem dJ10_compareTo_1 : decode cJ10_compareTo 1 = .ok (.invokestatic 48, 3) := dk_184 0 48 (dk_at dksJ10_compareTo_0 1 rfl rfl)
theorem dJ10_compareTo_4 : decode cJ10_compareTo 4 = .ok (.istore_n 2, 1) := dk_61 (dk_at dksJ10_compareTo_0 4 rfl rfl)
theorem dJ10_compareTo_5 : decode cJ10_compareTo 5 = .ok (.aload_n 1, 1) := dk_43 (dk_at dksJ10_compareTo_0 5 rfl rfl)
theorem dJ10_compareTo_6 : decode cJ10_compareTo 6 = .ok (.invokestatic 48, 3) := dk_184 0 48 (dk_at dksJ10_compareTo_0 6 rfl rfl)
theorem dJ10_compareTo_9 : decode cJ10_compareTo 9 = .ok (.istore_n 3, 1) := dk_62 (dk_at dksJ10_compareTo_0 9 rfl rfl)
theorem dJ10_compareTo_10 : decode cJ10_compareTo 10 = .ok (.aload_n 0, 1) := dk_42 (dk_at dksJ10_compareTo_0 10 rfl rfl)
theorem dJ10_compareTo_11 : decode cJ10_compareTo 11 = .ok (.aload_n 1, 1) := dk_43 (dk_at dksJ10_compareTo_0 11 rfl rfl)
theorem dJ10_compareTo_12 : decode cJ10_compareTo 12 = .ok (.iload_n 2, 1) := dk_28 (dk_at dksJ10_compareTo_0 12 rfl rfl)
theorem dJ10_compareTo_13 : decode cJ10_compareTo 13 = .ok (.iload_n 3, 1) := dk_29 (dk_at dksJ10_compareTo_0 13 rfl rfl)
theorem dJ10_compareTo_14 : decode cJ10_compareTo 14 = .ok (.invokestatic 176, 3) := dk_184 0 176 (dk_at dksJ10_compareTo_0 14 rfl rfl)
theorem dJ10_compareTo_17 : decode cJ10_compareTo 17 = .ok (.ireturn, 1) := dk_172 (dk_at dksJ10_compareTo_0 17 rfl rfl)
abbrev cJ10_compareValues : ByteArray := prog_30_method_31_code
def yJ10_compareValues : MethodName := ⟨RJ10, "compareValues", "([B[BII)I"⟩
def dkwJ10_compareValues_2 : List UInt8 := [132, 5, 1, 167, 255, 217, 28, 29, 100, 172]
abbrev dktJ10_compareValues_2 : List UInt8 := dkwJ10_compareValues_2 ++ []
def dkwJ10_compareValues_1 : List UInt8 := [54, 6, 43, 21, 5, 184, 0, 71, 54, 7, 21, 6, 21, 7, 159, 0, 9, 21, 6, 21, 7, 100, 172]
abbrev dktJ10_compareValues_1 : List UInt8 := dkwJ10_compareValues_1 ++ dktJ10_compareValues_2
def dkwJ10_compareValues_0 : List UInt8 := [28, 29, 184, 0, 183, 54, 4, 3, 54, 5, 21, 5, 21, 4, 162, 0, 38, 42, 21, 5, 184, 0, 71]
abbrev dktJ10_compareValues_0 : List UInt8 := dkwJ10_compareValues_0 ++ dktJ10_compareValues_1
theorem dksJ10_compareValues_0 : cJ10_compareValues.data.toList.drop 0 = dktJ10_compareValues_0 := by decide +kernel
theorem dksJ10_compareValues_1 : cJ10_compareValues.data.toList.drop 23 = dktJ10_compareValues_1 := dk_seg dksJ10_compareValues_0 23 rfl rfl
theorem dksJ10_compareValues_2 : cJ10_compareValues.data.toList.drop 46 = dktJ10_compareValues_2 := dk_seg dksJ10_compareValues_1 23 rfl rfl
theorem dJ10_compareValues_0 : decode cJ10_compareValues 0 = .ok (.iload_n 2, 1) := dk_28 (dk_at dksJ10_compareValues_0 0 rfl rfl)
theorem dJ10_compareValues_1 : decode cJ10_compareValues 1 = .ok (.iload_n 3, 1) := dk_29 (dk_at dksJ10_compareValues_0 1 rfl rfl)
theorem dJ10_compareValues_2 : decode cJ10_compareValues 2 = .ok (.invokestatic 183, 3) := dk_184 0 183 (dk_at dksJ10_compareValues_0 2 rfl rfl)
theorem dJ10_compareValues_5 : decode cJ10_compareValues 5 = .ok (.istore 4, 2) := dk_54 4 (dk_at dksJ10_compareValues_0 5 rfl rfl)
theorem dJ10_compareValues_7 : decode cJ10_compareValues 7 = .ok (.iconst 0, 1) := dk_3 (dk_at dksJ10_compareValues_0 7 rfl rfl)
theorem dJ10_compareValues_8 : decode cJ10_compareValues 8 = .ok (.istore 5, 2) := dk_54 5 (dk_at dksJ10_compareValues_0 8 rfl rfl)
theorem dJ10_compareValues_10 : decode cJ10_compareValues 10 = .ok (.iload 5, 2) := dk_21 5 (dk_at dksJ10_compareValues_0 10 rfl rfl)
theorem dJ10_compareValues_12 : decode cJ10_compareValues 12 = .ok (.iload 4, 2) := dk_21 4 (dk_at dksJ10_compareValues_0 12 rfl rfl)
theorem dJ10_compareValues_14 : decode cJ10_compareValues 14 = .ok (.if_icmp .ge 38, 3) := dk_162 0 38 (dk_at dksJ10_compareValues_0 14 rfl rfl)
theorem dJ10_compareValues_17 : decode cJ10_compareValues 17 = .ok (.aload_n 0, 1) := dk_42 (dk_at dksJ10_compareValues_0 17 rfl rfl)
theorem dJ10_compareValues_18 : decode cJ10_compareValues 18 = .ok (.iload 5, 2) := dk_21 5 (dk_at dksJ10_compareValues_0 18 rfl rfl)
theorem dJ10_compareValues_20 : decode cJ10_compareValues 20 = .ok (.invokestatic 71, 3) := dk_184 0 71 (dk_at dksJ10_compareValues_0 20 rfl rfl)
theorem dJ10_compareValues_23 : decode cJ10_compareValues 23 = .ok (.istore 6, 2) := dk_54 6 (dk_at dksJ10_compareValues_1 0 rfl rfl)
theorem dJ10_compareValues_25 : decode cJ10_compareValues 25 = .ok (.aload_n 1, 1) := dk_43 (dk_at dksJ10_compareValues_1 2 rfl rfl)
theorem dJ10_compareValues_26 : decode cJ10_compareValues 26 = .ok (.iload 5, 2) := dk_21 5 (dk_at dksJ10_compareValues_1 3 rfl rfl)
theorem dJ10_compareValues_28 : decode cJ10_compareValues 28 = .ok (.invokestatic 71, 3) := dk_184 0 71 (dk_at dksJ10_compareValues_1 5 rfl rfl)
theorem dJ10_compareValues_31 : decode cJ10_compareValues 31 = .ok (.istore 7, 2) := dk_54 7 (dk_at dksJ10_compareValues_1 8 rfl rfl)
theorem dJ10_compareValues_33 : decode cJ10_compareValues 33 = .ok (.iload 6, 2) := dk_21 6 (dk_at dksJ10_compareValues_1 10 rfl rfl)
theorem dJ10_compareValues_35 : decode cJ10_compareValues 35 = .ok (.iload 7, 2) := dk_21 7 (dk_at dksJ10_compareValues_1 12 rfl rfl)
theorem dJ10_compareValues_37 : decode cJ10_compareValues 37 = .ok (.if_icmp .eq 9, 3) := dk_159 0 9 (dk_at dksJ10_compareValues_1 14 rfl rfl)
theorem dJ10_compareValues_40 : decode cJ10_compareValues 40 = .ok (.iload 6, 2) := dk_21 6 (dk_at dksJ10_compareValues_1 17 rfl rfl)
theorem dJ10_compareValues_42 : decode cJ10_compareValues 42 = .ok (.iload 7, 2) := dk_21 7 (dk_at dksJ10_compareValues_1 19 rfl rfl)
theorem dJ10_compareValues_44 : decode cJ10_compareValues 44 = .ok (.isub, 1) := dk_100 (dk_at dksJ10_compareValues_1 21 rfl rfl)
theorem dJ10_compareValues_45 : decode cJ10_compareValues 45 = .ok (.ireturn, 1) := dk_172 (dk_at dksJ10_compareValues_1 22 rfl rfl)
theorem dJ10_compareValues_46 : decode cJ10_compareValues 46 = .ok (.iinc 5 1, 3) := dk_132 5 1 (dk_at dksJ10_compareValues_2 0 rfl rfl)
theorem dJ10_compareValues_49 : decode cJ10_compareValues 49 = .ok (.goto (-39), 3) := dk_167 255 217 (dk_at dksJ10_compareValues_2 3 rfl rfl)
theorem dJ10_compareValues_52 : decode cJ10_compareValues 52 = .ok (.iload_n 2, 1) := dk_28 (dk_at dksJ10_compareValues_2 6 rfl rfl)
theorem dJ10_compareValues_53 : decode cJ10_compareValues 53 = .ok (.iload_n 3, 1) := dk_29 (dk_at dksJ10_compareValues_2 7 rfl rfl)
theorem dJ10_compareValues_54 : decode cJ10_compareValues 54 = .ok (.isub, 1) := dk_100 (dk_at dksJ10_compareValues_2 8 rfl rfl)
theorem dJ10_compareValues_55 : decode cJ10_compareValues 55 = .ok (.ireturn, 1) := dk_172 (dk_at dksJ10_compareValues_2 9 rfl rfl)
abbrev cJ10_compareToLatin1 : ByteArray := prog_30_method_32_code
def yJ10_compareToLatin1 : MethodName := ⟨RJ10, "compareToLatin1", "([B[B)I"⟩
def dkwJ10_compareToLatin1_0 : List UInt8 := [43, 42, 184, 0, 189, 116, 172]
abbrev dktJ10_compareToLatin1_0 : List UInt8 := dkwJ10_compareToLatin1_0 ++ []
theorem dksJ10_compareToLatin1_0 : cJ10_compareToLatin1.data.toList.drop 0 = dktJ10_compareToLatin1_0 := by decide +kernel
theorem dJ10_compareToLatin1_0 : decode cJ10_compareToLatin1 0 = .ok (.aload_n 1, 1) := dk_43 (dk_at dksJ10_compareToLatin1_0 0 rfl rfl)
theorem dJ10_compareToLatin1_1 : decode cJ10_compareToLatin1 1 = .ok (.aload_n 0, 1) := dk_42 (dk_at dksJ10_compareToLatin1_0 1 rfl rfl)
theorem dJ10_compareToLatin1_2 : decode cJ10_compareToLatin1 2 = .ok (.invokestatic 189, 3) := dk_184 0 189 (dk_at dksJ10_compareToLatin1_0 2 rfl rfl)
theorem dJ10_compareToLatin1_5 : decode cJ10_compareToLatin1 5 = .ok (.ineg, 1) := dk_116 (dk_at dksJ10_compareToLatin1_0 5 rfl rfl)
theorem dJ10_compareToLatin1_6 : decode cJ10_compareToLatin1 6 = .ok (.ireturn, 1) := dk_172 (dk_at dksJ10_compareToLatin1_0 6 rfl rfl)
theorem q128 : (Jvm.Cond.initialized "java/lang/StringUTF16") ∈ lw_all := lw_g (lw_at lw_m1 21 rfl) rfl
theorem q652 : (Jvm.Cond.static ({ cls := "java/lang/StringUTF16", name := "charAt", desc := "([BI)C" } : Jvm.MethodName)) ∈ lw_all := lw_g (lw_at lw_m3 65 rfl) rfl
theorem q653 : (Jvm.Cond.code ({ cls := "java/lang/StringUTF16", name := "charAt", desc := "([BI)C" } : Jvm.MethodName) prog_30_method_83_code (2 : Nat) (Option.some Jvm.ClassFile.FieldType.char)) ∈ lw_all := lw_g (lw_at lw_m3 66 rfl) rfl
theorem q654 : (Jvm.Cond.methodLink "java/lang/StringUTF16" (67 : Nat) ({ cls := "java/lang/StringUTF16", name := "checkIndex", desc := "(I[B)V" } : Jvm.MethodName)) ∈ lw_all := lw_g (lw_at lw_m3 67 rfl) rfl
theorem q655 : (Jvm.Cond.static ({ cls := "java/lang/StringUTF16", name := "checkIndex", desc := "(I[B)V" } : Jvm.MethodName)) ∈ lw_all := lw_g (lw_at lw_m3 68 rfl) rfl
theorem q656 : (Jvm.Cond.code ({ cls := "java/lang/StringUTF16", name := "checkIndex", desc := "(I[B)V" } : Jvm.MethodName) prog_30_method_91_code (2 : Nat) (Option.none : Option Jvm.ClassFile.FieldType)) ∈ lw_all := lw_g (lw_at lw_m3 69 rfl) rfl
theorem q657 : (Jvm.Cond.methodLink "java/lang/StringUTF16" (48 : Nat) ({ cls := "java/lang/StringUTF16", name := "length", desc := "([B)I" } : Jvm.MethodName)) ∈ lw_all := lw_g (lw_at lw_m3 70 rfl) rfl
theorem q658 : (Jvm.Cond.static ({ cls := "java/lang/StringUTF16", name := "length", desc := "([B)I" } : Jvm.MethodName)) ∈ lw_all := lw_g (lw_at lw_m3 71 rfl) rfl
theorem q659 : (Jvm.Cond.code ({ cls := "java/lang/StringUTF16", name := "length", desc := "([B)I" } : Jvm.MethodName) prog_30_method_6_code (1 : Nat) (Option.some Jvm.ClassFile.FieldType.int)) ∈ lw_all := lw_g (lw_at lw_m3 72 rfl) rfl
theorem q660 : (Jvm.Cond.methodLink "java/lang/StringUTF16" (414 : Nat) ({ cls := "java/lang/String", name := "checkIndex", desc := "(II)V" } : Jvm.MethodName)) ∈ lw_all := lw_g (lw_at lw_m3 73 rfl) rfl
theorem q661 : (Jvm.Cond.methodLink "java/lang/StringUTF16" (71 : Nat) ({ cls := "java/lang/StringUTF16", name := "getChar", desc := "([BI)C" } : Jvm.MethodName)) ∈ lw_all := lw_g (lw_at lw_m3 74 rfl) rfl
theorem q662 : (Jvm.Cond.static ({ cls := "java/lang/StringUTF16", name := "getChar", desc := "([BI)C" } : Jvm.MethodName)) ∈ lw_all := lw_g (lw_at lw_m3 75 rfl) rfl
theorem q663 : (Jvm.Cond.code ({ cls := "java/lang/StringUTF16", name := "getChar", desc := "([BI)C" } : Jvm.MethodName) prog_30_method_5_code (2 : Nat) (Option.some Jvm.ClassFile.FieldType.char)) ∈ lw_all := lw_g (lw_at lw_m3 76 rfl) rfl
theorem q664 : (Jvm.Cond.fieldLink "java/lang/StringUTF16" (44 : Nat) "java/lang/StringUTF16" "$assertionsDisabled" "Z") ∈ lw_all := lw_g (lw_at lw_m3 77 rfl) rfl
theorem q665 : (Jvm.Cond.laysStatic "java/lang/StringUTF16" "$assertionsDisabled" "Z") ∈ lw_tbl := lw_at lw_m3 78 rfl
theorem q666 : (Jvm.Cond.fieldLink "java/lang/StringUTF16" (59 : Nat) "java/lang/StringUTF16" "HI_BYTE_SHIFT" "I") ∈ lw_all := lw_g (lw_at lw_m3 79 rfl) rfl
theorem q667 : (Jvm.Cond.laysStatic "java/lang/StringUTF16" "HI_BYTE_SHIFT" "I") ∈ lw_tbl := lw_at lw_m3 80 rfl
theorem q668 : (Jvm.Cond.fieldLink "java/lang/StringUTF16" (63 : Nat) "java/lang/StringUTF16" "LO_BYTE_SHIFT" "I") ∈ lw_all := lw_g (lw_at lw_m3 81 rfl) rfl
theorem q669 : (Jvm.Cond.laysStatic "java/lang/StringUTF16" "LO_BYTE_SHIFT" "I") ∈ lw_tbl := lw_at lw_m3 82 rfl
theorem q1224 : (Jvm.Cond.static ({ cls := "java/lang/StringUTF16", name := "compareTo", desc := "([B[B)I" } : Jvm.MethodName)) ∈ lw_all := lw_g (lw_at lw_m5 157 rfl) rfl
theorem q1225 : (Jvm.Cond.code ({ cls := "java/lang/StringUTF16", name := "compareTo", desc := "([B[B)I" } : Jvm.MethodName) prog_30_method_29_code (4 : Nat) (Option.some Jvm.ClassFile.FieldType.int)) ∈ lw_all := lw_g (lw_at lw_m5 158 rfl) rfl
theorem q1226 : (Jvm.Cond.methodLink "java/lang/StringUTF16" (176 : Nat) ({ cls := "java/lang/StringUTF16", name := "compareValues", desc := "([B[BII)I" } : Jvm.MethodName)) ∈ lw_all := lw_g (lw_at lw_m5 159 rfl) rfl
theorem q1227 : (Jvm.Cond.static ({ cls := "java/lang/StringUTF16", name := "compareValues", desc := "([B[BII)I" } : Jvm.MethodName)) ∈ lw_all := lw_g (lw_at lw_m5 160 rfl) rfl
theorem q1228 : (Jvm.Cond.code ({ cls := "java/lang/StringUTF16", name := "compareValues", desc := "([B[BII)I" } : Jvm.MethodName) prog_30_method_31_code (8 : Nat) (Option.some Jvm.ClassFile.FieldType.int)) ∈ lw_all := lw_g (lw_at lw_m5 161 rfl) rfl
theorem q1229 : (Jvm.Cond.methodLink "java/lang/StringUTF16" (183 : Nat) ({ cls := "java/lang/Math", name := "min", desc := "(II)I" } : Jvm.MethodName)) ∈ lw_all := lw_g (lw_at lw_m5 162 rfl) rfl
theorem q1242 : (Jvm.Cond.static ({ cls := "java/lang/StringUTF16", name := "compareToLatin1", desc := "([B[B)I" } : Jvm.MethodName)) ∈ lw_all := lw_g (lw_at lw_m5 175 rfl) rfl
theorem q1243 : (Jvm.Cond.code ({ cls := "java/lang/StringUTF16", name := "compareToLatin1", desc := "([B[B)I" } : Jvm.MethodName) prog_30_method_32_code (2 : Nat) (Option.some Jvm.ClassFile.FieldType.int)) ∈ lw_all := lw_g (lw_at lw_m5 176 rfl) rfl
theorem q1244 : (Jvm.Cond.methodLink "java/lang/StringUTF16" (189 : Nat) ({ cls := "java/lang/StringLatin1", name := "compareToUTF16", desc := "([B[B)I" } : Jvm.MethodName)) ∈ lw_all := lw_g (lw_at lw_m5 177 rfl) rfl
/-! java/util/Arrays -/
set_option maxRecDepth 100000
def RJ11 : String := "java/util/Arrays"
abbrev cJ11_copyOf : ByteArray := prog_40_method_119_code
def yJ11_copyOf : MethodName := ⟨RJ11, "copyOf", "([Ljava/lang/Object;I)[Ljava/lang/Object;"⟩
def dkwJ11_copyOf_0 : List UInt8 := [42, 27, 42, 182, 0, 86, 184, 1, 44, 176]
abbrev dktJ11_copyOf_0 : List UInt8 := dkwJ11_copyOf_0 ++ []
theorem dksJ11_copyOf_0 : cJ11_copyOf.data.toList.drop 0 = dktJ11_copyOf_0 := by decide +kernel
theorem dJ11_copyOf_0 : decode cJ11_copyOf 0 = .ok (.aload_n 0, 1) := dk_42 (dk_at dksJ11_copyOf_0 0 rfl rfl)
theorem dJ11_copyOf_1 : decode cJ11_copyOf 1 = .ok (.iload_n 1, 1) := dk_27 (dk_at dksJ11_copyOf_0 1 rfl rfl)
theorem dJ11_copyOf_2 : decode cJ11_copyOf 2 = .ok (.aload_n 0, 1) := dk_42 (dk_at dksJ11_copyOf_0 2 rfl rfl)
theorem dJ11_copyOf_3 : decode cJ11_copyOf 3 = .ok (.invokevirtual 86, 3) := dk_182 0 86 (dk_at dksJ11_copyOf_0 3 rfl rfl)
theorem dJ11_copyOf_6 : decode cJ11_copyOf 6 = .ok (.invokestatic 300, 3) := dk_184 1 44 (dk_at dksJ11_copyOf_0 6 rfl rfl)
theorem dJ11_copyOf_9 : decode cJ11_copyOf 9 = .ok (.areturn, 1) := dk_176 (dk_at dksJ11_copyOf_0 9 rfl rfl)
abbrev cJ11_copyOf_2 : ByteArray := prog_40_method_120_code
def yJ11_copyOf_2 : MethodName := ⟨RJ11, "copyOf", "([Ljava/lang/Object;ILjava/lang/Class;)[Ljava/lang/Object;"⟩
def dkwJ11_copyOf_2_1 : List UInt8 := [78, 42, 3, 45, 3, 42, 190, 27, 184, 1, 48, 184, 0, 150, 45, 176]
abbrev dktJ11_copyOf_2_1 : List UInt8 := dkwJ11_copyOf_2_1 ++ []
def dkwJ11_copyOf_2_0 : List UInt8 := [44, 18, 110, 166, 0, 10, 27, 189, 0, 2, 167, 0, 14, 44, 182, 0, 90, 27, 184, 0, 95, 192, 0, 110]
abbrev dktJ11_copyOf_2_0 : List UInt8 := dkwJ11_copyOf_2_0 ++ dktJ11_copyOf_2_1
theorem dksJ11_copyOf_2_0 : cJ11_copyOf_2.data.toList.drop 0 = dktJ11_copyOf_2_0 := by decide +kernel
theorem dksJ11_copyOf_2_1 : cJ11_copyOf_2.data.toList.drop 24 = dktJ11_copyOf_2_1 := dk_seg dksJ11_copyOf_2_0 24 rfl rfl
theorem dJ11_copyOf_2_0 : decode cJ11_copyOf_2 0 = .ok (.aload_n 2, 1) := dk_44 (dk_at dksJ11_copyOf_2_0 0 rfl rfl)
theorem dJ11_copyOf_2_1 : decode cJ11_copyOf_2 1 = .ok (.ldc 110, 2) := dk_18 110 (dk_at dksJ11_copyOf_2_0 1 rfl rfl)
theorem dJ11_copyOf_2_3 : decode cJ11_copyOf_2 3 = .ok (.if_acmp .ne 10, 3) := dk_166 0 10 (dk_at dksJ11_copyOf_2_0 3 rfl rfl)
theorem dJ11_copyOf_2_6 : decode cJ11_copyOf_2 6 = .ok (.iload_n 1, 1) := dk_27 (dk_at dksJ11_copyOf_2_0 6 rfl rfl)
theorem dJ11_copyOf_2_7 : decode cJ11_copyOf_2 7 = .ok (.anewarray 2, 3) := dk_189 0 2 (dk_at dksJ11_copyOf_2_0 7 rfl rfl)
theorem dJ11_copyOf_2_10 : decode cJ11_copyOf_2 10 = .ok (.goto 14, 3) := dk_167 0 14 (dk_at dksJ11_copyOf_2_0 10 rfl rfl)
theorem dJ11_copyOf_2_13 : decode cJ11_copyOf_2 13 = .ok (.aload_n 2, 1) := dk_44 (dk_at dksJ11_copyOf_2_0 13 rfl rfl)
theorem dJ11_copyOf_2_14 : decode cJ11_copyOf_2 14 = .ok (.invokevirtual 90, 3) := dk_182 0 90 (dk_at dksJ11_copyOf_2_0 14 rfl rfl)
theorem dJ11_copyOf_2_17 : decode cJ11_copyOf_2 17 = .ok (.iload_n 1, 1) := dk_27 (dk_at dksJ11_copyOf_2_0 17 rfl rfl)
theorem dJ11_copyOf_2_18 : decode cJ11_copyOf_2 18 = .ok (.invokestatic 95, 3) := dk_184 0 95 (dk_at dksJ11_copyOf_2_0 18 rfl rfl)
theorem dJ11_copyOf_2_21 : decode cJ11_copyOf_2 21 = .ok (.checkcast 110, 3) := dk_192 0 110 (dk_at dksJ11_copyOf_2_0 21 rfl rfl)
theorem dJ11_copyOf_2_24 : decode cJ11_copyOf_2 24 = .ok (.astore_n 3, 1) := dk_78 (dk_at dksJ11_copyOf_2_1 0 rfl rfl)
theorem dJ11_copyOf_2_25 : decode cJ11_copyOf_2 25 = .ok (.aload_n 0, 1) := dk_42 (dk_at dksJ11_copyOf_2_1 1 rfl rfl)
theorem dJ11_copyOf_2_26 : decode cJ11_copyOf_2 26 = .ok (.iconst 0, 1) := dk_3 (dk_at dksJ11_copyOf_2_1 2 rfl rfl)
theorem dJ11_copyOf_2_27 : decode cJ11_copyOf_2 27 = .ok (.aload_n 3, 1) := dk_45 (dk_at dksJ11_copyOf_2_1 3 rfl rfl)
theorem dJ11_copyOf_2_28 : decode cJ11_copyOf_2 28 = .ok (.iconst 0, 1) := dk_3 (dk_at dksJ11_copyOf_2_1 4 rfl rfl)
theorem dJ11_copyOf_2_29 : decode cJ11_copyOf_2 29 = .ok (.aload_n 0, 1) := dk_42 (dk_at dksJ11_copyOf_2_1 5 rfl rfl)
theorem dJ11_copyOf_2_30 : decode cJ11_copyOf_2 30 = .ok (.arraylength, 1) := dk_190 (dk_at dksJ11_copyOf_2_1 6 rfl rfl)
theorem dJ11_copyOf_2_31 : decode cJ11_copyOf_2 31 = .ok (.iload_n 1, 1) := dk_27 (dk_at dksJ11_copyOf_2_1 7 rfl rfl)
theorem dJ11_copyOf_2_32 : decode cJ11_copyOf_2 32 = .ok (.invokestatic 304, 3) := dk_184 1 48 (dk_at dksJ11_copyOf_2_1 8 rfl rfl)
theorem dJ11_copyOf_2_35 : decode cJ11_copyOf_2 35 = .ok (.invokestatic 150, 3) := dk_184 0 150 (dk_at dksJ11_copyOf_2_1 11 rfl rfl)
theorem dJ11_copyOf_2_38 : decode cJ11_copyOf_2 38 = .ok (.aload_n 3, 1) := dk_45 (dk_at dksJ11_copyOf_2_1 14 rfl rfl)
theorem dJ11_copyOf_2_39 : decode cJ11_copyOf_2 39 = .ok (.areturn, 1) := dk_176 (dk_at dksJ11_copyOf_2_1 15 rfl rfl)
theorem q130 : (Jvm.Cond.initialized "java/util/Arrays") ∈ lw_all := lw_g (lw_at lw_m1 23 rfl) rfl
theorem q867 : (Jvm.Cond.static ({ cls := "java/util/Arrays", name := "copyOf", desc := "([Ljava/lang/Object;I)[Ljava/lang/Object;" } : Jvm.MethodName)) ∈ lw_all := lw_g (lw_at lw_m4 40 rfl) rfl
theorem q868 : (Jvm.Cond.code ({ cls := "java/util/Arrays", name := "copyOf", desc := "([Ljava/lang/Object;I)[Ljava/lang/Object;" } : Jvm.MethodName) prog_40_method_119_code (2 : Nat) (Option.some (Jvm.ClassFile.FieldType.array (Jvm.ClassFile.FieldType.object "java/lang/Object")))) ∈ lw_all := lw_g (lw_at lw_m4 41 rfl) rfl
theorem q869 : (Jvm.Cond.methodLink "java/util/Arrays" (86 : Nat) ({ cls := "java/lang/Object", name := "getClass", desc := "()Ljava/lang/Class;" } : Jvm.MethodName)) ∈ lw_all := lw_g (lw_at lw_m4 42 rfl) rfl
theorem q894 : (Jvm.Cond.methodLink "java/util/Arrays" (300 : Nat) ({ cls := "java/util/Arrays", name := "copyOf", desc := "([Ljava/lang/Object;ILjava/lang/Class;)[Ljava/lang/Object;" } : Jvm.MethodName)) ∈ lw_all := lw_g (lw_at lw_m4 67 rfl) rfl
theorem q895 : (Jvm.Cond.static ({ cls := "java/util/Arrays", name := "copyOf", desc := "([Ljava/lang/Object;ILjava/lang/Class;)[Ljava/lang/Object;" } : Jvm.MethodName)) ∈ lw_all := lw_g (lw_at lw_m4 68 rfl) rfl
theorem q896 : (Jvm.Cond.code ({ cls := "java/util/Arrays", name := "copyOf", desc := "([Ljava/lang/Object;ILjava/lang/Class;)[Ljava/lang/Object;" } : Jvm.MethodName) prog_40_method_120_code (4 : Nat) (Option.some (Jvm.ClassFile.FieldType.array (Jvm.ClassFile.FieldType.object "java/lang/Object")))) ∈ lw_all := lw_g (lw_at lw_m4 69 rfl) rfl
theorem q897 : (Jvm.Cond.classLink "java/util/Arrays" (110 : Nat) "[Ljava/lang/Object;") ∈ lw_all := lw_g (lw_at lw_m4 70 rfl) rfl
theorem q898 : (Jvm.Cond.classLink "java/util/Arrays" (2 : Nat) "java/lang/Object") ∈ lw_all := lw_g (lw_at lw_m4 71 rfl) rfl
theorem q899 : (Jvm.Cond.methodLink "java/util/Arrays" (304 : Nat) ({ cls := "java/lang/Math", name := "min", desc := "(II)I" } : Jvm.MethodName)) ∈ lw_all := lw_g (lw_at lw_m4 72 rfl) rfl
theorem q902 : (Jvm.Cond.methodLink "java/util/Arrays" (150 : Nat) ({ cls := "java/lang/System", name := "arraycopy", desc := "(Ljava/lang/Object;ILjava/lang/Object;II)V" } : Jvm.MethodName)) ∈ lw_all := lw_g (lw_at lw_m4 75 rfl) rfl
/-! java/lang/Math -/
set_option maxRecDepth 100000
def RJ12 : String := "java/lang/Math"
abbrev cJ12_min : ByteArray := prog_25_method_69_code
def yJ12_min : MethodName := ⟨RJ12, "min", "(II)I"⟩
def dkwJ12_min_0 : List UInt8 := [26, 27, 163, 0, 7, 26, 167, 0, 4, 27, 172]
abbrev dktJ12_min_0 : List UInt8 := dkwJ12_min_0 ++ []
theorem dksJ12_min_0 : cJ12_min.data.toList.drop 0 = dktJ12_min_0 := by decide +kernel
theorem dJ12_min_0 : decode cJ12_min 0 = .ok (.iload_n 0, 1) := dk_26 (dk_at dksJ12_min_0 0 rfl rfl)
theorem dJ12_min_1 : decode cJ12_min 1 = .ok (.iload_n 1, 1) := dk_27 (dk_at dksJ12_min_0 1 rfl rfl)
theorem dJ12_min_2 : decode cJ12_min 2 = .ok (.if_icmp .gt 7, 3) := dk_163 0 7 (dk_at dksJ12_min_0 2 rfl rfl)
theorem dJ12_min_5 : decode cJ12_min 5 = .ok (.iload_n 0, 1) := dk_26 (dk_at dksJ12_min_0 5 rfl rfl)
theorem dJ12_min_6 : decode cJ12_min 6 = .ok (.goto 4, 3) := dk_167 0 4 (dk_at dksJ12_min_0 6 rfl rfl)
theorem dJ12_min_9 : decode cJ12_min 9 = .ok (.iload_n 1, 1) := dk_27 (dk_at dksJ12_min_0 9 rfl rfl)
theorem dJ12_min_10 : decode cJ12_min 10 = .ok (.ireturn, 1) := dk_172 (dk_at dksJ12_min_0 10 rfl rfl)
abbrev cJ12_max : ByteArray := prog_25_method_65_code
def yJ12_max : MethodName := ⟨RJ12, "max", "(II)I"⟩
def dkwJ12_max_0 : List UInt8 := [26, 27, 161, 0, 7, 26, 167, 0, 4, 27, 172]
abbrev dktJ12_max_0 : List UInt8 := dkwJ12_max_0 ++ []
theorem dksJ12_max_0 : cJ12_max.data.toList.drop 0 = dktJ12_max_0 := by decide +kernel
theorem dJ12_max_0 : decode cJ12_max 0 = .ok (.iload_n 0, 1) := dk_26 (dk_at dksJ12_max_0 0 rfl rfl)
theorem dJ12_max_1 : decode cJ12_max 1 = .ok (.iload_n 1, 1) := dk_27 (dk_at dksJ12_max_0 1 rfl rfl)
theorem dJ12_max_2 : decode cJ12_max 2 = .ok (.if_icmp .lt 7, 3) := dk_161 0 7 (dk_at dksJ12_max_0 2 rfl rfl)
theorem dJ12_max_5 : decode cJ12_max 5 = .ok (.iload_n 0, 1) := dk_26 (dk_at dksJ12_max_0 5 rfl rfl)
theorem dJ12_max_6 : decode cJ12_max 6 = .ok (.goto 4, 3) := dk_167 0 4 (dk_at dksJ12_max_0 6 rfl rfl)
theorem dJ12_max_9 : decode cJ12_max 9 = .ok (.iload_n 1, 1) := dk_27 (dk_at dksJ12_max_0 9 rfl rfl)
theorem dJ12_max_10 : decode cJ12_max 10 = .ok (.ireturn, 1) := dk_172 (dk_at dksJ12_max_0 10 rfl rfl)
abbrev cJ12_abs : ByteArray := prog_25_method_59_code
def yJ12_abs : MethodName := ⟨RJ12, "abs", "(I)I"⟩
def dkwJ12_abs_0 : List UInt8 := [26, 156, 0, 8, 26, 116, 167, 0, 4, 26, 172]
abbrev dktJ12_abs_0 : List UInt8 := dkwJ12_abs_0 ++ []
theorem dksJ12_abs_0 : cJ12_abs.data.toList.drop 0 = dktJ12_abs_0 := by decide +kernel
theorem dJ12_abs_0 : decode cJ12_abs 0 = .ok (.iload_n 0, 1) := dk_26 (dk_at dksJ12_abs_0 0 rfl rfl)
theorem dJ12_abs_1 : decode cJ12_abs 1 = .ok (.ifCond .ge 8, 3) := dk_156 0 8 (dk_at dksJ12_abs_0 1 rfl rfl)
theorem dJ12_abs_4 : decode cJ12_abs 4 = .ok (.iload_n 0, 1) := dk_26 (dk_at dksJ12_abs_0 4 rfl rfl)
theorem dJ12_abs_5 : decode cJ12_abs 5 = .ok (.ineg, 1) := dk_116 (dk_at dksJ12_abs_0 5 rfl rfl)
theorem dJ12_abs_6 : decode cJ12_abs 6 = .ok (.goto 4, 3) := dk_167 0 4 (dk_at dksJ12_abs_0 6 rfl rfl)
theorem dJ12_abs_9 : decode cJ12_abs 9 = .ok (.iload_n 0, 1) := dk_26 (dk_at dksJ12_abs_0 9 rfl rfl)
theorem dJ12_abs_10 : decode cJ12_abs 10 = .ok (.ireturn, 1) := dk_172 (dk_at dksJ12_abs_0 10 rfl rfl)
abbrev cJ12_max_2 : ByteArray := prog_25_method_66_code
def yJ12_max_2 : MethodName := ⟨RJ12, "max", "(JJ)J"⟩
def dkwJ12_max_2_0 : List UInt8 := [30, 32, 148, 155, 0, 7, 30, 167, 0, 4, 32, 173]
abbrev dktJ12_max_2_0 : List UInt8 := dkwJ12_max_2_0 ++ []
theorem dksJ12_max_2_0 : cJ12_max_2.data.toList.drop 0 = dktJ12_max_2_0 := by decide +kernel
theorem dJ12_max_2_0 : decode cJ12_max_2 0 = .ok (.lload_n 0, 1) := dk_30 (dk_at dksJ12_max_2_0 0 rfl rfl)
theorem dJ12_max_2_1 : decode cJ12_max_2 1 = .ok (.lload_n 2, 1) := dk_32 (dk_at dksJ12_max_2_0 1 rfl rfl)
theorem dJ12_max_2_2 : decode cJ12_max_2 2 = .ok (.lcmp, 1) := dk_148 (dk_at dksJ12_max_2_0 2 rfl rfl)
theorem dJ12_max_2_3 : decode cJ12_max_2 3 = .ok (.ifCond .lt 7, 3) := dk_155 0 7 (dk_at dksJ12_max_2_0 3 rfl rfl)
theorem dJ12_max_2_6 : decode cJ12_max_2 6 = .ok (.lload_n 0, 1) := dk_30 (dk_at dksJ12_max_2_0 6 rfl rfl)
theorem dJ12_max_2_7 : decode cJ12_max_2 7 = .ok (.goto 4, 3) := dk_167 0 4 (dk_at dksJ12_max_2_0 7 rfl rfl)
theorem dJ12_max_2_10 : decode cJ12_max_2 10 = .ok (.lload_n 2, 1) := dk_32 (dk_at dksJ12_max_2_0 10 rfl rfl)
theorem dJ12_max_2_11 : decode cJ12_max_2 11 = .ok (.lreturn, 1) := dk_173 (dk_at dksJ12_max_2_0 11 rfl rfl)
theorem q131 : (Jvm.Cond.initialized "java/lang/Math") ∈ lw_all := lw_g (lw_at lw_m1 24 rfl) rfl
theorem q900 : (Jvm.Cond.static ({ cls := "java/lang/Math", name := "min", desc := "(II)I" } : Jvm.MethodName)) ∈ lw_all := lw_g (lw_at lw_m4 73 rfl) rfl
theorem q901 : (Jvm.Cond.code ({ cls := "java/lang/Math", name := "min", desc := "(II)I" } : Jvm.MethodName) prog_25_method_69_code (2 : Nat) (Option.some Jvm.ClassFile.FieldType.int)) ∈ lw_all := lw_g (lw_at lw_m4 74 rfl) rfl
theorem q1344 : (Jvm.Cond.static ({ cls := "java/lang/Math", name := "max", desc := "(II)I" } : Jvm.MethodName)) ∈ lw_all := lw_g (lw_at lw_m6 37 rfl) rfl
theorem q1345 : (Jvm.Cond.code ({ cls := "java/lang/Math", name := "max", desc := "(II)I" } : Jvm.MethodName) prog_25_method_65_code (2 : Nat) (Option.some Jvm.ClassFile.FieldType.int)) ∈ lw_all := lw_g (lw_at lw_m6 38 rfl) rfl
theorem q1477 : (Jvm.Cond.static ({ cls := "java/lang/Math", name := "abs", desc := "(I)I" } : Jvm.MethodName)) ∈ lw_all := lw_g (lw_at lw_m6 170 rfl) rfl
theorem q1478 : (Jvm.Cond.code ({ cls := "java/lang/Math", name := "abs", desc := "(I)I" } : Jvm.MethodName) prog_25_method_59_code (1 : Nat) (Option.some Jvm.ClassFile.FieldType.int)) ∈ lw_all := lw_g (lw_at lw_m6 171 rfl) rfl
theorem q1799 : (Jvm.Cond.static ({ cls := "java/lang/Math", name := "max", desc := "(JJ)J" } : Jvm.MethodName)) ∈ lw_all := lw_g (lw_at lw_m8 12 rfl) rfl
theorem q1800 : (Jvm.Cond.code ({ cls := "java/lang/Math", name := "max", desc := "(JJ)J" } : Jvm.MethodName) prog_25_method_66_code (4 : Nat) (Option.some Jvm.ClassFile.FieldType.long)) ∈ lw_all := lw_g (lw_at lw_m8 13 rfl) rfl
/-! java/lang/Number -/
set_option maxRecDepth 100000
def RJ13 : String := "java/lang/Number"
abbrev cJ13_init : ByteArray := prog_26_method_1_code
def yJ13_init : MethodName := ⟨RJ13, "<init>", "()V"⟩
theorem dJ13_init_0 : decode cJ13_init 0 = .ok (.aload_n 0, 1) := by decide +kernel
theorem dJ13_init_1 : decode cJ13_init 1 = .ok (.invokespecial 1, 3) := by decide +kernel
theorem dJ13_init_4 : decode cJ13_init 4 = .ok (.return_, 1) := by decide +kernel
theorem q132 : (Jvm.Cond.initialized "java/lang/Number") ∈ lw_all := lw_g (lw_at lw_m1 25 rfl) rfl
theorem q1035 : (Jvm.Cond.instanceMethod ({ cls := "java/lang/Number", name := "<init>", desc := "()V" } : Jvm.MethodName)) ∈ lw_all := lw_g (lw_at lw_m4 208 rfl) rfl
theorem q1036 : (Jvm.Cond.code ({ cls := "java/lang/Number", name := "<init>", desc := "()V" } : Jvm.MethodName) prog_26_method_1_code (1 : Nat) (Option.none : Option Jvm.ClassFile.FieldType)) ∈ lw_all := lw_g (lw_at lw_m4 209 rfl) rfl
theorem q1037 : (Jvm.Cond.methodLink "java/lang/Number" (1 : Nat) ({ cls := "java/lang/Object", name := "<init>", desc := "()V" } : Jvm.MethodName)) ∈ lw_all := lw_g (lw_at lw_m4 210 rfl) rfl

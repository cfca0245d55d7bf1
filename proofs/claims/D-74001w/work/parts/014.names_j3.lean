/-! jdk/internal/util/ArraysSupport -/
set_option maxRecDepth 100000
def RJ16 : String := "jdk/internal/util/ArraysSupport"
abbrev cJ16_mismatch : ByteArray := prog_59_method_13_code
def yJ16_mismatch : MethodName := ⟨RJ16, "mismatch", "([B[BI)I"⟩
def dkwJ16_mismatch_3 : List UInt8 := [172]
abbrev dktJ16_mismatch_3 : List UInt8 := dkwJ16_mismatch_3 ++ []
def dkwJ16_mismatch_2 : List UInt8 := [62, 29, 28, 162, 0, 20, 42, 29, 51, 43, 29, 51, 159, 0, 5, 29, 172, 132, 3, 1, 167, 255, 237, 2]
abbrev dktJ16_mismatch_2 : List UInt8 := dkwJ16_mismatch_2 ++ dktJ16_mismatch_3
def dkwJ16_mismatch_1 : List UInt8 := [43, 178, 0, 126, 133, 28, 178, 0, 129, 184, 0, 122, 62, 29, 155, 0, 5, 29, 172, 28, 29, 2, 130, 100]
abbrev dktJ16_mismatch_1 : List UInt8 := dkwJ16_mismatch_1 ++ dktJ16_mismatch_2
def dkwJ16_mismatch_0 : List UInt8 := [3, 62, 28, 16, 7, 164, 0, 44, 42, 3, 51, 43, 3, 51, 159, 0, 5, 3, 172, 42, 178, 0, 126, 133]
abbrev dktJ16_mismatch_0 : List UInt8 := dkwJ16_mismatch_0 ++ dktJ16_mismatch_1
theorem dksJ16_mismatch_0 : cJ16_mismatch.data.toList.drop 0 = dktJ16_mismatch_0 := by decide +kernel
theorem dksJ16_mismatch_1 : cJ16_mismatch.data.toList.drop 24 = dktJ16_mismatch_1 := dk_seg dksJ16_mismatch_0 24 rfl rfl
theorem dksJ16_mismatch_2 : cJ16_mismatch.data.toList.drop 48 = dktJ16_mismatch_2 := dk_seg dksJ16_mismatch_1 24 rfl rfl
theorem dksJ16_mismatch_3 : cJ16_mismatch.data.toList.drop 72 = dktJ16_mismatch_3 := dk_seg dksJ16_mismatch_2 24 rfl rfl
theorem dJ16_mismatch_0 : decode cJ16_mismatch 0 = .ok (.iconst 0, 1) := dk_3 (dk_at dksJ16_mismatch_0 0 rfl rfl)
theorem dJ16_mismatch_1 : decode cJ16_mismatch 1 = .ok (.istore_n 3, 1) := dk_62 (dk_at dksJ16_mismatch_0 1 rfl rfl)
theorem dJ16_mismatch_2 : decode cJ16_mismatch 2 = .ok (.iload_n 2, 1) := dk_28 (dk_at dksJ16_mismatch_0 2 rfl rfl)
theorem dJ16_mismatch_3 : decode cJ16_mismatch 3 = .ok (.bipush 7, 2) := dk_16 7 (dk_at dksJ16_mismatch_0 3 rfl rfl)
theorem dJ16_mismatch_5 : decode cJ16_mismatch 5 = .ok (.if_icmp .le 44, 3) := dk_164 0 44 (dk_at dksJ16_mismatch_0 5 rfl rfl)
theorem dJ16_mismatch_8 : decode cJ16_mismatch 8 = .ok (.aload_n 0, 1) := dk_42 (dk_at dksJ16_mismatch_0 8 rfl rfl)
theorem dJ16_mismatch_9 : decode cJ16_mismatch 9 = .ok (.iconst 0, 1) := dk_3 (dk_at dksJ16_mismatch_0 9 rfl rfl)
theorem dJ16_mismatch_10 : decode cJ16_mismatch 10 = .ok (.baload, 1) := dk_51 (dk_at dksJ16_mismatch_0 10 rfl rfl)
theorem dJ16_mismatch_11 : decode cJ16_mismatch 11 = .ok (.aload_n 1, 1) := dk_43 (dk_at dksJ16_mismatch_0 11 rfl rfl)
theorem dJ16_mismatch_12 : decode cJ16_mismatch 12 = .ok (.iconst 0, 1) := dk_3 (dk_at dksJ16_mismatch_0 12 rfl rfl)
theorem dJ16_mismatch_13 : decode cJ16_mismatch 13 = .ok (.baload, 1) := dk_51 (dk_at dksJ16_mismatch_0 13 rfl rfl)
theorem dJ16_mismatch_14 : decode cJ16_mismatch 14 = .ok (.if_icmp .eq 5, 3) := dk_159 0 5 (dk_at dksJ16_mismatch_0 14 rfl rfl)
theorem dJ16_mismatch_17 : decode cJ16_mismatch 17 = .ok (.iconst 0, 1) := dk_3 (dk_at dksJ16_mismatch_0 17 rfl rfl)
theorem dJ16_mismatch_18 : decode cJ16_mismatch 18 = .ok (.ireturn, 1) := dk_172 (dk_at dksJ16_mismatch_0 18 rfl rfl)
theorem dJ16_mismatch_19 : decode cJ16_mismatch 19 = .ok (.aload_n 0, 1) := dk_42 (dk_at dksJ16_mismatch_0 19 rfl rfl)
theorem dJ16_mismatch_20 : decode cJ16_mismatch 20 = .ok (.getstatic 126, 3) := dk_178 0 126 (dk_at dksJ16_mismatch_0 20 rfl rfl)
theorem dJ16_mismatch_23 : decode cJ16_mismatch 23 = .ok (.i2l, 1) := dk_133 (dk_at dksJ16_mismatch_0 23 rfl rfl)
theorem dJ16_mismatch_24 : decode cJ16_mismatch 24 = .ok (.aload_n 1, 1) := dk_43 (dk_at dksJ16_mismatch_1 0 rfl rfl)
theorem dJ16_mismatch_25 : decode cJ16_mismatch 25 = .ok (.getstatic 126, 3) := dk_178 0 126 (dk_at dksJ16_mismatch_1 1 rfl rfl)
theorem dJ16_mismatch_28 : decode cJ16_mismatch 28 = .ok (.i2l, 1) := dk_133 (dk_at dksJ16_mismatch_1 4 rfl rfl)
theorem dJ16_mismatch_29 : decode cJ16_mismatch 29 = .ok (.iload_n 2, 1) := dk_28 (dk_at dksJ16_mismatch_1 5 rfl rfl)
theorem dJ16_mismatch_30 : decode cJ16_mismatch 30 = .ok (.getstatic 129, 3) := dk_178 0 129 (dk_at dksJ16_mismatch_1 6 rfl rfl)
theorem dJ16_mismatch_33 : decode cJ16_mismatch 33 = .ok (.invokestatic 122, 3) := dk_184 0 122 (dk_at dksJ16_mismatch_1 9 rfl rfl)
theorem dJ16_mismatch_36 : decode cJ16_mismatch 36 = .ok (.istore_n 3, 1) := dk_62 (dk_at dksJ16_mismatch_1 12 rfl rfl)
theorem dJ16_mismatch_37 : decode cJ16_mismatch 37 = .ok (.iload_n 3, 1) := dk_29 (dk_at dksJ16_mismatch_1 13 rfl rfl)
theorem dJ16_mismatch_38 : decode cJ16_mismatch 38 = .ok (.ifCond .lt 5, 3) := dk_155 0 5 (dk_at dksJ16_mismatch_1 14 rfl rfl)
theorem dJ16_mismatch_41 : decode cJ16_mismatch 41 = .ok (.iload_n 3, 1) := dk_29 (dk_at dksJ16_mismatch_1 17 rfl rfl)
theorem dJ16_mismatch_42 : decode cJ16_mismatch 42 = .ok (.ireturn, 1) := dk_172 (dk_at dksJ16_mismatch_1 18 rfl rfl)
theorem dJ16_mismatch_43 : decode cJ16_mismatch 43 = .ok (.iload_n 2, 1) := dk_28 (dk_at dksJ16_mismatch_1 19 rfl rfl)
theorem dJ16_mismatch_44 : decode cJ16_mismatch 44 = .ok (.iload_n 3, 1) := dk_29 (dk_at dksJ16_mismatch_1 20 rfl rfl)
theorem dJ16_mismatch_45 : decode cJ16_mismatch 45 = .ok (.iconst (-1), 1) := dk_2 (dk_at dksJ16_mismatch_1 21 rfl rfl)
theorem dJ16_mismatch_46 : decode cJ16_mismatch 46 = .ok (.ixor, 1) := dk_130 (dk_at dksJ16_mismatch_1 22 rfl rfl)
theorem dJ16_mismatch_47 : decode cJ16_mismatch 47 = .ok (.isub, 1) := dk_100 (dk_at dksJ16_mismatch_1 23 rfl rfl)
theorem dJ16_mismatch_48 : decode cJ16_mismatch 48 = .ok (.istore_n 3, 1) := dk_62 (dk_at dksJ16_mismatch_2 0 rfl rfl)
theorem dJ16_mismatch_49 : decode cJ16_mismatch 49 = .ok (.iload_n 3, 1) := dk_29 (dk_at dksJ16_mismatch_2 1 rfl rfl)
theorem dJ16_mismatch_50 : decode cJ16_mismatch 50 = .ok (.iload_n 2, 1) := dk_28 (dk_at dksJ16_mismatch_2 2 rfl rfl)
theorem dJ16_mismatch_51 : decode cJ16_mismatch 51 = .ok (.if_icmp .ge 20, 3) := dk_162 0 20 (dk_at dksJ16_mismatch_2 3 rfl rfl)
theorem dJ16_mismatch_54 : decode cJ16_mismatch 54 = .ok (.aload_n 0, 1) := dk_42 (dk_at dksJ16_mismatch_2 6 rfl rfl)
theorem dJ16_mismatch_55 : decode cJ16_mismatch 55 = .ok (.iload_n 3, 1) := dk_29 (dk_at dksJ16_mismatch_2 7 rfl rfl)
theorem dJ16_mismatch_56 : decode cJ16_mismatch 56 = .ok (.baload, 1) := dk_51 (dk_at dksJ16_mismatch_2 8 rfl rfl)
theorem dJ16_mismatch_57 : decode cJ16_mismatch 57 = .ok (.aload_n 1, 1) := dk_43 (dk_at dksJ16_mismatch_2 9 rfl rfl)
theorem dJ16_mismatch_58 : decode cJ16_mismatch 58 = .ok (.iload_n 3, 1) := dk_29 (dk_at dksJ16_mismatch_2 10 rfl rfl)
theorem dJ16_mismatch_59 : decode cJ16_mismatch 59 = .ok (.baload, 1) := dk_51 (dk_at dksJ16_mismatch_2 11 rfl rfl)
theorem dJ16_mismatch_60 : decode cJ16_mismatch 60 = .ok (.if_icmp .eq 5, 3) := dk_159 0 5 (dk_at dksJ16_mismatch_2 12 rfl rfl)
theorem dJ16_mismatch_63 : decode cJ16_mismatch 63 = .ok (.iload_n 3, 1) := dk_29 (dk_at dksJ16_mismatch_2 15 rfl rfl)
theorem dJ16_mismatch_64 : decode cJ16_mismatch 64 = .ok (.ireturn, 1) := dk_172 (dk_at dksJ16_mismatch_2 16 rfl rfl)
theorem dJ16_mismatch_65 : decode cJ16_mismatch 65 = .ok (.iinc 3 1, 3) := dk_132 3 1 (dk_at dksJ16_mismatch_2 17 rfl rfl)
theorem dJ16_mismatch_68 : decode cJ16_mismatch 68 = .ok (.goto (-19), 3) := dk_167 255 237 (dk_at dksJ16_mismatch_2 20 rfl rfl)
theorem dJ16_mismatch_71 : decode cJ16_mismatch 71 = .ok (.iconst (-1), 1) := dk_2 (dk_at dksJ16_mismatch_2 23 rfl rfl)
theorem dJ16_mismatch_72 : decode cJ16_mismatch 72 = .ok (.ireturn, 1) := dk_172 (dk_at dksJ16_mismatch_3 0 rfl rfl)
abbrev cJ16_vectorizedMismatch : ByteArray := prog_59_method_3_code
def yJ16_vectorizedMismatch : MethodName := ⟨RJ16, "vectorizedMismatch", "(Ljava/lang/Object;JLjava/lang/Object;JII)I"⟩
def dkwJ16_vectorizedMismatch_11 : List UInt8 := [54, 10, 21, 10, 2, 130, 172, 21, 10, 2, 130, 172]
abbrev dktJ16_vectorizedMismatch_11 : List UInt8 := dkwJ16_vectorizedMismatch_11 ++ []
def dkwJ16_vectorizedMismatch_10 : List UInt8 := [178, 0, 46, 21, 7, 96, 122, 54, 17, 21, 9, 21, 8, 120, 21, 17, 96, 172, 21, 10, 21, 11, 100]
abbrev dktJ16_vectorizedMismatch_10 : List UInt8 := dkwJ16_vectorizedMismatch_10 ++ dktJ16_vectorizedMismatch_11
def dkwJ16_vectorizedMismatch_9 : List UInt8 := [153, 0, 18, 21, 16, 184, 0, 58, 178, 0, 46, 21, 7, 96, 122, 167, 0, 15, 21, 16, 184, 0, 11]
abbrev dktJ16_vectorizedMismatch_9 : List UInt8 := dkwJ16_vectorizedMismatch_9 ++ dktJ16_vectorizedMismatch_10
def dkwJ16_vectorizedMismatch_8 : List UInt8 := [182, 0, 54, 54, 15, 21, 14, 21, 15, 159, 0, 54, 21, 14, 21, 15, 130, 54, 16, 178, 0, 36]
abbrev dktJ16_vectorizedMismatch_8 : List UInt8 := dkwJ16_vectorizedMismatch_8 ++ dktJ16_vectorizedMismatch_9
def dkwJ16_vectorizedMismatch_7 : List UInt8 := [55, 12, 178, 0, 26, 42, 31, 22, 12, 97, 182, 0, 54, 54, 14, 178, 0, 26, 45, 22, 4, 22, 12, 97]
abbrev dktJ16_vectorizedMismatch_7 : List UInt8 := dkwJ16_vectorizedMismatch_7 ++ dktJ16_vectorizedMismatch_8
def dkwJ16_vectorizedMismatch_6 : List UInt8 := [4, 178, 0, 51, 21, 7, 100, 120, 54, 11, 21, 10, 21, 11, 161, 0, 104, 21, 9, 133, 178, 0, 20, 121]
abbrev dktJ16_vectorizedMismatch_6 : List UInt8 := dkwJ16_vectorizedMismatch_6 ++ dktJ16_vectorizedMismatch_7
def dkwJ16_vectorizedMismatch_5 : List UInt8 := [132, 9, 1, 167, 255, 148, 21, 6, 21, 9, 21, 8, 120, 100, 54, 10, 21, 7, 178, 0, 51, 162, 0, 126]
abbrev dktJ16_vectorizedMismatch_5 : List UInt8 := dkwJ16_vectorizedMismatch_5 ++ dktJ16_vectorizedMismatch_6
def dkwJ16_vectorizedMismatch_4 : List UInt8 := [22, 16, 184, 0, 49, 178, 0, 46, 21, 7, 96, 122, 54, 18, 21, 9, 21, 8, 120, 21, 18, 96, 172]
abbrev dktJ16_vectorizedMismatch_4 : List UInt8 := dkwJ16_vectorizedMismatch_4 ++ dktJ16_vectorizedMismatch_5
def dkwJ16_vectorizedMismatch_3 : List UInt8 := [55, 16, 178, 0, 36, 153, 0, 18, 22, 16, 184, 0, 40, 178, 0, 46, 21, 7, 96, 122, 167, 0, 15]
abbrev dktJ16_vectorizedMismatch_3 : List UInt8 := dkwJ16_vectorizedMismatch_3 ++ dktJ16_vectorizedMismatch_4
def dkwJ16_vectorizedMismatch_2 : List UInt8 := [22, 4, 22, 10, 97, 182, 0, 30, 55, 14, 22, 12, 22, 14, 148, 153, 0, 54, 22, 12, 22, 14, 131]
abbrev dktJ16_vectorizedMismatch_2 : List UInt8 := dkwJ16_vectorizedMismatch_2 ++ dktJ16_vectorizedMismatch_3
def dkwJ16_vectorizedMismatch_1 : List UInt8 := [178, 0, 20, 121, 55, 10, 178, 0, 26, 42, 31, 22, 10, 97, 182, 0, 30, 55, 12, 178, 0, 26, 45]
abbrev dktJ16_vectorizedMismatch_1 : List UInt8 := dkwJ16_vectorizedMismatch_1 ++ dktJ16_vectorizedMismatch_2
def dkwJ16_vectorizedMismatch_0 : List UInt8 := [178, 0, 20, 21, 7, 100, 54, 8, 3, 54, 9, 21, 9, 21, 6, 21, 8, 122, 162, 0, 104, 21, 9, 133]
abbrev dktJ16_vectorizedMismatch_0 : List UInt8 := dkwJ16_vectorizedMismatch_0 ++ dktJ16_vectorizedMismatch_1
theorem dksJ16_vectorizedMismatch_0 : cJ16_vectorizedMismatch.data.toList.drop 0 = dktJ16_vectorizedMismatch_0 := by decide +kernel
theorem dksJ16_vectorizedMismatch_1 : cJ16_vectorizedMismatch.data.toList.drop 24 = dktJ16_vectorizedMismatch_1 := dk_seg dksJ16_vectorizedMismatch_0 24 rfl rfl
theorem dksJ16_vectorizedMismatch_2 : cJ16_vectorizedMismatch.data.toList.drop 47 = dktJ16_vectorizedMismatch_2 := dk_seg dksJ16_vectorizedMismatch_1 23 rfl rfl
theorem dksJ16_vectorizedMismatch_3 : cJ16_vectorizedMismatch.data.toList.drop 70 = dktJ16_vectorizedMismatch_3 := dk_seg dksJ16_vectorizedMismatch_2 23 rfl rfl
theorem dksJ16_vectorizedMismatch_4 : cJ16_vectorizedMismatch.data.toList.drop 93 = dktJ16_vectorizedMismatch_4 := dk_seg dksJ16_vectorizedMismatch_3 23 rfl rfl
theorem dksJ16_vectorizedMismatch_5 : cJ16_vectorizedMismatch.data.toList.drop 116 = dktJ16_vectorizedMismatch_5 := dk_seg dksJ16_vectorizedMismatch_4 23 rfl rfl
theorem dksJ16_vectorizedMismatch_6 : cJ16_vectorizedMismatch.data.toList.drop 140 = dktJ16_vectorizedMismatch_6 := dk_seg dksJ16_vectorizedMismatch_5 24 rfl rfl
theorem dksJ16_vectorizedMismatch_7 : cJ16_vectorizedMismatch.data.toList.drop 164 = dktJ16_vectorizedMismatch_7 := dk_seg dksJ16_vectorizedMismatch_6 24 rfl rfl
theorem dksJ16_vectorizedMismatch_8 : cJ16_vectorizedMismatch.data.toList.drop 188 = dktJ16_vectorizedMismatch_8 := dk_seg dksJ16_vectorizedMismatch_7 24 rfl rfl
theorem dksJ16_vectorizedMismatch_9 : cJ16_vectorizedMismatch.data.toList.drop 210 = dktJ16_vectorizedMismatch_9 := dk_seg dksJ16_vectorizedMismatch_8 22 rfl rfl
theorem dksJ16_vectorizedMismatch_10 : cJ16_vectorizedMismatch.data.toList.drop 233 = dktJ16_vectorizedMismatch_10 := dk_seg dksJ16_vectorizedMismatch_9 23 rfl rfl
theorem dksJ16_vectorizedMismatch_11 : cJ16_vectorizedMismatch.data.toList.drop 256 = dktJ16_vectorizedMismatch_11 := dk_seg dksJ16_vectorizedMismatch_10 23 rfl rfl
theorem dJ16_vectorizedMismatch_0 : decode cJ16_vectorizedMismatch 0 = .ok (.getstatic 20, 3) := dk_178 0 20 (dk_at dksJ16_vectorizedMismatch_0 0 rfl rfl)
theorem dJ16_vectorizedMismatch_3 : decode cJ16_vectorizedMismatch 3 = .ok (.iload 7, 2) := dk_21 7 (dk_at dksJ16_vectorizedMismatch_0 3 rfl rfl)
theorem dJ16_vectorizedMismatch_5 : decode cJ16_vectorizedMismatch 5 = .ok (.isub, 1) := dk_100 (dk_at dksJ16_vectorizedMismatch_0 5 rfl rfl)
theorem dJ16_vectorizedMismatch_6 : decode cJ16_vectorizedMismatch 6 = .ok (.istore 8, 2) := dk_54 8 (dk_at dksJ16_vectorizedMismatch_0 6 rfl rfl)
theorem dJ16_vectorizedMismatch_8 : decode cJ16_vectorizedMismatch 8 = .ok (.iconst 0, 1) := dk_3 (dk_at dksJ16_vectorizedMismatch_0 8 rfl rfl)
theorem dJ16_vectorizedMismatch_9 : decode cJ16_vectorizedMismatch 9 = .ok (.istore 9, 2) := dk_54 9 (dk_at dksJ16_vectorizedMismatch_0 9 rfl rfl)
theorem dJ16_vectorizedMismatch_11 : decode cJ16_vectorizedMismatch 11 = .ok (.iload 9, 2) := dk_21 9 (dk_at dksJ16_vectorizedMismatch_0 11 rfl rfl)
theorem dJ16_vectorizedMismatch_13 : decode cJ16_vectorizedMismatch 13 = .ok (.iload 6, 2) := dk_21 6 (dk_at dksJ16_vectorizedMismatch_0 13 rfl rfl)
theorem dJ16_vectorizedMismatch_15 : decode cJ16_vectorizedMismatch 15 = .ok (.iload 8, 2) := dk_21 8 (dk_at dksJ16_vectorizedMismatch_0 15 rfl rfl)
theorem dJ16_vectorizedMismatch_17 : decode cJ16_vectorizedMismatch 17 = .ok (.ishr, 1) := dk_122 (dk_at dksJ16_vectorizedMismatch_0 17 rfl rfl)
theorem dJ16_vectorizedMismatch_18 : decode cJ16_vectorizedMismatch 18 = .ok (.if_icmp .ge 104, 3) := dk_162 0 104 (dk_at dksJ16_vectorizedMismatch_0 18 rfl rfl)
theorem dJ16_vectorizedMismatch_21 : decode cJ16_vectorizedMismatch 21 = .ok (.iload 9, 2) := dk_21 9 (dk_at dksJ16_vectorizedMismatch_0 21 rfl rfl)
theorem dJ16_vectorizedMismatch_23 : decode cJ16_vectorizedMismatch 23 = .ok (.i2l, 1) := dk_133 (dk_at dksJ16_vectorizedMismatch_0 23 rfl rfl)
theorem dJ16_vectorizedMismatch_24 : decode cJ16_vectorizedMismatch 24 = .ok (.getstatic 20, 3) := dk_178 0 20 (dk_at dksJ16_vectorizedMismatch_1 0 rfl rfl)
theorem dJ16_vectorizedMismatch_27 : decode cJ16_vectorizedMismatch 27 = .ok (.lshl, 1) := dk_121 (dk_at dksJ16_vectorizedMismatch_1 3 rfl rfl)
theorem dJ16_vectorizedMismatch_28 : decode cJ16_vectorizedMismatch 28 = .ok (.lstore 10, 2) := dk_55 10 (dk_at dksJ16_vectorizedMismatch_1 4 rfl rfl)
theorem dJ16_vectorizedMismatch_30 : decode cJ16_vectorizedMismatch 30 = .ok (.getstatic 26, 3) := dk_178 0 26 (dk_at dksJ16_vectorizedMismatch_1 6 rfl rfl)
theorem dJ16_vectorizedMismatch_33 : decode cJ16_vectorizedMismatch 33 = .ok (.aload_n 0, 1) := dk_42 (dk_at dksJ16_vectorizedMismatch_1 9 rfl rfl)
theorem dJ16_vectorizedMismatch_34 : decode cJ16_vectorizedMismatch 34 = .ok (.lload_n 1, 1) := dk_31 (dk_at dksJ16_vectorizedMismatch_1 10 rfl rfl)
theorem dJ16_vectorizedMismatch_35 : decode cJ16_vectorizedMismatch 35 = .ok (.lload 10, 2) := dk_22 10 (dk_at dksJ16_vectorizedMismatch_1 11 rfl rfl)
theorem dJ16_vectorizedMismatch_37 : decode cJ16_vectorizedMismatch 37 = .ok (.ladd, 1) := dk_97 (dk_at dksJ16_vectorizedMismatch_1 13 rfl rfl)
theorem dJ16_vectorizedMismatch_38 : decode cJ16_vectorizedMismatch 38 = .ok (.invokevirtual 30, 3) := dk_182 0 30 (dk_at dksJ16_vectorizedMismatch_1 14 rfl rfl)
theorem dJ16_vectorizedMismatch_41 : decode cJ16_vectorizedMismatch 41 = .ok (.lstore 12, 2) := dk_55 12 (dk_at dksJ16_vectorizedMismatch_1 17 rfl rfl)
theorem dJ16_vectorizedMismatch_43 : decode cJ16_vectorizedMismatch 43 = .ok (.getstatic 26, 3) := dk_178 0 26 (dk_at dksJ16_vectorizedMismatch_1 19 rfl rfl)
theorem dJ16_vectorizedMismatch_46 : decode cJ16_vectorizedMismatch 46 = .ok (.aload_n 3, 1) := dk_45 (dk_at dksJ16_vectorizedMismatch_1 22 rfl rfl)
theorem dJ16_vectorizedMismatch_47 : decode cJ16_vectorizedMismatch 47 = .ok (.lload 4, 2) := dk_22 4 (dk_at dksJ16_vectorizedMismatch_2 0 rfl rfl)
theorem dJ16_vectorizedMismatch_49 : decode cJ16_vectorizedMismatch 49 = .ok (.lload 10, 2) := dk_22 10 (dk_at dksJ16_vectorizedMismatch_2 2 rfl rfl)
theorem dJ16_vectorizedMismatch_51 : decode cJ16_vectorizedMismatch 51 = .ok (.ladd, 1) := dk_97 (dk_at dksJ16_vectorizedMismatch_2 4 rfl rfl)
theorem dJ16_vectorizedMismatch_52 : decode cJ16_vectorizedMismatch 52 = .ok (.invokevirtual 30, 3) := dk_182 0 30 (dk_at dksJ16_vectorizedMismatch_2 5 rfl rfl)
theorem dJ16_vectorizedMismatch_55 : decode cJ16_vectorizedMismatch 55 = .ok (.lstore 14, 2) := dk_55 14 (dk_at dksJ16_vectorizedMismatch_2 8 rfl rfl)
theorem dJ16_vectorizedMismatch_57 : decode cJ16_vectorizedMismatch 57 = .ok (.lload 12, 2) := dk_22 12 (dk_at dksJ16_vectorizedMismatch_2 10 rfl rfl)
theorem dJ16_vectorizedMismatch_59 : decode cJ16_vectorizedMismatch 59 = .ok (.lload 14, 2) := dk_22 14 (dk_at dksJ16_vectorizedMismatch_2 12 rfl rfl)
theorem dJ16_vectorizedMismatch_61 : decode cJ16_vectorizedMismatch 61 = .ok (.lcmp, 1) := dk_148 (dk_at dksJ16_vectorizedMismatch_2 14 rfl rfl)
theorem dJ16_vectorizedMismatch_62 : decode cJ16_vectorizedMismatch 62 = .ok (.ifCond .eq 54, 3) := dk_153 0 54 (dk_at dksJ16_vectorizedMismatch_2 15 rfl rfl)
theorem dJ16_vectorizedMismatch_65 : decode cJ16_vectorizedMismatch 65 = .ok (.lload 12, 2) := dk_22 12 (dk_at dksJ16_vectorizedMismatch_2 18 rfl rfl)
theorem dJ16_vectorizedMismatch_67 : decode cJ16_vectorizedMismatch 67 = .ok (.lload 14, 2) := dk_22 14 (dk_at dksJ16_vectorizedMismatch_2 20 rfl rfl)
theorem dJ16_vectorizedMismatch_69 : decode cJ16_vectorizedMismatch 69 = .ok (.lxor, 1) := dk_131 (dk_at dksJ16_vectorizedMismatch_2 22 rfl rfl)
theorem dJ16_vectorizedMismatch_70 : decode cJ16_vectorizedMismatch 70 = .ok (.lstore 16, 2) := dk_55 16 (dk_at dksJ16_vectorizedMismatch_3 0 rfl rfl)
theorem dJ16_vectorizedMismatch_72 : decode cJ16_vectorizedMismatch 72 = .ok (.getstatic 36, 3) := dk_178 0 36 (dk_at dksJ16_vectorizedMismatch_3 2 rfl rfl)
theorem dJ16_vectorizedMismatch_75 : decode cJ16_vectorizedMismatch 75 = .ok (.ifCond .eq 18, 3) := dk_153 0 18 (dk_at dksJ16_vectorizedMismatch_3 5 rfl rfl)
theorem dJ16_vectorizedMismatch_78 : decode cJ16_vectorizedMismatch 78 = .ok (.lload 16, 2) := dk_22 16 (dk_at dksJ16_vectorizedMismatch_3 8 rfl rfl)
theorem dJ16_vectorizedMismatch_80 : decode cJ16_vectorizedMismatch 80 = .ok (.invokestatic 40, 3) := dk_184 0 40 (dk_at dksJ16_vectorizedMismatch_3 10 rfl rfl)
theorem dJ16_vectorizedMismatch_83 : decode cJ16_vectorizedMismatch 83 = .ok (.getstatic 46, 3) := dk_178 0 46 (dk_at dksJ16_vectorizedMismatch_3 13 rfl rfl)
theorem dJ16_vectorizedMismatch_86 : decode cJ16_vectorizedMismatch 86 = .ok (.iload 7, 2) := dk_21 7 (dk_at dksJ16_vectorizedMismatch_3 16 rfl rfl)
theorem dJ16_vectorizedMismatch_88 : decode cJ16_vectorizedMismatch 88 = .ok (.iadd, 1) := dk_96 (dk_at dksJ16_vectorizedMismatch_3 18 rfl rfl)
theorem dJ16_vectorizedMismatch_89 : decode cJ16_vectorizedMismatch 89 = .ok (.ishr, 1) := dk_122 (dk_at dksJ16_vectorizedMismatch_3 19 rfl rfl)
theorem dJ16_vectorizedMismatch_90 : decode cJ16_vectorizedMismatch 90 = .ok (.goto 15, 3) := dk_167 0 15 (dk_at dksJ16_vectorizedMismatch_3 20 rfl rfl)
theorem dJ16_vectorizedMismatch_93 : decode cJ16_vectorizedMismatch 93 = .ok (.lload 16, 2) := dk_22 16 (dk_at dksJ16_vectorizedMismatch_4 0 rfl rfl)
theorem dJ16_vectorizedMismatch_95 : decode cJ16_vectorizedMismatch 95 = .ok (.invokestatic 49, 3) := dk_184 0 49 (dk_at dksJ16_vectorizedMismatch_4 2 rfl rfl)
theorem dJ16_vectorizedMismatch_98 : decode cJ16_vectorizedMismatch 98 = .ok (.getstatic 46, 3) := dk_178 0 46 (dk_at dksJ16_vectorizedMismatch_4 5 rfl rfl)
theorem dJ16_vectorizedMismatch_101 : decode cJ16_vectorizedMismatch 101 = .ok (.iload 7, 2) := dk_21 7 (dk_at dksJ16_vectorizedMismatch_4 8 rfl rfl)
theorem dJ16_vectorizedMismatch_103 : decode cJ16_vectorizedMismatch 103 = .ok (.iadd, 1) := dk_96 (dk_at dksJ16_vectorizedMismatch_4 10 rfl rfl)
theorem dJ16_vectorizedMismatch_104 : decode cJ16_vectorizedMismatch 104 = .ok (.ishr, 1) := dk_122 (dk_at dksJ16_vectorizedMismatch_4 11 rfl rfl)
theorem dJ16_vectorizedMismatch_105 : decode cJ16_vectorizedMismatch 105 = .ok (.istore 18, 2) := dk_54 18 (dk_at dksJ16_vectorizedMismatch_4 12 rfl rfl)
theorem dJ16_vectorizedMismatch_107 : decode cJ16_vectorizedMismatch 107 = .ok (.iload 9, 2) := dk_21 9 (dk_at dksJ16_vectorizedMismatch_4 14 rfl rfl)
theorem dJ16_vectorizedMismatch_109 : decode cJ16_vectorizedMismatch 109 = .ok (.iload 8, 2) := dk_21 8 (dk_at dksJ16_vectorizedMismatch_4 16 rfl rfl)
theorem dJ16_vectorizedMismatch_111 : decode cJ16_vectorizedMismatch 111 = .ok (.ishl, 1) := dk_120 (dk_at dksJ16_vectorizedMismatch_4 18 rfl rfl)
theorem dJ16_vectorizedMismatch_112 : decode cJ16_vectorizedMismatch 112 = .ok (.iload 18, 2) := dk_21 18 (dk_at dksJ16_vectorizedMismatch_4 19 rfl rfl)
theorem dJ16_vectorizedMismatch_114 : decode cJ16_vectorizedMismatch 114 = .ok (.iadd, 1) := dk_96 (dk_at dksJ16_vectorizedMismatch_4 21 rfl rfl)
theorem dJ16_vectorizedMismatch_115 : decode cJ16_vectorizedMismatch 115 = .ok (.ireturn, 1) := dk_172 (dk_at dksJ16_vectorizedMismatch_4 22 rfl rfl)
theorem dJ16_vectorizedMismatch_116 : decode cJ16_vectorizedMismatch 116 = .ok (.iinc 9 1, 3) := dk_132 9 1 (dk_at dksJ16_vectorizedMismatch_5 0 rfl rfl)
theorem dJ16_vectorizedMismatch_119 : decode cJ16_vectorizedMismatch 119 = .ok (.goto (-108), 3) := dk_167 255 148 (dk_at dksJ16_vectorizedMismatch_5 3 rfl rfl)
theorem dJ16_vectorizedMismatch_122 : decode cJ16_vectorizedMismatch 122 = .ok (.iload 6, 2) := dk_21 6 (dk_at dksJ16_vectorizedMismatch_5 6 rfl rfl)
theorem dJ16_vectorizedMismatch_124 : decode cJ16_vectorizedMismatch 124 = .ok (.iload 9, 2) := dk_21 9 (dk_at dksJ16_vectorizedMismatch_5 8 rfl rfl)
theorem dJ16_vectorizedMismatch_126 : decode cJ16_vectorizedMismatch 126 = .ok (.iload 8, 2) := dk_21 8 (dk_at dksJ16_vectorizedMismatch_5 10 rfl rfl)
theorem dJ16_vectorizedMismatch_128 : decode cJ16_vectorizedMismatch 128 = .ok (.ishl, 1) := dk_120 (dk_at dksJ16_vectorizedMismatch_5 12 rfl rfl)
theorem dJ16_vectorizedMismatch_129 : decode cJ16_vectorizedMismatch 129 = .ok (.isub, 1) := dk_100 (dk_at dksJ16_vectorizedMismatch_5 13 rfl rfl)
theorem dJ16_vectorizedMismatch_130 : decode cJ16_vectorizedMismatch 130 = .ok (.istore 10, 2) := dk_54 10 (dk_at dksJ16_vectorizedMismatch_5 14 rfl rfl)
theorem dJ16_vectorizedMismatch_132 : decode cJ16_vectorizedMismatch 132 = .ok (.iload 7, 2) := dk_21 7 (dk_at dksJ16_vectorizedMismatch_5 16 rfl rfl)
theorem dJ16_vectorizedMismatch_134 : decode cJ16_vectorizedMismatch 134 = .ok (.getstatic 51, 3) := dk_178 0 51 (dk_at dksJ16_vectorizedMismatch_5 18 rfl rfl)
theorem dJ16_vectorizedMismatch_137 : decode cJ16_vectorizedMismatch 137 = .ok (.if_icmp .ge 126, 3) := dk_162 0 126 (dk_at dksJ16_vectorizedMismatch_5 21 rfl rfl)
theorem dJ16_vectorizedMismatch_140 : decode cJ16_vectorizedMismatch 140 = .ok (.iconst 1, 1) := dk_4 (dk_at dksJ16_vectorizedMismatch_6 0 rfl rfl)
theorem dJ16_vectorizedMismatch_141 : decode cJ16_vectorizedMismatch 141 = .ok (.getstatic 51, 3) := dk_178 0 51 (dk_at dksJ16_vectorizedMismatch_6 1 rfl rfl)
theorem dJ16_vectorizedMismatch_144 : decode cJ16_vectorizedMismatch 144 = .ok (.iload 7, 2) := dk_21 7 (dk_at dksJ16_vectorizedMismatch_6 4 rfl rfl)
theorem dJ16_vectorizedMismatch_146 : decode cJ16_vectorizedMismatch 146 = .ok (.isub, 1) := dk_100 (dk_at dksJ16_vectorizedMismatch_6 6 rfl rfl)
theorem dJ16_vectorizedMismatch_147 : decode cJ16_vectorizedMismatch 147 = .ok (.ishl, 1) := dk_120 (dk_at dksJ16_vectorizedMismatch_6 7 rfl rfl)
theorem dJ16_vectorizedMismatch_148 : decode cJ16_vectorizedMismatch 148 = .ok (.istore 11, 2) := dk_54 11 (dk_at dksJ16_vectorizedMismatch_6 8 rfl rfl)
theorem dJ16_vectorizedMismatch_150 : decode cJ16_vectorizedMismatch 150 = .ok (.iload 10, 2) := dk_21 10 (dk_at dksJ16_vectorizedMismatch_6 10 rfl rfl)
theorem dJ16_vectorizedMismatch_152 : decode cJ16_vectorizedMismatch 152 = .ok (.iload 11, 2) := dk_21 11 (dk_at dksJ16_vectorizedMismatch_6 12 rfl rfl)
theorem dJ16_vectorizedMismatch_154 : decode cJ16_vectorizedMismatch 154 = .ok (.if_icmp .lt 104, 3) := dk_161 0 104 (dk_at dksJ16_vectorizedMismatch_6 14 rfl rfl)
theorem dJ16_vectorizedMismatch_157 : decode cJ16_vectorizedMismatch 157 = .ok (.iload 9, 2) := dk_21 9 (dk_at dksJ16_vectorizedMismatch_6 17 rfl rfl)
theorem dJ16_vectorizedMismatch_159 : decode cJ16_vectorizedMismatch 159 = .ok (.i2l, 1) := dk_133 (dk_at dksJ16_vectorizedMismatch_6 19 rfl rfl)
theorem dJ16_vectorizedMismatch_160 : decode cJ16_vectorizedMismatch 160 = .ok (.getstatic 20, 3) := dk_178 0 20 (dk_at dksJ16_vectorizedMismatch_6 20 rfl rfl)
theorem dJ16_vectorizedMismatch_163 : decode cJ16_vectorizedMismatch 163 = .ok (.lshl, 1) := dk_121 (dk_at dksJ16_vectorizedMismatch_6 23 rfl rfl)
theorem dJ16_vectorizedMismatch_164 : decode cJ16_vectorizedMismatch 164 = .ok (.lstore 12, 2) := dk_55 12 (dk_at dksJ16_vectorizedMismatch_7 0 rfl rfl)
theorem dJ16_vectorizedMismatch_166 : decode cJ16_vectorizedMismatch 166 = .ok (.getstatic 26, 3) := dk_178 0 26 (dk_at dksJ16_vectorizedMismatch_7 2 rfl rfl)
theorem dJ16_vectorizedMismatch_169 : decode cJ16_vectorizedMismatch 169 = .ok (.aload_n 0, 1) := dk_42 (dk_at dksJ16_vectorizedMismatch_7 5 rfl rfl)
theorem dJ16_vectorizedMismatch_170 : decode cJ16_vectorizedMismatch 170 = .ok (.lload_n 1, 1) := dk_31 (dk_at dksJ16_vectorizedMismatch_7 6 rfl rfl)
theorem dJ16_vectorizedMismatch_171 : decode cJ16_vectorizedMismatch 171 = .ok (.lload 12, 2) := dk_22 12 (dk_at dksJ16_vectorizedMismatch_7 7 rfl rfl)
theorem dJ16_vectorizedMismatch_173 : decode cJ16_vectorizedMismatch 173 = .ok (.ladd, 1) := dk_97 (dk_at dksJ16_vectorizedMismatch_7 9 rfl rfl)
theorem dJ16_vectorizedMismatch_174 : decode cJ16_vectorizedMismatch 174 = .ok (.invokevirtual 54, 3) := dk_182 0 54 (dk_at dksJ16_vectorizedMismatch_7 10 rfl rfl)
theorem dJ16_vectorizedMismatch_177 : decode cJ16_vectorizedMismatch 177 = .ok (.istore 14, 2) := dk_54 14 (dk_at dksJ16_vectorizedMismatch_7 13 rfl rfl)
theorem dJ16_vectorizedMismatch_179 : decode cJ16_vectorizedMismatch 179 = .ok (.getstatic 26, 3) := dk_178 0 26 (dk_at dksJ16_vectorizedMismatch_7 15 rfl rfl)
theorem dJ16_vectorizedMismatch_182 : decode cJ16_vectorizedMismatch 182 = .ok (.aload_n 3, 1) := dk_45 (dk_at dksJ16_vectorizedMismatch_7 18 rfl rfl)
theorem dJ16_vectorizedMismatch_183 : decode cJ16_vectorizedMismatch 183 = .ok (.lload 4, 2) := dk_22 4 (dk_at dksJ16_vectorizedMismatch_7 19 rfl rfl)
theorem dJ16_vectorizedMismatch_185 : decode cJ16_vectorizedMismatch 185 = .ok (.lload 12, 2) := dk_22 12 (dk_at dksJ16_vectorizedMismatch_7 21 rfl rfl)
theorem dJ16_vectorizedMismatch_187 : decode cJ16_vectorizedMismatch 187 = .ok (.ladd, 1) := dk_97 (dk_at dksJ16_vectorizedMismatch_7 23 rfl rfl)
theorem dJ16_vectorizedMismatch_188 : decode cJ16_vectorizedMismatch 188 = .ok (.invokevirtual 54, 3) := dk_182 0 54 (dk_at dksJ16_vectorizedMismatch_8 0 rfl rfl)
theorem dJ16_vectorizedMismatch_191 : decode cJ16_vectorizedMismatch 191 = .ok (.istore 15, 2) := dk_54 15 (dk_at dksJ16_vectorizedMismatch_8 3 rfl rfl)
theorem dJ16_vectorizedMismatch_193 : decode cJ16_vectorizedMismatch 193 = .ok (.iload 14, 2) := dk_21 14 (dk_at dksJ16_vectorizedMismatch_8 5 rfl rfl)
theorem dJ16_vectorizedMismatch_195 : decode cJ16_vectorizedMismatch 195 = .ok (.iload 15, 2) := dk_21 15 (dk_at dksJ16_vectorizedMismatch_8 7 rfl rfl)
theorem dJ16_vectorizedMismatch_197 : decode cJ16_vectorizedMismatch 197 = .ok (.if_icmp .eq 54, 3) := dk_159 0 54 (dk_at dksJ16_vectorizedMismatch_8 9 rfl rfl)
theorem dJ16_vectorizedMismatch_200 : decode cJ16_vectorizedMismatch 200 = .ok (.iload 14, 2) := dk_21 14 (dk_at dksJ16_vectorizedMismatch_8 12 rfl rfl)
theorem dJ16_vectorizedMismatch_202 : decode cJ16_vectorizedMismatch 202 = .ok (.iload 15, 2) := dk_21 15 (dk_at dksJ16_vectorizedMismatch_8 14 rfl rfl)
theorem dJ16_vectorizedMismatch_204 : decode cJ16_vectorizedMismatch 204 = .ok (.ixor, 1) := dk_130 (dk_at dksJ16_vectorizedMismatch_8 16 rfl rfl)
theorem dJ16_vectorizedMismatch_205 : decode cJ16_vectorizedMismatch 205 = .ok (.istore 16, 2) := dk_54 16 (dk_at dksJ16_vectorizedMismatch_8 17 rfl rfl)
theorem dJ16_vectorizedMismatch_207 : decode cJ16_vectorizedMismatch 207 = .ok (.getstatic 36, 3) := dk_178 0 36 (dk_at dksJ16_vectorizedMismatch_8 19 rfl rfl)
theorem dJ16_vectorizedMismatch_210 : decode cJ16_vectorizedMismatch 210 = .ok (.ifCond .eq 18, 3) := dk_153 0 18 (dk_at dksJ16_vectorizedMismatch_9 0 rfl rfl)
theorem dJ16_vectorizedMismatch_213 : decode cJ16_vectorizedMismatch 213 = .ok (.iload 16, 2) := dk_21 16 (dk_at dksJ16_vectorizedMismatch_9 3 rfl rfl)
theorem dJ16_vectorizedMismatch_215 : decode cJ16_vectorizedMismatch 215 = .ok (.invokestatic 58, 3) := dk_184 0 58 (dk_at dksJ16_vectorizedMismatch_9 5 rfl rfl)
theorem dJ16_vectorizedMismatch_218 : decode cJ16_vectorizedMismatch 218 = .ok (.getstatic 46, 3) := dk_178 0 46 (dk_at dksJ16_vectorizedMismatch_9 8 rfl rfl)
theorem dJ16_vectorizedMismatch_221 : decode cJ16_vectorizedMismatch 221 = .ok (.iload 7, 2) := dk_21 7 (dk_at dksJ16_vectorizedMismatch_9 11 rfl rfl)
theorem dJ16_vectorizedMismatch_223 : decode cJ16_vectorizedMismatch 223 = .ok (.iadd, 1) := dk_96 (dk_at dksJ16_vectorizedMismatch_9 13 rfl rfl)
theorem dJ16_vectorizedMismatch_224 : decode cJ16_vectorizedMismatch 224 = .ok (.ishr, 1) := dk_122 (dk_at dksJ16_vectorizedMismatch_9 14 rfl rfl)
theorem dJ16_vectorizedMismatch_225 : decode cJ16_vectorizedMismatch 225 = .ok (.goto 15, 3) := dk_167 0 15 (dk_at dksJ16_vectorizedMismatch_9 15 rfl rfl)
theorem dJ16_vectorizedMismatch_228 : decode cJ16_vectorizedMismatch 228 = .ok (.iload 16, 2) := dk_21 16 (dk_at dksJ16_vectorizedMismatch_9 18 rfl rfl)
theorem dJ16_vectorizedMismatch_230 : decode cJ16_vectorizedMismatch 230 = .ok (.invokestatic 11, 3) := dk_184 0 11 (dk_at dksJ16_vectorizedMismatch_9 20 rfl rfl)
theorem dJ16_vectorizedMismatch_233 : decode cJ16_vectorizedMismatch 233 = .ok (.getstatic 46, 3) := dk_178 0 46 (dk_at dksJ16_vectorizedMismatch_10 0 rfl rfl)
theorem dJ16_vectorizedMismatch_236 : decode cJ16_vectorizedMismatch 236 = .ok (.iload 7, 2) := dk_21 7 (dk_at dksJ16_vectorizedMismatch_10 3 rfl rfl)
theorem dJ16_vectorizedMismatch_238 : decode cJ16_vectorizedMismatch 238 = .ok (.iadd, 1) := dk_96 (dk_at dksJ16_vectorizedMismatch_10 5 rfl rfl)
theorem dJ16_vectorizedMismatch_239 : decode cJ16_vectorizedMismatch 239 = .ok (.ishr, 1) := dk_122 (dk_at dksJ16_vectorizedMismatch_10 6 rfl rfl)
theorem dJ16_vectorizedMismatch_240 : decode cJ16_vectorizedMismatch 240 = .ok (.istore 17, 2) := dk_54 17 (dk_at dksJ16_vectorizedMismatch_10 7 rfl rfl)
theorem dJ16_vectorizedMismatch_242 : decode cJ16_vectorizedMismatch 242 = .ok (.iload 9, 2) := dk_21 9 (dk_at dksJ16_vectorizedMismatch_10 9 rfl rfl)
theorem dJ16_vectorizedMismatch_244 : decode cJ16_vectorizedMismatch 244 = .ok (.iload 8, 2) := dk_21 8 (dk_at dksJ16_vectorizedMismatch_10 11 rfl rfl)
theorem dJ16_vectorizedMismatch_246 : decode cJ16_vectorizedMismatch 246 = .ok (.ishl, 1) := dk_120 (dk_at dksJ16_vectorizedMismatch_10 13 rfl rfl)
theorem dJ16_vectorizedMismatch_247 : decode cJ16_vectorizedMismatch 247 = .ok (.iload 17, 2) := dk_21 17 (dk_at dksJ16_vectorizedMismatch_10 14 rfl rfl)
theorem dJ16_vectorizedMismatch_249 : decode cJ16_vectorizedMismatch 249 = .ok (.iadd, 1) := dk_96 (dk_at dksJ16_vectorizedMismatch_10 16 rfl rfl)
theorem dJ16_vectorizedMismatch_250 : decode cJ16_vectorizedMismatch 250 = .ok (.ireturn, 1) := dk_172 (dk_at dksJ16_vectorizedMismatch_10 17 rfl rfl)
theorem dJ16_vectorizedMismatch_251 : decode cJ16_vectorizedMismatch 251 = .ok (.iload 10, 2) := dk_21 10 (dk_at dksJ16_vectorizedMismatch_10 18 rfl rfl)
theorem dJ16_vectorizedMismatch_253 : decode cJ16_vectorizedMismatch 253 = .ok (.iload 11, 2) := dk_21 11 (dk_at dksJ16_vectorizedMismatch_10 20 rfl rfl)
theorem dJ16_vectorizedMismatch_255 : decode cJ16_vectorizedMismatch 255 = .ok (.isub, 1) := dk_100 (dk_at dksJ16_vectorizedMismatch_10 22 rfl rfl)
theorem dJ16_vectorizedMismatch_256 : decode cJ16_vectorizedMismatch 256 = .ok (.istore 10, 2) := dk_54 10 (dk_at dksJ16_vectorizedMismatch_11 0 rfl rfl)
theorem dJ16_vectorizedMismatch_258 : decode cJ16_vectorizedMismatch 258 = .ok (.iload 10, 2) := dk_21 10 (dk_at dksJ16_vectorizedMismatch_11 2 rfl rfl)
theorem dJ16_vectorizedMismatch_260 : decode cJ16_vectorizedMismatch 260 = .ok (.iconst (-1), 1) := dk_2 (dk_at dksJ16_vectorizedMismatch_11 4 rfl rfl)
theorem dJ16_vectorizedMismatch_261 : decode cJ16_vectorizedMismatch 261 = .ok (.ixor, 1) := dk_130 (dk_at dksJ16_vectorizedMismatch_11 5 rfl rfl)
theorem dJ16_vectorizedMismatch_262 : decode cJ16_vectorizedMismatch 262 = .ok (.ireturn, 1) := dk_172 (dk_at dksJ16_vectorizedMismatch_11 6 rfl rfl)
theorem dJ16_vectorizedMismatch_263 : decode cJ16_vectorizedMismatch 263 = .ok (.iload 10, 2) := dk_21 10 (dk_at dksJ16_vectorizedMismatch_11 7 rfl rfl)
theorem dJ16_vectorizedMismatch_265 : decode cJ16_vectorizedMismatch 265 = .ok (.iconst (-1), 1) := dk_2 (dk_at dksJ16_vectorizedMismatch_11 9 rfl rfl)
theorem dJ16_vectorizedMismatch_266 : decode cJ16_vectorizedMismatch 266 = .ok (.ixor, 1) := dk_130 (dk_at dksJ16_vectorizedMismatch_11 10 rfl rfl)
theorem dJ16_vectorizedMismatch_267 : decode cJ16_vectorizedMismatch 267 = .ok (.ireturn, 1) := dk_172 (dk_at dksJ16_vectorizedMismatch_11 11 rfl rfl)
abbrev cJ16_newLength : ByteArray := prog_59_method_27_code
def yJ16_newLength : MethodName := ⟨RJ16, "newLength", "(III)I"⟩
def dkwJ16_newLength_1 : List UInt8 := [184, 0, 201, 172]
abbrev dktJ16_newLength_1 : List UInt8 := dkwJ16_newLength_1 ++ []
def dkwJ16_newLength_0 : List UInt8 := [26, 27, 28, 184, 0, 194, 96, 62, 3, 29, 162, 0, 11, 29, 18, 200, 163, 0, 5, 29, 172, 26, 27]
abbrev dktJ16_newLength_0 : List UInt8 := dkwJ16_newLength_0 ++ dktJ16_newLength_1
theorem dksJ16_newLength_0 : cJ16_newLength.data.toList.drop 0 = dktJ16_newLength_0 := by decide +kernel
theorem dksJ16_newLength_1 : cJ16_newLength.data.toList.drop 23 = dktJ16_newLength_1 := dk_seg dksJ16_newLength_0 23 rfl rfl
theorem dJ16_newLength_0 : decode cJ16_newLength 0 = .ok (.iload_n 0, 1) := dk_26 (dk_at dksJ16_newLength_0 0 rfl rfl)
theorem dJ16_newLength_1 : decode cJ16_newLength 1 = .ok (.iload_n 1, 1) := dk_27 (dk_at dksJ16_newLength_0 1 rfl rfl)
theorem dJ16_newLength_2 : decode cJ16_newLength 2 = .ok (.iload_n 2, 1) := dk_28 (dk_at dksJ16_newLength_0 2 rfl rfl)
theorem dJ16_newLength_3 : decode cJ16_newLength 3 = .ok (.invokestatic 194, 3) := dk_184 0 194 (dk_at dksJ16_newLength_0 3 rfl rfl)
theorem dJ16_newLength_6 : decode cJ16_newLength 6 = .ok (.iadd, 1) := dk_96 (dk_at dksJ16_newLength_0 6 rfl rfl)
theorem dJ16_newLength_7 : decode cJ16_newLength 7 = .ok (.istore_n 3, 1) := dk_62 (dk_at dksJ16_newLength_0 7 rfl rfl)
theorem dJ16_newLength_8 : decode cJ16_newLength 8 = .ok (.iconst 0, 1) := dk_3 (dk_at dksJ16_newLength_0 8 rfl rfl)
theorem dJ16_newLength_9 : decode cJ16_newLength 9 = .ok (.iload_n 3, 1) := dk_29 (dk_at dksJ16_newLength_0 9 rfl rfl)
theorem dJ16_newLength_10 : decode cJ16_newLength 10 = .ok (.if_icmp .ge 11, 3) := dk_162 0 11 (dk_at dksJ16_newLength_0 10 rfl rfl)
theorem dJ16_newLength_13 : decode cJ16_newLength 13 = .ok (.iload_n 3, 1) := dk_29 (dk_at dksJ16_newLength_0 13 rfl rfl)
theorem dJ16_newLength_14 : decode cJ16_newLength 14 = .ok (.ldc 200, 2) := dk_18 200 (dk_at dksJ16_newLength_0 14 rfl rfl)
theorem dJ16_newLength_16 : decode cJ16_newLength 16 = .ok (.if_icmp .gt 5, 3) := dk_163 0 5 (dk_at dksJ16_newLength_0 16 rfl rfl)
theorem dJ16_newLength_19 : decode cJ16_newLength 19 = .ok (.iload_n 3, 1) := dk_29 (dk_at dksJ16_newLength_0 19 rfl rfl)
theorem dJ16_newLength_20 : decode cJ16_newLength 20 = .ok (.ireturn, 1) := dk_172 (dk_at dksJ16_newLength_0 20 rfl rfl)
theorem dJ16_newLength_21 : decode cJ16_newLength 21 = .ok (.iload_n 0, 1) := dk_26 (dk_at dksJ16_newLength_0 21 rfl rfl)
theorem dJ16_newLength_22 : decode cJ16_newLength 22 = .ok (.iload_n 1, 1) := dk_27 (dk_at dksJ16_newLength_0 22 rfl rfl)
theorem dJ16_newLength_23 : decode cJ16_newLength 23 = .ok (.invokestatic 201, 3) := dk_184 0 201 (dk_at dksJ16_newLength_1 0 rfl rfl)
theorem dJ16_newLength_26 : decode cJ16_newLength 26 = .ok (.ireturn, 1) := dk_172 (dk_at dksJ16_newLength_1 3 rfl rfl)
abbrev cJ16_hugeLength : ByteArray := prog_59_method_28_code
def yJ16_hugeLength : MethodName := ⟨RJ16, "hugeLength", "(II)I"⟩
def dkwJ16_hugeLength_2 : List UInt8 := [191, 28, 18, 200, 163, 0, 6, 18, 200, 172, 28, 172]
abbrev dktJ16_hugeLength_2 : List UInt8 := dkwJ16_hugeLength_2 ++ []
def dkwJ16_hugeLength_1 : List UInt8 := [26, 182, 0, 98, 18, 208, 182, 0, 94, 27, 182, 0, 98, 18, 210, 182, 0, 94, 182, 0, 101, 183, 0, 212]
abbrev dktJ16_hugeLength_1 : List UInt8 := dkwJ16_hugeLength_1 ++ dktJ16_hugeLength_2
def dkwJ16_hugeLength_0 : List UInt8 := [26, 27, 96, 61, 28, 156, 0, 44, 187, 0, 204, 89, 187, 0, 89, 89, 183, 0, 91, 18, 206, 182, 0, 94]
abbrev dktJ16_hugeLength_0 : List UInt8 := dkwJ16_hugeLength_0 ++ dktJ16_hugeLength_1
theorem dksJ16_hugeLength_0 : cJ16_hugeLength.data.toList.drop 0 = dktJ16_hugeLength_0 := by decide +kernel
theorem dksJ16_hugeLength_1 : cJ16_hugeLength.data.toList.drop 24 = dktJ16_hugeLength_1 := dk_seg dksJ16_hugeLength_0 24 rfl rfl
theorem dksJ16_hugeLength_2 : cJ16_hugeLength.data.toList.drop 48 = dktJ16_hugeLength_2 := dk_seg dksJ16_hugeLength_1 24 rfl rfl
theorem dJ16_hugeLength_0 : decode cJ16_hugeLength 0 = .ok (.iload_n 0, 1) := dk_26 (dk_at dksJ16_hugeLength_0 0 rfl rfl)
theorem dJ16_hugeLength_1 : decode cJ16_hugeLength 1 = .ok (.iload_n 1, 1) := dk_27 (dk_at dksJ16_hugeLength_0 1 rfl rfl)
theorem dJ16_hugeLength_2 : decode cJ16_hugeLength 2 = .ok (.iadd, 1) := dk_96 (dk_at dksJ16_hugeLength_0 2 rfl rfl)
theorem dJ16_hugeLength_3 : decode cJ16_hugeLength 3 = .ok (.istore_n 2, 1) := dk_61 (dk_at dksJ16_hugeLength_0 3 rfl rfl)
theorem dJ16_hugeLength_4 : decode cJ16_hugeLength 4 = .ok (.iload_n 2, 1) := dk_28 (dk_at dksJ16_hugeLength_0 4 rfl rfl)
theorem dJ16_hugeLength_5 : decode cJ16_hugeLength 5 = .ok (.ifCond .ge 44, 3) := dk_156 0 44 (dk_at dksJ16_hugeLength_0 5 rfl rfl)
theorem dJ16_hugeLength_8 : decode cJ16_hugeLength 8 = .ok (.new 204, 3) := dk_187 0 204 (dk_at dksJ16_hugeLength_0 8 rfl rfl)
theorem dJ16_hugeLength_11 : decode cJ16_hugeLength 11 = .ok (.dup, 1) := dk_89 (dk_at dksJ16_hugeLength_0 11 rfl rfl)
theorem dJ16_hugeLength_12 : decode cJ16_hugeLength 12 = .ok (.new 89, 3) := dk_187 0 89 (dk_at dksJ16_hugeLength_0 12 rfl rfl)
theorem dJ16_hugeLength_15 : decode cJ16_hugeLength 15 = .ok (.dup, 1) := dk_89 (dk_at dksJ16_hugeLength_0 15 rfl rfl)
theorem dJ16_hugeLength_16 : decode cJ16_hugeLength 16 = .ok (.invokespecial 91, 3) := dk_183 0 91 (dk_at dksJ16_hugeLength_0 16 rfl rfl)
theorem dJ16_hugeLength_19 : decode cJ16_hugeLength 19 = .ok (.ldc 206, 2) := dk_18 206 (dk_at dksJ16_hugeLength_0 19 rfl rfl)
theorem dJ16_hugeLength_21 : decode cJ16_hugeLength 21 = .ok (.invokevirtual 94, 3) := dk_182 0 94 (dk_at dksJ16_hugeLength_0 21 rfl rfl)
theorem dJ16_hugeLength_24 : decode cJ16_hugeLength 24 = .ok (.iload_n 0, 1) := dk_26 (dk_at dksJ16_hugeLength_1 0 rfl rfl)
theorem dJ16_hugeLength_25 : decode cJ16_hugeLength 25 = .ok (.invokevirtual 98, 3) := dk_182 0 98 (dk_at dksJ16_hugeLength_1 1 rfl rfl)
theorem dJ16_hugeLength_28 : decode cJ16_hugeLength 28 = .ok (.ldc 208, 2) := dk_18 208 (dk_at dksJ16_hugeLength_1 4 rfl rfl)
theorem dJ16_hugeLength_30 : decode cJ16_hugeLength 30 = .ok (.invokevirtual 94, 3) := dk_182 0 94 (dk_at dksJ16_hugeLength_1 6 rfl rfl)
theorem dJ16_hugeLength_33 : decode cJ16_hugeLength 33 = .ok (.iload_n 1, 1) := dk_27 (dk_at dksJ16_hugeLength_1 9 rfl rfl)
theorem dJ16_hugeLength_34 : decode cJ16_hugeLength 34 = .ok (.invokevirtual 98, 3) := dk_182 0 98 (dk_at dksJ16_hugeLength_1 10 rfl rfl)
theorem dJ16_hugeLength_37 : decode cJ16_hugeLength 37 = .ok (.ldc 210, 2) := dk_18 210 (dk_at dksJ16_hugeLength_1 13 rfl rfl)
theorem dJ16_hugeLength_39 : decode cJ16_hugeLength 39 = .ok (.invokevirtual 94, 3) := dk_182 0 94 (dk_at dksJ16_hugeLength_1 15 rfl rfl)
theorem dJ16_hugeLength_42 : decode cJ16_hugeLength 42 = .ok (.invokevirtual 101, 3) := dk_182 0 101 (dk_at dksJ16_hugeLength_1 18 rfl rfl)
theorem dJ16_hugeLength_45 : decode cJ16_hugeLength 45 = .ok (.invokespecial 212, 3) := dk_183 0 212 (dk_at dksJ16_hugeLength_1 21 rfl rfl)
theorem dJ16_hugeLength_48 : decode cJ16_hugeLength 48 = .ok (.athrow, 1) := dk_191 (dk_at dksJ16_hugeLength_2 0 rfl rfl)
theorem dJ16_hugeLength_49 : decode cJ16_hugeLength 49 = .ok (.iload_n 2, 1) := dk_28 (dk_at dksJ16_hugeLength_2 1 rfl rfl)
theorem dJ16_hugeLength_50 : decode cJ16_hugeLength 50 = .ok (.ldc 200, 2) := dk_18 200 (dk_at dksJ16_hugeLength_2 2 rfl rfl)
theorem dJ16_hugeLength_52 : decode cJ16_hugeLength 52 = .ok (.if_icmp .gt 6, 3) := dk_163 0 6 (dk_at dksJ16_hugeLength_2 4 rfl rfl)
theorem dJ16_hugeLength_55 : decode cJ16_hugeLength 55 = .ok (.ldc 200, 2) := dk_18 200 (dk_at dksJ16_hugeLength_2 7 rfl rfl)
theorem dJ16_hugeLength_57 : decode cJ16_hugeLength 57 = .ok (.ireturn, 1) := dk_172 (dk_at dksJ16_hugeLength_2 9 rfl rfl)
theorem dJ16_hugeLength_58 : decode cJ16_hugeLength 58 = .ok (.iload_n 2, 1) := dk_28 (dk_at dksJ16_hugeLength_2 10 rfl rfl)
theorem dJ16_hugeLength_59 : decode cJ16_hugeLength 59 = .ok (.ireturn, 1) := dk_172 (dk_at dksJ16_hugeLength_2 11 rfl rfl)
theorem q137 : (Jvm.Cond.initialized "jdk/internal/util/ArraysSupport") ∈ lw_all := lw_g (lw_at lw_m1 30 rfl) rfl
theorem q1120 : (Jvm.Cond.static ({ cls := "jdk/internal/util/ArraysSupport", name := "mismatch", desc := "([B[BI)I" } : Jvm.MethodName)) ∈ lw_all := lw_g (lw_at lw_m5 53 rfl) rfl
theorem q1121 : (Jvm.Cond.code ({ cls := "jdk/internal/util/ArraysSupport", name := "mismatch", desc := "([B[BI)I" } : Jvm.MethodName) prog_59_method_13_code (4 : Nat) (Option.some Jvm.ClassFile.FieldType.int)) ∈ lw_all := lw_g (lw_at lw_m5 54 rfl) rfl
theorem q1122 : (Jvm.Cond.fieldLink "jdk/internal/util/ArraysSupport" (126 : Nat) "jdk/internal/misc/Unsafe" "ARRAY_BYTE_BASE_OFFSET" "I") ∈ lw_all := lw_g (lw_at lw_m5 55 rfl) rfl
theorem q1124 : (Jvm.Cond.fieldLink "jdk/internal/util/ArraysSupport" (129 : Nat) "jdk/internal/util/ArraysSupport" "LOG2_ARRAY_BYTE_INDEX_SCALE" "I") ∈ lw_all := lw_g (lw_at lw_m5 57 rfl) rfl
theorem q1125 : (Jvm.Cond.laysStatic "jdk/internal/util/ArraysSupport" "LOG2_ARRAY_BYTE_INDEX_SCALE" "I") ∈ lw_tbl := lw_at lw_m5 58 rfl
theorem q1126 : (Jvm.Cond.methodLink "jdk/internal/util/ArraysSupport" (122 : Nat) ({ cls := "jdk/internal/util/ArraysSupport", name := "vectorizedMismatch", desc := "(Ljava/lang/Object;JLjava/lang/Object;JII)I" } : Jvm.MethodName)) ∈ lw_all := lw_g (lw_at lw_m5 59 rfl) rfl
theorem q1127 : (Jvm.Cond.static ({ cls := "jdk/internal/util/ArraysSupport", name := "vectorizedMismatch", desc := "(Ljava/lang/Object;JLjava/lang/Object;JII)I" } : Jvm.MethodName)) ∈ lw_all := lw_g (lw_at lw_m5 60 rfl) rfl
theorem q1128 : (Jvm.Cond.code ({ cls := "jdk/internal/util/ArraysSupport", name := "vectorizedMismatch", desc := "(Ljava/lang/Object;JLjava/lang/Object;JII)I" } : Jvm.MethodName) prog_59_method_3_code (19 : Nat) (Option.some Jvm.ClassFile.FieldType.int)) ∈ lw_all := lw_g (lw_at lw_m5 61 rfl) rfl
theorem q1129 : (Jvm.Cond.fieldLink "jdk/internal/util/ArraysSupport" (20 : Nat) "jdk/internal/util/ArraysSupport" "LOG2_ARRAY_LONG_INDEX_SCALE" "I") ∈ lw_all := lw_g (lw_at lw_m5 62 rfl) rfl
theorem q1130 : (Jvm.Cond.laysStatic "jdk/internal/util/ArraysSupport" "LOG2_ARRAY_LONG_INDEX_SCALE" "I") ∈ lw_tbl := lw_at lw_m5 63 rfl
theorem q1131 : (Jvm.Cond.fieldLink "jdk/internal/util/ArraysSupport" (26 : Nat) "jdk/internal/util/ArraysSupport" "U" "Ljdk/internal/misc/Unsafe;") ∈ lw_all := lw_g (lw_at lw_m5 64 rfl) rfl
theorem q1132 : (Jvm.Cond.laysStatic "jdk/internal/util/ArraysSupport" "U" "Ljdk/internal/misc/Unsafe;") ∈ lw_tbl := lw_at lw_m5 65 rfl
theorem q1133 : (Jvm.Cond.methodLink "jdk/internal/util/ArraysSupport" (30 : Nat) ({ cls := "jdk/internal/misc/Unsafe", name := "getLongUnaligned", desc := "(Ljava/lang/Object;J)J" } : Jvm.MethodName)) ∈ lw_all := lw_g (lw_at lw_m5 66 rfl) rfl
theorem q1185 : (Jvm.Cond.fieldLink "jdk/internal/util/ArraysSupport" (36 : Nat) "jdk/internal/util/ArraysSupport" "BIG_ENDIAN" "Z") ∈ lw_all := lw_g (lw_at lw_m5 118 rfl) rfl
theorem q1186 : (Jvm.Cond.laysStatic "jdk/internal/util/ArraysSupport" "BIG_ENDIAN" "Z") ∈ lw_tbl := lw_at lw_m5 119 rfl
theorem q1187 : (Jvm.Cond.methodLink "jdk/internal/util/ArraysSupport" (40 : Nat) ({ cls := "java/lang/Long", name := "numberOfLeadingZeros", desc := "(J)I" } : Jvm.MethodName)) ∈ lw_all := lw_g (lw_at lw_m5 120 rfl) rfl
theorem q1193 : (Jvm.Cond.fieldLink "jdk/internal/util/ArraysSupport" (46 : Nat) "jdk/internal/util/ArraysSupport" "LOG2_BYTE_BIT_SIZE" "I") ∈ lw_all := lw_g (lw_at lw_m5 126 rfl) rfl
theorem q1194 : (Jvm.Cond.laysStatic "jdk/internal/util/ArraysSupport" "LOG2_BYTE_BIT_SIZE" "I") ∈ lw_tbl := lw_at lw_m5 127 rfl
theorem q1195 : (Jvm.Cond.methodLink "jdk/internal/util/ArraysSupport" (49 : Nat) ({ cls := "java/lang/Long", name := "numberOfTrailingZeros", desc := "(J)I" } : Jvm.MethodName)) ∈ lw_all := lw_g (lw_at lw_m5 128 rfl) rfl
theorem q1199 : (Jvm.Cond.fieldLink "jdk/internal/util/ArraysSupport" (51 : Nat) "jdk/internal/util/ArraysSupport" "LOG2_ARRAY_INT_INDEX_SCALE" "I") ∈ lw_all := lw_g (lw_at lw_m5 132 rfl) rfl
theorem q1200 : (Jvm.Cond.laysStatic "jdk/internal/util/ArraysSupport" "LOG2_ARRAY_INT_INDEX_SCALE" "I") ∈ lw_tbl := lw_at lw_m5 133 rfl
theorem q1201 : (Jvm.Cond.methodLink "jdk/internal/util/ArraysSupport" (54 : Nat) ({ cls := "jdk/internal/misc/Unsafe", name := "getIntUnaligned", desc := "(Ljava/lang/Object;J)I" } : Jvm.MethodName)) ∈ lw_all := lw_g (lw_at lw_m5 134 rfl) rfl
theorem q1218 : (Jvm.Cond.methodLink "jdk/internal/util/ArraysSupport" (58 : Nat) ({ cls := "java/lang/Integer", name := "numberOfLeadingZeros", desc := "(I)I" } : Jvm.MethodName)) ∈ lw_all := lw_g (lw_at lw_m5 151 rfl) rfl
theorem q1219 : (Jvm.Cond.methodLink "jdk/internal/util/ArraysSupport" (11 : Nat) ({ cls := "java/lang/Integer", name := "numberOfTrailingZeros", desc := "(I)I" } : Jvm.MethodName)) ∈ lw_all := lw_g (lw_at lw_m5 152 rfl) rfl
theorem q1716 : (Jvm.Cond.static ({ cls := "jdk/internal/util/ArraysSupport", name := "newLength", desc := "(III)I" } : Jvm.MethodName)) ∈ lw_all := lw_g (lw_at lw_m7 169 rfl) rfl
theorem q1717 : (Jvm.Cond.code ({ cls := "jdk/internal/util/ArraysSupport", name := "newLength", desc := "(III)I" } : Jvm.MethodName) prog_59_method_27_code (4 : Nat) (Option.some Jvm.ClassFile.FieldType.int)) ∈ lw_all := lw_g (lw_at lw_m7 170 rfl) rfl
theorem q1718 : (Jvm.Cond.methodLink "jdk/internal/util/ArraysSupport" (194 : Nat) ({ cls := "java/lang/Math", name := "max", desc := "(II)I" } : Jvm.MethodName)) ∈ lw_all := lw_g (lw_at lw_m7 171 rfl) rfl
theorem q1719 : (Jvm.Cond.constant "jdk/internal/util/ArraysSupport" (200 : Nat) (2147483639 : Int32)) ∈ lw_all := lw_g (lw_at lw_m7 172 rfl) rfl
theorem q1720 : (Jvm.Cond.methodLink "jdk/internal/util/ArraysSupport" (201 : Nat) ({ cls := "jdk/internal/util/ArraysSupport", name := "hugeLength", desc := "(II)I" } : Jvm.MethodName)) ∈ lw_all := lw_g (lw_at lw_m7 173 rfl) rfl
theorem q1721 : (Jvm.Cond.static ({ cls := "jdk/internal/util/ArraysSupport", name := "hugeLength", desc := "(II)I" } : Jvm.MethodName)) ∈ lw_all := lw_g (lw_at lw_m7 174 rfl) rfl
theorem q1722 : (Jvm.Cond.code ({ cls := "jdk/internal/util/ArraysSupport", name := "hugeLength", desc := "(II)I" } : Jvm.MethodName) prog_59_method_28_code (3 : Nat) (Option.some Jvm.ClassFile.FieldType.int)) ∈ lw_all := lw_g (lw_at lw_m7 175 rfl) rfl
/-! jdk/internal/misc/Unsafe -/
set_option maxRecDepth 100000
def RJ17 : String := "jdk/internal/misc/Unsafe"
abbrev cJ17_getLongUnaligned : ByteArray := prog_57_method_334_code
def yJ17_getLongUnaligned : MethodName := ⟨RJ17, "getLongUnaligned", "(Ljava/lang/Object;J)J"⟩
def dkwJ17_getLongUnaligned_7 : List UInt8 := [182, 0, 39, 184, 2, 197, 173]
abbrev dktJ17_getLongUnaligned_7 : List UInt8 := dkwJ17_getLongUnaligned_7 ++ []
def dkwJ17_getLongUnaligned_6 : List UInt8 := [20, 2, 195, 97, 182, 0, 39, 42, 43, 32, 20, 2, 190, 97, 182, 0, 39, 42, 43, 32, 20, 2, 184, 97]
abbrev dktJ17_getLongUnaligned_6 : List UInt8 := dkwJ17_getLongUnaligned_6 ++ dktJ17_getLongUnaligned_7
def dkwJ17_getLongUnaligned_5 : List UInt8 := [43, 32, 20, 1, 93, 97, 182, 0, 39, 42, 43, 32, 20, 0, 205, 97, 182, 0, 39, 42, 43, 32]
abbrev dktJ17_getLongUnaligned_5 : List UInt8 := dkwJ17_getLongUnaligned_5 ++ dktJ17_getLongUnaligned_6
def dkwJ17_getLongUnaligned_4 : List UInt8 := [43, 32, 182, 0, 39, 42, 43, 32, 10, 97, 182, 0, 39, 42, 43, 32, 20, 0, 203, 97, 182, 0, 39, 42]
abbrev dktJ17_getLongUnaligned_4 : List UInt8 := dkwJ17_getLongUnaligned_4 ++ dktJ17_getLongUnaligned_5
def dkwJ17_getLongUnaligned_3 : List UInt8 := [43, 32, 20, 0, 205, 97, 182, 0, 47, 42, 43, 32, 20, 2, 190, 97, 182, 0, 47, 184, 2, 192, 173, 42]
abbrev dktJ17_getLongUnaligned_3 : List UInt8 := dkwJ17_getLongUnaligned_3 ++ dktJ17_getLongUnaligned_4
def dkwJ17_getLongUnaligned_2 : List UInt8 := [10, 127, 9, 148, 154, 0, 43, 42, 43, 32, 182, 0, 47, 42, 43, 32, 20, 0, 203, 97, 182, 0, 47, 42]
abbrev dktJ17_getLongUnaligned_2 : List UInt8 := dkwJ17_getLongUnaligned_2 ++ dktJ17_getLongUnaligned_3
def dkwJ17_getLongUnaligned_1 : List UInt8 := [154, 0, 23, 42, 43, 32, 182, 0, 17, 42, 43, 32, 20, 0, 205, 97, 182, 0, 17, 184, 2, 186, 173, 32]
abbrev dktJ17_getLongUnaligned_1 : List UInt8 := dkwJ17_getLongUnaligned_1 ++ dktJ17_getLongUnaligned_2
def dkwJ17_getLongUnaligned_0 : List UInt8 := [32, 20, 2, 184, 127, 9, 148, 154, 0, 10, 42, 43, 32, 182, 0, 27, 173, 32, 20, 1, 93, 127, 9, 148]
abbrev dktJ17_getLongUnaligned_0 : List UInt8 := dkwJ17_getLongUnaligned_0 ++ dktJ17_getLongUnaligned_1
theorem dksJ17_getLongUnaligned_0 : cJ17_getLongUnaligned.data.toList.drop 0 = dktJ17_getLongUnaligned_0 := by decide +kernel
theorem dksJ17_getLongUnaligned_1 : cJ17_getLongUnaligned.data.toList.drop 24 = dktJ17_getLongUnaligned_1 := dk_seg dksJ17_getLongUnaligned_0 24 rfl rfl
theorem dksJ17_getLongUnaligned_2 : cJ17_getLongUnaligned.data.toList.drop 48 = dktJ17_getLongUnaligned_2 := dk_seg dksJ17_getLongUnaligned_1 24 rfl rfl
theorem dksJ17_getLongUnaligned_3 : cJ17_getLongUnaligned.data.toList.drop 72 = dktJ17_getLongUnaligned_3 := dk_seg dksJ17_getLongUnaligned_2 24 rfl rfl
theorem dksJ17_getLongUnaligned_4 : cJ17_getLongUnaligned.data.toList.drop 96 = dktJ17_getLongUnaligned_4 := dk_seg dksJ17_getLongUnaligned_3 24 rfl rfl
theorem dksJ17_getLongUnaligned_5 : cJ17_getLongUnaligned.data.toList.drop 120 = dktJ17_getLongUnaligned_5 := dk_seg dksJ17_getLongUnaligned_4 24 rfl rfl
theorem dksJ17_getLongUnaligned_6 : cJ17_getLongUnaligned.data.toList.drop 142 = dktJ17_getLongUnaligned_6 := dk_seg dksJ17_getLongUnaligned_5 22 rfl rfl
theorem dksJ17_getLongUnaligned_7 : cJ17_getLongUnaligned.data.toList.drop 166 = dktJ17_getLongUnaligned_7 := dk_seg dksJ17_getLongUnaligned_6 24 rfl rfl
theorem dJ17_getLongUnaligned_0 : decode cJ17_getLongUnaligned 0 = .ok (.lload_n 2, 1) := dk_32 (dk_at dksJ17_getLongUnaligned_0 0 rfl rfl)
theorem dJ17_getLongUnaligned_1 : decode cJ17_getLongUnaligned 1 = .ok (.ldc2_w 696, 3) := dk_20 2 184 (dk_at dksJ17_getLongUnaligned_0 1 rfl rfl)
theorem dJ17_getLongUnaligned_4 : decode cJ17_getLongUnaligned 4 = .ok (.land, 1) := dk_127 (dk_at dksJ17_getLongUnaligned_0 4 rfl rfl)
theorem dJ17_getLongUnaligned_5 : decode cJ17_getLongUnaligned 5 = .ok (.lconst 0, 1) := dk_9 (dk_at dksJ17_getLongUnaligned_0 5 rfl rfl)
theorem dJ17_getLongUnaligned_6 : decode cJ17_getLongUnaligned 6 = .ok (.lcmp, 1) := dk_148 (dk_at dksJ17_getLongUnaligned_0 6 rfl rfl)
theorem dJ17_getLongUnaligned_7 : decode cJ17_getLongUnaligned 7 = .ok (.ifCond .ne 10, 3) := dk_154 0 10 (dk_at dksJ17_getLongUnaligned_0 7 rfl rfl)
theorem dJ17_getLongUnaligned_10 : decode cJ17_getLongUnaligned 10 = .ok (.aload_n 0, 1) := dk_42 (dk_at dksJ17_getLongUnaligned_0 10 rfl rfl)
theorem dJ17_getLongUnaligned_11 : decode cJ17_getLongUnaligned 11 = .ok (.aload_n 1, 1) := dk_43 (dk_at dksJ17_getLongUnaligned_0 11 rfl rfl)
theorem dJ17_getLongUnaligned_12 : decode cJ17_getLongUnaligned 12 = .ok (.lload_n 2, 1) := dk_32 (dk_at dksJ17_getLongUnaligned_0 12 rfl rfl)
theorem dJ17_getLongUnaligned_13 : decode cJ17_getLongUnaligned 13 = .ok (.invokevirtual 27, 3) := dk_182 0 27 (dk_at dksJ17_getLongUnaligned_0 13 rfl rfl)
theorem dJ17_getLongUnaligned_16 : decode cJ17_getLongUnaligned 16 = .ok (.lreturn, 1) := dk_173 (dk_at dksJ17_getLongUnaligned_0 16 rfl rfl)
theorem dJ17_getLongUnaligned_17 : decode cJ17_getLongUnaligned 17 = .ok (.lload_n 2, 1) := dk_32 (dk_at dksJ17_getLongUnaligned_0 17 rfl rfl)
theorem dJ17_getLongUnaligned_18 : decode cJ17_getLongUnaligned 18 = .ok (.ldc2_w 349, 3) := dk_20 1 93 (dk_at dksJ17_getLongUnaligned_0 18 rfl rfl)
theorem dJ17_getLongUnaligned_21 : decode cJ17_getLongUnaligned 21 = .ok (.land, 1) := dk_127 (dk_at dksJ17_getLongUnaligned_0 21 rfl rfl)
theorem dJ17_getLongUnaligned_22 : decode cJ17_getLongUnaligned 22 = .ok (.lconst 0, 1) := dk_9 (dk_at dksJ17_getLongUnaligned_0 22 rfl rfl)
theorem dJ17_getLongUnaligned_23 : decode cJ17_getLongUnaligned 23 = .ok (.lcmp, 1) := dk_148 (dk_at dksJ17_getLongUnaligned_0 23 rfl rfl)
theorem dJ17_getLongUnaligned_24 : decode cJ17_getLongUnaligned 24 = .ok (.ifCond .ne 23, 3) := dk_154 0 23 (dk_at dksJ17_getLongUnaligned_1 0 rfl rfl)
theorem dJ17_getLongUnaligned_27 : decode cJ17_getLongUnaligned 27 = .ok (.aload_n 0, 1) := dk_42 (dk_at dksJ17_getLongUnaligned_1 3 rfl rfl)
theorem dJ17_getLongUnaligned_28 : decode cJ17_getLongUnaligned 28 = .ok (.aload_n 1, 1) := dk_43 (dk_at dksJ17_getLongUnaligned_1 4 rfl rfl)
theorem dJ17_getLongUnaligned_29 : decode cJ17_getLongUnaligned 29 = .ok (.lload_n 2, 1) := dk_32 (dk_at dksJ17_getLongUnaligned_1 5 rfl rfl)
theorem dJ17_getLongUnaligned_30 : decode cJ17_getLongUnaligned 30 = .ok (.invokevirtual 17, 3) := dk_182 0 17 (dk_at dksJ17_getLongUnaligned_1 6 rfl rfl)
theorem dJ17_getLongUnaligned_33 : decode cJ17_getLongUnaligned 33 = .ok (.aload_n 0, 1) := dk_42 (dk_at dksJ17_getLongUnaligned_1 9 rfl rfl)
theorem dJ17_getLongUnaligned_34 : decode cJ17_getLongUnaligned 34 = .ok (.aload_n 1, 1) := dk_43 (dk_at dksJ17_getLongUnaligned_1 10 rfl rfl)
theorem dJ17_getLongUnaligned_35 : decode cJ17_getLongUnaligned 35 = .ok (.lload_n 2, 1) := dk_32 (dk_at dksJ17_getLongUnaligned_1 11 rfl rfl)
theorem dJ17_getLongUnaligned_36 : decode cJ17_getLongUnaligned 36 = .ok (.ldc2_w 205, 3) := dk_20 0 205 (dk_at dksJ17_getLongUnaligned_1 12 rfl rfl)
theorem dJ17_getLongUnaligned_39 : decode cJ17_getLongUnaligned 39 = .ok (.ladd, 1) := dk_97 (dk_at dksJ17_getLongUnaligned_1 15 rfl rfl)
theorem dJ17_getLongUnaligned_40 : decode cJ17_getLongUnaligned 40 = .ok (.invokevirtual 17, 3) := dk_182 0 17 (dk_at dksJ17_getLongUnaligned_1 16 rfl rfl)
theorem dJ17_getLongUnaligned_43 : decode cJ17_getLongUnaligned 43 = .ok (.invokestatic 698, 3) := dk_184 2 186 (dk_at dksJ17_getLongUnaligned_1 19 rfl rfl)
theorem dJ17_getLongUnaligned_46 : decode cJ17_getLongUnaligned 46 = .ok (.lreturn, 1) := dk_173 (dk_at dksJ17_getLongUnaligned_1 22 rfl rfl)
theorem dJ17_getLongUnaligned_47 : decode cJ17_getLongUnaligned 47 = .ok (.lload_n 2, 1) := dk_32 (dk_at dksJ17_getLongUnaligned_1 23 rfl rfl)
theorem dJ17_getLongUnaligned_48 : decode cJ17_getLongUnaligned 48 = .ok (.lconst 1, 1) := dk_10 (dk_at dksJ17_getLongUnaligned_2 0 rfl rfl)
theorem dJ17_getLongUnaligned_49 : decode cJ17_getLongUnaligned 49 = .ok (.land, 1) := dk_127 (dk_at dksJ17_getLongUnaligned_2 1 rfl rfl)
theorem dJ17_getLongUnaligned_50 : decode cJ17_getLongUnaligned 50 = .ok (.lconst 0, 1) := dk_9 (dk_at dksJ17_getLongUnaligned_2 2 rfl rfl)
theorem dJ17_getLongUnaligned_51 : decode cJ17_getLongUnaligned 51 = .ok (.lcmp, 1) := dk_148 (dk_at dksJ17_getLongUnaligned_2 3 rfl rfl)
theorem dJ17_getLongUnaligned_52 : decode cJ17_getLongUnaligned 52 = .ok (.ifCond .ne 43, 3) := dk_154 0 43 (dk_at dksJ17_getLongUnaligned_2 4 rfl rfl)
theorem dJ17_getLongUnaligned_55 : decode cJ17_getLongUnaligned 55 = .ok (.aload_n 0, 1) := dk_42 (dk_at dksJ17_getLongUnaligned_2 7 rfl rfl)
theorem dJ17_getLongUnaligned_56 : decode cJ17_getLongUnaligned 56 = .ok (.aload_n 1, 1) := dk_43 (dk_at dksJ17_getLongUnaligned_2 8 rfl rfl)
theorem dJ17_getLongUnaligned_57 : decode cJ17_getLongUnaligned 57 = .ok (.lload_n 2, 1) := dk_32 (dk_at dksJ17_getLongUnaligned_2 9 rfl rfl)
theorem dJ17_getLongUnaligned_58 : decode cJ17_getLongUnaligned 58 = .ok (.invokevirtual 47, 3) := dk_182 0 47 (dk_at dksJ17_getLongUnaligned_2 10 rfl rfl)
theorem dJ17_getLongUnaligned_61 : decode cJ17_getLongUnaligned 61 = .ok (.aload_n 0, 1) := dk_42 (dk_at dksJ17_getLongUnaligned_2 13 rfl rfl)
theorem dJ17_getLongUnaligned_62 : decode cJ17_getLongUnaligned 62 = .ok (.aload_n 1, 1) := dk_43 (dk_at dksJ17_getLongUnaligned_2 14 rfl rfl)
theorem dJ17_getLongUnaligned_63 : decode cJ17_getLongUnaligned 63 = .ok (.lload_n 2, 1) := dk_32 (dk_at dksJ17_getLongUnaligned_2 15 rfl rfl)
theorem dJ17_getLongUnaligned_64 : decode cJ17_getLongUnaligned 64 = .ok (.ldc2_w 203, 3) := dk_20 0 203 (dk_at dksJ17_getLongUnaligned_2 16 rfl rfl)
theorem dJ17_getLongUnaligned_67 : decode cJ17_getLongUnaligned 67 = .ok (.ladd, 1) := dk_97 (dk_at dksJ17_getLongUnaligned_2 19 rfl rfl)
theorem dJ17_getLongUnaligned_68 : decode cJ17_getLongUnaligned 68 = .ok (.invokevirtual 47, 3) := dk_182 0 47 (dk_at dksJ17_getLongUnaligned_2 20 rfl rfl)
theorem dJ17_getLongUnaligned_71 : decode cJ17_getLongUnaligned 71 = .ok (.aload_n 0, 1) := dk_42 (dk_at dksJ17_getLongUnaligned_2 23 rfl rfl)
theorem dJ17_getLongUnaligned_72 : decode cJ17_getLongUnaligned 72 = .ok (.aload_n 1, 1) := dk_43 (dk_at dksJ17_getLongUnaligned_3 0 rfl rfl)
theorem dJ17_getLongUnaligned_73 : decode cJ17_getLongUnaligned 73 = .ok (.lload_n 2, 1) := dk_32 (dk_at dksJ17_getLongUnaligned_3 1 rfl rfl)
theorem dJ17_getLongUnaligned_74 : decode cJ17_getLongUnaligned 74 = .ok (.ldc2_w 205, 3) := dk_20 0 205 (dk_at dksJ17_getLongUnaligned_3 2 rfl rfl)
theorem dJ17_getLongUnaligned_77 : decode cJ17_getLongUnaligned 77 = .ok (.ladd, 1) := dk_97 (dk_at dksJ17_getLongUnaligned_3 5 rfl rfl)
theorem dJ17_getLongUnaligned_78 : decode cJ17_getLongUnaligned 78 = .ok (.invokevirtual 47, 3) := dk_182 0 47 (dk_at dksJ17_getLongUnaligned_3 6 rfl rfl)
theorem dJ17_getLongUnaligned_81 : decode cJ17_getLongUnaligned 81 = .ok (.aload_n 0, 1) := dk_42 (dk_at dksJ17_getLongUnaligned_3 9 rfl rfl)
theorem dJ17_getLongUnaligned_82 : decode cJ17_getLongUnaligned 82 = .ok (.aload_n 1, 1) := dk_43 (dk_at dksJ17_getLongUnaligned_3 10 rfl rfl)
theorem dJ17_getLongUnaligned_83 : decode cJ17_getLongUnaligned 83 = .ok (.lload_n 2, 1) := dk_32 (dk_at dksJ17_getLongUnaligned_3 11 rfl rfl)
theorem dJ17_getLongUnaligned_84 : decode cJ17_getLongUnaligned 84 = .ok (.ldc2_w 702, 3) := dk_20 2 190 (dk_at dksJ17_getLongUnaligned_3 12 rfl rfl)
theorem dJ17_getLongUnaligned_87 : decode cJ17_getLongUnaligned 87 = .ok (.ladd, 1) := dk_97 (dk_at dksJ17_getLongUnaligned_3 15 rfl rfl)
theorem dJ17_getLongUnaligned_88 : decode cJ17_getLongUnaligned 88 = .ok (.invokevirtual 47, 3) := dk_182 0 47 (dk_at dksJ17_getLongUnaligned_3 16 rfl rfl)
theorem dJ17_getLongUnaligned_91 : decode cJ17_getLongUnaligned 91 = .ok (.invokestatic 704, 3) := dk_184 2 192 (dk_at dksJ17_getLongUnaligned_3 19 rfl rfl)
theorem dJ17_getLongUnaligned_94 : decode cJ17_getLongUnaligned 94 = .ok (.lreturn, 1) := dk_173 (dk_at dksJ17_getLongUnaligned_3 22 rfl rfl)
theorem dJ17_getLongUnaligned_95 : decode cJ17_getLongUnaligned 95 = .ok (.aload_n 0, 1) := dk_42 (dk_at dksJ17_getLongUnaligned_3 23 rfl rfl)
theorem dJ17_getLongUnaligned_96 : decode cJ17_getLongUnaligned 96 = .ok (.aload_n 1, 1) := dk_43 (dk_at dksJ17_getLongUnaligned_4 0 rfl rfl)
theorem dJ17_getLongUnaligned_97 : decode cJ17_getLongUnaligned 97 = .ok (.lload_n 2, 1) := dk_32 (dk_at dksJ17_getLongUnaligned_4 1 rfl rfl)
theorem dJ17_getLongUnaligned_98 : decode cJ17_getLongUnaligned 98 = .ok (.invokevirtual 39, 3) := dk_182 0 39 (dk_at dksJ17_getLongUnaligned_4 2 rfl rfl)
theorem dJ17_getLongUnaligned_101 : decode cJ17_getLongUnaligned 101 = .ok (.aload_n 0, 1) := dk_42 (dk_at dksJ17_getLongUnaligned_4 5 rfl rfl)
theorem dJ17_getLongUnaligned_102 : decode cJ17_getLongUnaligned 102 = .ok (.aload_n 1, 1) := dk_43 (dk_at dksJ17_getLongUnaligned_4 6 rfl rfl)
theorem dJ17_getLongUnaligned_103 : decode cJ17_getLongUnaligned 103 = .ok (.lload_n 2, 1) := dk_32 (dk_at dksJ17_getLongUnaligned_4 7 rfl rfl)
theorem dJ17_getLongUnaligned_104 : decode cJ17_getLongUnaligned 104 = .ok (.lconst 1, 1) := dk_10 (dk_at dksJ17_getLongUnaligned_4 8 rfl rfl)
theorem dJ17_getLongUnaligned_105 : decode cJ17_getLongUnaligned 105 = .ok (.ladd, 1) := dk_97 (dk_at dksJ17_getLongUnaligned_4 9 rfl rfl)
theorem dJ17_getLongUnaligned_106 : decode cJ17_getLongUnaligned 106 = .ok (.invokevirtual 39, 3) := dk_182 0 39 (dk_at dksJ17_getLongUnaligned_4 10 rfl rfl)
theorem dJ17_getLongUnaligned_109 : decode cJ17_getLongUnaligned 109 = .ok (.aload_n 0, 1) := dk_42 (dk_at dksJ17_getLongUnaligned_4 13 rfl rfl)
theorem dJ17_getLongUnaligned_110 : decode cJ17_getLongUnaligned 110 = .ok (.aload_n 1, 1) := dk_43 (dk_at dksJ17_getLongUnaligned_4 14 rfl rfl)
theorem dJ17_getLongUnaligned_111 : decode cJ17_getLongUnaligned 111 = .ok (.lload_n 2, 1) := dk_32 (dk_at dksJ17_getLongUnaligned_4 15 rfl rfl)
theorem dJ17_getLongUnaligned_112 : decode cJ17_getLongUnaligned 112 = .ok (.ldc2_w 203, 3) := dk_20 0 203 (dk_at dksJ17_getLongUnaligned_4 16 rfl rfl)
theorem dJ17_getLongUnaligned_115 : decode cJ17_getLongUnaligned 115 = .ok (.ladd, 1) := dk_97 (dk_at dksJ17_getLongUnaligned_4 19 rfl rfl)
theorem dJ17_getLongUnaligned_116 : decode cJ17_getLongUnaligned 116 = .ok (.invokevirtual 39, 3) := dk_182 0 39 (dk_at dksJ17_getLongUnaligned_4 20 rfl rfl)
theorem dJ17_getLongUnaligned_119 : decode cJ17_getLongUnaligned 119 = .ok (.aload_n 0, 1) := dk_42 (dk_at dksJ17_getLongUnaligned_4 23 rfl rfl)
theorem dJ17_getLongUnaligned_120 : decode cJ17_getLongUnaligned 120 = .ok (.aload_n 1, 1) := dk_43 (dk_at dksJ17_getLongUnaligned_5 0 rfl rfl)
theorem dJ17_getLongUnaligned_121 : decode cJ17_getLongUnaligned 121 = .ok (.lload_n 2, 1) := dk_32 (dk_at dksJ17_getLongUnaligned_5 1 rfl rfl)
theorem dJ17_getLongUnaligned_122 : decode cJ17_getLongUnaligned 122 = .ok (.ldc2_w 349, 3) := dk_20 1 93 (dk_at dksJ17_getLongUnaligned_5 2 rfl rfl)
theorem dJ17_getLongUnaligned_125 : decode cJ17_getLongUnaligned 125 = .ok (.ladd, 1) := dk_97 (dk_at dksJ17_getLongUnaligned_5 5 rfl rfl)
theorem dJ17_getLongUnaligned_126 : decode cJ17_getLongUnaligned 126 = .ok (.invokevirtual 39, 3) := dk_182 0 39 (dk_at dksJ17_getLongUnaligned_5 6 rfl rfl)
theorem dJ17_getLongUnaligned_129 : decode cJ17_getLongUnaligned 129 = .ok (.aload_n 0, 1) := dk_42 (dk_at dksJ17_getLongUnaligned_5 9 rfl rfl)
theorem dJ17_getLongUnaligned_130 : decode cJ17_getLongUnaligned 130 = .ok (.aload_n 1, 1) := dk_43 (dk_at dksJ17_getLongUnaligned_5 10 rfl rfl)
theorem dJ17_getLongUnaligned_131 : decode cJ17_getLongUnaligned 131 = .ok (.lload_n 2, 1) := dk_32 (dk_at dksJ17_getLongUnaligned_5 11 rfl rfl)
theorem dJ17_getLongUnaligned_132 : decode cJ17_getLongUnaligned 132 = .ok (.ldc2_w 205, 3) := dk_20 0 205 (dk_at dksJ17_getLongUnaligned_5 12 rfl rfl)
theorem dJ17_getLongUnaligned_135 : decode cJ17_getLongUnaligned 135 = .ok (.ladd, 1) := dk_97 (dk_at dksJ17_getLongUnaligned_5 15 rfl rfl)
theorem dJ17_getLongUnaligned_136 : decode cJ17_getLongUnaligned 136 = .ok (.invokevirtual 39, 3) := dk_182 0 39 (dk_at dksJ17_getLongUnaligned_5 16 rfl rfl)
theorem dJ17_getLongUnaligned_139 : decode cJ17_getLongUnaligned 139 = .ok (.aload_n 0, 1) := dk_42 (dk_at dksJ17_getLongUnaligned_5 19 rfl rfl)
theorem dJ17_getLongUnaligned_140 : decode cJ17_getLongUnaligned 140 = .ok (.aload_n 1, 1) := dk_43 (dk_at dksJ17_getLongUnaligned_5 20 rfl rfl)
theorem dJ17_getLongUnaligned_141 : decode cJ17_getLongUnaligned 141 = .ok (.lload_n 2, 1) := dk_32 (dk_at dksJ17_getLongUnaligned_5 21 rfl rfl)
theorem dJ17_getLongUnaligned_142 : decode cJ17_getLongUnaligned 142 = .ok (.ldc2_w 707, 3) := dk_20 2 195 (dk_at dksJ17_getLongUnaligned_6 0 rfl rfl)
theorem dJ17_getLongUnaligned_145 : decode cJ17_getLongUnaligned 145 = .ok (.ladd, 1) := dk_97 (dk_at dksJ17_getLongUnaligned_6 3 rfl rfl)
theorem dJ17_getLongUnaligned_146 : decode cJ17_getLongUnaligned 146 = .ok (.invokevirtual 39, 3) := dk_182 0 39 (dk_at dksJ17_getLongUnaligned_6 4 rfl rfl)
theorem dJ17_getLongUnaligned_149 : decode cJ17_getLongUnaligned 149 = .ok (.aload_n 0, 1) := dk_42 (dk_at dksJ17_getLongUnaligned_6 7 rfl rfl)
theorem dJ17_getLongUnaligned_150 : decode cJ17_getLongUnaligned 150 = .ok (.aload_n 1, 1) := dk_43 (dk_at dksJ17_getLongUnaligned_6 8 rfl rfl)
theorem dJ17_getLongUnaligned_151 : decode cJ17_getLongUnaligned 151 = .ok (.lload_n 2, 1) := dk_32 (dk_at dksJ17_getLongUnaligned_6 9 rfl rfl)
theorem dJ17_getLongUnaligned_152 : decode cJ17_getLongUnaligned 152 = .ok (.ldc2_w 702, 3) := dk_20 2 190 (dk_at dksJ17_getLongUnaligned_6 10 rfl rfl)
theorem dJ17_getLongUnaligned_155 : decode cJ17_getLongUnaligned 155 = .ok (.ladd, 1) := dk_97 (dk_at dksJ17_getLongUnaligned_6 13 rfl rfl)
theorem dJ17_getLongUnaligned_156 : decode cJ17_getLongUnaligned 156 = .ok (.invokevirtual 39, 3) := dk_182 0 39 (dk_at dksJ17_getLongUnaligned_6 14 rfl rfl)
theorem dJ17_getLongUnaligned_159 : decode cJ17_getLongUnaligned 159 = .ok (.aload_n 0, 1) := dk_42 (dk_at dksJ17_getLongUnaligned_6 17 rfl rfl)
theorem dJ17_getLongUnaligned_160 : decode cJ17_getLongUnaligned 160 = .ok (.aload_n 1, 1) := dk_43 (dk_at dksJ17_getLongUnaligned_6 18 rfl rfl)
theorem dJ17_getLongUnaligned_161 : decode cJ17_getLongUnaligned 161 = .ok (.lload_n 2, 1) := dk_32 (dk_at dksJ17_getLongUnaligned_6 19 rfl rfl)
theorem dJ17_getLongUnaligned_162 : decode cJ17_getLongUnaligned 162 = .ok (.ldc2_w 696, 3) := dk_20 2 184 (dk_at dksJ17_getLongUnaligned_6 20 rfl rfl)
theorem dJ17_getLongUnaligned_165 : decode cJ17_getLongUnaligned 165 = .ok (.ladd, 1) := dk_97 (dk_at dksJ17_getLongUnaligned_6 23 rfl rfl)
theorem dJ17_getLongUnaligned_166 : decode cJ17_getLongUnaligned 166 = .ok (.invokevirtual 39, 3) := dk_182 0 39 (dk_at dksJ17_getLongUnaligned_7 0 rfl rfl)
theorem dJ17_getLongUnaligned_169 : decode cJ17_getLongUnaligned 169 = .ok (.invokestatic 709, 3) := dk_184 2 197 (dk_at dksJ17_getLongUnaligned_7 3 rfl rfl)
theorem dJ17_getLongUnaligned_172 : decode cJ17_getLongUnaligned 172 = .ok (.lreturn, 1) := dk_173 (dk_at dksJ17_getLongUnaligned_7 6 rfl rfl)
abbrev cJ17_makeLong : ByteArray := prog_57_method_353_code
def yJ17_makeLong : MethodName := ⟨RJ17, "makeLong", "(II)J"⟩
def dkwJ17_makeLong_1 : List UInt8 := [173]
abbrev dktJ17_makeLong_1 : List UInt8 := dkwJ17_makeLong_1 ++ []
def dkwJ17_makeLong_0 : List UInt8 := [26, 184, 3, 23, 16, 32, 3, 184, 3, 16, 121, 27, 184, 3, 23, 16, 32, 16, 32, 184, 3, 16, 121, 129]
abbrev dktJ17_makeLong_0 : List UInt8 := dkwJ17_makeLong_0 ++ dktJ17_makeLong_1
theorem dksJ17_makeLong_0 : cJ17_makeLong.data.toList.drop 0 = dktJ17_makeLong_0 := by decide +kernel
theorem dksJ17_makeLong_1 : cJ17_makeLong.data.toList.drop 24 = dktJ17_makeLong_1 := dk_seg dksJ17_makeLong_0 24 rfl rfl
theorem dJ17_makeLong_0 : decode cJ17_makeLong 0 = .ok (.iload_n 0, 1) := dk_26 (dk_at dksJ17_makeLong_0 0 rfl rfl)
theorem dJ17_makeLong_1 : decode cJ17_makeLong 1 = .ok (.invokestatic 791, 3) := dk_184 3 23 (dk_at dksJ17_makeLong_0 1 rfl rfl)
theorem dJ17_makeLong_4 : decode cJ17_makeLong 4 = .ok (.bipush 32, 2) := dk_16 32 (dk_at dksJ17_makeLong_0 4 rfl rfl)
theorem dJ17_makeLong_6 : decode cJ17_makeLong 6 = .ok (.iconst 0, 1) := dk_3 (dk_at dksJ17_makeLong_0 6 rfl rfl)
theorem dJ17_makeLong_7 : decode cJ17_makeLong 7 = .ok (.invokestatic 784, 3) := dk_184 3 16 (dk_at dksJ17_makeLong_0 7 rfl rfl)
theorem dJ17_makeLong_10 : decode cJ17_makeLong 10 = .ok (.lshl, 1) := dk_121 (dk_at dksJ17_makeLong_0 10 rfl rfl)
theorem dJ17_makeLong_11 : decode cJ17_makeLong 11 = .ok (.iload_n 1, 1) := dk_27 (dk_at dksJ17_makeLong_0 11 rfl rfl)
theorem dJ17_makeLong_12 : decode cJ17_makeLong 12 = .ok (.invokestatic 791, 3) := dk_184 3 23 (dk_at dksJ17_makeLong_0 12 rfl rfl)
theorem dJ17_makeLong_15 : decode cJ17_makeLong 15 = .ok (.bipush 32, 2) := dk_16 32 (dk_at dksJ17_makeLong_0 15 rfl rfl)
theorem dJ17_makeLong_17 : decode cJ17_makeLong 17 = .ok (.bipush 32, 2) := dk_16 32 (dk_at dksJ17_makeLong_0 17 rfl rfl)
theorem dJ17_makeLong_19 : decode cJ17_makeLong 19 = .ok (.invokestatic 784, 3) := dk_184 3 16 (dk_at dksJ17_makeLong_0 19 rfl rfl)
theorem dJ17_makeLong_22 : decode cJ17_makeLong 22 = .ok (.lshl, 1) := dk_121 (dk_at dksJ17_makeLong_0 22 rfl rfl)
theorem dJ17_makeLong_23 : decode cJ17_makeLong 23 = .ok (.lor, 1) := dk_129 (dk_at dksJ17_makeLong_0 23 rfl rfl)
theorem dJ17_makeLong_24 : decode cJ17_makeLong 24 = .ok (.lreturn, 1) := dk_173 (dk_at dksJ17_makeLong_1 0 rfl rfl)
abbrev cJ17_toUnsignedLong : ByteArray := prog_57_method_370_code
def yJ17_toUnsignedLong : MethodName := ⟨RJ17, "toUnsignedLong", "(I)J"⟩
def dkwJ17_toUnsignedLong_0 : List UInt8 := [26, 133, 20, 3, 44, 127, 173]
abbrev dktJ17_toUnsignedLong_0 : List UInt8 := dkwJ17_toUnsignedLong_0 ++ []
theorem dksJ17_toUnsignedLong_0 : cJ17_toUnsignedLong.data.toList.drop 0 = dktJ17_toUnsignedLong_0 := by decide +kernel
theorem dJ17_toUnsignedLong_0 : decode cJ17_toUnsignedLong 0 = .ok (.iload_n 0, 1) := dk_26 (dk_at dksJ17_toUnsignedLong_0 0 rfl rfl)
theorem dJ17_toUnsignedLong_1 : decode cJ17_toUnsignedLong 1 = .ok (.i2l, 1) := dk_133 (dk_at dksJ17_toUnsignedLong_0 1 rfl rfl)
theorem dJ17_toUnsignedLong_2 : decode cJ17_toUnsignedLong 2 = .ok (.ldc2_w 812, 3) := dk_20 3 44 (dk_at dksJ17_toUnsignedLong_0 2 rfl rfl)
theorem dJ17_toUnsignedLong_5 : decode cJ17_toUnsignedLong 5 = .ok (.land, 1) := dk_127 (dk_at dksJ17_toUnsignedLong_0 5 rfl rfl)
theorem dJ17_toUnsignedLong_6 : decode cJ17_toUnsignedLong 6 = .ok (.lreturn, 1) := dk_173 (dk_at dksJ17_toUnsignedLong_0 6 rfl rfl)
abbrev cJ17_pickPos : ByteArray := prog_57_method_350_code
def yJ17_pickPos : MethodName := ⟨RJ17, "pickPos", "(II)I"⟩
def dkwJ17_pickPos_0 : List UInt8 := [178, 1, 95, 153, 0, 9, 26, 27, 100, 167, 0, 4, 27, 172]
abbrev dktJ17_pickPos_0 : List UInt8 := dkwJ17_pickPos_0 ++ []
theorem dksJ17_pickPos_0 : cJ17_pickPos.data.toList.drop 0 = dktJ17_pickPos_0 := by decide +kernel
theorem dJ17_pickPos_0 : decode cJ17_pickPos 0 = .ok (.getstatic 351, 3) := dk_178 1 95 (dk_at dksJ17_pickPos_0 0 rfl rfl)
theorem dJ17_pickPos_3 : decode cJ17_pickPos 3 = .ok (.ifCond .eq 9, 3) := dk_153 0 9 (dk_at dksJ17_pickPos_0 3 rfl rfl)
theorem dJ17_pickPos_6 : decode cJ17_pickPos 6 = .ok (.iload_n 0, 1) := dk_26 (dk_at dksJ17_pickPos_0 6 rfl rfl)
theorem dJ17_pickPos_7 : decode cJ17_pickPos 7 = .ok (.iload_n 1, 1) := dk_27 (dk_at dksJ17_pickPos_0 7 rfl rfl)
theorem dJ17_pickPos_8 : decode cJ17_pickPos 8 = .ok (.isub, 1) := dk_100 (dk_at dksJ17_pickPos_0 8 rfl rfl)
theorem dJ17_pickPos_9 : decode cJ17_pickPos 9 = .ok (.goto 4, 3) := dk_167 0 4 (dk_at dksJ17_pickPos_0 9 rfl rfl)
theorem dJ17_pickPos_12 : decode cJ17_pickPos 12 = .ok (.iload_n 1, 1) := dk_27 (dk_at dksJ17_pickPos_0 12 rfl rfl)
theorem dJ17_pickPos_13 : decode cJ17_pickPos 13 = .ok (.ireturn, 1) := dk_172 (dk_at dksJ17_pickPos_0 13 rfl rfl)
abbrev cJ17_makeLong_2 : ByteArray := prog_57_method_352_code
def yJ17_makeLong_2 : MethodName := ⟨RJ17, "makeLong", "(SSSS)J"⟩
def dkwJ17_makeLong_2_2 : List UInt8 := [121, 129, 173]
abbrev dktJ17_makeLong_2_2 : List UInt8 := dkwJ17_makeLong_2_2 ++ []
def dkwJ17_makeLong_2_1 : List UInt8 := [28, 184, 3, 20, 16, 48, 16, 32, 184, 3, 16, 121, 129, 29, 184, 3, 20, 16, 48, 16, 48, 184, 3, 16]
abbrev dktJ17_makeLong_2_1 : List UInt8 := dkwJ17_makeLong_2_1 ++ dktJ17_makeLong_2_2
def dkwJ17_makeLong_2_0 : List UInt8 := [26, 184, 3, 20, 16, 48, 3, 184, 3, 16, 121, 27, 184, 3, 20, 16, 48, 16, 16, 184, 3, 16, 121, 129]
abbrev dktJ17_makeLong_2_0 : List UInt8 := dkwJ17_makeLong_2_0 ++ dktJ17_makeLong_2_1
theorem dksJ17_makeLong_2_0 : cJ17_makeLong_2.data.toList.drop 0 = dktJ17_makeLong_2_0 := by decide +kernel
theorem dksJ17_makeLong_2_1 : cJ17_makeLong_2.data.toList.drop 24 = dktJ17_makeLong_2_1 := dk_seg dksJ17_makeLong_2_0 24 rfl rfl
theorem dksJ17_makeLong_2_2 : cJ17_makeLong_2.data.toList.drop 48 = dktJ17_makeLong_2_2 := dk_seg dksJ17_makeLong_2_1 24 rfl rfl
theorem dJ17_makeLong_2_0 : decode cJ17_makeLong_2 0 = .ok (.iload_n 0, 1) := dk_26 (dk_at dksJ17_makeLong_2_0 0 rfl rfl)
theorem dJ17_makeLong_2_1 : decode cJ17_makeLong_2 1 = .ok (.invokestatic 788, 3) := dk_184 3 20 (dk_at dksJ17_makeLong_2_0 1 rfl rfl)
theorem dJ17_makeLong_2_4 : decode cJ17_makeLong_2 4 = .ok (.bipush 48, 2) := dk_16 48 (dk_at dksJ17_makeLong_2_0 4 rfl rfl)
theorem dJ17_makeLong_2_6 : decode cJ17_makeLong_2 6 = .ok (.iconst 0, 1) := dk_3 (dk_at dksJ17_makeLong_2_0 6 rfl rfl)
theorem dJ17_makeLong_2_7 : decode cJ17_makeLong_2 7 = .ok (.invokestatic 784, 3) := dk_184 3 16 (dk_at dksJ17_makeLong_2_0 7 rfl rfl)
theorem dJ17_makeLong_2_10 : decode cJ17_makeLong_2 10 = .ok (.lshl, 1) := dk_121 (dk_at dksJ17_makeLong_2_0 10 rfl rfl)
theorem dJ17_makeLong_2_11 : decode cJ17_makeLong_2 11 = .ok (.iload_n 1, 1) := dk_27 (dk_at dksJ17_makeLong_2_0 11 rfl rfl)
theorem dJ17_makeLong_2_12 : decode cJ17_makeLong_2 12 = .ok (.invokestatic 788, 3) := dk_184 3 20 (dk_at dksJ17_makeLong_2_0 12 rfl rfl)
theorem dJ17_makeLong_2_15 : decode cJ17_makeLong_2 15 = .ok (.bipush 48, 2) := dk_16 48 (dk_at dksJ17_makeLong_2_0 15 rfl rfl)
theorem dJ17_makeLong_2_17 : decode cJ17_makeLong_2 17 = .ok (.bipush 16, 2) := dk_16 16 (dk_at dksJ17_makeLong_2_0 17 rfl rfl)
theorem dJ17_makeLong_2_19 : decode cJ17_makeLong_2 19 = .ok (.invokestatic 784, 3) := dk_184 3 16 (dk_at dksJ17_makeLong_2_0 19 rfl rfl)
theorem dJ17_makeLong_2_22 : decode cJ17_makeLong_2 22 = .ok (.lshl, 1) := dk_121 (dk_at dksJ17_makeLong_2_0 22 rfl rfl)
theorem dJ17_makeLong_2_23 : decode cJ17_makeLong_2 23 = .ok (.lor, 1) := dk_129 (dk_at dksJ17_makeLong_2_0 23 rfl rfl)
theorem dJ17_makeLong_2_24 : decode cJ17_makeLong_2 24 = .ok (.iload_n 2, 1) := dk_28 (dk_at dksJ17_makeLong_2_1 0 rfl rfl)
theorem dJ17_makeLong_2_25 : decode cJ17_makeLong_2 25 = .ok (.invokestatic 788, 3) := dk_184 3 20 (dk_at dksJ17_makeLong_2_1 1 rfl rfl)
theorem dJ17_makeLong_2_28 : decode cJ17_makeLong_2 28 = .ok (.bipush 48, 2) := dk_16 48 (dk_at dksJ17_makeLong_2_1 4 rfl rfl)
theorem dJ17_makeLong_2_30 : decode cJ17_makeLong_2 30 = .ok (.bipush 32, 2) := dk_16 32 (dk_at dksJ17_makeLong_2_1 6 rfl rfl)
theorem dJ17_makeLong_2_32 : decode cJ17_makeLong_2 32 = .ok (.invokestatic 784, 3) := dk_184 3 16 (dk_at dksJ17_makeLong_2_1 8 rfl rfl)
theorem dJ17_makeLong_2_35 : decode cJ17_makeLong_2 35 = .ok (.lshl, 1) := dk_121 (dk_at dksJ17_makeLong_2_1 11 rfl rfl)
theorem dJ17_makeLong_2_36 : decode cJ17_makeLong_2 36 = .ok (.lor, 1) := dk_129 (dk_at dksJ17_makeLong_2_1 12 rfl rfl)
theorem dJ17_makeLong_2_37 : decode cJ17_makeLong_2 37 = .ok (.iload_n 3, 1) := dk_29 (dk_at dksJ17_makeLong_2_1 13 rfl rfl)
theorem dJ17_makeLong_2_38 : decode cJ17_makeLong_2 38 = .ok (.invokestatic 788, 3) := dk_184 3 20 (dk_at dksJ17_makeLong_2_1 14 rfl rfl)
theorem dJ17_makeLong_2_41 : decode cJ17_makeLong_2 41 = .ok (.bipush 48, 2) := dk_16 48 (dk_at dksJ17_makeLong_2_1 17 rfl rfl)
theorem dJ17_makeLong_2_43 : decode cJ17_makeLong_2 43 = .ok (.bipush 48, 2) := dk_16 48 (dk_at dksJ17_makeLong_2_1 19 rfl rfl)
theorem dJ17_makeLong_2_45 : decode cJ17_makeLong_2 45 = .ok (.invokestatic 784, 3) := dk_184 3 16 (dk_at dksJ17_makeLong_2_1 21 rfl rfl)
theorem dJ17_makeLong_2_48 : decode cJ17_makeLong_2 48 = .ok (.lshl, 1) := dk_121 (dk_at dksJ17_makeLong_2_2 0 rfl rfl)
theorem dJ17_makeLong_2_49 : decode cJ17_makeLong_2 49 = .ok (.lor, 1) := dk_129 (dk_at dksJ17_makeLong_2_2 1 rfl rfl)
theorem dJ17_makeLong_2_50 : decode cJ17_makeLong_2 50 = .ok (.lreturn, 1) := dk_173 (dk_at dksJ17_makeLong_2_2 2 rfl rfl)
abbrev cJ17_toUnsignedLong_2 : ByteArray := prog_57_method_369_code
def yJ17_toUnsignedLong_2 : MethodName := ⟨RJ17, "toUnsignedLong", "(S)J"⟩
def dkwJ17_toUnsignedLong_2_0 : List UInt8 := [26, 133, 20, 3, 42, 127, 173]
abbrev dktJ17_toUnsignedLong_2_0 : List UInt8 := dkwJ17_toUnsignedLong_2_0 ++ []
theorem dksJ17_toUnsignedLong_2_0 : cJ17_toUnsignedLong_2.data.toList.drop 0 = dktJ17_toUnsignedLong_2_0 := by decide +kernel
theorem dJ17_toUnsignedLong_2_0 : decode cJ17_toUnsignedLong_2 0 = .ok (.iload_n 0, 1) := dk_26 (dk_at dksJ17_toUnsignedLong_2_0 0 rfl rfl)
theorem dJ17_toUnsignedLong_2_1 : decode cJ17_toUnsignedLong_2 1 = .ok (.i2l, 1) := dk_133 (dk_at dksJ17_toUnsignedLong_2_0 1 rfl rfl)
theorem dJ17_toUnsignedLong_2_2 : decode cJ17_toUnsignedLong_2 2 = .ok (.ldc2_w 810, 3) := dk_20 3 42 (dk_at dksJ17_toUnsignedLong_2_0 2 rfl rfl)
theorem dJ17_toUnsignedLong_2_5 : decode cJ17_toUnsignedLong_2 5 = .ok (.land, 1) := dk_127 (dk_at dksJ17_toUnsignedLong_2_0 5 rfl rfl)
theorem dJ17_toUnsignedLong_2_6 : decode cJ17_toUnsignedLong_2 6 = .ok (.lreturn, 1) := dk_173 (dk_at dksJ17_toUnsignedLong_2_0 6 rfl rfl)
abbrev cJ17_makeLong_3 : ByteArray := prog_57_method_351_code
def yJ17_makeLong_3 : MethodName := ⟨RJ17, "makeLong", "(BBBBBBBB)J"⟩
def dkwJ17_makeLong_3_4 : List UInt8 := [184, 3, 13, 16, 56, 16, 56, 184, 3, 16, 121, 129, 173]
abbrev dktJ17_makeLong_3_4 : List UInt8 := dkwJ17_makeLong_3_4 ++ []
def dkwJ17_makeLong_3_3 : List UInt8 := [16, 40, 184, 3, 16, 121, 129, 21, 6, 184, 3, 13, 16, 56, 16, 48, 184, 3, 16, 121, 129, 21, 7]
abbrev dktJ17_makeLong_3_3 : List UInt8 := dkwJ17_makeLong_3_3 ++ dktJ17_makeLong_3_4
def dkwJ17_makeLong_3_2 : List UInt8 := [121, 129, 21, 4, 184, 3, 13, 16, 56, 16, 32, 184, 3, 16, 121, 129, 21, 5, 184, 3, 13, 16, 56]
abbrev dktJ17_makeLong_3_2 : List UInt8 := dkwJ17_makeLong_3_2 ++ dktJ17_makeLong_3_3
def dkwJ17_makeLong_3_1 : List UInt8 := [28, 184, 3, 13, 16, 56, 16, 16, 184, 3, 16, 121, 129, 29, 184, 3, 13, 16, 56, 16, 24, 184, 3, 16]
abbrev dktJ17_makeLong_3_1 : List UInt8 := dkwJ17_makeLong_3_1 ++ dktJ17_makeLong_3_2
def dkwJ17_makeLong_3_0 : List UInt8 := [26, 184, 3, 13, 16, 56, 3, 184, 3, 16, 121, 27, 184, 3, 13, 16, 56, 16, 8, 184, 3, 16, 121, 129]
abbrev dktJ17_makeLong_3_0 : List UInt8 := dkwJ17_makeLong_3_0 ++ dktJ17_makeLong_3_1
theorem dksJ17_makeLong_3_0 : cJ17_makeLong_3.data.toList.drop 0 = dktJ17_makeLong_3_0 := by decide +kernel
theorem dksJ17_makeLong_3_1 : cJ17_makeLong_3.data.toList.drop 24 = dktJ17_makeLong_3_1 := dk_seg dksJ17_makeLong_3_0 24 rfl rfl
theorem dksJ17_makeLong_3_2 : cJ17_makeLong_3.data.toList.drop 48 = dktJ17_makeLong_3_2 := dk_seg dksJ17_makeLong_3_1 24 rfl rfl
theorem dksJ17_makeLong_3_3 : cJ17_makeLong_3.data.toList.drop 71 = dktJ17_makeLong_3_3 := dk_seg dksJ17_makeLong_3_2 23 rfl rfl
theorem dksJ17_makeLong_3_4 : cJ17_makeLong_3.data.toList.drop 94 = dktJ17_makeLong_3_4 := dk_seg dksJ17_makeLong_3_3 23 rfl rfl
theorem dJ17_makeLong_3_0 : decode cJ17_makeLong_3 0 = .ok (.iload_n 0, 1) := dk_26 (dk_at dksJ17_makeLong_3_0 0 rfl rfl)
theorem dJ17_makeLong_3_1 : decode cJ17_makeLong_3 1 = .ok (.invokestatic 781, 3) := dk_184 3 13 (dk_at dksJ17_makeLong_3_0 1 rfl rfl)
theorem dJ17_makeLong_3_4 : decode cJ17_makeLong_3 4 = .ok (.bipush 56, 2) := dk_16 56 (dk_at dksJ17_makeLong_3_0 4 rfl rfl)
theorem dJ17_makeLong_3_6 : decode cJ17_makeLong_3 6 = .ok (.iconst 0, 1) := dk_3 (dk_at dksJ17_makeLong_3_0 6 rfl rfl)
theorem dJ17_makeLong_3_7 : decode cJ17_makeLong_3 7 = .ok (.invokestatic 784, 3) := dk_184 3 16 (dk_at dksJ17_makeLong_3_0 7 rfl rfl)
theorem dJ17_makeLong_3_10 : decode cJ17_makeLong_3 10 = .ok (.lshl, 1) := dk_121 (dk_at dksJ17_makeLong_3_0 10 rfl rfl)
theorem dJ17_makeLong_3_11 : decode cJ17_makeLong_3 11 = .ok (.iload_n 1, 1) := dk_27 (dk_at dksJ17_makeLong_3_0 11 rfl rfl)
theorem dJ17_makeLong_3_12 : decode cJ17_makeLong_3 12 = .ok (.invokestatic 781, 3) := dk_184 3 13 (dk_at dksJ17_makeLong_3_0 12 rfl rfl)
theorem dJ17_makeLong_3_15 : decode cJ17_makeLong_3 15 = .ok (.bipush 56, 2) := dk_16 56 (dk_at dksJ17_makeLong_3_0 15 rfl rfl)
theorem dJ17_makeLong_3_17 : decode cJ17_makeLong_3 17 = .ok (.bipush 8, 2) := dk_16 8 (dk_at dksJ17_makeLong_3_0 17 rfl rfl)
theorem dJ17_makeLong_3_19 : decode cJ17_makeLong_3 19 = .ok (.invokestatic 784, 3) := dk_184 3 16 (dk_at dksJ17_makeLong_3_0 19 rfl rfl)
theorem dJ17_makeLong_3_22 : decode cJ17_makeLong_3 22 = .ok (.lshl, 1) := dk_121 (dk_at dksJ17_makeLong_3_0 22 rfl rfl)
theorem dJ17_makeLong_3_23 : decode cJ17_makeLong_3 23 = .ok (.lor, 1) := dk_129 (dk_at dksJ17_makeLong_3_0 23 rfl rfl)
theorem dJ17_makeLong_3_24 : decode cJ17_makeLong_3 24 = .ok (.iload_n 2, 1) := dk_28 (dk_at dksJ17_makeLong_3_1 0 rfl rfl)
theorem dJ17_makeLong_3_25 : decode cJ17_makeLong_3 25 = .ok (.invokestatic 781, 3) := dk_184 3 13 (dk_at dksJ17_makeLong_3_1 1 rfl rfl)
theorem dJ17_makeLong_3_28 : decode cJ17_makeLong_3 28 = .ok (.bipush 56, 2) := dk_16 56 (dk_at dksJ17_makeLong_3_1 4 rfl rfl)
theorem dJ17_makeLong_3_30 : decode cJ17_makeLong_3 30 = .ok (.bipush 16, 2) := dk_16 16 (dk_at dksJ17_makeLong_3_1 6 rfl rfl)
theorem dJ17_makeLong_3_32 : decode cJ17_makeLong_3 32 = .ok (.invokestatic 784, 3) := dk_184 3 16 (dk_at dksJ17_makeLong_3_1 8 rfl rfl)
theorem dJ17_makeLong_3_35 : decode cJ17_makeLong_3 35 = .ok (.lshl, 1) := dk_121 (dk_at dksJ17_makeLong_3_1 11 rfl rfl)
theorem dJ17_makeLong_3_36 : decode cJ17_makeLong_3 36 = .ok (.lor, 1) := dk_129 (dk_at dksJ17_makeLong_3_1 12 rfl rfl)
theorem dJ17_makeLong_3_37 : decode cJ17_makeLong_3 37 = .ok (.iload_n 3, 1) := dk_29 (dk_at dksJ17_makeLong_3_1 13 rfl rfl)
theorem dJ17_makeLong_3_38 : decode cJ17_makeLong_3 38 = .ok (.invokestatic 781, 3) := dk_184 3 13 (dk_at dksJ17_makeLong_3_1 14 rfl rfl)
theorem dJ17_makeLong_3_41 : decode cJ17_makeLong_3 41 = .ok (.bipush 56, 2) := dk_16 56 (dk_at dksJ17_makeLong_3_1 17 rfl rfl)
theorem dJ17_makeLong_3_43 : decode cJ17_makeLong_3 43 = .ok (.bipush 24, 2) := dk_16 24 (dk_at dksJ17_makeLong_3_1 19 rfl rfl)
theorem dJ17_makeLong_3_45 : decode cJ17_makeLong_3 45 = .ok (.invokestatic 784, 3) := dk_184 3 16 (dk_at dksJ17_makeLong_3_1 21 rfl rfl)
theorem dJ17_makeLong_3_48 : decode cJ17_makeLong_3 48 = .ok (.lshl, 1) := dk_121 (dk_at dksJ17_makeLong_3_2 0 rfl rfl)
theorem dJ17_makeLong_3_49 : decode cJ17_makeLong_3 49 = .ok (.lor, 1) := dk_129 (dk_at dksJ17_makeLong_3_2 1 rfl rfl)
theorem dJ17_makeLong_3_50 : decode cJ17_makeLong_3 50 = .ok (.iload 4, 2) := dk_21 4 (dk_at dksJ17_makeLong_3_2 2 rfl rfl)
theorem dJ17_makeLong_3_52 : decode cJ17_makeLong_3 52 = .ok (.invokestatic 781, 3) := dk_184 3 13 (dk_at dksJ17_makeLong_3_2 4 rfl rfl)
theorem dJ17_makeLong_3_55 : decode cJ17_makeLong_3 55 = .ok (.bipush 56, 2) := dk_16 56 (dk_at dksJ17_makeLong_3_2 7 rfl rfl)
theorem dJ17_makeLong_3_57 : decode cJ17_makeLong_3 57 = .ok (.bipush 32, 2) := dk_16 32 (dk_at dksJ17_makeLong_3_2 9 rfl rfl)
theorem dJ17_makeLong_3_59 : decode cJ17_makeLong_3 59 = .ok (.invokestatic 784, 3) := dk_184 3 16 (dk_at dksJ17_makeLong_3_2 11 rfl rfl)
theorem dJ17_makeLong_3_62 : decode cJ17_makeLong_3 62 = .ok (.lshl, 1) := dk_121 (dk_at dksJ17_makeLong_3_2 14 rfl rfl)
theorem dJ17_makeLong_3_63 : decode cJ17_makeLong_3 63 = .ok (.lor, 1) := dk_129 (dk_at dksJ17_makeLong_3_2 15 rfl rfl)
theorem dJ17_makeLong_3_64 : decode cJ17_makeLong_3 64 = .ok (.iload 5, 2) := dk_21 5 (dk_at dksJ17_makeLong_3_2 16 rfl rfl)
theorem dJ17_makeLong_3_66 : decode cJ17_makeLong_3 66 = .ok (.invokestatic 781, 3) := dk_184 3 13 (dk_at dksJ17_makeLong_3_2 18 rfl rfl)
theorem dJ17_makeLong_3_69 : decode cJ17_makeLong_3 69 = .ok (.bipush 56, 2) := dk_16 56 (dk_at dksJ17_makeLong_3_2 21 rfl rfl)
theorem dJ17_makeLong_3_71 : decode cJ17_makeLong_3 71 = .ok (.bipush 40, 2) := dk_16 40 (dk_at dksJ17_makeLong_3_3 0 rfl rfl)
theorem dJ17_makeLong_3_73 : decode cJ17_makeLong_3 73 = .ok (.invokestatic 784, 3) := dk_184 3 16 (dk_at dksJ17_makeLong_3_3 2 rfl rfl)
theorem dJ17_makeLong_3_76 : decode cJ17_makeLong_3 76 = .ok (.lshl, 1) := dk_121 (dk_at dksJ17_makeLong_3_3 5 rfl rfl)
theorem dJ17_makeLong_3_77 : decode cJ17_makeLong_3 77 = .ok (.lor, 1) := dk_129 (dk_at dksJ17_makeLong_3_3 6 rfl rfl)
theorem dJ17_makeLong_3_78 : decode cJ17_makeLong_3 78 = .ok (.iload 6, 2) := dk_21 6 (dk_at dksJ17_makeLong_3_3 7 rfl rfl)
theorem dJ17_makeLong_3_80 : decode cJ17_makeLong_3 80 = .ok (.invokestatic 781, 3) := dk_184 3 13 (dk_at dksJ17_makeLong_3_3 9 rfl rfl)
theorem dJ17_makeLong_3_83 : decode cJ17_makeLong_3 83 = .ok (.bipush 56, 2) := dk_16 56 (dk_at dksJ17_makeLong_3_3 12 rfl rfl)
theorem dJ17_makeLong_3_85 : decode cJ17_makeLong_3 85 = .ok (.bipush 48, 2) := dk_16 48 (dk_at dksJ17_makeLong_3_3 14 rfl rfl)
theorem dJ17_makeLong_3_87 : decode cJ17_makeLong_3 87 = .ok (.invokestatic 784, 3) := dk_184 3 16 (dk_at dksJ17_makeLong_3_3 16 rfl rfl)
theorem dJ17_makeLong_3_90 : decode cJ17_makeLong_3 90 = .ok (.lshl, 1) := dk_121 (dk_at dksJ17_makeLong_3_3 19 rfl rfl)
theorem dJ17_makeLong_3_91 : decode cJ17_makeLong_3 91 = .ok (.lor, 1) := dk_129 (dk_at dksJ17_makeLong_3_3 20 rfl rfl)
theorem dJ17_makeLong_3_92 : decode cJ17_makeLong_3 92 = .ok (.iload 7, 2) := dk_21 7 (dk_at dksJ17_makeLong_3_3 21 rfl rfl)
theorem dJ17_makeLong_3_94 : decode cJ17_makeLong_3 94 = .ok (.invokestatic 781, 3) := dk_184 3 13 (dk_at dksJ17_makeLong_3_4 0 rfl rfl)
theorem dJ17_makeLong_3_97 : decode cJ17_makeLong_3 97 = .ok (.bipush 56, 2) := dk_16 56 (dk_at dksJ17_makeLong_3_4 3 rfl rfl)
theorem dJ17_makeLong_3_99 : decode cJ17_makeLong_3 99 = .ok (.bipush 56, 2) := dk_16 56 (dk_at dksJ17_makeLong_3_4 5 rfl rfl)
theorem dJ17_makeLong_3_101 : decode cJ17_makeLong_3 101 = .ok (.invokestatic 784, 3) := dk_184 3 16 (dk_at dksJ17_makeLong_3_4 7 rfl rfl)
theorem dJ17_makeLong_3_104 : decode cJ17_makeLong_3 104 = .ok (.lshl, 1) := dk_121 (dk_at dksJ17_makeLong_3_4 10 rfl rfl)
theorem dJ17_makeLong_3_105 : decode cJ17_makeLong_3 105 = .ok (.lor, 1) := dk_129 (dk_at dksJ17_makeLong_3_4 11 rfl rfl)
theorem dJ17_makeLong_3_106 : decode cJ17_makeLong_3 106 = .ok (.lreturn, 1) := dk_173 (dk_at dksJ17_makeLong_3_4 12 rfl rfl)
abbrev cJ17_toUnsignedLong_3 : ByteArray := prog_57_method_368_code
def yJ17_toUnsignedLong_3 : MethodName := ⟨RJ17, "toUnsignedLong", "(B)J"⟩
def dkwJ17_toUnsignedLong_3_0 : List UInt8 := [26, 133, 20, 3, 40, 127, 173]
abbrev dktJ17_toUnsignedLong_3_0 : List UInt8 := dkwJ17_toUnsignedLong_3_0 ++ []
theorem dksJ17_toUnsignedLong_3_0 : cJ17_toUnsignedLong_3.data.toList.drop 0 = dktJ17_toUnsignedLong_3_0 := by decide +kernel
theorem dJ17_toUnsignedLong_3_0 : decode cJ17_toUnsignedLong_3 0 = .ok (.iload_n 0, 1) := dk_26 (dk_at dksJ17_toUnsignedLong_3_0 0 rfl rfl)
theorem dJ17_toUnsignedLong_3_1 : decode cJ17_toUnsignedLong_3 1 = .ok (.i2l, 1) := dk_133 (dk_at dksJ17_toUnsignedLong_3_0 1 rfl rfl)
theorem dJ17_toUnsignedLong_3_2 : decode cJ17_toUnsignedLong_3 2 = .ok (.ldc2_w 808, 3) := dk_20 3 40 (dk_at dksJ17_toUnsignedLong_3_0 2 rfl rfl)
theorem dJ17_toUnsignedLong_3_5 : decode cJ17_toUnsignedLong_3 5 = .ok (.land, 1) := dk_127 (dk_at dksJ17_toUnsignedLong_3_0 5 rfl rfl)
theorem dJ17_toUnsignedLong_3_6 : decode cJ17_toUnsignedLong_3 6 = .ok (.lreturn, 1) := dk_173 (dk_at dksJ17_toUnsignedLong_3_0 6 rfl rfl)
abbrev cJ17_getIntUnaligned : ByteArray := prog_57_method_336_code
def yJ17_getIntUnaligned : MethodName := ⟨RJ17, "getIntUnaligned", "(Ljava/lang/Object;J)I"⟩
def dkwJ17_getIntUnaligned_3 : List UInt8 := [43, 32, 20, 1, 93, 97, 182, 0, 39, 184, 2, 211, 172]
abbrev dktJ17_getIntUnaligned_3 : List UInt8 := dkwJ17_getIntUnaligned_3 ++ []
def dkwJ17_getIntUnaligned_2 : List UInt8 := [43, 32, 182, 0, 39, 42, 43, 32, 10, 97, 182, 0, 39, 42, 43, 32, 20, 0, 203, 97, 182, 0, 39, 42]
abbrev dktJ17_getIntUnaligned_2 : List UInt8 := dkwJ17_getIntUnaligned_2 ++ dktJ17_getIntUnaligned_3
def dkwJ17_getIntUnaligned_1 : List UInt8 := [154, 0, 23, 42, 43, 32, 182, 0, 47, 42, 43, 32, 20, 0, 203, 97, 182, 0, 47, 184, 2, 207, 172, 42]
abbrev dktJ17_getIntUnaligned_1 : List UInt8 := dkwJ17_getIntUnaligned_1 ++ dktJ17_getIntUnaligned_2
def dkwJ17_getIntUnaligned_0 : List UInt8 := [32, 20, 1, 93, 127, 9, 148, 154, 0, 10, 42, 43, 32, 182, 0, 17, 172, 32, 10, 127, 9, 148]
abbrev dktJ17_getIntUnaligned_0 : List UInt8 := dkwJ17_getIntUnaligned_0 ++ dktJ17_getIntUnaligned_1
theorem dksJ17_getIntUnaligned_0 : cJ17_getIntUnaligned.data.toList.drop 0 = dktJ17_getIntUnaligned_0 := by decide +kernel
theorem dksJ17_getIntUnaligned_1 : cJ17_getIntUnaligned.data.toList.drop 22 = dktJ17_getIntUnaligned_1 := dk_seg dksJ17_getIntUnaligned_0 22 rfl rfl
theorem dksJ17_getIntUnaligned_2 : cJ17_getIntUnaligned.data.toList.drop 46 = dktJ17_getIntUnaligned_2 := dk_seg dksJ17_getIntUnaligned_1 24 rfl rfl
theorem dksJ17_getIntUnaligned_3 : cJ17_getIntUnaligned.data.toList.drop 70 = dktJ17_getIntUnaligned_3 := dk_seg dksJ17_getIntUnaligned_2 24 rfl rfl
theorem dJ17_getIntUnaligned_0 : decode cJ17_getIntUnaligned 0 = .ok (.lload_n 2, 1) := dk_32 (dk_at dksJ17_getIntUnaligned_0 0 rfl rfl)
theorem dJ17_getIntUnaligned_1 : decode cJ17_getIntUnaligned 1 = .ok (.ldc2_w 349, 3) := dk_20 1 93 (dk_at dksJ17_getIntUnaligned_0 1 rfl rfl)
theorem dJ17_getIntUnaligned_4 : decode cJ17_getIntUnaligned 4 = .ok (.land, 1) := dk_127 (dk_at dksJ17_getIntUnaligned_0 4 rfl rfl)
theorem dJ17_getIntUnaligned_5 : decode cJ17_getIntUnaligned 5 = .ok (.lconst 0, 1) := dk_9 (dk_at dksJ17_getIntUnaligned_0 5 rfl rfl)
theorem dJ17_getIntUnaligned_6 : decode cJ17_getIntUnaligned 6 = .ok (.lcmp, 1) := dk_148 (dk_at dksJ17_getIntUnaligned_0 6 rfl rfl)
theorem dJ17_getIntUnaligned_7 : decode cJ17_getIntUnaligned 7 = .ok (.ifCond .ne 10, 3) := dk_154 0 10 (dk_at dksJ17_getIntUnaligned_0 7 rfl rfl)
theorem dJ17_getIntUnaligned_10 : decode cJ17_getIntUnaligned 10 = .ok (.aload_n 0, 1) := dk_42 (dk_at dksJ17_getIntUnaligned_0 10 rfl rfl)
theorem dJ17_getIntUnaligned_11 : decode cJ17_getIntUnaligned 11 = .ok (.aload_n 1, 1) := dk_43 (dk_at dksJ17_getIntUnaligned_0 11 rfl rfl)
theorem dJ17_getIntUnaligned_12 : decode cJ17_getIntUnaligned 12 = .ok (.lload_n 2, 1) := dk_32 (dk_at dksJ17_getIntUnaligned_0 12 rfl rfl)
theorem dJ17_getIntUnaligned_13 : decode cJ17_getIntUnaligned 13 = .ok (.invokevirtual 17, 3) := dk_182 0 17 (dk_at dksJ17_getIntUnaligned_0 13 rfl rfl)
theorem dJ17_getIntUnaligned_16 : decode cJ17_getIntUnaligned 16 = .ok (.ireturn, 1) := dk_172 (dk_at dksJ17_getIntUnaligned_0 16 rfl rfl)
theorem dJ17_getIntUnaligned_17 : decode cJ17_getIntUnaligned 17 = .ok (.lload_n 2, 1) := dk_32 (dk_at dksJ17_getIntUnaligned_0 17 rfl rfl)
theorem dJ17_getIntUnaligned_18 : decode cJ17_getIntUnaligned 18 = .ok (.lconst 1, 1) := dk_10 (dk_at dksJ17_getIntUnaligned_0 18 rfl rfl)
theorem dJ17_getIntUnaligned_19 : decode cJ17_getIntUnaligned 19 = .ok (.land, 1) := dk_127 (dk_at dksJ17_getIntUnaligned_0 19 rfl rfl)
theorem dJ17_getIntUnaligned_20 : decode cJ17_getIntUnaligned 20 = .ok (.lconst 0, 1) := dk_9 (dk_at dksJ17_getIntUnaligned_0 20 rfl rfl)
theorem dJ17_getIntUnaligned_21 : decode cJ17_getIntUnaligned 21 = .ok (.lcmp, 1) := dk_148 (dk_at dksJ17_getIntUnaligned_0 21 rfl rfl)
theorem dJ17_getIntUnaligned_22 : decode cJ17_getIntUnaligned 22 = .ok (.ifCond .ne 23, 3) := dk_154 0 23 (dk_at dksJ17_getIntUnaligned_1 0 rfl rfl)
theorem dJ17_getIntUnaligned_25 : decode cJ17_getIntUnaligned 25 = .ok (.aload_n 0, 1) := dk_42 (dk_at dksJ17_getIntUnaligned_1 3 rfl rfl)
theorem dJ17_getIntUnaligned_26 : decode cJ17_getIntUnaligned 26 = .ok (.aload_n 1, 1) := dk_43 (dk_at dksJ17_getIntUnaligned_1 4 rfl rfl)
theorem dJ17_getIntUnaligned_27 : decode cJ17_getIntUnaligned 27 = .ok (.lload_n 2, 1) := dk_32 (dk_at dksJ17_getIntUnaligned_1 5 rfl rfl)
theorem dJ17_getIntUnaligned_28 : decode cJ17_getIntUnaligned 28 = .ok (.invokevirtual 47, 3) := dk_182 0 47 (dk_at dksJ17_getIntUnaligned_1 6 rfl rfl)
theorem dJ17_getIntUnaligned_31 : decode cJ17_getIntUnaligned 31 = .ok (.aload_n 0, 1) := dk_42 (dk_at dksJ17_getIntUnaligned_1 9 rfl rfl)
theorem dJ17_getIntUnaligned_32 : decode cJ17_getIntUnaligned 32 = .ok (.aload_n 1, 1) := dk_43 (dk_at dksJ17_getIntUnaligned_1 10 rfl rfl)
theorem dJ17_getIntUnaligned_33 : decode cJ17_getIntUnaligned 33 = .ok (.lload_n 2, 1) := dk_32 (dk_at dksJ17_getIntUnaligned_1 11 rfl rfl)
theorem dJ17_getIntUnaligned_34 : decode cJ17_getIntUnaligned 34 = .ok (.ldc2_w 203, 3) := dk_20 0 203 (dk_at dksJ17_getIntUnaligned_1 12 rfl rfl)
theorem dJ17_getIntUnaligned_37 : decode cJ17_getIntUnaligned 37 = .ok (.ladd, 1) := dk_97 (dk_at dksJ17_getIntUnaligned_1 15 rfl rfl)
theorem dJ17_getIntUnaligned_38 : decode cJ17_getIntUnaligned 38 = .ok (.invokevirtual 47, 3) := dk_182 0 47 (dk_at dksJ17_getIntUnaligned_1 16 rfl rfl)
theorem dJ17_getIntUnaligned_41 : decode cJ17_getIntUnaligned 41 = .ok (.invokestatic 719, 3) := dk_184 2 207 (dk_at dksJ17_getIntUnaligned_1 19 rfl rfl)
theorem dJ17_getIntUnaligned_44 : decode cJ17_getIntUnaligned 44 = .ok (.ireturn, 1) := dk_172 (dk_at dksJ17_getIntUnaligned_1 22 rfl rfl)
theorem dJ17_getIntUnaligned_45 : decode cJ17_getIntUnaligned 45 = .ok (.aload_n 0, 1) := dk_42 (dk_at dksJ17_getIntUnaligned_1 23 rfl rfl)
theorem dJ17_getIntUnaligned_46 : decode cJ17_getIntUnaligned 46 = .ok (.aload_n 1, 1) := dk_43 (dk_at dksJ17_getIntUnaligned_2 0 rfl rfl)
theorem dJ17_getIntUnaligned_47 : decode cJ17_getIntUnaligned 47 = .ok (.lload_n 2, 1) := dk_32 (dk_at dksJ17_getIntUnaligned_2 1 rfl rfl)
theorem dJ17_getIntUnaligned_48 : decode cJ17_getIntUnaligned 48 = .ok (.invokevirtual 39, 3) := dk_182 0 39 (dk_at dksJ17_getIntUnaligned_2 2 rfl rfl)
theorem dJ17_getIntUnaligned_51 : decode cJ17_getIntUnaligned 51 = .ok (.aload_n 0, 1) := dk_42 (dk_at dksJ17_getIntUnaligned_2 5 rfl rfl)
theorem dJ17_getIntUnaligned_52 : decode cJ17_getIntUnaligned 52 = .ok (.aload_n 1, 1) := dk_43 (dk_at dksJ17_getIntUnaligned_2 6 rfl rfl)
theorem dJ17_getIntUnaligned_53 : decode cJ17_getIntUnaligned 53 = .ok (.lload_n 2, 1) := dk_32 (dk_at dksJ17_getIntUnaligned_2 7 rfl rfl)
theorem dJ17_getIntUnaligned_54 : decode cJ17_getIntUnaligned 54 = .ok (.lconst 1, 1) := dk_10 (dk_at dksJ17_getIntUnaligned_2 8 rfl rfl)
theorem dJ17_getIntUnaligned_55 : decode cJ17_getIntUnaligned 55 = .ok (.ladd, 1) := dk_97 (dk_at dksJ17_getIntUnaligned_2 9 rfl rfl)
theorem dJ17_getIntUnaligned_56 : decode cJ17_getIntUnaligned 56 = .ok (.invokevirtual 39, 3) := dk_182 0 39 (dk_at dksJ17_getIntUnaligned_2 10 rfl rfl)
theorem dJ17_getIntUnaligned_59 : decode cJ17_getIntUnaligned 59 = .ok (.aload_n 0, 1) := dk_42 (dk_at dksJ17_getIntUnaligned_2 13 rfl rfl)
theorem dJ17_getIntUnaligned_60 : decode cJ17_getIntUnaligned 60 = .ok (.aload_n 1, 1) := dk_43 (dk_at dksJ17_getIntUnaligned_2 14 rfl rfl)
theorem dJ17_getIntUnaligned_61 : decode cJ17_getIntUnaligned 61 = .ok (.lload_n 2, 1) := dk_32 (dk_at dksJ17_getIntUnaligned_2 15 rfl rfl)
theorem dJ17_getIntUnaligned_62 : decode cJ17_getIntUnaligned 62 = .ok (.ldc2_w 203, 3) := dk_20 0 203 (dk_at dksJ17_getIntUnaligned_2 16 rfl rfl)
theorem dJ17_getIntUnaligned_65 : decode cJ17_getIntUnaligned 65 = .ok (.ladd, 1) := dk_97 (dk_at dksJ17_getIntUnaligned_2 19 rfl rfl)
theorem dJ17_getIntUnaligned_66 : decode cJ17_getIntUnaligned 66 = .ok (.invokevirtual 39, 3) := dk_182 0 39 (dk_at dksJ17_getIntUnaligned_2 20 rfl rfl)
theorem dJ17_getIntUnaligned_69 : decode cJ17_getIntUnaligned 69 = .ok (.aload_n 0, 1) := dk_42 (dk_at dksJ17_getIntUnaligned_2 23 rfl rfl)
theorem dJ17_getIntUnaligned_70 : decode cJ17_getIntUnaligned 70 = .ok (.aload_n 1, 1) := dk_43 (dk_at dksJ17_getIntUnaligned_3 0 rfl rfl)
theorem dJ17_getIntUnaligned_71 : decode cJ17_getIntUnaligned 71 = .ok (.lload_n 2, 1) := dk_32 (dk_at dksJ17_getIntUnaligned_3 1 rfl rfl)
theorem dJ17_getIntUnaligned_72 : decode cJ17_getIntUnaligned 72 = .ok (.ldc2_w 349, 3) := dk_20 1 93 (dk_at dksJ17_getIntUnaligned_3 2 rfl rfl)
theorem dJ17_getIntUnaligned_75 : decode cJ17_getIntUnaligned 75 = .ok (.ladd, 1) := dk_97 (dk_at dksJ17_getIntUnaligned_3 5 rfl rfl)
theorem dJ17_getIntUnaligned_76 : decode cJ17_getIntUnaligned 76 = .ok (.invokevirtual 39, 3) := dk_182 0 39 (dk_at dksJ17_getIntUnaligned_3 6 rfl rfl)
theorem dJ17_getIntUnaligned_79 : decode cJ17_getIntUnaligned 79 = .ok (.invokestatic 723, 3) := dk_184 2 211 (dk_at dksJ17_getIntUnaligned_3 9 rfl rfl)
theorem dJ17_getIntUnaligned_82 : decode cJ17_getIntUnaligned 82 = .ok (.ireturn, 1) := dk_172 (dk_at dksJ17_getIntUnaligned_3 12 rfl rfl)
abbrev cJ17_makeInt : ByteArray := prog_57_method_354_code
def yJ17_makeInt : MethodName := ⟨RJ17, "makeInt", "(SS)I"⟩
def dkwJ17_makeInt_1 : List UInt8 := [172]
abbrev dktJ17_makeInt_1 : List UInt8 := dkwJ17_makeInt_1 ++ []
def dkwJ17_makeInt_0 : List UInt8 := [26, 184, 3, 24, 16, 16, 3, 184, 3, 16, 120, 27, 184, 3, 24, 16, 16, 16, 16, 184, 3, 16, 120, 128]
abbrev dktJ17_makeInt_0 : List UInt8 := dkwJ17_makeInt_0 ++ dktJ17_makeInt_1
theorem dksJ17_makeInt_0 : cJ17_makeInt.data.toList.drop 0 = dktJ17_makeInt_0 := by decide +kernel
theorem dksJ17_makeInt_1 : cJ17_makeInt.data.toList.drop 24 = dktJ17_makeInt_1 := dk_seg dksJ17_makeInt_0 24 rfl rfl
theorem dJ17_makeInt_0 : decode cJ17_makeInt 0 = .ok (.iload_n 0, 1) := dk_26 (dk_at dksJ17_makeInt_0 0 rfl rfl)
theorem dJ17_makeInt_1 : decode cJ17_makeInt 1 = .ok (.invokestatic 792, 3) := dk_184 3 24 (dk_at dksJ17_makeInt_0 1 rfl rfl)
theorem dJ17_makeInt_4 : decode cJ17_makeInt 4 = .ok (.bipush 16, 2) := dk_16 16 (dk_at dksJ17_makeInt_0 4 rfl rfl)
theorem dJ17_makeInt_6 : decode cJ17_makeInt 6 = .ok (.iconst 0, 1) := dk_3 (dk_at dksJ17_makeInt_0 6 rfl rfl)
theorem dJ17_makeInt_7 : decode cJ17_makeInt 7 = .ok (.invokestatic 784, 3) := dk_184 3 16 (dk_at dksJ17_makeInt_0 7 rfl rfl)
theorem dJ17_makeInt_10 : decode cJ17_makeInt 10 = .ok (.ishl, 1) := dk_120 (dk_at dksJ17_makeInt_0 10 rfl rfl)
theorem dJ17_makeInt_11 : decode cJ17_makeInt 11 = .ok (.iload_n 1, 1) := dk_27 (dk_at dksJ17_makeInt_0 11 rfl rfl)
theorem dJ17_makeInt_12 : decode cJ17_makeInt 12 = .ok (.invokestatic 792, 3) := dk_184 3 24 (dk_at dksJ17_makeInt_0 12 rfl rfl)
theorem dJ17_makeInt_15 : decode cJ17_makeInt 15 = .ok (.bipush 16, 2) := dk_16 16 (dk_at dksJ17_makeInt_0 15 rfl rfl)
theorem dJ17_makeInt_17 : decode cJ17_makeInt 17 = .ok (.bipush 16, 2) := dk_16 16 (dk_at dksJ17_makeInt_0 17 rfl rfl)
theorem dJ17_makeInt_19 : decode cJ17_makeInt 19 = .ok (.invokestatic 784, 3) := dk_184 3 16 (dk_at dksJ17_makeInt_0 19 rfl rfl)
theorem dJ17_makeInt_22 : decode cJ17_makeInt 22 = .ok (.ishl, 1) := dk_120 (dk_at dksJ17_makeInt_0 22 rfl rfl)
theorem dJ17_makeInt_23 : decode cJ17_makeInt 23 = .ok (.ior, 1) := dk_128 (dk_at dksJ17_makeInt_0 23 rfl rfl)
theorem dJ17_makeInt_24 : decode cJ17_makeInt 24 = .ok (.ireturn, 1) := dk_172 (dk_at dksJ17_makeInt_1 0 rfl rfl)
abbrev cJ17_toUnsignedInt : ByteArray := prog_57_method_367_code
def yJ17_toUnsignedInt : MethodName := ⟨RJ17, "toUnsignedInt", "(S)I"⟩
def dkwJ17_toUnsignedInt_0 : List UInt8 := [26, 19, 1, 118, 126, 172]
abbrev dktJ17_toUnsignedInt_0 : List UInt8 := dkwJ17_toUnsignedInt_0 ++ []
theorem dksJ17_toUnsignedInt_0 : cJ17_toUnsignedInt.data.toList.drop 0 = dktJ17_toUnsignedInt_0 := by decide +kernel
theorem dJ17_toUnsignedInt_0 : decode cJ17_toUnsignedInt 0 = .ok (.iload_n 0, 1) := dk_26 (dk_at dksJ17_toUnsignedInt_0 0 rfl rfl)
theorem dJ17_toUnsignedInt_1 : decode cJ17_toUnsignedInt 1 = .ok (.ldc_w 374, 3) := dk_19 1 118 (dk_at dksJ17_toUnsignedInt_0 1 rfl rfl)
theorem dJ17_toUnsignedInt_4 : decode cJ17_toUnsignedInt 4 = .ok (.iand, 1) := dk_126 (dk_at dksJ17_toUnsignedInt_0 4 rfl rfl)
theorem dJ17_toUnsignedInt_5 : decode cJ17_toUnsignedInt 5 = .ok (.ireturn, 1) := dk_172 (dk_at dksJ17_toUnsignedInt_0 5 rfl rfl)
abbrev cJ17_makeInt_2 : ByteArray := prog_57_method_355_code
def yJ17_makeInt_2 : MethodName := ⟨RJ17, "makeInt", "(BBBB)I"⟩
def dkwJ17_makeInt_2_2 : List UInt8 := [120, 128, 172]
abbrev dktJ17_makeInt_2_2 : List UInt8 := dkwJ17_makeInt_2_2 ++ []
def dkwJ17_makeInt_2_1 : List UInt8 := [28, 184, 3, 28, 16, 24, 16, 16, 184, 3, 16, 120, 128, 29, 184, 3, 28, 16, 24, 16, 24, 184, 3, 16]
abbrev dktJ17_makeInt_2_1 : List UInt8 := dkwJ17_makeInt_2_1 ++ dktJ17_makeInt_2_2
def dkwJ17_makeInt_2_0 : List UInt8 := [26, 184, 3, 28, 16, 24, 3, 184, 3, 16, 120, 27, 184, 3, 28, 16, 24, 16, 8, 184, 3, 16, 120, 128]
abbrev dktJ17_makeInt_2_0 : List UInt8 := dkwJ17_makeInt_2_0 ++ dktJ17_makeInt_2_1
theorem dksJ17_makeInt_2_0 : cJ17_makeInt_2.data.toList.drop 0 = dktJ17_makeInt_2_0 := by decide +kernel
theorem dksJ17_makeInt_2_1 : cJ17_makeInt_2.data.toList.drop 24 = dktJ17_makeInt_2_1 := dk_seg dksJ17_makeInt_2_0 24 rfl rfl
theorem dksJ17_makeInt_2_2 : cJ17_makeInt_2.data.toList.drop 48 = dktJ17_makeInt_2_2 := dk_seg dksJ17_makeInt_2_1 24 rfl rfl
theorem dJ17_makeInt_2_0 : decode cJ17_makeInt_2 0 = .ok (.iload_n 0, 1) := dk_26 (dk_at dksJ17_makeInt_2_0 0 rfl rfl)
theorem dJ17_makeInt_2_1 : decode cJ17_makeInt_2 1 = .ok (.invokestatic 796, 3) := dk_184 3 28 (dk_at dksJ17_makeInt_2_0 1 rfl rfl)
theorem dJ17_makeInt_2_4 : decode cJ17_makeInt_2 4 = .ok (.bipush 24, 2) := dk_16 24 (dk_at dksJ17_makeInt_2_0 4 rfl rfl)
theorem dJ17_makeInt_2_6 : decode cJ17_makeInt_2 6 = .ok (.iconst 0, 1) := dk_3 (dk_at dksJ17_makeInt_2_0 6 rfl rfl)
theorem dJ17_makeInt_2_7 : decode cJ17_makeInt_2 7 = .ok (.invokestatic 784, 3) := dk_184 3 16 (dk_at dksJ17_makeInt_2_0 7 rfl rfl)
theorem dJ17_makeInt_2_10 : decode cJ17_makeInt_2 10 = .ok (.ishl, 1) := dk_120 (dk_at dksJ17_makeInt_2_0 10 rfl rfl)
theorem dJ17_makeInt_2_11 : decode cJ17_makeInt_2 11 = .ok (.iload_n 1, 1) := dk_27 (dk_at dksJ17_makeInt_2_0 11 rfl rfl)
theorem dJ17_makeInt_2_12 : decode cJ17_makeInt_2 12 = .ok (.invokestatic 796, 3) := dk_184 3 28 (dk_at dksJ17_makeInt_2_0 12 rfl rfl)
theorem dJ17_makeInt_2_15 : decode cJ17_makeInt_2 15 = .ok (.bipush 24, 2) := dk_16 24 (dk_at dksJ17_makeInt_2_0 15 rfl rfl)
theorem dJ17_makeInt_2_17 : decode cJ17_makeInt_2 17 = .ok (.bipush 8, 2) := dk_16 8 (dk_at dksJ17_makeInt_2_0 17 rfl rfl)
theorem dJ17_makeInt_2_19 : decode cJ17_makeInt_2 19 = .ok (.invokestatic 784, 3) := dk_184 3 16 (dk_at dksJ17_makeInt_2_0 19 rfl rfl)
theorem dJ17_makeInt_2_22 : decode cJ17_makeInt_2 22 = .ok (.ishl, 1) := dk_120 (dk_at dksJ17_makeInt_2_0 22 rfl rfl)
theorem dJ17_makeInt_2_23 : decode cJ17_makeInt_2 23 = .ok (.ior, 1) := dk_128 (dk_at dksJ17_makeInt_2_0 23 rfl rfl)
theorem dJ17_makeInt_2_24 : decode cJ17_makeInt_2 24 = .ok (.iload_n 2, 1) := dk_28 (dk_at dksJ17_makeInt_2_1 0 rfl rfl)
theorem dJ17_makeInt_2_25 : decode cJ17_makeInt_2 25 = .ok (.invokestatic 796, 3) := dk_184 3 28 (dk_at dksJ17_makeInt_2_1 1 rfl rfl)
theorem dJ17_makeInt_2_28 : decode cJ17_makeInt_2 28 = .ok (.bipush 24, 2) := dk_16 24 (dk_at dksJ17_makeInt_2_1 4 rfl rfl)
theorem dJ17_makeInt_2_30 : decode cJ17_makeInt_2 30 = .ok (.bipush 16, 2) := dk_16 16 (dk_at dksJ17_makeInt_2_1 6 rfl rfl)
theorem dJ17_makeInt_2_32 : decode cJ17_makeInt_2 32 = .ok (.invokestatic 784, 3) := dk_184 3 16 (dk_at dksJ17_makeInt_2_1 8 rfl rfl)
theorem dJ17_makeInt_2_35 : decode cJ17_makeInt_2 35 = .ok (.ishl, 1) := dk_120 (dk_at dksJ17_makeInt_2_1 11 rfl rfl)
theorem dJ17_makeInt_2_36 : decode cJ17_makeInt_2 36 = .ok (.ior, 1) := dk_128 (dk_at dksJ17_makeInt_2_1 12 rfl rfl)
theorem dJ17_makeInt_2_37 : decode cJ17_makeInt_2 37 = .ok (.iload_n 3, 1) := dk_29 (dk_at dksJ17_makeInt_2_1 13 rfl rfl)
theorem dJ17_makeInt_2_38 : decode cJ17_makeInt_2 38 = .ok (.invokestatic 796, 3) := dk_184 3 28 (dk_at dksJ17_makeInt_2_1 14 rfl rfl)
theorem dJ17_makeInt_2_41 : decode cJ17_makeInt_2 41 = .ok (.bipush 24, 2) := dk_16 24 (dk_at dksJ17_makeInt_2_1 17 rfl rfl)
theorem dJ17_makeInt_2_43 : decode cJ17_makeInt_2 43 = .ok (.bipush 24, 2) := dk_16 24 (dk_at dksJ17_makeInt_2_1 19 rfl rfl)
theorem dJ17_makeInt_2_45 : decode cJ17_makeInt_2 45 = .ok (.invokestatic 784, 3) := dk_184 3 16 (dk_at dksJ17_makeInt_2_1 21 rfl rfl)
theorem dJ17_makeInt_2_48 : decode cJ17_makeInt_2 48 = .ok (.ishl, 1) := dk_120 (dk_at dksJ17_makeInt_2_2 0 rfl rfl)
theorem dJ17_makeInt_2_49 : decode cJ17_makeInt_2 49 = .ok (.ior, 1) := dk_128 (dk_at dksJ17_makeInt_2_2 1 rfl rfl)
theorem dJ17_makeInt_2_50 : decode cJ17_makeInt_2 50 = .ok (.ireturn, 1) := dk_172 (dk_at dksJ17_makeInt_2_2 2 rfl rfl)
abbrev cJ17_toUnsignedInt_2 : ByteArray := prog_57_method_366_code
def yJ17_toUnsignedInt_2 : MethodName := ⟨RJ17, "toUnsignedInt", "(B)I"⟩
def dkwJ17_toUnsignedInt_2_0 : List UInt8 := [26, 17, 0, 255, 126, 172]
abbrev dktJ17_toUnsignedInt_2_0 : List UInt8 := dkwJ17_toUnsignedInt_2_0 ++ []
theorem dksJ17_toUnsignedInt_2_0 : cJ17_toUnsignedInt_2.data.toList.drop 0 = dktJ17_toUnsignedInt_2_0 := by decide +kernel
theorem dJ17_toUnsignedInt_2_0 : decode cJ17_toUnsignedInt_2 0 = .ok (.iload_n 0, 1) := dk_26 (dk_at dksJ17_toUnsignedInt_2_0 0 rfl rfl)
theorem dJ17_toUnsignedInt_2_1 : decode cJ17_toUnsignedInt_2 1 = .ok (.sipush 255, 3) := dk_17 0 255 (dk_at dksJ17_toUnsignedInt_2_0 1 rfl rfl)
theorem dJ17_toUnsignedInt_2_4 : decode cJ17_toUnsignedInt_2 4 = .ok (.iand, 1) := dk_126 (dk_at dksJ17_toUnsignedInt_2_0 4 rfl rfl)
theorem dJ17_toUnsignedInt_2_5 : decode cJ17_toUnsignedInt_2 5 = .ok (.ireturn, 1) := dk_172 (dk_at dksJ17_toUnsignedInt_2_0 5 rfl rfl)
theorem q138 : (Jvm.Cond.initialized "jdk/internal/misc/Unsafe") ∈ lw_all := lw_g (lw_at lw_m1 31 rfl) rfl
theorem q892 : (Jvm.Cond.selects "jdk/internal/misc/Unsafe" ({ cls := "java/lang/Object", name := "getClass", desc := "()Ljava/lang/Class;" } : Jvm.MethodName) ({ cls := "java/lang/Object", name := "getClass", desc := "()Ljava/lang/Class;" } : Jvm.MethodName)) ∈ lw_all := lw_g (lw_at lw_m4 65 rfl) rfl
theorem q1123 : (Jvm.Cond.laysStatic "jdk/internal/misc/Unsafe" "ARRAY_BYTE_BASE_OFFSET" "I") ∈ lw_tbl := lw_at lw_m5 56 rfl
theorem q1134 : (Jvm.Cond.instanceMethod ({ cls := "jdk/internal/misc/Unsafe", name := "getLongUnaligned", desc := "(Ljava/lang/Object;J)J" } : Jvm.MethodName)) ∈ lw_all := lw_g (lw_at lw_m5 67 rfl) rfl
theorem q1135 : (Jvm.Cond.selects "jdk/internal/misc/Unsafe" ({ cls := "jdk/internal/misc/Unsafe", name := "getLongUnaligned", desc := "(Ljava/lang/Object;J)J" } : Jvm.MethodName) ({ cls := "jdk/internal/misc/Unsafe", name := "getLongUnaligned", desc := "(Ljava/lang/Object;J)J" } : Jvm.MethodName)) ∈ lw_all := lw_g (lw_at lw_m5 68 rfl) rfl
theorem q1136 : (Jvm.Cond.code ({ cls := "jdk/internal/misc/Unsafe", name := "getLongUnaligned", desc := "(Ljava/lang/Object;J)J" } : Jvm.MethodName) prog_57_method_334_code (4 : Nat) (Option.some Jvm.ClassFile.FieldType.long)) ∈ lw_all := lw_g (lw_at lw_m5 69 rfl) rfl
theorem q1137 : (Jvm.Cond.constantLong "jdk/internal/misc/Unsafe" (696 : Nat) (7 : Int64)) ∈ lw_all := lw_g (lw_at lw_m5 70 rfl) rfl
theorem q1138 : (Jvm.Cond.methodLink "jdk/internal/misc/Unsafe" (27 : Nat) ({ cls := "jdk/internal/misc/Unsafe", name := "getLong", desc := "(Ljava/lang/Object;J)J" } : Jvm.MethodName)) ∈ lw_all := lw_g (lw_at lw_m5 71 rfl) rfl
theorem q1139 : (Jvm.Cond.instanceMethod ({ cls := "jdk/internal/misc/Unsafe", name := "getLong", desc := "(Ljava/lang/Object;J)J" } : Jvm.MethodName)) ∈ lw_all := lw_g (lw_at lw_m5 72 rfl) rfl
theorem q1140 : (Jvm.Cond.selects "jdk/internal/misc/Unsafe" ({ cls := "jdk/internal/misc/Unsafe", name := "getLong", desc := "(Ljava/lang/Object;J)J" } : Jvm.MethodName) ({ cls := "jdk/internal/misc/Unsafe", name := "getLong", desc := "(Ljava/lang/Object;J)J" } : Jvm.MethodName)) ∈ lw_all := lw_g (lw_at lw_m5 73 rfl) rfl
theorem q1141 : (Jvm.Cond.native ({ cls := "jdk/internal/misc/Unsafe", name := "getLong", desc := "(Ljava/lang/Object;J)J" } : Jvm.MethodName)) ∈ lw_all := lw_g (lw_at lw_m5 74 rfl) rfl
theorem q1142 : (Jvm.Cond.constantLong "jdk/internal/misc/Unsafe" (349 : Nat) (3 : Int64)) ∈ lw_all := lw_g (lw_at lw_m5 75 rfl) rfl
theorem q1143 : (Jvm.Cond.methodLink "jdk/internal/misc/Unsafe" (17 : Nat) ({ cls := "jdk/internal/misc/Unsafe", name := "getInt", desc := "(Ljava/lang/Object;J)I" } : Jvm.MethodName)) ∈ lw_all := lw_g (lw_at lw_m5 76 rfl) rfl
theorem q1144 : (Jvm.Cond.instanceMethod ({ cls := "jdk/internal/misc/Unsafe", name := "getInt", desc := "(Ljava/lang/Object;J)I" } : Jvm.MethodName)) ∈ lw_all := lw_g (lw_at lw_m5 77 rfl) rfl
theorem q1145 : (Jvm.Cond.selects "jdk/internal/misc/Unsafe" ({ cls := "jdk/internal/misc/Unsafe", name := "getInt", desc := "(Ljava/lang/Object;J)I" } : Jvm.MethodName) ({ cls := "jdk/internal/misc/Unsafe", name := "getInt", desc := "(Ljava/lang/Object;J)I" } : Jvm.MethodName)) ∈ lw_all := lw_g (lw_at lw_m5 78 rfl) rfl
theorem q1146 : (Jvm.Cond.native ({ cls := "jdk/internal/misc/Unsafe", name := "getInt", desc := "(Ljava/lang/Object;J)I" } : Jvm.MethodName)) ∈ lw_all := lw_g (lw_at lw_m5 79 rfl) rfl
theorem q1147 : (Jvm.Cond.constantLong "jdk/internal/misc/Unsafe" (205 : Nat) (4 : Int64)) ∈ lw_all := lw_g (lw_at lw_m5 80 rfl) rfl
theorem q1148 : (Jvm.Cond.methodLink "jdk/internal/misc/Unsafe" (698 : Nat) ({ cls := "jdk/internal/misc/Unsafe", name := "makeLong", desc := "(II)J" } : Jvm.MethodName)) ∈ lw_all := lw_g (lw_at lw_m5 81 rfl) rfl
theorem q1149 : (Jvm.Cond.static ({ cls := "jdk/internal/misc/Unsafe", name := "makeLong", desc := "(II)J" } : Jvm.MethodName)) ∈ lw_all := lw_g (lw_at lw_m5 82 rfl) rfl
theorem q1150 : (Jvm.Cond.code ({ cls := "jdk/internal/misc/Unsafe", name := "makeLong", desc := "(II)J" } : Jvm.MethodName) prog_57_method_353_code (2 : Nat) (Option.some Jvm.ClassFile.FieldType.long)) ∈ lw_all := lw_g (lw_at lw_m5 83 rfl) rfl
theorem q1151 : (Jvm.Cond.methodLink "jdk/internal/misc/Unsafe" (791 : Nat) ({ cls := "jdk/internal/misc/Unsafe", name := "toUnsignedLong", desc := "(I)J" } : Jvm.MethodName)) ∈ lw_all := lw_g (lw_at lw_m5 84 rfl) rfl
theorem q1152 : (Jvm.Cond.static ({ cls := "jdk/internal/misc/Unsafe", name := "toUnsignedLong", desc := "(I)J" } : Jvm.MethodName)) ∈ lw_all := lw_g (lw_at lw_m5 85 rfl) rfl
theorem q1153 : (Jvm.Cond.code ({ cls := "jdk/internal/misc/Unsafe", name := "toUnsignedLong", desc := "(I)J" } : Jvm.MethodName) prog_57_method_370_code (1 : Nat) (Option.some Jvm.ClassFile.FieldType.long)) ∈ lw_all := lw_g (lw_at lw_m5 86 rfl) rfl
theorem q1154 : (Jvm.Cond.constantLong "jdk/internal/misc/Unsafe" (812 : Nat) (4294967295 : Int64)) ∈ lw_all := lw_g (lw_at lw_m5 87 rfl) rfl
theorem q1155 : (Jvm.Cond.methodLink "jdk/internal/misc/Unsafe" (784 : Nat) ({ cls := "jdk/internal/misc/Unsafe", name := "pickPos", desc := "(II)I" } : Jvm.MethodName)) ∈ lw_all := lw_g (lw_at lw_m5 88 rfl) rfl
theorem q1156 : (Jvm.Cond.static ({ cls := "jdk/internal/misc/Unsafe", name := "pickPos", desc := "(II)I" } : Jvm.MethodName)) ∈ lw_all := lw_g (lw_at lw_m5 89 rfl) rfl
theorem q1157 : (Jvm.Cond.code ({ cls := "jdk/internal/misc/Unsafe", name := "pickPos", desc := "(II)I" } : Jvm.MethodName) prog_57_method_350_code (2 : Nat) (Option.some Jvm.ClassFile.FieldType.int)) ∈ lw_all := lw_g (lw_at lw_m5 90 rfl) rfl
theorem q1158 : (Jvm.Cond.fieldLink "jdk/internal/misc/Unsafe" (351 : Nat) "jdk/internal/misc/UnsafeConstants" "BIG_ENDIAN" "Z") ∈ lw_all := lw_g (lw_at lw_m5 91 rfl) rfl
theorem q1160 : (Jvm.Cond.methodLink "jdk/internal/misc/Unsafe" (47 : Nat) ({ cls := "jdk/internal/misc/Unsafe", name := "getShort", desc := "(Ljava/lang/Object;J)S" } : Jvm.MethodName)) ∈ lw_all := lw_g (lw_at lw_m5 93 rfl) rfl
theorem q1161 : (Jvm.Cond.instanceMethod ({ cls := "jdk/internal/misc/Unsafe", name := "getShort", desc := "(Ljava/lang/Object;J)S" } : Jvm.MethodName)) ∈ lw_all := lw_g (lw_at lw_m5 94 rfl) rfl
theorem q1162 : (Jvm.Cond.selects "jdk/internal/misc/Unsafe" ({ cls := "jdk/internal/misc/Unsafe", name := "getShort", desc := "(Ljava/lang/Object;J)S" } : Jvm.MethodName) ({ cls := "jdk/internal/misc/Unsafe", name := "getShort", desc := "(Ljava/lang/Object;J)S" } : Jvm.MethodName)) ∈ lw_all := lw_g (lw_at lw_m5 95 rfl) rfl
theorem q1163 : (Jvm.Cond.native ({ cls := "jdk/internal/misc/Unsafe", name := "getShort", desc := "(Ljava/lang/Object;J)S" } : Jvm.MethodName)) ∈ lw_all := lw_g (lw_at lw_m5 96 rfl) rfl
theorem q1164 : (Jvm.Cond.constantLong "jdk/internal/misc/Unsafe" (203 : Nat) (2 : Int64)) ∈ lw_all := lw_g (lw_at lw_m5 97 rfl) rfl
theorem q1165 : (Jvm.Cond.constantLong "jdk/internal/misc/Unsafe" (702 : Nat) (6 : Int64)) ∈ lw_all := lw_g (lw_at lw_m5 98 rfl) rfl
theorem q1166 : (Jvm.Cond.methodLink "jdk/internal/misc/Unsafe" (704 : Nat) ({ cls := "jdk/internal/misc/Unsafe", name := "makeLong", desc := "(SSSS)J" } : Jvm.MethodName)) ∈ lw_all := lw_g (lw_at lw_m5 99 rfl) rfl
theorem q1167 : (Jvm.Cond.static ({ cls := "jdk/internal/misc/Unsafe", name := "makeLong", desc := "(SSSS)J" } : Jvm.MethodName)) ∈ lw_all := lw_g (lw_at lw_m5 100 rfl) rfl
theorem q1168 : (Jvm.Cond.code ({ cls := "jdk/internal/misc/Unsafe", name := "makeLong", desc := "(SSSS)J" } : Jvm.MethodName) prog_57_method_352_code (4 : Nat) (Option.some Jvm.ClassFile.FieldType.long)) ∈ lw_all := lw_g (lw_at lw_m5 101 rfl) rfl
theorem q1169 : (Jvm.Cond.methodLink "jdk/internal/misc/Unsafe" (788 : Nat) ({ cls := "jdk/internal/misc/Unsafe", name := "toUnsignedLong", desc := "(S)J" } : Jvm.MethodName)) ∈ lw_all := lw_g (lw_at lw_m5 102 rfl) rfl
theorem q1170 : (Jvm.Cond.static ({ cls := "jdk/internal/misc/Unsafe", name := "toUnsignedLong", desc := "(S)J" } : Jvm.MethodName)) ∈ lw_all := lw_g (lw_at lw_m5 103 rfl) rfl
theorem q1171 : (Jvm.Cond.code ({ cls := "jdk/internal/misc/Unsafe", name := "toUnsignedLong", desc := "(S)J" } : Jvm.MethodName) prog_57_method_369_code (1 : Nat) (Option.some Jvm.ClassFile.FieldType.long)) ∈ lw_all := lw_g (lw_at lw_m5 104 rfl) rfl
theorem q1172 : (Jvm.Cond.constantLong "jdk/internal/misc/Unsafe" (810 : Nat) (65535 : Int64)) ∈ lw_all := lw_g (lw_at lw_m5 105 rfl) rfl
theorem q1173 : (Jvm.Cond.methodLink "jdk/internal/misc/Unsafe" (39 : Nat) ({ cls := "jdk/internal/misc/Unsafe", name := "getByte", desc := "(Ljava/lang/Object;J)B" } : Jvm.MethodName)) ∈ lw_all := lw_g (lw_at lw_m5 106 rfl) rfl
theorem q1174 : (Jvm.Cond.instanceMethod ({ cls := "jdk/internal/misc/Unsafe", name := "getByte", desc := "(Ljava/lang/Object;J)B" } : Jvm.MethodName)) ∈ lw_all := lw_g (lw_at lw_m5 107 rfl) rfl
theorem q1175 : (Jvm.Cond.selects "jdk/internal/misc/Unsafe" ({ cls := "jdk/internal/misc/Unsafe", name := "getByte", desc := "(Ljava/lang/Object;J)B" } : Jvm.MethodName) ({ cls := "jdk/internal/misc/Unsafe", name := "getByte", desc := "(Ljava/lang/Object;J)B" } : Jvm.MethodName)) ∈ lw_all := lw_g (lw_at lw_m5 108 rfl) rfl
theorem q1176 : (Jvm.Cond.native ({ cls := "jdk/internal/misc/Unsafe", name := "getByte", desc := "(Ljava/lang/Object;J)B" } : Jvm.MethodName)) ∈ lw_all := lw_g (lw_at lw_m5 109 rfl) rfl
theorem q1177 : (Jvm.Cond.constantLong "jdk/internal/misc/Unsafe" (707 : Nat) (5 : Int64)) ∈ lw_all := lw_g (lw_at lw_m5 110 rfl) rfl
theorem q1178 : (Jvm.Cond.methodLink "jdk/internal/misc/Unsafe" (709 : Nat) ({ cls := "jdk/internal/misc/Unsafe", name := "makeLong", desc := "(BBBBBBBB)J" } : Jvm.MethodName)) ∈ lw_all := lw_g (lw_at lw_m5 111 rfl) rfl
theorem q1179 : (Jvm.Cond.static ({ cls := "jdk/internal/misc/Unsafe", name := "makeLong", desc := "(BBBBBBBB)J" } : Jvm.MethodName)) ∈ lw_all := lw_g (lw_at lw_m5 112 rfl) rfl
theorem q1180 : (Jvm.Cond.code ({ cls := "jdk/internal/misc/Unsafe", name := "makeLong", desc := "(BBBBBBBB)J" } : Jvm.MethodName) prog_57_method_351_code (8 : Nat) (Option.some Jvm.ClassFile.FieldType.long)) ∈ lw_all := lw_g (lw_at lw_m5 113 rfl) rfl
theorem q1181 : (Jvm.Cond.methodLink "jdk/internal/misc/Unsafe" (781 : Nat) ({ cls := "jdk/internal/misc/Unsafe", name := "toUnsignedLong", desc := "(B)J" } : Jvm.MethodName)) ∈ lw_all := lw_g (lw_at lw_m5 114 rfl) rfl
theorem q1182 : (Jvm.Cond.static ({ cls := "jdk/internal/misc/Unsafe", name := "toUnsignedLong", desc := "(B)J" } : Jvm.MethodName)) ∈ lw_all := lw_g (lw_at lw_m5 115 rfl) rfl
theorem q1183 : (Jvm.Cond.code ({ cls := "jdk/internal/misc/Unsafe", name := "toUnsignedLong", desc := "(B)J" } : Jvm.MethodName) prog_57_method_368_code (1 : Nat) (Option.some Jvm.ClassFile.FieldType.long)) ∈ lw_all := lw_g (lw_at lw_m5 116 rfl) rfl
theorem q1184 : (Jvm.Cond.constantLong "jdk/internal/misc/Unsafe" (808 : Nat) (255 : Int64)) ∈ lw_all := lw_g (lw_at lw_m5 117 rfl) rfl
theorem q1202 : (Jvm.Cond.instanceMethod ({ cls := "jdk/internal/misc/Unsafe", name := "getIntUnaligned", desc := "(Ljava/lang/Object;J)I" } : Jvm.MethodName)) ∈ lw_all := lw_g (lw_at lw_m5 135 rfl) rfl
theorem q1203 : (Jvm.Cond.selects "jdk/internal/misc/Unsafe" ({ cls := "jdk/internal/misc/Unsafe", name := "getIntUnaligned", desc := "(Ljava/lang/Object;J)I" } : Jvm.MethodName) ({ cls := "jdk/internal/misc/Unsafe", name := "getIntUnaligned", desc := "(Ljava/lang/Object;J)I" } : Jvm.MethodName)) ∈ lw_all := lw_g (lw_at lw_m5 136 rfl) rfl
theorem q1204 : (Jvm.Cond.code ({ cls := "jdk/internal/misc/Unsafe", name := "getIntUnaligned", desc := "(Ljava/lang/Object;J)I" } : Jvm.MethodName) prog_57_method_336_code (4 : Nat) (Option.some Jvm.ClassFile.FieldType.int)) ∈ lw_all := lw_g (lw_at lw_m5 137 rfl) rfl
theorem q1205 : (Jvm.Cond.methodLink "jdk/internal/misc/Unsafe" (719 : Nat) ({ cls := "jdk/internal/misc/Unsafe", name := "makeInt", desc := "(SS)I" } : Jvm.MethodName)) ∈ lw_all := lw_g (lw_at lw_m5 138 rfl) rfl
theorem q1206 : (Jvm.Cond.static ({ cls := "jdk/internal/misc/Unsafe", name := "makeInt", desc := "(SS)I" } : Jvm.MethodName)) ∈ lw_all := lw_g (lw_at lw_m5 139 rfl) rfl
theorem q1207 : (Jvm.Cond.code ({ cls := "jdk/internal/misc/Unsafe", name := "makeInt", desc := "(SS)I" } : Jvm.MethodName) prog_57_method_354_code (2 : Nat) (Option.some Jvm.ClassFile.FieldType.int)) ∈ lw_all := lw_g (lw_at lw_m5 140 rfl) rfl
theorem q1208 : (Jvm.Cond.methodLink "jdk/internal/misc/Unsafe" (792 : Nat) ({ cls := "jdk/internal/misc/Unsafe", name := "toUnsignedInt", desc := "(S)I" } : Jvm.MethodName)) ∈ lw_all := lw_g (lw_at lw_m5 141 rfl) rfl
theorem q1209 : (Jvm.Cond.static ({ cls := "jdk/internal/misc/Unsafe", name := "toUnsignedInt", desc := "(S)I" } : Jvm.MethodName)) ∈ lw_all := lw_g (lw_at lw_m5 142 rfl) rfl
theorem q1210 : (Jvm.Cond.code ({ cls := "jdk/internal/misc/Unsafe", name := "toUnsignedInt", desc := "(S)I" } : Jvm.MethodName) prog_57_method_367_code (1 : Nat) (Option.some Jvm.ClassFile.FieldType.int)) ∈ lw_all := lw_g (lw_at lw_m5 143 rfl) rfl
theorem q1211 : (Jvm.Cond.constant "jdk/internal/misc/Unsafe" (374 : Nat) (65535 : Int32)) ∈ lw_all := lw_g (lw_at lw_m5 144 rfl) rfl
theorem q1212 : (Jvm.Cond.methodLink "jdk/internal/misc/Unsafe" (723 : Nat) ({ cls := "jdk/internal/misc/Unsafe", name := "makeInt", desc := "(BBBB)I" } : Jvm.MethodName)) ∈ lw_all := lw_g (lw_at lw_m5 145 rfl) rfl
theorem q1213 : (Jvm.Cond.static ({ cls := "jdk/internal/misc/Unsafe", name := "makeInt", desc := "(BBBB)I" } : Jvm.MethodName)) ∈ lw_all := lw_g (lw_at lw_m5 146 rfl) rfl
theorem q1214 : (Jvm.Cond.code ({ cls := "jdk/internal/misc/Unsafe", name := "makeInt", desc := "(BBBB)I" } : Jvm.MethodName) prog_57_method_355_code (4 : Nat) (Option.some Jvm.ClassFile.FieldType.int)) ∈ lw_all := lw_g (lw_at lw_m5 147 rfl) rfl
theorem q1215 : (Jvm.Cond.methodLink "jdk/internal/misc/Unsafe" (796 : Nat) ({ cls := "jdk/internal/misc/Unsafe", name := "toUnsignedInt", desc := "(B)I" } : Jvm.MethodName)) ∈ lw_all := lw_g (lw_at lw_m5 148 rfl) rfl
theorem q1216 : (Jvm.Cond.static ({ cls := "jdk/internal/misc/Unsafe", name := "toUnsignedInt", desc := "(B)I" } : Jvm.MethodName)) ∈ lw_all := lw_g (lw_at lw_m5 149 rfl) rfl
theorem q1217 : (Jvm.Cond.code ({ cls := "jdk/internal/misc/Unsafe", name := "toUnsignedInt", desc := "(B)I" } : Jvm.MethodName) prog_57_method_366_code (1 : Nat) (Option.some Jvm.ClassFile.FieldType.int)) ∈ lw_all := lw_g (lw_at lw_m5 150 rfl) rfl
theorem q2402 : (Jvm.Cond.castable "jdk/internal/misc/Unsafe" "java/lang/Object") ∈ lw_tbl := lw_at lw_m10 135 rfl
theorem q107 : (Jvm.Cond.initialized "SpinStripLaw") ∈ lw_all := lw_g (lw_at lw_m1 0 rfl) rfl
set_option maxRecDepth 100000
theorem q149 : (Jvm.Cond.classLink "SpinStripLaw" (7 : Nat) "SpinStrip") ∈ lw_all := lw_g (lw_at lw_m1 42 rfl) rfl
theorem q151 : (Jvm.Cond.methodLink "SpinStripLaw" (9 : Nat) ({ cls := "SpinStrip", name := "<init>", desc := "()V" } : Jvm.MethodName)) ∈ lw_all := lw_g (lw_at lw_m1 44 rfl) rfl
theorem q586 : (Jvm.Cond.methodLink "SpinStripLaw" (13 : Nat) ({ cls := "SpinStrip", name := "feed", desc := "(IIIII)I" } : Jvm.MethodName)) ∈ lw_all := lw_g (lw_at lw_m2 239 rfl) rfl
theorem q594 : (Jvm.Cond.methodLink "SpinStripLaw" (18 : Nat) ({ cls := "SpinStrip", name := "back", desc := "(I)I" } : Jvm.MethodName)) ∈ lw_all := lw_g (lw_at lw_m3 7 rfl) rfl
theorem q598 : (Jvm.Cond.methodLink "SpinStripLaw" (23 : Nat) ({ cls := "SpinStrip", name := "read", desc := "()I" } : Jvm.MethodName)) ∈ lw_all := lw_g (lw_at lw_m3 11 rfl) rfl
theorem q816 : (Jvm.Cond.methodLink "SpinStripLaw" (28 : Nat) ({ cls := "SpinStrip", name := "place", desc := "()I" } : Jvm.MethodName)) ∈ lw_all := lw_g (lw_at lw_m3 229 rfl) rfl
theorem q820 : (Jvm.Cond.methodLink "SpinStripLaw" (32 : Nat) ({ cls := "SpinStrip", name := "tie", desc := "(IZI)Z" } : Jvm.MethodName)) ∈ lw_all := lw_g (lw_at lw_m3 233 rfl) rfl
theorem q905 : (Jvm.Cond.methodLink "SpinStripLaw" (37 : Nat) ({ cls := "SpinStrip", name := "pull", desc := "(II)Z" } : Jvm.MethodName)) ∈ lw_all := lw_g (lw_at lw_m4 78 rfl) rfl
theorem q909 : (Jvm.Cond.methodLink "SpinStripLaw" (42 : Nat) ({ cls := "SpinStrip", name := "pin", desc := "(II)Z" } : Jvm.MethodName)) ∈ lw_all := lw_g (lw_at lw_m4 82 rfl) rfl
theorem q918 : (Jvm.Cond.methodLink "SpinStripLaw" (46 : Nat) ({ cls := "SpinStrip", name := "glass", desc := "(I)Z" } : Jvm.MethodName)) ∈ lw_all := lw_g (lw_at lw_m4 91 rfl) rfl
theorem q931 : (Jvm.Cond.methodLink "SpinStripLaw" (51 : Nat) ({ cls := "SpinStrip", name := "turn", desc := "(I)Z" } : Jvm.MethodName)) ∈ lw_all := lw_g (lw_at lw_m4 104 rfl) rfl
theorem q939 : (Jvm.Cond.methodLink "SpinStripLaw" (55 : Nat) ({ cls := "SpinStrip", name := "fall", desc := "()I" } : Jvm.MethodName)) ∈ lw_all := lw_g (lw_at lw_m4 112 rfl) rfl
theorem q1382 : (Jvm.Cond.methodLink "SpinStripLaw" (59 : Nat) ({ cls := "SpinStrip", name := "undo", desc := "()Z" } : Jvm.MethodName)) ∈ lw_all := lw_g (lw_at lw_m6 75 rfl) rfl
theorem q1397 : (Jvm.Cond.methodLink "SpinStripLaw" (64 : Nat) ({ cls := "SpinStrip", name := "site", desc := "(II)I" } : Jvm.MethodName)) ∈ lw_all := lw_g (lw_at lw_m6 90 rfl) rfl
theorem q1403 : (Jvm.Cond.methodLink "SpinStripLaw" (69 : Nat) ({ cls := "SpinStrip", name := "level", desc := "(II)I" } : Jvm.MethodName)) ∈ lw_all := lw_g (lw_at lw_m6 96 rfl) rfl
theorem q1444 : (Jvm.Cond.methodLink "SpinStripLaw" (73 : Nat) ({ cls := "SpinStrip", name := "both", desc := "(II)I" } : Jvm.MethodName)) ∈ lw_all := lw_g (lw_at lw_m6 137 rfl) rfl
theorem q1456 : (Jvm.Cond.methodLink "SpinStripLaw" (77 : Nat) ({ cls := "SpinStrip", name := "broken", desc := "(I)I" } : Jvm.MethodName)) ∈ lw_all := lw_g (lw_at lw_m6 149 rfl) rfl
theorem q1460 : (Jvm.Cond.methodLink "SpinStripLaw" (81 : Nat) ({ cls := "SpinStrip", name := "ground", desc := "(I)I" } : Jvm.MethodName)) ∈ lw_all := lw_g (lw_at lw_m6 153 rfl) rfl
theorem q1464 : (Jvm.Cond.methodLink "SpinStripLaw" (85 : Nat) ({ cls := "SpinStrip", name := "pair", desc := "(IIII)I" } : Jvm.MethodName)) ∈ lw_all := lw_g (lw_at lw_m6 157 rfl) rfl
theorem q1482 : (Jvm.Cond.methodLink "SpinStripLaw" (90 : Nat) ({ cls := "SpinStrip", name := "mean", desc := "(II)I" } : Jvm.MethodName)) ∈ lw_all := lw_g (lw_at lw_m6 175 rfl) rfl
theorem q1490 : (Jvm.Cond.methodLink "SpinStripLaw" (94 : Nat) ({ cls := "SpinStrip", name := "value", desc := "(I)I" } : Jvm.MethodName)) ∈ lw_all := lw_g (lw_at lw_m6 183 rfl) rfl
theorem q1496 : (Jvm.Cond.methodLink "SpinStripLaw" (98 : Nat) ({ cls := "SpinStrip", name := "joined", desc := "(III)J" } : Jvm.MethodName)) ∈ lw_all := lw_g (lw_at lw_m6 189 rfl) rfl
theorem q1539 : (Jvm.Cond.methodLink "SpinStripLaw" (103 : Nat) ({ cls := "SpinStrip", name := "state", desc := "(II)I" } : Jvm.MethodName)) ∈ lw_all := lw_g (lw_at lw_m6 232 rfl) rfl
theorem q1558 : (Jvm.Cond.methodLink "SpinStripLaw" (107 : Nat) ({ cls := "SpinStrip", name := "stuck", desc := "(Z)I" } : Jvm.MethodName)) ∈ lw_all := lw_g (lw_at lw_m7 11 rfl) rfl
theorem q1567 : (Jvm.Cond.methodLink "SpinStripLaw" (112 : Nat) ({ cls := "SpinStrip", name := "rows", desc := "(III)I" } : Jvm.MethodName)) ∈ lw_all := lw_g (lw_at lw_m7 20 rfl) rfl
theorem q1610 : (Jvm.Cond.methodLink "SpinStripLaw" (117 : Nat) ({ cls := "SpinStrip", name := "square", desc := "(I)I" } : Jvm.MethodName)) ∈ lw_all := lw_g (lw_at lw_m7 63 rfl) rfl
theorem q1618 : (Jvm.Cond.methodLink "SpinStripLaw" (121 : Nat) ({ cls := "SpinStrip", name := "overlap", desc := "(I)I" } : Jvm.MethodName)) ∈ lw_all := lw_g (lw_at lw_m7 71 rfl) rfl
theorem q1628 : (Jvm.Cond.methodLink "SpinStripLaw" (125 : Nat) ({ cls := "SpinStrip", name := "basin", desc := "(I)I" } : Jvm.MethodName)) ∈ lw_all := lw_g (lw_at lw_m7 81 rfl) rfl
theorem q1640 : (Jvm.Cond.methodLink "SpinStripLaw" (129 : Nat) ({ cls := "SpinStrip", name := "stiff", desc := "(II)I" } : Jvm.MethodName)) ∈ lw_all := lw_g (lw_at lw_m7 93 rfl) rfl
theorem q1649 : (Jvm.Cond.methodLink "SpinStripLaw" (133 : Nat) ({ cls := "SpinStrip", name := "hill", desc := "(I)I" } : Jvm.MethodName)) ∈ lw_all := lw_g (lw_at lw_m7 102 rfl) rfl
theorem q1753 : (Jvm.Cond.methodLink "SpinStripLaw" (137 : Nat) ({ cls := "SpinStrip", name := "pass", desc := "(II)I" } : Jvm.MethodName)) ∈ lw_all := lw_g (lw_at lw_m7 206 rfl) rfl
theorem q1757 : (Jvm.Cond.methodLink "SpinStripLaw" (141 : Nat) ({ cls := "SpinStrip", name := "lakes", desc := "(I)I" } : Jvm.MethodName)) ∈ lw_all := lw_g (lw_at lw_m7 210 rfl) rfl
theorem q1785 : (Jvm.Cond.methodLink "SpinStripLaw" (145 : Nat) ({ cls := "SpinStrip", name := "down", desc := "(I)J" } : Jvm.MethodName)) ∈ lw_all := lw_g (lw_at lw_m7 238 rfl) rfl
theorem q1801 : (Jvm.Cond.methodLink "SpinStripLaw" (150 : Nat) ({ cls := "SpinStrip", name := "nearest", desc := "(II)I" } : Jvm.MethodName)) ∈ lw_all := lw_g (lw_at lw_m8 14 rfl) rfl
theorem q1810 : (Jvm.Cond.methodLink "SpinStripLaw" (154 : Nat) ({ cls := "SpinStrip", name := "cluster", desc := "(I)I" } : Jvm.MethodName)) ∈ lw_all := lw_g (lw_at lw_m8 23 rfl) rfl
theorem q1818 : (Jvm.Cond.methodLink "SpinStripLaw" (158 : Nat) ({ cls := "SpinStrip", name := "wander", desc := "(III)I" } : Jvm.MethodName)) ∈ lw_all := lw_g (lw_at lw_m8 31 rfl) rfl
theorem q1823 : (Jvm.Cond.methodLink "SpinStripLaw" (162 : Nat) ({ cls := "SpinStrip", name := "hold", desc := "(I)Z" } : Jvm.MethodName)) ∈ lw_all := lw_g (lw_at lw_m8 36 rfl) rfl
theorem q1827 : (Jvm.Cond.methodLink "SpinStripLaw" (166 : Nat) ({ cls := "SpinStrip", name := "restore", desc := "(I)Z" } : Jvm.MethodName)) ∈ lw_all := lw_g (lw_at lw_m8 40 rfl) rfl
theorem q1831 : (Jvm.Cond.methodLink "SpinStripLaw" (170 : Nat) ({ cls := "SpinStrip", name := "count", desc := "(I)I" } : Jvm.MethodName)) ∈ lw_all := lw_g (lw_at lw_m8 44 rfl) rfl
theorem q1871 : (Jvm.Cond.classLink "SpinStripLaw" (10 : Nat) "SpinStripModel") ∈ lw_all := lw_g (lw_at lw_m8 84 rfl) rfl
theorem q1873 : (Jvm.Cond.methodLink "SpinStripLaw" (12 : Nat) ({ cls := "SpinStripModel", name := "<init>", desc := "()V" } : Jvm.MethodName)) ∈ lw_all := lw_g (lw_at lw_m8 86 rfl) rfl
theorem q2020 : (Jvm.Cond.methodLink "SpinStripLaw" (17 : Nat) ({ cls := "SpinStripModel", name := "feed", desc := "(IIIII)I" } : Jvm.MethodName)) ∈ lw_all := lw_g (lw_at lw_m8 233 rfl) rfl
theorem q2028 : (Jvm.Cond.methodLink "SpinStripLaw" (22 : Nat) ({ cls := "SpinStripModel", name := "back", desc := "(I)I" } : Jvm.MethodName)) ∈ lw_all := lw_g (lw_at lw_m9 1 rfl) rfl
theorem q2032 : (Jvm.Cond.methodLink "SpinStripLaw" (27 : Nat) ({ cls := "SpinStripModel", name := "read", desc := "()I" } : Jvm.MethodName)) ∈ lw_all := lw_g (lw_at lw_m9 5 rfl) rfl
theorem q2116 : (Jvm.Cond.methodLink "SpinStripLaw" (31 : Nat) ({ cls := "SpinStripModel", name := "place", desc := "()I" } : Jvm.MethodName)) ∈ lw_all := lw_g (lw_at lw_m9 89 rfl) rfl
theorem q2120 : (Jvm.Cond.methodLink "SpinStripLaw" (36 : Nat) ({ cls := "SpinStripModel", name := "tie", desc := "(IZI)Z" } : Jvm.MethodName)) ∈ lw_all := lw_g (lw_at lw_m9 93 rfl) rfl
theorem q2139 : (Jvm.Cond.methodLink "SpinStripLaw" (41 : Nat) ({ cls := "SpinStripModel", name := "pull", desc := "(II)Z" } : Jvm.MethodName)) ∈ lw_all := lw_g (lw_at lw_m9 112 rfl) rfl
theorem q2143 : (Jvm.Cond.methodLink "SpinStripLaw" (45 : Nat) ({ cls := "SpinStripModel", name := "pin", desc := "(II)Z" } : Jvm.MethodName)) ∈ lw_all := lw_g (lw_at lw_m9 116 rfl) rfl
theorem q2147 : (Jvm.Cond.methodLink "SpinStripLaw" (50 : Nat) ({ cls := "SpinStripModel", name := "glass", desc := "(I)Z" } : Jvm.MethodName)) ∈ lw_all := lw_g (lw_at lw_m9 120 rfl) rfl
theorem q2159 : (Jvm.Cond.methodLink "SpinStripLaw" (54 : Nat) ({ cls := "SpinStripModel", name := "turn", desc := "(I)Z" } : Jvm.MethodName)) ∈ lw_all := lw_g (lw_at lw_m9 132 rfl) rfl
theorem q2163 : (Jvm.Cond.methodLink "SpinStripLaw" (58 : Nat) ({ cls := "SpinStripModel", name := "fall", desc := "()I" } : Jvm.MethodName)) ∈ lw_all := lw_g (lw_at lw_m9 136 rfl) rfl
theorem q2199 : (Jvm.Cond.methodLink "SpinStripLaw" (63 : Nat) ({ cls := "SpinStripModel", name := "undo", desc := "()Z" } : Jvm.MethodName)) ∈ lw_all := lw_g (lw_at lw_m9 172 rfl) rfl
theorem q2203 : (Jvm.Cond.methodLink "SpinStripLaw" (165 : Nat) ({ cls := "SpinStripModel", name := "hold", desc := "(I)Z" } : Jvm.MethodName)) ∈ lw_all := lw_g (lw_at lw_m9 176 rfl) rfl
theorem q2207 : (Jvm.Cond.methodLink "SpinStripLaw" (169 : Nat) ({ cls := "SpinStripModel", name := "restore", desc := "(I)Z" } : Jvm.MethodName)) ∈ lw_all := lw_g (lw_at lw_m9 180 rfl) rfl
theorem q2211 : (Jvm.Cond.methodLink "SpinStripLaw" (68 : Nat) ({ cls := "SpinStripModel", name := "site", desc := "(II)I" } : Jvm.MethodName)) ∈ lw_all := lw_g (lw_at lw_m9 184 rfl) rfl
theorem q2220 : (Jvm.Cond.methodLink "SpinStripLaw" (72 : Nat) ({ cls := "SpinStripModel", name := "level", desc := "(II)I" } : Jvm.MethodName)) ∈ lw_all := lw_g (lw_at lw_m9 193 rfl) rfl
theorem q2235 : (Jvm.Cond.methodLink "SpinStripLaw" (76 : Nat) ({ cls := "SpinStripModel", name := "both", desc := "(II)I" } : Jvm.MethodName)) ∈ lw_all := lw_g (lw_at lw_m9 208 rfl) rfl
theorem q2239 : (Jvm.Cond.methodLink "SpinStripLaw" (80 : Nat) ({ cls := "SpinStripModel", name := "broken", desc := "(I)I" } : Jvm.MethodName)) ∈ lw_all := lw_g (lw_at lw_m9 212 rfl) rfl
theorem q2250 : (Jvm.Cond.methodLink "SpinStripLaw" (84 : Nat) ({ cls := "SpinStripModel", name := "ground", desc := "(I)I" } : Jvm.MethodName)) ∈ lw_all := lw_g (lw_at lw_m9 223 rfl) rfl
theorem q2254 : (Jvm.Cond.methodLink "SpinStripLaw" (89 : Nat) ({ cls := "SpinStripModel", name := "pair", desc := "(IIII)I" } : Jvm.MethodName)) ∈ lw_all := lw_g (lw_at lw_m9 227 rfl) rfl
theorem q2261 : (Jvm.Cond.methodLink "SpinStripLaw" (93 : Nat) ({ cls := "SpinStripModel", name := "mean", desc := "(II)I" } : Jvm.MethodName)) ∈ lw_all := lw_g (lw_at lw_m9 234 rfl) rfl
theorem q2265 : (Jvm.Cond.methodLink "SpinStripLaw" (97 : Nat) ({ cls := "SpinStripModel", name := "value", desc := "(I)I" } : Jvm.MethodName)) ∈ lw_all := lw_g (lw_at lw_m9 238 rfl) rfl
theorem q2271 : (Jvm.Cond.methodLink "SpinStripLaw" (102 : Nat) ({ cls := "SpinStripModel", name := "joined", desc := "(III)J" } : Jvm.MethodName)) ∈ lw_all := lw_g (lw_at lw_m10 4 rfl) rfl
theorem q2280 : (Jvm.Cond.methodLink "SpinStripLaw" (106 : Nat) ({ cls := "SpinStripModel", name := "state", desc := "(II)I" } : Jvm.MethodName)) ∈ lw_all := lw_g (lw_at lw_m10 13 rfl) rfl
theorem q2288 : (Jvm.Cond.methodLink "SpinStripLaw" (111 : Nat) ({ cls := "SpinStripModel", name := "stuck", desc := "(Z)I" } : Jvm.MethodName)) ∈ lw_all := lw_g (lw_at lw_m10 21 rfl) rfl
theorem q2292 : (Jvm.Cond.methodLink "SpinStripLaw" (128 : Nat) ({ cls := "SpinStripModel", name := "basin", desc := "(I)I" } : Jvm.MethodName)) ∈ lw_all := lw_g (lw_at lw_m10 25 rfl) rfl
theorem q2296 : (Jvm.Cond.methodLink "SpinStripLaw" (136 : Nat) ({ cls := "SpinStripModel", name := "hill", desc := "(I)I" } : Jvm.MethodName)) ∈ lw_all := lw_g (lw_at lw_m10 29 rfl) rfl
theorem q2304 : (Jvm.Cond.methodLink "SpinStripLaw" (140 : Nat) ({ cls := "SpinStripModel", name := "pass", desc := "(II)I" } : Jvm.MethodName)) ∈ lw_all := lw_g (lw_at lw_m10 37 rfl) rfl
theorem q2308 : (Jvm.Cond.methodLink "SpinStripLaw" (144 : Nat) ({ cls := "SpinStripModel", name := "lakes", desc := "(I)I" } : Jvm.MethodName)) ∈ lw_all := lw_g (lw_at lw_m10 41 rfl) rfl
theorem q2312 : (Jvm.Cond.methodLink "SpinStripLaw" (149 : Nat) ({ cls := "SpinStripModel", name := "down", desc := "(I)J" } : Jvm.MethodName)) ∈ lw_all := lw_g (lw_at lw_m10 45 rfl) rfl
theorem q2316 : (Jvm.Cond.methodLink "SpinStripLaw" (153 : Nat) ({ cls := "SpinStripModel", name := "nearest", desc := "(II)I" } : Jvm.MethodName)) ∈ lw_all := lw_g (lw_at lw_m10 49 rfl) rfl
theorem q2320 : (Jvm.Cond.methodLink "SpinStripLaw" (132 : Nat) ({ cls := "SpinStripModel", name := "stiff", desc := "(II)I" } : Jvm.MethodName)) ∈ lw_all := lw_g (lw_at lw_m10 53 rfl) rfl
theorem q2324 : (Jvm.Cond.methodLink "SpinStripLaw" (124 : Nat) ({ cls := "SpinStripModel", name := "overlap", desc := "(I)I" } : Jvm.MethodName)) ∈ lw_all := lw_g (lw_at lw_m10 57 rfl) rfl
theorem q2328 : (Jvm.Cond.methodLink "SpinStripLaw" (116 : Nat) ({ cls := "SpinStripModel", name := "rows", desc := "(III)I" } : Jvm.MethodName)) ∈ lw_all := lw_g (lw_at lw_m10 61 rfl) rfl
theorem q2332 : (Jvm.Cond.methodLink "SpinStripLaw" (120 : Nat) ({ cls := "SpinStripModel", name := "square", desc := "(I)I" } : Jvm.MethodName)) ∈ lw_all := lw_g (lw_at lw_m10 65 rfl) rfl
theorem q2340 : (Jvm.Cond.methodLink "SpinStripLaw" (157 : Nat) ({ cls := "SpinStripModel", name := "cluster", desc := "(I)I" } : Jvm.MethodName)) ∈ lw_all := lw_g (lw_at lw_m10 73 rfl) rfl
theorem q2348 : (Jvm.Cond.methodLink "SpinStripLaw" (161 : Nat) ({ cls := "SpinStripModel", name := "wander", desc := "(III)I" } : Jvm.MethodName)) ∈ lw_all := lw_g (lw_at lw_m10 81 rfl) rfl
theorem q2353 : (Jvm.Cond.methodLink "SpinStripLaw" (173 : Nat) ({ cls := "SpinStripModel", name := "count", desc := "(I)I" } : Jvm.MethodName)) ∈ lw_all := lw_g (lw_at lw_m10 86 rfl) rfl
theorem q2413 : (Jvm.Cond.castable "[B" "java/lang/Object") ∈ lw_tbl := lw_at lw_m10 146 rfl
set_option maxRecDepth 100000
theorem q2416 : (Jvm.Cond.castable "[I" "java/lang/Object") ∈ lw_tbl := lw_at lw_m10 149 rfl
set_option maxRecDepth 100000
theorem q2420 : (Jvm.Cond.castable "[J" "java/lang/Object") ∈ lw_tbl := lw_at lw_m10 153 rfl
set_option maxRecDepth 100000
theorem q2417 : (Jvm.Cond.castable "[LSpinStrip$Level;" "java/lang/Object") ∈ lw_tbl := lw_at lw_m10 150 rfl
set_option maxRecDepth 100000
theorem q2422 : (Jvm.Cond.castable "[LSpinStrip$Strip;" "java/lang/Object") ∈ lw_tbl := lw_at lw_m10 155 rfl
set_option maxRecDepth 100000
theorem q2410 : (Jvm.Cond.sameMethod "[Ljava/lang/Object;" "java/lang/Object" "getClass" "()Ljava/lang/Class;") ∈ lw_all := lw_g (lw_at lw_m10 143 rfl) rfl
set_option maxRecDepth 100000
theorem q2411 : (Jvm.Cond.selects "[Ljava/lang/Object;" ({ cls := "java/lang/Object", name := "getClass", desc := "()Ljava/lang/Class;" } : Jvm.MethodName) ({ cls := "java/lang/Object", name := "getClass", desc := "()Ljava/lang/Class;" } : Jvm.MethodName)) ∈ lw_all := lw_g (lw_at lw_m10 144 rfl) rfl
theorem q2421 : (Jvm.Cond.castable "[Ljava/lang/Object;" "java/lang/Object") ∈ lw_tbl := lw_at lw_m10 154 rfl
theorem q2414 : (Jvm.Cond.castable "[Ljava/lang/String;" "java/lang/Object") ∈ lw_tbl := lw_at lw_m10 147 rfl
set_option maxRecDepth 100000
theorem q2415 : (Jvm.Cond.castable "[S" "java/lang/Object") ∈ lw_tbl := lw_at lw_m10 148 rfl
set_option maxRecDepth 100000
theorem q2418 : (Jvm.Cond.castable "[Z" "java/lang/Object") ∈ lw_tbl := lw_at lw_m10 151 rfl
set_option maxRecDepth 100000
theorem q2419 : (Jvm.Cond.castable "[[I" "java/lang/Object") ∈ lw_tbl := lw_at lw_m10 152 rfl
set_option maxRecDepth 100000
theorem q1061 : (Jvm.Cond.interfaceMethod "java/lang/Comparable" "java/lang/Comparable" "compareTo" "(Ljava/lang/Object;)I") ∈ lw_tbl := lw_at lw_m4 234 rfl
set_option maxRecDepth 100000
theorem q1062 : (Jvm.Cond.declares ({ cls := "java/lang/Comparable", name := "compareTo", desc := "(Ljava/lang/Object;)I" } : Jvm.MethodName)) ∈ lw_tbl := lw_at lw_m4 235 rfl
theorem q135 : (Jvm.Cond.initialized "java/lang/Integer$IntegerCache") ∈ lw_all := lw_g (lw_at lw_m1 28 rfl) rfl
set_option maxRecDepth 100000
theorem q1026 : (Jvm.Cond.laysStatic "java/lang/Integer$IntegerCache" "high" "I") ∈ lw_tbl := lw_at lw_m4 199 rfl
theorem q1028 : (Jvm.Cond.laysStatic "java/lang/Integer$IntegerCache" "cache" "[Ljava/lang/Integer;") ∈ lw_tbl := lw_at lw_m4 201 rfl
theorem q144 : (Jvm.Cond.initialized "java/lang/Long$LongCache") ∈ lw_all := lw_g (lw_at lw_m1 37 rfl) rfl
set_option maxRecDepth 100000
theorem q1517 : (Jvm.Cond.laysStatic "java/lang/Long$LongCache" "cache" "[Ljava/lang/Long;") ∈ lw_tbl := lw_at lw_m6 210 rfl
theorem q129 : (Jvm.Cond.initialized "java/lang/System") ∈ lw_all := lw_g (lw_at lw_m1 22 rfl) rfl
set_option maxRecDepth 100000
theorem q807 : (Jvm.Cond.static ({ cls := "java/lang/System", name := "arraycopy", desc := "(Ljava/lang/Object;ILjava/lang/Object;II)V" } : Jvm.MethodName)) ∈ lw_all := lw_g (lw_at lw_m3 220 rfl) rfl
theorem q808 : (Jvm.Cond.native ({ cls := "java/lang/System", name := "arraycopy", desc := "(Ljava/lang/Object;ILjava/lang/Object;II)V" } : Jvm.MethodName)) ∈ lw_all := lw_g (lw_at lw_m3 221 rfl) rfl
theorem q142 : (Jvm.Cond.initialized "java/util/AbstractSet") ∈ lw_all := lw_g (lw_at lw_m1 35 rfl) rfl
set_option maxRecDepth 100000
theorem q1247 : (Jvm.Cond.interfaceMethod "java/util/Comparator" "java/util/Comparator" "compare" "(Ljava/lang/Object;Ljava/lang/Object;)I") ∈ lw_tbl := lw_at lw_m5 180 rfl
set_option maxRecDepth 100000
theorem q1248 : (Jvm.Cond.declares ({ cls := "java/util/Comparator", name := "compare", desc := "(Ljava/lang/Object;Ljava/lang/Object;)I" } : Jvm.MethodName)) ∈ lw_tbl := lw_at lw_m5 181 rfl
theorem q143 : (Jvm.Cond.initialized "java/util/TreeMap$EntrySet") ∈ lw_all := lw_g (lw_at lw_m1 36 rfl) rfl
set_option maxRecDepth 100000
theorem q891 : (Jvm.Cond.selects "java/util/TreeMap$EntrySet" ({ cls := "java/lang/Object", name := "getClass", desc := "()Ljava/lang/Class;" } : Jvm.MethodName) ({ cls := "java/lang/Object", name := "getClass", desc := "()Ljava/lang/Class;" } : Jvm.MethodName)) ∈ lw_all := lw_g (lw_at lw_m4 64 rfl) rfl
theorem q2404 : (Jvm.Cond.castable "java/util/TreeMap$EntrySet" "java/lang/Object") ∈ lw_tbl := lw_at lw_m10 137 rfl
theorem q2425 : (Jvm.Cond.fieldLink "java/util/TreeMap$EntrySet" (1 : Nat) "java/util/TreeMap$EntrySet" "this$0" "Ljava/util/TreeMap;") ∈ lw_all := lw_g (lw_at lw_m10 158 rfl) rfl
theorem q139 : (Jvm.Cond.initialized "jdk/internal/misc/UnsafeConstants") ∈ lw_all := lw_g (lw_at lw_m1 32 rfl) rfl
set_option maxRecDepth 100000
theorem q1159 : (Jvm.Cond.laysStatic "jdk/internal/misc/UnsafeConstants" "BIG_ENDIAN" "Z") ∈ lw_tbl := lw_at lw_m5 92 rfl
theorem q230 : (Jvm.Cond.arrayClass Jvm.ClassFile.FieldType.byte) ∈ lw_all := lw_g (lw_at lw_m1 123 rfl) rfl
set_option maxRecDepth 100000
theorem q238 : (Jvm.Cond.arrayOver (Jvm.ClassFile.FieldType.object "java/lang/String")) ∈ lw_tbl := lw_at lw_m1 131 rfl
theorem q280 : (Jvm.Cond.arrayClass Jvm.ClassFile.FieldType.short) ∈ lw_all := lw_g (lw_at lw_m1 173 rfl) rfl
theorem q350 : (Jvm.Cond.arrayClass Jvm.ClassFile.FieldType.int) ∈ lw_all := lw_g (lw_at lw_m2 3 rfl) rfl
theorem q381 : (Jvm.Cond.arrayOver (Jvm.ClassFile.FieldType.object "SpinStrip$Level")) ∈ lw_tbl := lw_at lw_m2 34 rfl
theorem q459 : (Jvm.Cond.arrayClass Jvm.ClassFile.FieldType.boolean) ∈ lw_all := lw_g (lw_at lw_m2 112 rfl) rfl
theorem q467 : (Jvm.Cond.arrayOver (Jvm.ClassFile.FieldType.array Jvm.ClassFile.FieldType.int)) ∈ lw_tbl := lw_at lw_m2 120 rfl
theorem q500 : (Jvm.Cond.arrayClass Jvm.ClassFile.FieldType.long) ∈ lw_all := lw_g (lw_at lw_m2 153 rfl) rfl
theorem q511 : (Jvm.Cond.arrayOver (Jvm.ClassFile.FieldType.object "java/lang/Object")) ∈ lw_tbl := lw_at lw_m2 164 rfl
theorem q522 : (Jvm.Cond.arrayOver (Jvm.ClassFile.FieldType.object "SpinStrip$Strip")) ∈ lw_tbl := lw_at lw_m2 175 rfl

/-! jdk/internal/util/ArraysSupport -/
set_option maxRecDepth 100000
def RJ17 : String := "jdk/internal/util/ArraysSupport"
abbrev cJ17_newLength : ByteArray := prog_77_method_27_code
def yJ17_newLength : MethodName := ⟨RJ17, "newLength", "(III)I"⟩
def dkwJ17_newLength_1 : List UInt8 := [184, 0, 201, 172]
abbrev dktJ17_newLength_1 : List UInt8 := dkwJ17_newLength_1 ++ []
def dkwJ17_newLength_0 : List UInt8 := [26, 27, 28, 184, 0, 194, 96, 62, 3, 29, 162, 0, 11, 29, 18, 200, 163, 0, 5, 29, 172, 26, 27]
abbrev dktJ17_newLength_0 : List UInt8 := dkwJ17_newLength_0 ++ dktJ17_newLength_1
theorem dksJ17_newLength_0 : cJ17_newLength.data.toList.drop 0 = dktJ17_newLength_0 := by decide +kernel
theorem dksJ17_newLength_1 : cJ17_newLength.data.toList.drop 23 = dktJ17_newLength_1 := dk_seg dksJ17_newLength_0 23 rfl rfl
theorem dJ17_newLength_0 : decode cJ17_newLength 0 = .ok (.iload_n 0, 1) := dk_26 (dk_at dksJ17_newLength_0 0 rfl rfl)
theorem dJ17_newLength_1 : decode cJ17_newLength 1 = .ok (.iload_n 1, 1) := dk_27 (dk_at dksJ17_newLength_0 1 rfl rfl)
theorem dJ17_newLength_2 : decode cJ17_newLength 2 = .ok (.iload_n 2, 1) := dk_28 (dk_at dksJ17_newLength_0 2 rfl rfl)
theorem dJ17_newLength_3 : decode cJ17_newLength 3 = .ok (.invokestatic 194, 3) := dk_184 0 194 (dk_at dksJ17_newLength_0 3 rfl rfl)
theorem dJ17_newLength_6 : decode cJ17_newLength 6 = .ok (.iadd, 1) := dk_96 (dk_at dksJ17_newLength_0 6 rfl rfl)
theorem dJ17_newLength_7 : decode cJ17_newLength 7 = .ok (.istore_n 3, 1) := dk_62 (dk_at dksJ17_newLength_0 7 rfl rfl)
theorem dJ17_newLength_8 : decode cJ17_newLength 8 = .ok (.iconst 0, 1) := dk_3 (dk_at dksJ17_newLength_0 8 rfl rfl)
theorem dJ17_newLength_9 : decode cJ17_newLength 9 = .ok (.iload_n 3, 1) := dk_29 (dk_at dksJ17_newLength_0 9 rfl rfl)
theorem dJ17_newLength_10 : decode cJ17_newLength 10 = .ok (.if_icmp .ge 11, 3) := dk_162 0 11 (dk_at dksJ17_newLength_0 10 rfl rfl)
theorem dJ17_newLength_13 : decode cJ17_newLength 13 = .ok (.iload_n 3, 1) := dk_29 (dk_at dksJ17_newLength_0 13 rfl rfl)
theorem dJ17_newLength_14 : decode cJ17_newLength 14 = .ok (.ldc 200, 2) := dk_18 200 (dk_at dksJ17_newLength_0 14 rfl rfl)
theorem dJ17_newLength_16 : decode cJ17_newLength 16 = .ok (.if_icmp .gt 5, 3) := dk_163 0 5 (dk_at dksJ17_newLength_0 16 rfl rfl)
theorem dJ17_newLength_19 : decode cJ17_newLength 19 = .ok (.iload_n 3, 1) := dk_29 (dk_at dksJ17_newLength_0 19 rfl rfl)
theorem dJ17_newLength_20 : decode cJ17_newLength 20 = .ok (.ireturn, 1) := dk_172 (dk_at dksJ17_newLength_0 20 rfl rfl)
theorem dJ17_newLength_21 : decode cJ17_newLength 21 = .ok (.iload_n 0, 1) := dk_26 (dk_at dksJ17_newLength_0 21 rfl rfl)
theorem dJ17_newLength_22 : decode cJ17_newLength 22 = .ok (.iload_n 1, 1) := dk_27 (dk_at dksJ17_newLength_0 22 rfl rfl)
theorem dJ17_newLength_23 : decode cJ17_newLength 23 = .ok (.invokestatic 201, 3) := dk_184 0 201 (dk_at dksJ17_newLength_1 0 rfl rfl)
theorem dJ17_newLength_26 : decode cJ17_newLength 26 = .ok (.ireturn, 1) := dk_172 (dk_at dksJ17_newLength_1 3 rfl rfl)
abbrev cJ17_hugeLength : ByteArray := prog_77_method_28_code
def yJ17_hugeLength : MethodName := ⟨RJ17, "hugeLength", "(II)I"⟩
def dkwJ17_hugeLength_2 : List UInt8 := [191, 28, 18, 200, 163, 0, 6, 18, 200, 172, 28, 172]
abbrev dktJ17_hugeLength_2 : List UInt8 := dkwJ17_hugeLength_2 ++ []
def dkwJ17_hugeLength_1 : List UInt8 := [26, 182, 0, 98, 18, 208, 182, 0, 94, 27, 182, 0, 98, 18, 210, 182, 0, 94, 182, 0, 101, 183, 0, 212]
abbrev dktJ17_hugeLength_1 : List UInt8 := dkwJ17_hugeLength_1 ++ dktJ17_hugeLength_2
def dkwJ17_hugeLength_0 : List UInt8 := [26, 27, 96, 61, 28, 156, 0, 44, 187, 0, 204, 89, 187, 0, 89, 89, 183, 0, 91, 18, 206, 182, 0, 94]
abbrev dktJ17_hugeLength_0 : List UInt8 := dkwJ17_hugeLength_0 ++ dktJ17_hugeLength_1
theorem dksJ17_hugeLength_0 : cJ17_hugeLength.data.toList.drop 0 = dktJ17_hugeLength_0 := by decide +kernel
theorem dksJ17_hugeLength_1 : cJ17_hugeLength.data.toList.drop 24 = dktJ17_hugeLength_1 := dk_seg dksJ17_hugeLength_0 24 rfl rfl
theorem dksJ17_hugeLength_2 : cJ17_hugeLength.data.toList.drop 48 = dktJ17_hugeLength_2 := dk_seg dksJ17_hugeLength_1 24 rfl rfl
theorem dJ17_hugeLength_0 : decode cJ17_hugeLength 0 = .ok (.iload_n 0, 1) := dk_26 (dk_at dksJ17_hugeLength_0 0 rfl rfl)
theorem dJ17_hugeLength_1 : decode cJ17_hugeLength 1 = .ok (.iload_n 1, 1) := dk_27 (dk_at dksJ17_hugeLength_0 1 rfl rfl)
theorem dJ17_hugeLength_2 : decode cJ17_hugeLength 2 = .ok (.iadd, 1) := dk_96 (dk_at dksJ17_hugeLength_0 2 rfl rfl)
theorem dJ17_hugeLength_3 : decode cJ17_hugeLength 3 = .ok (.istore_n 2, 1) := dk_61 (dk_at dksJ17_hugeLength_0 3 rfl rfl)
theorem dJ17_hugeLength_4 : decode cJ17_hugeLength 4 = .ok (.iload_n 2, 1) := dk_28 (dk_at dksJ17_hugeLength_0 4 rfl rfl)
theorem dJ17_hugeLength_5 : decode cJ17_hugeLength 5 = .ok (.ifCond .ge 44, 3) := dk_156 0 44 (dk_at dksJ17_hugeLength_0 5 rfl rfl)
theorem dJ17_hugeLength_8 : decode cJ17_hugeLength 8 = .ok (.new 204, 3) := dk_187 0 204 (dk_at dksJ17_hugeLength_0 8 rfl rfl)
theorem dJ17_hugeLength_11 : decode cJ17_hugeLength 11 = .ok (.dup, 1) := dk_89 (dk_at dksJ17_hugeLength_0 11 rfl rfl)
theorem dJ17_hugeLength_12 : decode cJ17_hugeLength 12 = .ok (.new 89, 3) := dk_187 0 89 (dk_at dksJ17_hugeLength_0 12 rfl rfl)
theorem dJ17_hugeLength_15 : decode cJ17_hugeLength 15 = .ok (.dup, 1) := dk_89 (dk_at dksJ17_hugeLength_0 15 rfl rfl)
theorem dJ17_hugeLength_16 : decode cJ17_hugeLength 16 = .ok (.invokespecial 91, 3) := dk_183 0 91 (dk_at dksJ17_hugeLength_0 16 rfl rfl)
theorem dJ17_hugeLength_19 : decode cJ17_hugeLength 19 = .ok (.ldc 206, 2) := dk_18 206 (dk_at dksJ17_hugeLength_0 19 rfl rfl)
theorem dJ17_hugeLength_21 : decode cJ17_hugeLength 21 = .ok (.invokevirtual 94, 3) := dk_182 0 94 (dk_at dksJ17_hugeLength_0 21 rfl rfl)
theorem dJ17_hugeLength_24 : decode cJ17_hugeLength 24 = .ok (.iload_n 0, 1) := dk_26 (dk_at dksJ17_hugeLength_1 0 rfl rfl)
theorem dJ17_hugeLength_25 : decode cJ17_hugeLength 25 = .ok (.invokevirtual 98, 3) := dk_182 0 98 (dk_at dksJ17_hugeLength_1 1 rfl rfl)
theorem dJ17_hugeLength_28 : decode cJ17_hugeLength 28 = .ok (.ldc 208, 2) := dk_18 208 (dk_at dksJ17_hugeLength_1 4 rfl rfl)
theorem dJ17_hugeLength_30 : decode cJ17_hugeLength 30 = .ok (.invokevirtual 94, 3) := dk_182 0 94 (dk_at dksJ17_hugeLength_1 6 rfl rfl)
theorem dJ17_hugeLength_33 : decode cJ17_hugeLength 33 = .ok (.iload_n 1, 1) := dk_27 (dk_at dksJ17_hugeLength_1 9 rfl rfl)
theorem dJ17_hugeLength_34 : decode cJ17_hugeLength 34 = .ok (.invokevirtual 98, 3) := dk_182 0 98 (dk_at dksJ17_hugeLength_1 10 rfl rfl)
theorem dJ17_hugeLength_37 : decode cJ17_hugeLength 37 = .ok (.ldc 210, 2) := dk_18 210 (dk_at dksJ17_hugeLength_1 13 rfl rfl)
theorem dJ17_hugeLength_39 : decode cJ17_hugeLength 39 = .ok (.invokevirtual 94, 3) := dk_182 0 94 (dk_at dksJ17_hugeLength_1 15 rfl rfl)
theorem dJ17_hugeLength_42 : decode cJ17_hugeLength 42 = .ok (.invokevirtual 101, 3) := dk_182 0 101 (dk_at dksJ17_hugeLength_1 18 rfl rfl)
theorem dJ17_hugeLength_45 : decode cJ17_hugeLength 45 = .ok (.invokespecial 212, 3) := dk_183 0 212 (dk_at dksJ17_hugeLength_1 21 rfl rfl)
theorem dJ17_hugeLength_48 : decode cJ17_hugeLength 48 = .ok (.athrow, 1) := dk_191 (dk_at dksJ17_hugeLength_2 0 rfl rfl)
theorem dJ17_hugeLength_49 : decode cJ17_hugeLength 49 = .ok (.iload_n 2, 1) := dk_28 (dk_at dksJ17_hugeLength_2 1 rfl rfl)
theorem dJ17_hugeLength_50 : decode cJ17_hugeLength 50 = .ok (.ldc 200, 2) := dk_18 200 (dk_at dksJ17_hugeLength_2 2 rfl rfl)
theorem dJ17_hugeLength_52 : decode cJ17_hugeLength 52 = .ok (.if_icmp .gt 6, 3) := dk_163 0 6 (dk_at dksJ17_hugeLength_2 4 rfl rfl)
theorem dJ17_hugeLength_55 : decode cJ17_hugeLength 55 = .ok (.ldc 200, 2) := dk_18 200 (dk_at dksJ17_hugeLength_2 7 rfl rfl)
theorem dJ17_hugeLength_57 : decode cJ17_hugeLength 57 = .ok (.ireturn, 1) := dk_172 (dk_at dksJ17_hugeLength_2 9 rfl rfl)
theorem dJ17_hugeLength_58 : decode cJ17_hugeLength 58 = .ok (.iload_n 2, 1) := dk_28 (dk_at dksJ17_hugeLength_2 10 rfl rfl)
theorem dJ17_hugeLength_59 : decode cJ17_hugeLength 59 = .ok (.ireturn, 1) := dk_172 (dk_at dksJ17_hugeLength_2 11 rfl rfl)
abbrev cJ17_mismatch : ByteArray := prog_77_method_13_code
def yJ17_mismatch : MethodName := ⟨RJ17, "mismatch", "([B[BI)I"⟩
def dkwJ17_mismatch_3 : List UInt8 := [172]
abbrev dktJ17_mismatch_3 : List UInt8 := dkwJ17_mismatch_3 ++ []
def dkwJ17_mismatch_2 : List UInt8 := [62, 29, 28, 162, 0, 20, 42, 29, 51, 43, 29, 51, 159, 0, 5, 29, 172, 132, 3, 1, 167, 255, 237, 2]
abbrev dktJ17_mismatch_2 : List UInt8 := dkwJ17_mismatch_2 ++ dktJ17_mismatch_3
def dkwJ17_mismatch_1 : List UInt8 := [43, 178, 0, 126, 133, 28, 178, 0, 129, 184, 0, 122, 62, 29, 155, 0, 5, 29, 172, 28, 29, 2, 130, 100]
abbrev dktJ17_mismatch_1 : List UInt8 := dkwJ17_mismatch_1 ++ dktJ17_mismatch_2
def dkwJ17_mismatch_0 : List UInt8 := [3, 62, 28, 16, 7, 164, 0, 44, 42, 3, 51, 43, 3, 51, 159, 0, 5, 3, 172, 42, 178, 0, 126, 133]
abbrev dktJ17_mismatch_0 : List UInt8 := dkwJ17_mismatch_0 ++ dktJ17_mismatch_1
theorem dksJ17_mismatch_0 : cJ17_mismatch.data.toList.drop 0 = dktJ17_mismatch_0 := by decide +kernel
theorem dksJ17_mismatch_1 : cJ17_mismatch.data.toList.drop 24 = dktJ17_mismatch_1 := dk_seg dksJ17_mismatch_0 24 rfl rfl
theorem dksJ17_mismatch_2 : cJ17_mismatch.data.toList.drop 48 = dktJ17_mismatch_2 := dk_seg dksJ17_mismatch_1 24 rfl rfl
theorem dksJ17_mismatch_3 : cJ17_mismatch.data.toList.drop 72 = dktJ17_mismatch_3 := dk_seg dksJ17_mismatch_2 24 rfl rfl
theorem dJ17_mismatch_0 : decode cJ17_mismatch 0 = .ok (.iconst 0, 1) := dk_3 (dk_at dksJ17_mismatch_0 0 rfl rfl)
theorem dJ17_mismatch_1 : decode cJ17_mismatch 1 = .ok (.istore_n 3, 1) := dk_62 (dk_at dksJ17_mismatch_0 1 rfl rfl)
theorem dJ17_mismatch_2 : decode cJ17_mismatch 2 = .ok (.iload_n 2, 1) := dk_28 (dk_at dksJ17_mismatch_0 2 rfl rfl)
theorem dJ17_mismatch_3 : decode cJ17_mismatch 3 = .ok (.bipush 7, 2) := dk_16 7 (dk_at dksJ17_mismatch_0 3 rfl rfl)
theorem dJ17_mismatch_5 : decode cJ17_mismatch 5 = .ok (.if_icmp .le 44, 3) := dk_164 0 44 (dk_at dksJ17_mismatch_0 5 rfl rfl)
theorem dJ17_mismatch_8 : decode cJ17_mismatch 8 = .ok (.aload_n 0, 1) := dk_42 (dk_at dksJ17_mismatch_0 8 rfl rfl)
theorem dJ17_mismatch_9 : decode cJ17_mismatch 9 = .ok (.iconst 0, 1) := dk_3 (dk_at dksJ17_mismatch_0 9 rfl rfl)
theorem dJ17_mismatch_10 : decode cJ17_mismatch 10 = .ok (.baload, 1) := dk_51 (dk_at dksJ17_mismatch_0 10 rfl rfl)
theorem dJ17_mismatch_11 : decode cJ17_mismatch 11 = .ok (.aload_n 1, 1) := dk_43 (dk_at dksJ17_mismatch_0 11 rfl rfl)
theorem dJ17_mismatch_12 : decode cJ17_mismatch 12 = .ok (.iconst 0, 1) := dk_3 (dk_at dksJ17_mismatch_0 12 rfl rfl)
theorem dJ17_mismatch_13 : decode cJ17_mismatch 13 = .ok (.baload, 1) := dk_51 (dk_at dksJ17_mismatch_0 13 rfl rfl)
theorem dJ17_mismatch_14 : decode cJ17_mismatch 14 = .ok (.if_icmp .eq 5, 3) := dk_159 0 5 (dk_at dksJ17_mismatch_0 14 rfl rfl)
theorem dJ17_mismatch_17 : decode cJ17_mismatch 17 = .ok (.iconst 0, 1) := dk_3 (dk_at dksJ17_mismatch_0 17 rfl rfl)
theorem dJ17_mismatch_18 : decode cJ17_mismatch 18 = .ok (.ireturn, 1) := dk_172 (dk_at dksJ17_mismatch_0 18 rfl rfl)
theorem dJ17_mismatch_19 : decode cJ17_mismatch 19 = .ok (.aload_n 0, 1) := dk_42 (dk_at dksJ17_mismatch_0 19 rfl rfl)
theorem dJ17_mismatch_20 : decode cJ17_mismatch 20 = .ok (.getstatic 126, 3) := dk_178 0 126 (dk_at dksJ17_mismatch_0 20 rfl rfl)
theorem dJ17_mismatch_23 : decode cJ17_mismatch 23 = .ok (.i2l, 1) := dk_133 (dk_at dksJ17_mismatch_0 23 rfl rfl)
theorem dJ17_mismatch_24 : decode cJ17_mismatch 24 = .ok (.aload_n 1, 1) := dk_43 (dk_at dksJ17_mismatch_1 0 rfl rfl)
theorem dJ17_mismatch_25 : decode cJ17_mismatch 25 = .ok (.getstatic 126, 3) := dk_178 0 126 (dk_at dksJ17_mismatch_1 1 rfl rfl)
theorem dJ17_mismatch_28 : decode cJ17_mismatch 28 = .ok (.i2l, 1) := dk_133 (dk_at dksJ17_mismatch_1 4 rfl rfl)
theorem dJ17_mismatch_29 : decode cJ17_mismatch 29 = .ok (.iload_n 2, 1) := dk_28 (dk_at dksJ17_mismatch_1 5 rfl rfl)
theorem dJ17_mismatch_30 : decode cJ17_mismatch 30 = .ok (.getstatic 129, 3) := dk_178 0 129 (dk_at dksJ17_mismatch_1 6 rfl rfl)
theorem dJ17_mismatch_33 : decode cJ17_mismatch 33 = .ok (.invokestatic 122, 3) := dk_184 0 122 (dk_at dksJ17_mismatch_1 9 rfl rfl)
theorem dJ17_mismatch_36 : decode cJ17_mismatch 36 = .ok (.istore_n 3, 1) := dk_62 (dk_at dksJ17_mismatch_1 12 rfl rfl)
theorem dJ17_mismatch_37 : decode cJ17_mismatch 37 = .ok (.iload_n 3, 1) := dk_29 (dk_at dksJ17_mismatch_1 13 rfl rfl)
theorem dJ17_mismatch_38 : decode cJ17_mismatch 38 = .ok (.ifCond .lt 5, 3) := dk_155 0 5 (dk_at dksJ17_mismatch_1 14 rfl rfl)
theorem dJ17_mismatch_41 : decode cJ17_mismatch 41 = .ok (.iload_n 3, 1) := dk_29 (dk_at dksJ17_mismatch_1 17 rfl rfl)
theorem dJ17_mismatch_42 : decode cJ17_mismatch 42 = .ok (.ireturn, 1) := dk_172 (dk_at dksJ17_mismatch_1 18 rfl rfl)
theorem dJ17_mismatch_43 : decode cJ17_mismatch 43 = .ok (.iload_n 2, 1) := dk_28 (dk_at dksJ17_mismatch_1 19 rfl rfl)
theorem dJ17_mismatch_44 : decode cJ17_mismatch 44 = .ok (.iload_n 3, 1) := dk_29 (dk_at dksJ17_mismatch_1 20 rfl rfl)
theorem dJ17_mismatch_45 : decode cJ17_mismatch 45 = .ok (.iconst (-1), 1) := dk_2 (dk_at dksJ17_mismatch_1 21 rfl rfl)
theorem dJ17_mismatch_46 : decode cJ17_mismatch 46 = .ok (.ixor, 1) := dk_130 (dk_at dksJ17_mismatch_1 22 rfl rfl)
theorem dJ17_mismatch_47 : decode cJ17_mismatch 47 = .ok (.isub, 1) := dk_100 (dk_at dksJ17_mismatch_1 23 rfl rfl)
theorem dJ17_mismatch_48 : decode cJ17_mismatch 48 = .ok (.istore_n 3, 1) := dk_62 (dk_at dksJ17_mismatch_2 0 rfl rfl)
theorem dJ17_mismatch_49 : decode cJ17_mismatch 49 = .ok (.iload_n 3, 1) := dk_29 (dk_at dksJ17_mismatch_2 1 rfl rfl)
theorem dJ17_mismatch_50 : decode cJ17_mismatch 50 = .ok (.iload_n 2, 1) := dk_28 (dk_at dksJ17_mismatch_2 2 rfl rfl)
theorem dJ17_mismatch_51 : decode cJ17_mismatch 51 = .ok (.if_icmp .ge 20, 3) := dk_162 0 20 (dk_at dksJ17_mismatch_2 3 rfl rfl)
theorem dJ17_mismatch_54 : decode cJ17_mismatch 54 = .ok (.aload_n 0, 1) := dk_42 (dk_at dksJ17_mismatch_2 6 rfl rfl)
theorem dJ17_mismatch_55 : decode cJ17_mismatch 55 = .ok (.iload_n 3, 1) := dk_29 (dk_at dksJ17_mismatch_2 7 rfl rfl)
theorem dJ17_mismatch_56 : decode cJ17_mismatch 56 = .ok (.baload, 1) := dk_51 (dk_at dksJ17_mismatch_2 8 rfl rfl)
theorem dJ17_mismatch_57 : decode cJ17_mismatch 57 = .ok (.aload_n 1, 1) := dk_43 (dk_at dksJ17_mismatch_2 9 rfl rfl)
theorem dJ17_mismatch_58 : decode cJ17_mismatch 58 = .ok (.iload_n 3, 1) := dk_29 (dk_at dksJ17_mismatch_2 10 rfl rfl)
theorem dJ17_mismatch_59 : decode cJ17_mismatch 59 = .ok (.baload, 1) := dk_51 (dk_at dksJ17_mismatch_2 11 rfl rfl)
theorem dJ17_mismatch_60 : decode cJ17_mismatch 60 = .ok (.if_icmp .eq 5, 3) := dk_159 0 5 (dk_at dksJ17_mismatch_2 12 rfl rfl)
theorem dJ17_mismatch_63 : decode cJ17_mismatch 63 = .ok (.iload_n 3, 1) := dk_29 (dk_at dksJ17_mismatch_2 15 rfl rfl)
theorem dJ17_mismatch_64 : decode cJ17_mismatch 64 = .ok (.ireturn, 1) := dk_172 (dk_at dksJ17_mismatch_2 16 rfl rfl)
theorem dJ17_mismatch_65 : decode cJ17_mismatch 65 = .ok (.iinc 3 1, 3) := dk_132 3 1 (dk_at dksJ17_mismatch_2 17 rfl rfl)
theorem dJ17_mismatch_68 : decode cJ17_mismatch 68 = .ok (.goto (-19), 3) := dk_167 255 237 (dk_at dksJ17_mismatch_2 20 rfl rfl)
theorem dJ17_mismatch_71 : decode cJ17_mismatch 71 = .ok (.iconst (-1), 1) := dk_2 (dk_at dksJ17_mismatch_2 23 rfl rfl)
theorem dJ17_mismatch_72 : decode cJ17_mismatch 72 = .ok (.ireturn, 1) := dk_172 (dk_at dksJ17_mismatch_3 0 rfl rfl)
abbrev cJ17_vectorizedMismatch : ByteArray := prog_77_method_3_code
def yJ17_vectorizedMismatch : MethodName := ⟨RJ17, "vectorizedMismatch", "(Ljava/lang/Object;JLjava/lang/Object;JII)I"⟩
def dkwJ17_vectorizedMismatch_11 : List UInt8 := [54, 10, 21, 10, 2, 130, 172, 21, 10, 2, 130, 172]
abbrev dktJ17_vectorizedMismatch_11 : List UInt8 := dkwJ17_vectorizedMismatch_11 ++ []
def dkwJ17_vectorizedMismatch_10 : List UInt8 := [178, 0, 46, 21, 7, 96, 122, 54, 17, 21, 9, 21, 8, 120, 21, 17, 96, 172, 21, 10, 21, 11, 100]
abbrev dktJ17_vectorizedMismatch_10 : List UInt8 := dkwJ17_vectorizedMismatch_10 ++ dktJ17_vectorizedMismatch_11
def dkwJ17_vectorizedMismatch_9 : List UInt8 := [153, 0, 18, 21, 16, 184, 0, 58, 178, 0, 46, 21, 7, 96, 122, 167, 0, 15, 21, 16, 184, 0, 11]
abbrev dktJ17_vectorizedMismatch_9 : List UInt8 := dkwJ17_vectorizedMismatch_9 ++ dktJ17_vectorizedMismatch_10
def dkwJ17_vectorizedMismatch_8 : List UInt8 := [182, 0, 54, 54, 15, 21, 14, 21, 15, 159, 0, 54, 21, 14, 21, 15, 130, 54, 16, 178, 0, 36]
abbrev dktJ17_vectorizedMismatch_8 : List UInt8 := dkwJ17_vectorizedMismatch_8 ++ dktJ17_vectorizedMismatch_9
def dkwJ17_vectorizedMismatch_7 : List UInt8 := [55, 12, 178, 0, 26, 42, 31, 22, 12, 97, 182, 0, 54, 54, 14, 178, 0, 26, 45, 22, 4, 22, 12, 97]
abbrev dktJ17_vectorizedMismatch_7 : List UInt8 := dkwJ17_vectorizedMismatch_7 ++ dktJ17_vectorizedMismatch_8
def dkwJ17_vectorizedMismatch_6 : List UInt8 := [4, 178, 0, 51, 21, 7, 100, 120, 54, 11, 21, 10, 21, 11, 161, 0, 104, 21, 9, 133, 178, 0, 20, 121]
abbrev dktJ17_vectorizedMismatch_6 : List UInt8 := dkwJ17_vectorizedMismatch_6 ++ dktJ17_vectorizedMismatch_7
def dkwJ17_vectorizedMismatch_5 : List UInt8 := [132, 9, 1, 167, 255, 148, 21, 6, 21, 9, 21, 8, 120, 100, 54, 10, 21, 7, 178, 0, 51, 162, 0, 126]
abbrev dktJ17_vectorizedMismatch_5 : List UInt8 := dkwJ17_vectorizedMismatch_5 ++ dktJ17_vectorizedMismatch_6
def dkwJ17_vectorizedMismatch_4 : List UInt8 := [22, 16, 184, 0, 49, 178, 0, 46, 21, 7, 96, 122, 54, 18, 21, 9, 21, 8, 120, 21, 18, 96, 172]
abbrev dktJ17_vectorizedMismatch_4 : List UInt8 := dkwJ17_vectorizedMismatch_4 ++ dktJ17_vectorizedMismatch_5
def dkwJ17_vectorizedMismatch_3 : List UInt8 := [55, 16, 178, 0, 36, 153, 0, 18, 22, 16, 184, 0, 40, 178, 0, 46, 21, 7, 96, 122, 167, 0, 15]
abbrev dktJ17_vectorizedMismatch_3 : List UInt8 := dkwJ17_vectorizedMismatch_3 ++ dktJ17_vectorizedMismatch_4
def dkwJ17_vectorizedMismatch_2 : List UInt8 := [22, 4, 22, 10, 97, 182, 0, 30, 55, 14, 22, 12, 22, 14, 148, 153, 0, 54, 22, 12, 22, 14, 131]
abbrev dktJ17_vectorizedMismatch_2 : List UInt8 := dkwJ17_vectorizedMismatch_2 ++ dktJ17_vectorizedMismatch_3
def dkwJ17_vectorizedMismatch_1 : List UInt8 := [178, 0, 20, 121, 55, 10, 178, 0, 26, 42, 31, 22, 10, 97, 182, 0, 30, 55, 12, 178, 0, 26, 45]
abbrev dktJ17_vectorizedMismatch_1 : List UInt8 := dkwJ17_vectorizedMismatch_1 ++ dktJ17_vectorizedMismatch_2
def dkwJ17_vectorizedMismatch_0 : List UInt8 := [178, 0, 20, 21, 7, 100, 54, 8, 3, 54, 9, 21, 9, 21, 6, 21, 8, 122, 162, 0, 104, 21, 9, 133]
abbrev dktJ17_vectorizedMismatch_0 : List UInt8 := dkwJ17_vectorizedMismatch_0 ++ dktJ17_vectorizedMismatch_1
theorem dksJ17_vectorizedMismatch_0 : cJ17_vectorizedMismatch.data.toList.drop 0 = dktJ17_vectorizedMismatch_0 := by decide +kernel
theorem dksJ17_vectorizedMismatch_1 : cJ17_vectorizedMismatch.data.toList.drop 24 = dktJ17_vectorizedMismatch_1 := dk_seg dksJ17_vectorizedMismatch_0 24 rfl rfl
theorem dksJ17_vectorizedMismatch_2 : cJ17_vectorizedMismatch.data.toList.drop 47 = dktJ17_vectorizedMismatch_2 := dk_seg dksJ17_vectorizedMismatch_1 23 rfl rfl
theorem dksJ17_vectorizedMismatch_3 : cJ17_vectorizedMismatch.data.toList.drop 70 = dktJ17_vectorizedMismatch_3 := dk_seg dksJ17_vectorizedMismatch_2 23 rfl rfl
theorem dksJ17_vectorizedMismatch_4 : cJ17_vectorizedMismatch.data.toList.drop 93 = dktJ17_vectorizedMismatch_4 := dk_seg dksJ17_vectorizedMismatch_3 23 rfl rfl
theorem dksJ17_vectorizedMismatch_5 : cJ17_vectorizedMismatch.data.toList.drop 116 = dktJ17_vectorizedMismatch_5 := dk_seg dksJ17_vectorizedMismatch_4 23 rfl rfl
theorem dksJ17_vectorizedMismatch_6 : cJ17_vectorizedMismatch.data.toList.drop 140 = dktJ17_vectorizedMismatch_6 := dk_seg dksJ17_vectorizedMismatch_5 24 rfl rfl
theorem dksJ17_vectorizedMismatch_7 : cJ17_vectorizedMismatch.data.toList.drop 164 = dktJ17_vectorizedMismatch_7 := dk_seg dksJ17_vectorizedMismatch_6 24 rfl rfl
theorem dksJ17_vectorizedMismatch_8 : cJ17_vectorizedMismatch.data.toList.drop 188 = dktJ17_vectorizedMismatch_8 := dk_seg dksJ17_vectorizedMismatch_7 24 rfl rfl
theorem dksJ17_vectorizedMismatch_9 : cJ17_vectorizedMismatch.data.toList.drop 210 = dktJ17_vectorizedMismatch_9 := dk_seg dksJ17_vectorizedMismatch_8 22 rfl rfl
theorem dksJ17_vectorizedMismatch_10 : cJ17_vectorizedMismatch.data.toList.drop 233 = dktJ17_vectorizedMismatch_10 := dk_seg dksJ17_vectorizedMismatch_9 23 rfl rfl
theorem dksJ17_vectorizedMismatch_11 : cJ17_vectorizedMismatch.data.toList.drop 256 = dktJ17_vectorizedMismatch_11 := dk_seg dksJ17_vectorizedMismatch_10 23 rfl rfl
theorem dJ17_vectorizedMismatch_0 : decode cJ17_vectorizedMismatch 0 = .ok (.getstatic 20, 3) := dk_178 0 20 (dk_at dksJ17_vectorizedMismatch_0 0 rfl rfl)
theorem dJ17_vectorizedMismatch_3 : decode cJ17_vectorizedMismatch 3 = .ok (.iload 7, 2) := dk_21 7 (dk_at dksJ17_vectorizedMismatch_0 3 rfl rfl)
theorem dJ17_vectorizedMismatch_5 : decode cJ17_vectorizedMismatch 5 = .ok (.isub, 1) := dk_100 (dk_at dksJ17_vectorizedMismatch_0 5 rfl rfl)
theorem dJ17_vectorizedMismatch_6 : decode cJ17_vectorizedMismatch 6 = .ok (.istore 8, 2) := dk_54 8 (dk_at dksJ17_vectorizedMismatch_0 6 rfl rfl)
theorem dJ17_vectorizedMismatch_8 : decode cJ17_vectorizedMismatch 8 = .ok (.iconst 0, 1) := dk_3 (dk_at dksJ17_vectorizedMismatch_0 8 rfl rfl)
theorem dJ17_vectorizedMismatch_9 : decode cJ17_vectorizedMismatch 9 = .ok (.istore 9, 2) := dk_54 9 (dk_at dksJ17_vectorizedMismatch_0 9 rfl rfl)
theorem dJ17_vectorizedMismatch_11 : decode cJ17_vectorizedMismatch 11 = .ok (.iload 9, 2) := dk_21 9 (dk_at dksJ17_vectorizedMismatch_0 11 rfl rfl)
theorem dJ17_vectorizedMismatch_13 : decode cJ17_vectorizedMismatch 13 = .ok (.iload 6, 2) := dk_21 6 (dk_at dksJ17_vectorizedMismatch_0 13 rfl rfl)
theorem dJ17_vectorizedMismatch_15 : decode cJ17_vectorizedMismatch 15 = .ok (.iload 8, 2) := dk_21 8 (dk_at dksJ17_vectorizedMismatch_0 15 rfl rfl)
theorem dJ17_vectorizedMismatch_17 : decode cJ17_vectorizedMismatch 17 = .ok (.ishr, 1) := dk_122 (dk_at dksJ17_vectorizedMismatch_0 17 rfl rfl)
theorem dJ17_vectorizedMismatch_18 : decode cJ17_vectorizedMismatch 18 = .ok (.if_icmp .ge 104, 3) := dk_162 0 104 (dk_at dksJ17_vectorizedMismatch_0 18 rfl rfl)
theorem dJ17_vectorizedMismatch_21 : decode cJ17_vectorizedMismatch 21 = .ok (.iload 9, 2) := dk_21 9 (dk_at dksJ17_vectorizedMismatch_0 21 rfl rfl)
theorem dJ17_vectorizedMismatch_23 : decode cJ17_vectorizedMismatch 23 = .ok (.i2l, 1) := dk_133 (dk_at dksJ17_vectorizedMismatch_0 23 rfl rfl)
theorem dJ17_vectorizedMismatch_24 : decode cJ17_vectorizedMismatch 24 = .ok (.getstatic 20, 3) := dk_178 0 20 (dk_at dksJ17_vectorizedMismatch_1 0 rfl rfl)
theorem dJ17_vectorizedMismatch_27 : decode cJ17_vectorizedMismatch 27 = .ok (.lshl, 1) := dk_121 (dk_at dksJ17_vectorizedMismatch_1 3 rfl rfl)
theorem dJ17_vectorizedMismatch_28 : decode cJ17_vectorizedMismatch 28 = .ok (.lstore 10, 2) := dk_55 10 (dk_at dksJ17_vectorizedMismatch_1 4 rfl rfl)
theorem dJ17_vectorizedMismatch_30 : decode cJ17_vectorizedMismatch 30 = .ok (.getstatic 26, 3) := dk_178 0 26 (dk_at dksJ17_vectorizedMismatch_1 6 rfl rfl)
theorem dJ17_vectorizedMismatch_33 : decode cJ17_vectorizedMismatch 33 = .ok (.aload_n 0, 1) := dk_42 (dk_at dksJ17_vectorizedMismatch_1 9 rfl rfl)
theorem dJ17_vectorizedMismatch_34 : decode cJ17_vectorizedMismatch 34 = .ok (.lload_n 1, 1) := dk_31 (dk_at dksJ17_vectorizedMismatch_1 10 rfl rfl)
theorem dJ17_vectorizedMismatch_35 : decode cJ17_vectorizedMismatch 35 = .ok (.lload 10, 2) := dk_22 10 (dk_at dksJ17_vectorizedMismatch_1 11 rfl rfl)
theorem dJ17_vectorizedMismatch_37 : decode cJ17_vectorizedMismatch 37 = .ok (.ladd, 1) := dk_97 (dk_at dksJ17_vectorizedMismatch_1 13 rfl rfl)
theorem dJ17_vectorizedMismatch_38 : decode cJ17_vectorizedMismatch 38 = .ok (.invokevirtual 30, 3) := dk_182 0 30 (dk_at dksJ17_vectorizedMismatch_1 14 rfl rfl)
theorem dJ17_vectorizedMismatch_41 : decode cJ17_vectorizedMismatch 41 = .ok (.lstore 12, 2) := dk_55 12 (dk_at dksJ17_vectorizedMismatch_1 17 rfl rfl)
theorem dJ17_vectorizedMismatch_43 : decode cJ17_vectorizedMismatch 43 = .ok (.getstatic 26, 3) := dk_178 0 26 (dk_at dksJ17_vectorizedMismatch_1 19 rfl rfl)
theorem dJ17_vectorizedMismatch_46 : decode cJ17_vectorizedMismatch 46 = .ok (.aload_n 3, 1) := dk_45 (dk_at dksJ17_vectorizedMismatch_1 22 rfl rfl)
theorem dJ17_vectorizedMismatch_47 : decode cJ17_vectorizedMismatch 47 = .ok (.lload 4, 2) := dk_22 4 (dk_at dksJ17_vectorizedMismatch_2 0 rfl rfl)
theorem dJ17_vectorizedMismatch_49 : decode cJ17_vectorizedMismatch 49 = .ok (.lload 10, 2) := dk_22 10 (dk_at dksJ17_vectorizedMismatch_2 2 rfl rfl)
theorem dJ17_vectorizedMismatch_51 : decode cJ17_vectorizedMismatch 51 = .ok (.ladd, 1) := dk_97 (dk_at dksJ17_vectorizedMismatch_2 4 rfl rfl)
theorem dJ17_vectorizedMismatch_52 : decode cJ17_vectorizedMismatch 52 = .ok (.invokevirtual 30, 3) := dk_182 0 30 (dk_at dksJ17_vectorizedMismatch_2 5 rfl rfl)
theorem dJ17_vectorizedMismatch_55 : decode cJ17_vectorizedMismatch 55 = .ok (.lstore 14, 2) := dk_55 14 (dk_at dksJ17_vectorizedMismatch_2 8 rfl rfl)
theorem dJ17_vectorizedMismatch_57 : decode cJ17_vectorizedMismatch 57 = .ok (.lload 12, 2) := dk_22 12 (dk_at dksJ17_vectorizedMismatch_2 10 rfl rfl)
theorem dJ17_vectorizedMismatch_59 : decode cJ17_vectorizedMismatch 59 = .ok (.lload 14, 2) := dk_22 14 (dk_at dksJ17_vectorizedMismatch_2 12 rfl rfl)
theorem dJ17_vectorizedMismatch_61 : decode cJ17_vectorizedMismatch 61 = .ok (.lcmp, 1) := dk_148 (dk_at dksJ17_vectorizedMismatch_2 14 rfl rfl)
theorem dJ17_vectorizedMismatch_62 : decode cJ17_vectorizedMismatch 62 = .ok (.ifCond .eq 54, 3) := dk_153 0 54 (dk_at dksJ17_vectorizedMismatch_2 15 rfl rfl)
theorem dJ17_vectorizedMismatch_65 : decode cJ17_vectorizedMismatch 65 = .ok (.lload 12, 2) := dk_22 12 (dk_at dksJ17_vectorizedMismatch_2 18 rfl rfl)
theorem dJ17_vectorizedMismatch_67 : decode cJ17_vectorizedMismatch 67 = .ok (.lload 14, 2) := dk_22 14 (dk_at dksJ17_vectorizedMismatch_2 20 rfl rfl)
theorem dJ17_vectorizedMismatch_69 : decode cJ17_vectorizedMismatch 69 = .ok (.lxor, 1) := dk_131 (dk_at dksJ17_vectorizedMismatch_2 22 rfl rfl)
theorem dJ17_vectorizedMismatch_70 : decode cJ17_vectorizedMismatch 70 = .ok (.lstore 16, 2) := dk_55 16 (dk_at dksJ17_vectorizedMismatch_3 0 rfl rfl)
theorem dJ17_vectorizedMismatch_72 : decode cJ17_vectorizedMismatch 72 = .ok (.getstatic 36, 3) := dk_178 0 36 (dk_at dksJ17_vectorizedMismatch_3 2 rfl rfl)
theorem dJ17_vectorizedMismatch_75 : decode cJ17_vectorizedMismatch 75 = .ok (.ifCond .eq 18, 3) := dk_153 0 18 (dk_at dksJ17_vectorizedMismatch_3 5 rfl rfl)
theorem dJ17_vectorizedMismatch_78 : decode cJ17_vectorizedMismatch 78 = .ok (.lload 16, 2) := dk_22 16 (dk_at dksJ17_vectorizedMismatch_3 8 rfl rfl)
theorem dJ17_vectorizedMismatch_80 : decode cJ17_vectorizedMismatch 80 = .ok (.invokestatic 40, 3) := dk_184 0 40 (dk_at dksJ17_vectorizedMismatch_3 10 rfl rfl)
theorem dJ17_vectorizedMismatch_83 : decode cJ17_vectorizedMismatch 83 = .ok (.getstatic 46, 3) := dk_178 0 46 (dk_at dksJ17_vectorizedMismatch_3 13 rfl rfl)
theorem dJ17_vectorizedMismatch_86 : decode cJ17_vectorizedMismatch 86 = .ok (.iload 7, 2) := dk_21 7 (dk_at dksJ17_vectorizedMismatch_3 16 rfl rfl)
theorem dJ17_vectorizedMismatch_88 : decode cJ17_vectorizedMismatch 88 = .ok (.iadd, 1) := dk_96 (dk_at dksJ17_vectorizedMismatch_3 18 rfl rfl)
theorem dJ17_vectorizedMismatch_89 : decode cJ17_vectorizedMismatch 89 = .ok (.ishr, 1) := dk_122 (dk_at dksJ17_vectorizedMismatch_3 19 rfl rfl)
theorem dJ17_vectorizedMismatch_90 : decode cJ17_vectorizedMismatch 90 = .ok (.goto 15, 3) := dk_167 0 15 (dk_at dksJ17_vectorizedMismatch_3 20 rfl rfl)
theorem dJ17_vectorizedMismatch_93 : decode cJ17_vectorizedMismatch 93 = .ok (.lload 16, 2) := dk_22 16 (dk_at dksJ17_vectorizedMismatch_4 0 rfl rfl)
theorem dJ17_vectorizedMismatch_95 : decode cJ17_vectorizedMismatch 95 = .ok (.invokestatic 49, 3) := dk_184 0 49 (dk_at dksJ17_vectorizedMismatch_4 2 rfl rfl)
theorem dJ17_vectorizedMismatch_98 : decode cJ17_vectorizedMismatch 98 = .ok (.getstatic 46, 3) := dk_178 0 46 (dk_at dksJ17_vectorizedMismatch_4 5 rfl rfl)
theorem dJ17_vectorizedMismatch_101 : decode cJ17_vectorizedMismatch 101 = .ok (.iload 7, 2) := dk_21 7 (dk_at dksJ17_vectorizedMismatch_4 8 rfl rfl)
theorem dJ17_vectorizedMismatch_103 : decode cJ17_vectorizedMismatch 103 = .ok (.iadd, 1) := dk_96 (dk_at dksJ17_vectorizedMismatch_4 10 rfl rfl)
theorem dJ17_vectorizedMismatch_104 : decode cJ17_vectorizedMismatch 104 = .ok (.ishr, 1) := dk_122 (dk_at dksJ17_vectorizedMismatch_4 11 rfl rfl)
theorem dJ17_vectorizedMismatch_105 : decode cJ17_vectorizedMismatch 105 = .ok (.istore 18, 2) := dk_54 18 (dk_at dksJ17_vectorizedMismatch_4 12 rfl rfl)
theorem dJ17_vectorizedMismatch_107 : decode cJ17_vectorizedMismatch 107 = .ok (.iload 9, 2) := dk_21 9 (dk_at dksJ17_vectorizedMismatch_4 14 rfl rfl)
theorem dJ17_vectorizedMismatch_109 : decode cJ17_vectorizedMismatch 109 = .ok (.iload 8, 2) := dk_21 8 (dk_at dksJ17_vectorizedMismatch_4 16 rfl rfl)
theorem dJ17_vectorizedMismatch_111 : decode cJ17_vectorizedMismatch 111 = .ok (.ishl, 1) := dk_120 (dk_at dksJ17_vectorizedMismatch_4 18 rfl rfl)
theorem dJ17_vectorizedMismatch_112 : decode cJ17_vectorizedMismatch 112 = .ok (.iload 18, 2) := dk_21 18 (dk_at dksJ17_vectorizedMismatch_4 19 rfl rfl)
theorem dJ17_vectorizedMismatch_114 : decode cJ17_vectorizedMismatch 114 = .ok (.iadd, 1) := dk_96 (dk_at dksJ17_vectorizedMismatch_4 21 rfl rfl)
theorem dJ17_vectorizedMismatch_115 : decode cJ17_vectorizedMismatch 115 = .ok (.ireturn, 1) := dk_172 (dk_at dksJ17_vectorizedMismatch_4 22 rfl rfl)
theorem dJ17_vectorizedMismatch_116 : decode cJ17_vectorizedMismatch 116 = .ok (.iinc 9 1, 3) := dk_132 9 1 (dk_at dksJ17_vectorizedMismatch_5 0 rfl rfl)
theorem dJ17_vectorizedMismatch_119 : decode cJ17_vectorizedMismatch 119 = .ok (.goto (-108), 3) := dk_167 255 148 (dk_at dksJ17_vectorizedMismatch_5 3 rfl rfl)
theorem dJ17_vectorizedMismatch_122 : decode cJ17_vectorizedMismatch 122 = .ok (.iload 6, 2) := dk_21 6 (dk_at dksJ17_vectorizedMismatch_5 6 rfl rfl)
theorem dJ17_vectorizedMismatch_124 : decode cJ17_vectorizedMismatch 124 = .ok (.iload 9, 2) := dk_21 9 (dk_at dksJ17_vectorizedMismatch_5 8 rfl rfl)
theorem dJ17_vectorizedMismatch_126 : decode cJ17_vectorizedMismatch 126 = .ok (.iload 8, 2) := dk_21 8 (dk_at dksJ17_vectorizedMismatch_5 10 rfl rfl)
theorem dJ17_vectorizedMismatch_128 : decode cJ17_vectorizedMismatch 128 = .ok (.ishl, 1) := dk_120 (dk_at dksJ17_vectorizedMismatch_5 12 rfl rfl)
theorem dJ17_vectorizedMismatch_129 : decode cJ17_vectorizedMismatch 129 = .ok (.isub, 1) := dk_100 (dk_at dksJ17_vectorizedMismatch_5 13 rfl rfl)
theorem dJ17_vectorizedMismatch_130 : decode cJ17_vectorizedMismatch 130 = .ok (.istore 10, 2) := dk_54 10 (dk_at dksJ17_vectorizedMismatch_5 14 rfl rfl)
theorem dJ17_vectorizedMismatch_132 : decode cJ17_vectorizedMismatch 132 = .ok (.iload 7, 2) := dk_21 7 (dk_at dksJ17_vectorizedMismatch_5 16 rfl rfl)
theorem dJ17_vectorizedMismatch_134 : decode cJ17_vectorizedMismatch 134 = .ok (.getstatic 51, 3) := dk_178 0 51 (dk_at dksJ17_vectorizedMismatch_5 18 rfl rfl)
theorem dJ17_vectorizedMismatch_137 : decode cJ17_vectorizedMismatch 137 = .ok (.if_icmp .ge 126, 3) := dk_162 0 126 (dk_at dksJ17_vectorizedMismatch_5 21 rfl rfl)
theorem dJ17_vectorizedMismatch_140 : decode cJ17_vectorizedMismatch 140 = .ok (.iconst 1, 1) := dk_4 (dk_at dksJ17_vectorizedMismatch_6 0 rfl rfl)
theorem dJ17_vectorizedMismatch_141 : decode cJ17_vectorizedMismatch 141 = .ok (.getstatic 51, 3) := dk_178 0 51 (dk_at dksJ17_vectorizedMismatch_6 1 rfl rfl)
theorem dJ17_vectorizedMismatch_144 : decode cJ17_vectorizedMismatch 144 = .ok (.iload 7, 2) := dk_21 7 (dk_at dksJ17_vectorizedMismatch_6 4 rfl rfl)
theorem dJ17_vectorizedMismatch_146 : decode cJ17_vectorizedMismatch 146 = .ok (.isub, 1) := dk_100 (dk_at dksJ17_vectorizedMismatch_6 6 rfl rfl)
theorem dJ17_vectorizedMismatch_147 : decode cJ17_vectorizedMismatch 147 = .ok (.ishl, 1) := dk_120 (dk_at dksJ17_vectorizedMismatch_6 7 rfl rfl)
theorem dJ17_vectorizedMismatch_148 : decode cJ17_vectorizedMismatch 148 = .ok (.istore 11, 2) := dk_54 11 (dk_at dksJ17_vectorizedMismatch_6 8 rfl rfl)
theorem dJ17_vectorizedMismatch_150 : decode cJ17_vectorizedMismatch 150 = .ok (.iload 10, 2) := dk_21 10 (dk_at dksJ17_vectorizedMismatch_6 10 rfl rfl)
theorem dJ17_vectorizedMismatch_152 : decode cJ17_vectorizedMismatch 152 = .ok (.iload 11, 2) := dk_21 11 (dk_at dksJ17_vectorizedMismatch_6 12 rfl rfl)
theorem dJ17_vectorizedMismatch_154 : decode cJ17_vectorizedMismatch 154 = .ok (.if_icmp .lt 104, 3) := dk_161 0 104 (dk_at dksJ17_vectorizedMismatch_6 14 rfl rfl)
theorem dJ17_vectorizedMismatch_157 : decode cJ17_vectorizedMismatch 157 = .ok (.iload 9, 2) := dk_21 9 (dk_at dksJ17_vectorizedMismatch_6 17 rfl rfl)
theorem dJ17_vectorizedMismatch_159 : decode cJ17_vectorizedMismatch 159 = .ok (.i2l, 1) := dk_133 (dk_at dksJ17_vectorizedMismatch_6 19 rfl rfl)
theorem dJ17_vectorizedMismatch_160 : decode cJ17_vectorizedMismatch 160 = .ok (.getstatic 20, 3) := dk_178 0 20 (dk_at dksJ17_vectorizedMismatch_6 20 rfl rfl)
theorem dJ17_vectorizedMismatch_163 : decode cJ17_vectorizedMismatch 163 = .ok (.lshl, 1) := dk_121 (dk_at dksJ17_vectorizedMismatch_6 23 rfl rfl)
theorem dJ17_vectorizedMismatch_164 : decode cJ17_vectorizedMismatch 164 = .ok (.lstore 12, 2) := dk_55 12 (dk_at dksJ17_vectorizedMismatch_7 0 rfl rfl)
theorem dJ17_vectorizedMismatch_166 : decode cJ17_vectorizedMismatch 166 = .ok (.getstatic 26, 3) := dk_178 0 26 (dk_at dksJ17_vectorizedMismatch_7 2 rfl rfl)
theorem dJ17_vectorizedMismatch_169 : decode cJ17_vectorizedMismatch 169 = .ok (.aload_n 0, 1) := dk_42 (dk_at dksJ17_vectorizedMismatch_7 5 rfl rfl)
theorem dJ17_vectorizedMismatch_170 : decode cJ17_vectorizedMismatch 170 = .ok (.lload_n 1, 1) := dk_31 (dk_at dksJ17_vectorizedMismatch_7 6 rfl rfl)
theorem dJ17_vectorizedMismatch_171 : decode cJ17_vectorizedMismatch 171 = .ok (.lload 12, 2) := dk_22 12 (dk_at dksJ17_vectorizedMismatch_7 7 rfl rfl)
theorem dJ17_vectorizedMismatch_173 : decode cJ17_vectorizedMismatch 173 = .ok (.ladd, 1) := dk_97 (dk_at dksJ17_vectorizedMismatch_7 9 rfl rfl)
theorem dJ17_vectorizedMismatch_174 : decode cJ17_vectorizedMismatch 174 = .ok (.invokevirtual 54, 3) := dk_182 0 54 (dk_at dksJ17_vectorizedMismatch_7 10 rfl rfl)
theorem dJ17_vectorizedMismatch_177 : decode cJ17_vectorizedMismatch 177 = .ok (.istore 14, 2) := dk_54 14 (dk_at dksJ17_vectorizedMismatch_7 13 rfl rfl)
theorem dJ17_vectorizedMismatch_179 : decode cJ17_vectorizedMismatch 179 = .ok (.getstatic 26, 3) := dk_178 0 26 (dk_at dksJ17_vectorizedMismatch_7 15 rfl rfl)
theorem dJ17_vectorizedMismatch_182 : decode cJ17_vectorizedMismatch 182 = .ok (.aload_n 3, 1) := dk_45 (dk_at dksJ17_vectorizedMismatch_7 18 rfl rfl)
theorem dJ17_vectorizedMismatch_183 : decode cJ17_vectorizedMismatch 183 = .ok (.lload 4, 2) := dk_22 4 (dk_at dksJ17_vectorizedMismatch_7 19 rfl rfl)
theorem dJ17_vectorizedMismatch_185 : decode cJ17_vectorizedMismatch 185 = .ok (.lload 12, 2) := dk_22 12 (dk_at dksJ17_vectorizedMismatch_7 21 rfl rfl)
theorem dJ17_vectorizedMismatch_187 : decode cJ17_vectorizedMismatch 187 = .ok (.ladd, 1) := dk_97 (dk_at dksJ17_vectorizedMismatch_7 23 rfl rfl)
theorem dJ17_vectorizedMismatch_188 : decode cJ17_vectorizedMismatch 188 = .ok (.invokevirtual 54, 3) := dk_182 0 54 (dk_at dksJ17_vectorizedMismatch_8 0 rfl rfl)
theorem dJ17_vectorizedMismatch_191 : decode cJ17_vectorizedMismatch 191 = .ok (.istore 15, 2) := dk_54 15 (dk_at dksJ17_vectorizedMismatch_8 3 rfl rfl)
theorem dJ17_vectorizedMismatch_193 : decode cJ17_vectorizedMismatch 193 = .ok (.iload 14, 2) := dk_21 14 (dk_at dksJ17_vectorizedMismatch_8 5 rfl rfl)
theorem dJ17_vectorizedMismatch_195 : decode cJ17_vectorizedMismatch 195 = .ok (.iload 15, 2) := dk_21 15 (dk_at dksJ17_vectorizedMismatch_8 7 rfl rfl)
theorem dJ17_vectorizedMismatch_197 : decode cJ17_vectorizedMismatch 197 = .ok (.if_icmp .eq 54, 3) := dk_159 0 54 (dk_at dksJ17_vectorizedMismatch_8 9 rfl rfl)
theorem dJ17_vectorizedMismatch_200 : decode cJ17_vectorizedMismatch 200 = .ok (.iload 14, 2) := dk_21 14 (dk_at dksJ17_vectorizedMismatch_8 12 rfl rfl)
theorem dJ17_vectorizedMismatch_202 : decode cJ17_vectorizedMismatch 202 = .ok (.iload 15, 2) := dk_21 15 (dk_at dksJ17_vectorizedMismatch_8 14 rfl rfl)
theorem dJ17_vectorizedMismatch_204 : decode cJ17_vectorizedMismatch 204 = .ok (.ixor, 1) := dk_130 (dk_at dksJ17_vectorizedMismatch_8 16 rfl rfl)
theorem dJ17_vectorizedMismatch_205 : decode cJ17_vectorizedMismatch 205 = .ok (.istore 16, 2) := dk_54 16 (dk_at dksJ17_vectorizedMismatch_8 17 rfl rfl)
theorem dJ17_vectorizedMismatch_207 : decode cJ17_vectorizedMismatch 207 = .ok (.getstatic 36, 3) := dk_178 0 36 (dk_at dksJ17_vectorizedMismatch_8 19 rfl rfl)
theorem dJ17_vectorizedMismatch_210 : decode cJ17_vectorizedMismatch 210 = .ok (.ifCond .eq 18, 3) := dk_153 0 18 (dk_at dksJ17_vectorizedMismatch_9 0 rfl rfl)
theorem dJ17_vectorizedMismatch_213 : decode cJ17_vectorizedMismatch 213 = .ok (.iload 16, 2) := dk_21 16 (dk_at dksJ17_vectorizedMismatch_9 3 rfl rfl)
theorem dJ17_vectorizedMismatch_215 : decode cJ17_vectorizedMismatch 215 = .ok (.invokestatic 58, 3) := dk_184 0 58 (dk_at dksJ17_vectorizedMismatch_9 5 rfl rfl)
theorem dJ17_vectorizedMismatch_218 : decode cJ17_vectorizedMismatch 218 = .ok (.getstatic 46, 3) := dk_178 0 46 (dk_at dksJ17_vectorizedMismatch_9 8 rfl rfl)
theorem dJ17_vectorizedMismatch_221 : decode cJ17_vectorizedMismatch 221 = .ok (.iload 7, 2) := dk_21 7 (dk_at dksJ17_vectorizedMismatch_9 11 rfl rfl)
theorem dJ17_vectorizedMismatch_223 : decode cJ17_vectorizedMismatch 223 = .ok (.iadd, 1) := dk_96 (dk_at dksJ17_vectorizedMismatch_9 13 rfl rfl)
theorem dJ17_vectorizedMismatch_224 : decode cJ17_vectorizedMismatch 224 = .ok (.ishr, 1) := dk_122 (dk_at dksJ17_vectorizedMismatch_9 14 rfl rfl)
theorem dJ17_vectorizedMismatch_225 : decode cJ17_vectorizedMismatch 225 = .ok (.goto 15, 3) := dk_167 0 15 (dk_at dksJ17_vectorizedMismatch_9 15 rfl rfl)
theorem dJ17_vectorizedMismatch_228 : decode cJ17_vectorizedMismatch 228 = .ok (.iload 16, 2) := dk_21 16 (dk_at dksJ17_vectorizedMismatch_9 18 rfl rfl)
theorem dJ17_vectorizedMismatch_230 : decode cJ17_vectorizedMismatch 230 = .ok (.invokestatic 11, 3) := dk_184 0 11 (dk_at dksJ17_vectorizedMismatch_9 20 rfl rfl)
theorem dJ17_vectorizedMismatch_233 : decode cJ17_vectorizedMismatch 233 = .ok (.getstatic 46, 3) := dk_178 0 46 (dk_at dksJ17_vectorizedMismatch_10 0 rfl rfl)
theorem dJ17_vectorizedMismatch_236 : decode cJ17_vectorizedMismatch 236 = .ok (.iload 7, 2) := dk_21 7 (dk_at dksJ17_vectorizedMismatch_10 3 rfl rfl)
theorem dJ17_vectorizedMismatch_238 : decode cJ17_vectorizedMismatch 238 = .ok (.iadd, 1) := dk_96 (dk_at dksJ17_vectorizedMismatch_10 5 rfl rfl)
theorem dJ17_vectorizedMismatch_239 : decode cJ17_vectorizedMismatch 239 = .ok (.ishr, 1) := dk_122 (dk_at dksJ17_vectorizedMismatch_10 6 rfl rfl)
theorem dJ17_vectorizedMismatch_240 : decode cJ17_vectorizedMismatch 240 = .ok (.istore 17, 2) := dk_54 17 (dk_at dksJ17_vectorizedMismatch_10 7 rfl rfl)
theorem dJ17_vectorizedMismatch_242 : decode cJ17_vectorizedMismatch 242 = .ok (.iload 9, 2) := dk_21 9 (dk_at dksJ17_vectorizedMismatch_10 9 rfl rfl)
theorem dJ17_vectorizedMismatch_244 : decode cJ17_vectorizedMismatch 244 = .ok (.iload 8, 2) := dk_21 8 (dk_at dksJ17_vectorizedMismatch_10 11 rfl rfl)
theorem dJ17_vectorizedMismatch_246 : decode cJ17_vectorizedMismatch 246 = .ok (.ishl, 1) := dk_120 (dk_at dksJ17_vectorizedMismatch_10 13 rfl rfl)
theorem dJ17_vectorizedMismatch_247 : decode cJ17_vectorizedMismatch 247 = .ok (.iload 17, 2) := dk_21 17 (dk_at dksJ17_vectorizedMismatch_10 14 rfl rfl)
theorem dJ17_vectorizedMismatch_249 : decode cJ17_vectorizedMismatch 249 = .ok (.iadd, 1) := dk_96 (dk_at dksJ17_vectorizedMismatch_10 16 rfl rfl)
theorem dJ17_vectorizedMismatch_250 : decode cJ17_vectorizedMismatch 250 = .ok (.ireturn, 1) := dk_172 (dk_at dksJ17_vectorizedMismatch_10 17 rfl rfl)
theorem dJ17_vectorizedMismatch_251 : decode cJ17_vectorizedMismatch 251 = .ok (.iload 10, 2) := dk_21 10 (dk_at dksJ17_vectorizedMismatch_10 18 rfl rfl)
theorem dJ17_vectorizedMismatch_253 : decode cJ17_vectorizedMismatch 253 = .ok (.iload 11, 2) := dk_21 11 (dk_at dksJ17_vectorizedMismatch_10 20 rfl rfl)
theorem dJ17_vectorizedMismatch_255 : decode cJ17_vectorizedMismatch 255 = .ok (.isub, 1) := dk_100 (dk_at dksJ17_vectorizedMismatch_10 22 rfl rfl)
theorem dJ17_vectorizedMismatch_256 : decode cJ17_vectorizedMismatch 256 = .ok (.istore 10, 2) := dk_54 10 (dk_at dksJ17_vectorizedMismatch_11 0 rfl rfl)
theorem dJ17_vectorizedMismatch_258 : decode cJ17_vectorizedMismatch 258 = .ok (.iload 10, 2) := dk_21 10 (dk_at dksJ17_vectorizedMismatch_11 2 rfl rfl)
theorem dJ17_vectorizedMismatch_260 : decode cJ17_vectorizedMismatch 260 = .ok (.iconst (-1), 1) := dk_2 (dk_at dksJ17_vectorizedMismatch_11 4 rfl rfl)
theorem dJ17_vectorizedMismatch_261 : decode cJ17_vectorizedMismatch 261 = .ok (.ixor, 1) := dk_130 (dk_at dksJ17_vectorizedMismatch_11 5 rfl rfl)
theorem dJ17_vectorizedMismatch_262 : decode cJ17_vectorizedMismatch 262 = .ok (.ireturn, 1) := dk_172 (dk_at dksJ17_vectorizedMismatch_11 6 rfl rfl)
theorem dJ17_vectorizedMismatch_263 : decode cJ17_vectorizedMismatch 263 = .ok (.iload 10, 2) := dk_21 10 (dk_at dksJ17_vectorizedMismatch_11 7 rfl rfl)
theorem dJ17_vectorizedMismatch_265 : decode cJ17_vectorizedMismatch 265 = .ok (.iconst (-1), 1) := dk_2 (dk_at dksJ17_vectorizedMismatch_11 9 rfl rfl)
theorem dJ17_vectorizedMismatch_266 : decode cJ17_vectorizedMismatch 266 = .ok (.ixor, 1) := dk_130 (dk_at dksJ17_vectorizedMismatch_11 10 rfl rfl)
theorem dJ17_vectorizedMismatch_267 : decode cJ17_vectorizedMismatch 267 = .ok (.ireturn, 1) := dk_172 (dk_at dksJ17_vectorizedMismatch_11 11 rfl rfl)
theorem q101 : (Jvm.Cond.initialized "jdk/internal/util/ArraysSupport") ∈ lw_all := lw_g (lw_at lw_m1 23 rfl) rfl
theorem q386 : (Jvm.Cond.static ({ cls := "jdk/internal/util/ArraysSupport", name := "newLength", desc := "(III)I" } : Jvm.MethodName)) ∈ lw_all := lw_g (lw_at lw_m2 68 rfl) rfl
theorem q387 : (Jvm.Cond.code ({ cls := "jdk/internal/util/ArraysSupport", name := "newLength", desc := "(III)I" } : Jvm.MethodName) prog_77_method_27_code (4 : Nat) (Option.some Jvm.ClassFile.FieldType.int)) ∈ lw_all := lw_g (lw_at lw_m2 69 rfl) rfl
theorem q388 : (Jvm.Cond.methodLink "jdk/internal/util/ArraysSupport" (194 : Nat) ({ cls := "java/lang/Math", name := "max", desc := "(II)I" } : Jvm.MethodName)) ∈ lw_all := lw_g (lw_at lw_m2 70 rfl) rfl
theorem q391 : (Jvm.Cond.constant "jdk/internal/util/ArraysSupport" (200 : Nat) (2147483639 : Int32)) ∈ lw_all := lw_g (lw_at lw_m2 73 rfl) rfl
theorem q392 : (Jvm.Cond.methodLink "jdk/internal/util/ArraysSupport" (201 : Nat) ({ cls := "jdk/internal/util/ArraysSupport", name := "hugeLength", desc := "(II)I" } : Jvm.MethodName)) ∈ lw_all := lw_g (lw_at lw_m2 74 rfl) rfl
theorem q393 : (Jvm.Cond.static ({ cls := "jdk/internal/util/ArraysSupport", name := "hugeLength", desc := "(II)I" } : Jvm.MethodName)) ∈ lw_all := lw_g (lw_at lw_m2 75 rfl) rfl
theorem q394 : (Jvm.Cond.code ({ cls := "jdk/internal/util/ArraysSupport", name := "hugeLength", desc := "(II)I" } : Jvm.MethodName) prog_77_method_28_code (3 : Nat) (Option.some Jvm.ClassFile.FieldType.int)) ∈ lw_all := lw_g (lw_at lw_m2 76 rfl) rfl
theorem q645 : (Jvm.Cond.static ({ cls := "jdk/internal/util/ArraysSupport", name := "mismatch", desc := "([B[BI)I" } : Jvm.MethodName)) ∈ lw_all := lw_g (lw_at lw_m3 87 rfl) rfl
theorem q646 : (Jvm.Cond.code ({ cls := "jdk/internal/util/ArraysSupport", name := "mismatch", desc := "([B[BI)I" } : Jvm.MethodName) prog_77_method_13_code (4 : Nat) (Option.some Jvm.ClassFile.FieldType.int)) ∈ lw_all := lw_g (lw_at lw_m3 88 rfl) rfl
theorem q647 : (Jvm.Cond.fieldLink "jdk/internal/util/ArraysSupport" (126 : Nat) "jdk/internal/misc/Unsafe" "ARRAY_BYTE_BASE_OFFSET" "I") ∈ lw_all := lw_g (lw_at lw_m3 89 rfl) rfl
theorem q649 : (Jvm.Cond.fieldLink "jdk/internal/util/ArraysSupport" (129 : Nat) "jdk/internal/util/ArraysSupport" "LOG2_ARRAY_BYTE_INDEX_SCALE" "I") ∈ lw_all := lw_g (lw_at lw_m3 91 rfl) rfl
theorem q650 : (Jvm.Cond.laysStatic "jdk/internal/util/ArraysSupport" "LOG2_ARRAY_BYTE_INDEX_SCALE" "I") ∈ lw_tbl := lw_at lw_m3 92 rfl
theorem q651 : (Jvm.Cond.methodLink "jdk/internal/util/ArraysSupport" (122 : Nat) ({ cls := "jdk/internal/util/ArraysSupport", name := "vectorizedMismatch", desc := "(Ljava/lang/Object;JLjava/lang/Object;JII)I" } : Jvm.MethodName)) ∈ lw_all := lw_g (lw_at lw_m3 93 rfl) rfl
theorem q652 : (Jvm.Cond.static ({ cls := "jdk/internal/util/ArraysSupport", name := "vectorizedMismatch", desc := "(Ljava/lang/Object;JLjava/lang/Object;JII)I" } : Jvm.MethodName)) ∈ lw_all := lw_g (lw_at lw_m3 94 rfl) rfl
theorem q653 : (Jvm.Cond.code ({ cls := "jdk/internal/util/ArraysSupport", name := "vectorizedMismatch", desc := "(Ljava/lang/Object;JLjava/lang/Object;JII)I" } : Jvm.MethodName) prog_77_method_3_code (19 : Nat) (Option.some Jvm.ClassFile.FieldType.int)) ∈ lw_all := lw_g (lw_at lw_m3 95 rfl) rfl
theorem q654 : (Jvm.Cond.fieldLink "jdk/internal/util/ArraysSupport" (20 : Nat) "jdk/internal/util/ArraysSupport" "LOG2_ARRAY_LONG_INDEX_SCALE" "I") ∈ lw_all := lw_g (lw_at lw_m3 96 rfl) rfl
theorem q655 : (Jvm.Cond.laysStatic "jdk/internal/util/ArraysSupport" "LOG2_ARRAY_LONG_INDEX_SCALE" "I") ∈ lw_tbl := lw_at lw_m3 97 rfl
theorem q656 : (Jvm.Cond.fieldLink "jdk/internal/util/ArraysSupport" (26 : Nat) "jdk/internal/util/ArraysSupport" "U" "Ljdk/internal/misc/Unsafe;") ∈ lw_all := lw_g (lw_at lw_m3 98 rfl) rfl
theorem q657 : (Jvm.Cond.laysStatic "jdk/internal/util/ArraysSupport" "U" "Ljdk/internal/misc/Unsafe;") ∈ lw_tbl := lw_at lw_m3 99 rfl
theorem q658 : (Jvm.Cond.methodLink "jdk/internal/util/ArraysSupport" (30 : Nat) ({ cls := "jdk/internal/misc/Unsafe", name := "getLongUnaligned", desc := "(Ljava/lang/Object;J)J" } : Jvm.MethodName)) ∈ lw_all := lw_g (lw_at lw_m3 100 rfl) rfl
theorem q710 : (Jvm.Cond.fieldLink "jdk/internal/util/ArraysSupport" (36 : Nat) "jdk/internal/util/ArraysSupport" "BIG_ENDIAN" "Z") ∈ lw_all := lw_g (lw_at lw_m3 152 rfl) rfl
theorem q711 : (Jvm.Cond.laysStatic "jdk/internal/util/ArraysSupport" "BIG_ENDIAN" "Z") ∈ lw_tbl := lw_at lw_m3 153 rfl
theorem q712 : (Jvm.Cond.methodLink "jdk/internal/util/ArraysSupport" (40 : Nat) ({ cls := "java/lang/Long", name := "numberOfLeadingZeros", desc := "(J)I" } : Jvm.MethodName)) ∈ lw_all := lw_g (lw_at lw_m3 154 rfl) rfl
theorem q719 : (Jvm.Cond.fieldLink "jdk/internal/util/ArraysSupport" (46 : Nat) "jdk/internal/util/ArraysSupport" "LOG2_BYTE_BIT_SIZE" "I") ∈ lw_all := lw_g (lw_at lw_m3 161 rfl) rfl
theorem q720 : (Jvm.Cond.laysStatic "jdk/internal/util/ArraysSupport" "LOG2_BYTE_BIT_SIZE" "I") ∈ lw_tbl := lw_at lw_m3 162 rfl
theorem q721 : (Jvm.Cond.methodLink "jdk/internal/util/ArraysSupport" (49 : Nat) ({ cls := "java/lang/Long", name := "numberOfTrailingZeros", desc := "(J)I" } : Jvm.MethodName)) ∈ lw_all := lw_g (lw_at lw_m3 163 rfl) rfl
theorem q727 : (Jvm.Cond.fieldLink "jdk/internal/util/ArraysSupport" (51 : Nat) "jdk/internal/util/ArraysSupport" "LOG2_ARRAY_INT_INDEX_SCALE" "I") ∈ lw_all := lw_g (lw_at lw_m3 169 rfl) rfl
theorem q728 : (Jvm.Cond.laysStatic "jdk/internal/util/ArraysSupport" "LOG2_ARRAY_INT_INDEX_SCALE" "I") ∈ lw_tbl := lw_at lw_m3 170 rfl
theorem q729 : (Jvm.Cond.methodLink "jdk/internal/util/ArraysSupport" (54 : Nat) ({ cls := "jdk/internal/misc/Unsafe", name := "getIntUnaligned", desc := "(Ljava/lang/Object;J)I" } : Jvm.MethodName)) ∈ lw_all := lw_g (lw_at lw_m3 171 rfl) rfl
theorem q746 : (Jvm.Cond.methodLink "jdk/internal/util/ArraysSupport" (58 : Nat) ({ cls := "java/lang/Integer", name := "numberOfLeadingZeros", desc := "(I)I" } : Jvm.MethodName)) ∈ lw_all := lw_g (lw_at lw_m3 188 rfl) rfl
theorem q747 : (Jvm.Cond.methodLink "jdk/internal/util/ArraysSupport" (11 : Nat) ({ cls := "java/lang/Integer", name := "numberOfTrailingZeros", desc := "(I)I" } : Jvm.MethodName)) ∈ lw_all := lw_g (lw_at lw_m3 189 rfl) rfl

/-! java/lang/Math -/
set_option maxRecDepth 100000
def RJ18 : String := "java/lang/Math"
abbrev cJ18_max : ByteArray := prog_30_method_65_code
def yJ18_max : MethodName := ⟨RJ18, "max", "(II)I"⟩
def dkwJ18_max_0 : List UInt8 := [26, 27, 161, 0, 7, 26, 167, 0, 4, 27, 172]
abbrev dktJ18_max_0 : List UInt8 := dkwJ18_max_0 ++ []
theorem dksJ18_max_0 : cJ18_max.data.toList.drop 0 = dktJ18_max_0 := by decide +kernel
theorem dJ18_max_0 : decode cJ18_max 0 = .ok (.iload_n 0, 1) := dk_26 (dk_at dksJ18_max_0 0 rfl rfl)
theorem dJ18_max_1 : decode cJ18_max 1 = .ok (.iload_n 1, 1) := dk_27 (dk_at dksJ18_max_0 1 rfl rfl)
theorem dJ18_max_2 : decode cJ18_max 2 = .ok (.if_icmp .lt 7, 3) := dk_161 0 7 (dk_at dksJ18_max_0 2 rfl rfl)
theorem dJ18_max_5 : decode cJ18_max 5 = .ok (.iload_n 0, 1) := dk_26 (dk_at dksJ18_max_0 5 rfl rfl)
theorem dJ18_max_6 : decode cJ18_max 6 = .ok (.goto 4, 3) := dk_167 0 4 (dk_at dksJ18_max_0 6 rfl rfl)
theorem dJ18_max_9 : decode cJ18_max 9 = .ok (.iload_n 1, 1) := dk_27 (dk_at dksJ18_max_0 9 rfl rfl)
theorem dJ18_max_10 : decode cJ18_max 10 = .ok (.ireturn, 1) := dk_172 (dk_at dksJ18_max_0 10 rfl rfl)
abbrev cJ18_min : ByteArray := prog_30_method_69_code
def yJ18_min : MethodName := ⟨RJ18, "min", "(II)I"⟩
def dkwJ18_min_0 : List UInt8 := [26, 27, 163, 0, 7, 26, 167, 0, 4, 27, 172]
abbrev dktJ18_min_0 : List UInt8 := dkwJ18_min_0 ++ []
theorem dksJ18_min_0 : cJ18_min.data.toList.drop 0 = dktJ18_min_0 := by decide +kernel
theorem dJ18_min_0 : decode cJ18_min 0 = .ok (.iload_n 0, 1) := dk_26 (dk_at dksJ18_min_0 0 rfl rfl)
theorem dJ18_min_1 : decode cJ18_min 1 = .ok (.iload_n 1, 1) := dk_27 (dk_at dksJ18_min_0 1 rfl rfl)
theorem dJ18_min_2 : decode cJ18_min 2 = .ok (.if_icmp .gt 7, 3) := dk_163 0 7 (dk_at dksJ18_min_0 2 rfl rfl)
theorem dJ18_min_5 : decode cJ18_min 5 = .ok (.iload_n 0, 1) := dk_26 (dk_at dksJ18_min_0 5 rfl rfl)
theorem dJ18_min_6 : decode cJ18_min 6 = .ok (.goto 4, 3) := dk_167 0 4 (dk_at dksJ18_min_0 6 rfl rfl)
theorem dJ18_min_9 : decode cJ18_min 9 = .ok (.iload_n 1, 1) := dk_27 (dk_at dksJ18_min_0 9 rfl rfl)
theorem dJ18_min_10 : decode cJ18_min 10 = .ok (.ireturn, 1) := dk_172 (dk_at dksJ18_min_0 10 rfl rfl)
theorem q102 : (Jvm.Cond.initialized "java/lang/Math") ∈ lw_all := lw_g (lw_at lw_m1 24 rfl) rfl
theorem q389 : (Jvm.Cond.static ({ cls := "java/lang/Math", name := "max", desc := "(II)I" } : Jvm.MethodName)) ∈ lw_all := lw_g (lw_at lw_m2 71 rfl) rfl
theorem q390 : (Jvm.Cond.code ({ cls := "java/lang/Math", name := "max", desc := "(II)I" } : Jvm.MethodName) prog_30_method_65_code (2 : Nat) (Option.some Jvm.ClassFile.FieldType.int)) ∈ lw_all := lw_g (lw_at lw_m2 72 rfl) rfl
theorem q433 : (Jvm.Cond.static ({ cls := "java/lang/Math", name := "min", desc := "(II)I" } : Jvm.MethodName)) ∈ lw_all := lw_g (lw_at lw_m2 115 rfl) rfl
theorem q434 : (Jvm.Cond.code ({ cls := "java/lang/Math", name := "min", desc := "(II)I" } : Jvm.MethodName) prog_30_method_69_code (2 : Nat) (Option.some Jvm.ClassFile.FieldType.int)) ∈ lw_all := lw_g (lw_at lw_m2 116 rfl) rfl

/-! java/util/Arrays -/
set_option maxRecDepth 100000
def RJ19 : String := "java/util/Arrays"
abbrev cJ19_copyOf : ByteArray := prog_49_method_119_code
def yJ19_copyOf : MethodName := ⟨RJ19, "copyOf", "([Ljava/lang/Object;I)[Ljava/lang/Object;"⟩
def dkwJ19_copyOf_0 : List UInt8 := [42, 27, 42, 182, 0, 86, 184, 1, 44, 176]
abbrev dktJ19_copyOf_0 : List UInt8 := dkwJ19_copyOf_0 ++ []
theorem dksJ19_copyOf_0 : cJ19_copyOf.data.toList.drop 0 = dktJ19_copyOf_0 := by decide +kernel
theorem dJ19_copyOf_0 : decode cJ19_copyOf 0 = .ok (.aload_n 0, 1) := dk_42 (dk_at dksJ19_copyOf_0 0 rfl rfl)
theorem dJ19_copyOf_1 : decode cJ19_copyOf 1 = .ok (.iload_n 1, 1) := dk_27 (dk_at dksJ19_copyOf_0 1 rfl rfl)
theorem dJ19_copyOf_2 : decode cJ19_copyOf 2 = .ok (.aload_n 0, 1) := dk_42 (dk_at dksJ19_copyOf_0 2 rfl rfl)
theorem dJ19_copyOf_3 : decode cJ19_copyOf 3 = .ok (.invokevirtual 86, 3) := dk_182 0 86 (dk_at dksJ19_copyOf_0 3 rfl rfl)
theorem dJ19_copyOf_6 : decode cJ19_copyOf 6 = .ok (.invokestatic 300, 3) := dk_184 1 44 (dk_at dksJ19_copyOf_0 6 rfl rfl)
theorem dJ19_copyOf_9 : decode cJ19_copyOf 9 = .ok (.areturn, 1) := dk_176 (dk_at dksJ19_copyOf_0 9 rfl rfl)
abbrev cJ19_copyOf_2 : ByteArray := prog_49_method_120_code
def yJ19_copyOf_2 : MethodName := ⟨RJ19, "copyOf", "([Ljava/lang/Object;ILjava/lang/Class;)[Ljava/lang/Object;"⟩
def dkwJ19_copyOf_2_1 : List UInt8 := [78, 42, 3, 45, 3, 42, 190, 27, 184, 1, 48, 184, 0, 150, 45, 176]
abbrev dktJ19_copyOf_2_1 : List UInt8 := dkwJ19_copyOf_2_1 ++ []
def dkwJ19_copyOf_2_0 : List UInt8 := [44, 18, 110, 166, 0, 10, 27, 189, 0, 2, 167, 0, 14, 44, 182, 0, 90, 27, 184, 0, 95, 192, 0, 110]
abbrev dktJ19_copyOf_2_0 : List UInt8 := dkwJ19_copyOf_2_0 ++ dktJ19_copyOf_2_1
theorem dksJ19_copyOf_2_0 : cJ19_copyOf_2.data.toList.drop 0 = dktJ19_copyOf_2_0 := by decide +kernel
theorem dksJ19_copyOf_2_1 : cJ19_copyOf_2.data.toList.drop 24 = dktJ19_copyOf_2_1 := dk_seg dksJ19_copyOf_2_0 24 rfl rfl
theorem dJ19_copyOf_2_0 : decode cJ19_copyOf_2 0 = .ok (.aload_n 2, 1) := dk_44 (dk_at dksJ19_copyOf_2_0 0 rfl rfl)
theorem dJ19_copyOf_2_1 : decode cJ19_copyOf_2 1 = .ok (.ldc 110, 2) := dk_18 110 (dk_at dksJ19_copyOf_2_0 1 rfl rfl)
theorem dJ19_copyOf_2_3 : decode cJ19_copyOf_2 3 = .ok (.if_acmp .ne 10, 3) := dk_166 0 10 (dk_at dksJ19_copyOf_2_0 3 rfl rfl)
theorem dJ19_copyOf_2_6 : decode cJ19_copyOf_2 6 = .ok (.iload_n 1, 1) := dk_27 (dk_at dksJ19_copyOf_2_0 6 rfl rfl)
theorem dJ19_copyOf_2_7 : decode cJ19_copyOf_2 7 = .ok (.anewarray 2, 3) := dk_189 0 2 (dk_at dksJ19_copyOf_2_0 7 rfl rfl)
theorem dJ19_copyOf_2_10 : decode cJ19_copyOf_2 10 = .ok (.goto 14, 3) := dk_167 0 14 (dk_at dksJ19_copyOf_2_0 10 rfl rfl)
theorem dJ19_copyOf_2_13 : decode cJ19_copyOf_2 13 = .ok (.aload_n 2, 1) := dk_44 (dk_at dksJ19_copyOf_2_0 13 rfl rfl)
theorem dJ19_copyOf_2_14 : decode cJ19_copyOf_2 14 = .ok (.invokevirtual 90, 3) := dk_182 0 90 (dk_at dksJ19_copyOf_2_0 14 rfl rfl)
theorem dJ19_copyOf_2_17 : decode cJ19_copyOf_2 17 = .ok (.iload_n 1, 1) := dk_27 (dk_at dksJ19_copyOf_2_0 17 rfl rfl)
theorem dJ19_copyOf_2_18 : decode cJ19_copyOf_2 18 = .ok (.invokestatic 95, 3) := dk_184 0 95 (dk_at dksJ19_copyOf_2_0 18 rfl rfl)
theorem dJ19_copyOf_2_21 : decode cJ19_copyOf_2 21 = .ok (.checkcast 110, 3) := dk_192 0 110 (dk_at dksJ19_copyOf_2_0 21 rfl rfl)
theorem dJ19_copyOf_2_24 : decode cJ19_copyOf_2 24 = .ok (.astore_n 3, 1) := dk_78 (dk_at dksJ19_copyOf_2_1 0 rfl rfl)
theorem dJ19_copyOf_2_25 : decode cJ19_copyOf_2 25 = .ok (.aload_n 0, 1) := dk_42 (dk_at dksJ19_copyOf_2_1 1 rfl rfl)
theorem dJ19_copyOf_2_26 : decode cJ19_copyOf_2 26 = .ok (.iconst 0, 1) := dk_3 (dk_at dksJ19_copyOf_2_1 2 rfl rfl)
theorem dJ19_copyOf_2_27 : decode cJ19_copyOf_2 27 = .ok (.aload_n 3, 1) := dk_45 (dk_at dksJ19_copyOf_2_1 3 rfl rfl)
theorem dJ19_copyOf_2_28 : decode cJ19_copyOf_2 28 = .ok (.iconst 0, 1) := dk_3 (dk_at dksJ19_copyOf_2_1 4 rfl rfl)
theorem dJ19_copyOf_2_29 : decode cJ19_copyOf_2 29 = .ok (.aload_n 0, 1) := dk_42 (dk_at dksJ19_copyOf_2_1 5 rfl rfl)
theorem dJ19_copyOf_2_30 : decode cJ19_copyOf_2 30 = .ok (.arraylength, 1) := dk_190 (dk_at dksJ19_copyOf_2_1 6 rfl rfl)
theorem dJ19_copyOf_2_31 : decode cJ19_copyOf_2 31 = .ok (.iload_n 1, 1) := dk_27 (dk_at dksJ19_copyOf_2_1 7 rfl rfl)
theorem dJ19_copyOf_2_32 : decode cJ19_copyOf_2 32 = .ok (.invokestatic 304, 3) := dk_184 1 48 (dk_at dksJ19_copyOf_2_1 8 rfl rfl)
theorem dJ19_copyOf_2_35 : decode cJ19_copyOf_2 35 = .ok (.invokestatic 150, 3) := dk_184 0 150 (dk_at dksJ19_copyOf_2_1 11 rfl rfl)
theorem dJ19_copyOf_2_38 : decode cJ19_copyOf_2 38 = .ok (.aload_n 3, 1) := dk_45 (dk_at dksJ19_copyOf_2_1 14 rfl rfl)
theorem dJ19_copyOf_2_39 : decode cJ19_copyOf_2 39 = .ok (.areturn, 1) := dk_176 (dk_at dksJ19_copyOf_2_1 15 rfl rfl)
abbrev cJ19_copyOf_3 : ByteArray := prog_49_method_121_code
def yJ19_copyOf_3 : MethodName := ⟨RJ19, "copyOf", "([BI)[B"⟩
def dkwJ19_copyOf_3_1 : List UInt8 := [27, 184, 1, 48, 184, 0, 150, 44, 176]
abbrev dktJ19_copyOf_3_1 : List UInt8 := dkwJ19_copyOf_3_1 ++ []
def dkwJ19_copyOf_3_0 : List UInt8 := [27, 42, 190, 160, 0, 11, 42, 182, 1, 54, 192, 1, 55, 176, 27, 188, 8, 77, 42, 3, 44, 3, 42, 190]
abbrev dktJ19_copyOf_3_0 : List UInt8 := dkwJ19_copyOf_3_0 ++ dktJ19_copyOf_3_1
theorem dksJ19_copyOf_3_0 : cJ19_copyOf_3.data.toList.drop 0 = dktJ19_copyOf_3_0 := by decide +kernel
theorem dksJ19_copyOf_3_1 : cJ19_copyOf_3.data.toList.drop 24 = dktJ19_copyOf_3_1 := dk_seg dksJ19_copyOf_3_0 24 rfl rfl
theorem dJ19_copyOf_3_0 : decode cJ19_copyOf_3 0 = .ok (.iload_n 1, 1) := dk_27 (dk_at dksJ19_copyOf_3_0 0 rfl rfl)
theorem dJ19_copyOf_3_1 : decode cJ19_copyOf_3 1 = .ok (.aload_n 0, 1) := dk_42 (dk_at dksJ19_copyOf_3_0 1 rfl rfl)
theorem dJ19_copyOf_3_2 : decode cJ19_copyOf_3 2 = .ok (.arraylength, 1) := dk_190 (dk_at dksJ19_copyOf_3_0 2 rfl rfl)
theorem dJ19_copyOf_3_3 : decode cJ19_copyOf_3 3 = .ok (.if_icmp .ne 11, 3) := dk_160 0 11 (dk_at dksJ19_copyOf_3_0 3 rfl rfl)
theorem dJ19_copyOf_3_6 : decode cJ19_copyOf_3 6 = .ok (.aload_n 0, 1) := dk_42 (dk_at dksJ19_copyOf_3_0 6 rfl rfl)
theorem dJ19_copyOf_3_7 : decode cJ19_copyOf_3 7 = .ok (.invokevirtual 310, 3) := dk_182 1 54 (dk_at dksJ19_copyOf_3_0 7 rfl rfl)
theorem dJ19_copyOf_3_10 : decode cJ19_copyOf_3 10 = .ok (.checkcast 311, 3) := dk_192 1 55 (dk_at dksJ19_copyOf_3_0 10 rfl rfl)
theorem dJ19_copyOf_3_13 : decode cJ19_copyOf_3 13 = .ok (.areturn, 1) := dk_176 (dk_at dksJ19_copyOf_3_0 13 rfl rfl)
theorem dJ19_copyOf_3_14 : decode cJ19_copyOf_3 14 = .ok (.iload_n 1, 1) := dk_27 (dk_at dksJ19_copyOf_3_0 14 rfl rfl)
theorem dJ19_copyOf_3_15 : decode cJ19_copyOf_3 15 = .ok (.newarray .byte, 2) := dk_188_8 (dk_at dksJ19_copyOf_3_0 15 rfl rfl)
theorem dJ19_copyOf_3_17 : decode cJ19_copyOf_3 17 = .ok (.astore_n 2, 1) := dk_77 (dk_at dksJ19_copyOf_3_0 17 rfl rfl)
theorem dJ19_copyOf_3_18 : decode cJ19_copyOf_3 18 = .ok (.aload_n 0, 1) := dk_42 (dk_at dksJ19_copyOf_3_0 18 rfl rfl)
theorem dJ19_copyOf_3_19 : decode cJ19_copyOf_3 19 = .ok (.iconst 0, 1) := dk_3 (dk_at dksJ19_copyOf_3_0 19 rfl rfl)
theorem dJ19_copyOf_3_20 : decode cJ19_copyOf_3 20 = .ok (.aload_n 2, 1) := dk_44 (dk_at dksJ19_copyOf_3_0 20 rfl rfl)
theorem dJ19_copyOf_3_21 : decode cJ19_copyOf_3 21 = .ok (.iconst 0, 1) := dk_3 (dk_at dksJ19_copyOf_3_0 21 rfl rfl)
theorem dJ19_copyOf_3_22 : decode cJ19_copyOf_3 22 = .ok (.aload_n 0, 1) := dk_42 (dk_at dksJ19_copyOf_3_0 22 rfl rfl)
theorem dJ19_copyOf_3_23 : decode cJ19_copyOf_3 23 = .ok (.arraylength, 1) := dk_190 (dk_at dksJ19_copyOf_3_0 23 rfl rfl)
theorem dJ19_copyOf_3_24 : decode cJ19_copyOf_3 24 = .ok (.iload_n 1, 1) := dk_27 (dk_at dksJ19_copyOf_3_1 0 rfl rfl)
theorem dJ19_copyOf_3_25 : decode cJ19_copyOf_3 25 = .ok (.invokestatic 304, 3) := dk_184 1 48 (dk_at dksJ19_copyOf_3_1 1 rfl rfl)
theorem dJ19_copyOf_3_28 : decode cJ19_copyOf_3 28 = .ok (.invokestatic 150, 3) := dk_184 0 150 (dk_at dksJ19_copyOf_3_1 4 rfl rfl)
theorem dJ19_copyOf_3_31 : decode cJ19_copyOf_3 31 = .ok (.aload_n 2, 1) := dk_44 (dk_at dksJ19_copyOf_3_1 7 rfl rfl)
theorem dJ19_copyOf_3_32 : decode cJ19_copyOf_3 32 = .ok (.areturn, 1) := dk_176 (dk_at dksJ19_copyOf_3_1 8 rfl rfl)
abbrev cJ19_copyOfRange : ByteArray := prog_49_method_132_code
def yJ19_copyOfRange : MethodName := ⟨RJ19, "copyOfRange", "([BII)[B"⟩
def dkwJ19_copyOfRange_1 : List UInt8 := [176]
abbrev dktJ19_copyOfRange_1 : List UInt8 := dkwJ19_copyOfRange_1 ++ []
def dkwJ19_copyOfRange_0 : List UInt8 := [27, 154, 0, 9, 28, 42, 190, 159, 0, 10, 42, 27, 28, 184, 1, 83, 176, 42, 182, 1, 54, 192, 1, 55]
abbrev dktJ19_copyOfRange_0 : List UInt8 := dkwJ19_copyOfRange_0 ++ dktJ19_copyOfRange_1
theorem dksJ19_copyOfRange_0 : cJ19_copyOfRange.data.toList.drop 0 = dktJ19_copyOfRange_0 := by decide +kernel
theorem dksJ19_copyOfRange_1 : cJ19_copyOfRange.data.toList.drop 24 = dktJ19_copyOfRange_1 := dk_seg dksJ19_copyOfRange_0 24 rfl rfl
theorem dJ19_copyOfRange_0 : decode cJ19_copyOfRange 0 = .ok (.iload_n 1, 1) := dk_27 (dk_at dksJ19_copyOfRange_0 0 rfl rfl)
theorem dJ19_copyOfRange_1 : decode cJ19_copyOfRange 1 = .ok (.ifCond .ne 9, 3) := dk_154 0 9 (dk_at dksJ19_copyOfRange_0 1 rfl rfl)
theorem dJ19_copyOfRange_4 : decode cJ19_copyOfRange 4 = .ok (.iload_n 2, 1) := dk_28 (dk_at dksJ19_copyOfRange_0 4 rfl rfl)
theorem dJ19_copyOfRange_5 : decode cJ19_copyOfRange 5 = .ok (.aload_n 0, 1) := dk_42 (dk_at dksJ19_copyOfRange_0 5 rfl rfl)
theorem dJ19_copyOfRange_6 : decode cJ19_copyOfRange 6 = .ok (.arraylength, 1) := dk_190 (dk_at dksJ19_copyOfRange_0 6 rfl rfl)
theorem dJ19_copyOfRange_7 : decode cJ19_copyOfRange 7 = .ok (.if_icmp .eq 10, 3) := dk_159 0 10 (dk_at dksJ19_copyOfRange_0 7 rfl rfl)
theorem dJ19_copyOfRange_10 : decode cJ19_copyOfRange 10 = .ok (.aload_n 0, 1) := dk_42 (dk_at dksJ19_copyOfRange_0 10 rfl rfl)
theorem dJ19_copyOfRange_11 : decode cJ19_copyOfRange 11 = .ok (.iload_n 1, 1) := dk_27 (dk_at dksJ19_copyOfRange_0 11 rfl rfl)
theorem dJ19_copyOfRange_12 : decode cJ19_copyOfRange 12 = .ok (.iload_n 2, 1) := dk_28 (dk_at dksJ19_copyOfRange_0 12 rfl rfl)
theorem dJ19_copyOfRange_13 : decode cJ19_copyOfRange 13 = .ok (.invokestatic 339, 3) := dk_184 1 83 (dk_at dksJ19_copyOfRange_0 13 rfl rfl)
theorem dJ19_copyOfRange_16 : decode cJ19_copyOfRange 16 = .ok (.areturn, 1) := dk_176 (dk_at dksJ19_copyOfRange_0 16 rfl rfl)
theorem dJ19_copyOfRange_17 : decode cJ19_copyOfRange 17 = .ok (.aload_n 0, 1) := dk_42 (dk_at dksJ19_copyOfRange_0 17 rfl rfl)
theorem dJ19_copyOfRange_18 : decode cJ19_copyOfRange 18 = .ok (.invokevirtual 310, 3) := dk_182 1 54 (dk_at dksJ19_copyOfRange_0 18 rfl rfl)
theorem dJ19_copyOfRange_21 : decode cJ19_copyOfRange 21 = .ok (.checkcast 311, 3) := dk_192 1 55 (dk_at dksJ19_copyOfRange_0 21 rfl rfl)
theorem dJ19_copyOfRange_24 : decode cJ19_copyOfRange 24 = .ok (.areturn, 1) := dk_176 (dk_at dksJ19_copyOfRange_1 0 rfl rfl)
abbrev cJ19_copyOfRangeByte : ByteArray := prog_49_method_133_code
def yJ19_copyOfRangeByte : MethodName := ⟨RJ19, "copyOfRangeByte", "([BII)[B"⟩
def dkwJ19_copyOfRangeByte_1 : List UInt8 := [184, 1, 48, 184, 0, 150, 25, 4, 176]
abbrev dktJ19_copyOfRangeByte_1 : List UInt8 := dkwJ19_copyOfRangeByte_1 ++ []
def dkwJ19_copyOfRangeByte_0 : List UInt8 := [27, 28, 184, 1, 87, 28, 27, 100, 62, 29, 188, 8, 58, 4, 42, 27, 25, 4, 3, 42, 190, 27, 100, 29]
abbrev dktJ19_copyOfRangeByte_0 : List UInt8 := dkwJ19_copyOfRangeByte_0 ++ dktJ19_copyOfRangeByte_1
theorem dksJ19_copyOfRangeByte_0 : cJ19_copyOfRangeByte.data.toList.drop 0 = dktJ19_copyOfRangeByte_0 := by decide +kernel
theorem dksJ19_copyOfRangeByte_1 : cJ19_copyOfRangeByte.data.toList.drop 24 = dktJ19_copyOfRangeByte_1 := dk_seg dksJ19_copyOfRangeByte_0 24 rfl rfl
theorem dJ19_copyOfRangeByte_0 : decode cJ19_copyOfRangeByte 0 = .ok (.iload_n 1, 1) := dk_27 (dk_at dksJ19_copyOfRangeByte_0 0 rfl rfl)
theorem dJ19_copyOfRangeByte_1 : decode cJ19_copyOfRangeByte 1 = .ok (.iload_n 2, 1) := dk_28 (dk_at dksJ19_copyOfRangeByte_0 1 rfl rfl)
theorem dJ19_copyOfRangeByte_2 : decode cJ19_copyOfRangeByte 2 = .ok (.invokestatic 343, 3) := dk_184 1 87 (dk_at dksJ19_copyOfRangeByte_0 2 rfl rfl)
theorem dJ19_copyOfRangeByte_5 : decode cJ19_copyOfRangeByte 5 = .ok (.iload_n 2, 1) := dk_28 (dk_at dksJ19_copyOfRangeByte_0 5 rfl rfl)
theorem dJ19_copyOfRangeByte_6 : decode cJ19_copyOfRangeByte 6 = .ok (.iload_n 1, 1) := dk_27 (dk_at dksJ19_copyOfRangeByte_0 6 rfl rfl)
theorem dJ19_copyOfRangeByte_7 : decode cJ19_copyOfRangeByte 7 = .ok (.isub, 1) := dk_100 (dk_at dksJ19_copyOfRangeByte_0 7 rfl rfl)
theorem dJ19_copyOfRangeByte_8 : decode cJ19_copyOfRangeByte 8 = .ok (.istore_n 3, 1) := dk_62 (dk_at dksJ19_copyOfRangeByte_0 8 rfl rfl)
theorem dJ19_copyOfRangeByte_9 : decode cJ19_copyOfRangeByte 9 = .ok (.iload_n 3, 1) := dk_29 (dk_at dksJ19_copyOfRangeByte_0 9 rfl rfl)
theorem dJ19_copyOfRangeByte_10 : decode cJ19_copyOfRangeByte 10 = .ok (.newarray .byte, 2) := dk_188_8 (dk_at dksJ19_copyOfRangeByte_0 10 rfl rfl)
theorem dJ19_copyOfRangeByte_12 : decode cJ19_copyOfRangeByte 12 = .ok (.astore 4, 2) := dk_58 4 (dk_at dksJ19_copyOfRangeByte_0 12 rfl rfl)
theorem dJ19_copyOfRangeByte_14 : decode cJ19_copyOfRangeByte 14 = .ok (.aload_n 0, 1) := dk_42 (dk_at dksJ19_copyOfRangeByte_0 14 rfl rfl)
theorem dJ19_copyOfRangeByte_15 : decode cJ19_copyOfRangeByte 15 = .ok (.iload_n 1, 1) := dk_27 (dk_at dksJ19_copyOfRangeByte_0 15 rfl rfl)
theorem dJ19_copyOfRangeByte_16 : decode cJ19_copyOfRangeByte 16 = .ok (.aload 4, 2) := dk_25 4 (dk_at dksJ19_copyOfRangeByte_0 16 rfl rfl)
theorem dJ19_copyOfRangeByte_18 : decode cJ19_copyOfRangeByte 18 = .ok (.iconst 0, 1) := dk_3 (dk_at dksJ19_copyOfRangeByte_0 18 rfl rfl)
theorem dJ19_copyOfRangeByte_19 : decode cJ19_copyOfRangeByte 19 = .ok (.aload_n 0, 1) := dk_42 (dk_at dksJ19_copyOfRangeByte_0 19 rfl rfl)
theorem dJ19_copyOfRangeByte_20 : decode cJ19_copyOfRangeByte 20 = .ok (.arraylength, 1) := dk_190 (dk_at dksJ19_copyOfRangeByte_0 20 rfl rfl)
theorem dJ19_copyOfRangeByte_21 : decode cJ19_copyOfRangeByte 21 = .ok (.iload_n 1, 1) := dk_27 (dk_at dksJ19_copyOfRangeByte_0 21 rfl rfl)
theorem dJ19_copyOfRangeByte_22 : decode cJ19_copyOfRangeByte 22 = .ok (.isub, 1) := dk_100 (dk_at dksJ19_copyOfRangeByte_0 22 rfl rfl)
theorem dJ19_copyOfRangeByte_23 : decode cJ19_copyOfRangeByte 23 = .ok (.iload_n 3, 1) := dk_29 (dk_at dksJ19_copyOfRangeByte_0 23 rfl rfl)
theorem dJ19_copyOfRangeByte_24 : decode cJ19_copyOfRangeByte 24 = .ok (.invokestatic 304, 3) := dk_184 1 48 (dk_at dksJ19_copyOfRangeByte_1 0 rfl rfl)
theorem dJ19_copyOfRangeByte_27 : decode cJ19_copyOfRangeByte 27 = .ok (.invokestatic 150, 3) := dk_184 0 150 (dk_at dksJ19_copyOfRangeByte_1 3 rfl rfl)
theorem dJ19_copyOfRangeByte_30 : decode cJ19_copyOfRangeByte 30 = .ok (.aload 4, 2) := dk_25 4 (dk_at dksJ19_copyOfRangeByte_1 6 rfl rfl)
theorem dJ19_copyOfRangeByte_32 : decode cJ19_copyOfRangeByte 32 = .ok (.areturn, 1) := dk_176 (dk_at dksJ19_copyOfRangeByte_1 8 rfl rfl)
abbrev cJ19_checkLength : ByteArray := prog_49_method_131_code
def yJ19_checkLength : MethodName := ⟨RJ19, "checkLength", "(II)V"⟩
def dkwJ19_checkLength_1 : List UInt8 := [182, 0, 50, 27, 182, 0, 54, 182, 0, 61, 183, 0, 65, 191, 177]
abbrev dktJ19_checkLength_1 : List UInt8 := dkwJ19_checkLength_1 ++ []
def dkwJ19_checkLength_0 : List UInt8 := [27, 26, 162, 0, 35, 187, 0, 43, 89, 187, 0, 45, 89, 183, 0, 47, 26, 182, 0, 54, 19, 1, 81]
abbrev dktJ19_checkLength_0 : List UInt8 := dkwJ19_checkLength_0 ++ dktJ19_checkLength_1
theorem dksJ19_checkLength_0 : cJ19_checkLength.data.toList.drop 0 = dktJ19_checkLength_0 := by decide +kernel
theorem dksJ19_checkLength_1 : cJ19_checkLength.data.toList.drop 23 = dktJ19_checkLength_1 := dk_seg dksJ19_checkLength_0 23 rfl rfl
theorem dJ19_checkLength_0 : decode cJ19_checkLength 0 = .ok (.iload_n 1, 1) := dk_27 (dk_at dksJ19_checkLength_0 0 rfl rfl)
theorem dJ19_checkLength_1 : decode cJ19_checkLength 1 = .ok (.iload_n 0, 1) := dk_26 (dk_at dksJ19_checkLength_0 1 rfl rfl)
theorem dJ19_checkLength_2 : decode cJ19_checkLength 2 = .ok (.if_icmp .ge 35, 3) := dk_162 0 35 (dk_at dksJ19_checkLength_0 2 rfl rfl)
theorem dJ19_checkLength_5 : decode cJ19_checkLength 5 = .ok (.new 43, 3) := dk_187 0 43 (dk_at dksJ19_checkLength_0 5 rfl rfl)
theorem dJ19_checkLength_8 : decode cJ19_checkLength 8 = .ok (.dup, 1) := dk_89 (dk_at dksJ19_checkLength_0 8 rfl rfl)
theorem dJ19_checkLength_9 : decode cJ19_checkLength 9 = .ok (.new 45, 3) := dk_187 0 45 (dk_at dksJ19_checkLength_0 9 rfl rfl)
theorem dJ19_checkLength_12 : decode cJ19_checkLength 12 = .ok (.dup, 1) := dk_89 (dk_at dksJ19_checkLength_0 12 rfl rfl)
theorem dJ19_checkLength_13 : decode cJ19_checkLength 13 = .ok (.invokespecial 47, 3) := dk_183 0 47 (dk_at dksJ19_checkLength_0 13 rfl rfl)
theorem dJ19_checkLength_16 : decode cJ19_checkLength 16 = .ok (.iload_n 0, 1) := dk_26 (dk_at dksJ19_checkLength_0 16 rfl rfl)
theorem dJ19_checkLength_17 : decode cJ19_checkLength 17 = .ok (.invokevirtual 54, 3) := dk_182 0 54 (dk_at dksJ19_checkLength_0 17 rfl rfl)
theorem dJ19_checkLength_20 : decode cJ19_checkLength 20 = .ok (.ldc_w 337, 3) := dk_19 1 81 (dk_at dksJ19_checkLength_0 20 rfl rfl)
theorem dJ19_checkLength_23 : decode cJ19_checkLength 23 = .ok (.invokevirtual 50, 3) := dk_182 0 50 (dk_at dksJ19_checkLength_1 0 rfl rfl)
theorem dJ19_checkLength_26 : decode cJ19_checkLength 26 = .ok (.iload_n 1, 1) := dk_27 (dk_at dksJ19_checkLength_1 3 rfl rfl)
theorem dJ19_checkLength_27 : decode cJ19_checkLength 27 = .ok (.invokevirtual 54, 3) := dk_182 0 54 (dk_at dksJ19_checkLength_1 4 rfl rfl)
theorem dJ19_checkLength_30 : decode cJ19_checkLength 30 = .ok (.invokevirtual 61, 3) := dk_182 0 61 (dk_at dksJ19_checkLength_1 7 rfl rfl)
theorem dJ19_checkLength_33 : decode cJ19_checkLength 33 = .ok (.invokespecial 65, 3) := dk_183 0 65 (dk_at dksJ19_checkLength_1 10 rfl rfl)
theorem dJ19_checkLength_36 : decode cJ19_checkLength 36 = .ok (.athrow, 1) := dk_191 (dk_at dksJ19_checkLength_1 13 rfl rfl)
theorem dJ19_checkLength_37 : decode cJ19_checkLength 37 = .ok (.return_, 1) := dk_177 (dk_at dksJ19_checkLength_1 14 rfl rfl)
abbrev cJ19_fill : ByteArray := prog_49_method_110_code
def yJ19_fill : MethodName := ⟨RJ19, "fill", "([BIIB)V"⟩
def dkwJ19_fill_1 : List UInt8 := [167, 255, 242, 177]
abbrev dktJ19_fill_1 : List UInt8 := dkwJ19_fill_1 ++ []
def dkwJ19_fill_0 : List UInt8 := [42, 190, 27, 28, 184, 0, 13, 27, 54, 4, 21, 4, 28, 162, 0, 14, 42, 21, 4, 29, 84, 132, 4, 1]
abbrev dktJ19_fill_0 : List UInt8 := dkwJ19_fill_0 ++ dktJ19_fill_1
theorem dksJ19_fill_0 : cJ19_fill.data.toList.drop 0 = dktJ19_fill_0 := by decide +kernel
theorem dksJ19_fill_1 : cJ19_fill.data.toList.drop 24 = dktJ19_fill_1 := dk_seg dksJ19_fill_0 24 rfl rfl
theorem dJ19_fill_0 : decode cJ19_fill 0 = .ok (.aload_n 0, 1) := dk_42 (dk_at dksJ19_fill_0 0 rfl rfl)
theorem dJ19_fill_1 : decode cJ19_fill 1 = .ok (.arraylength, 1) := dk_190 (dk_at dksJ19_fill_0 1 rfl rfl)
theorem dJ19_fill_2 : decode cJ19_fill 2 = .ok (.iload_n 1, 1) := dk_27 (dk_at dksJ19_fill_0 2 rfl rfl)
theorem dJ19_fill_3 : decode cJ19_fill 3 = .ok (.iload_n 2, 1) := dk_28 (dk_at dksJ19_fill_0 3 rfl rfl)
theorem dJ19_fill_4 : decode cJ19_fill 4 = .ok (.invokestatic 13, 3) := dk_184 0 13 (dk_at dksJ19_fill_0 4 rfl rfl)
theorem dJ19_fill_7 : decode cJ19_fill 7 = .ok (.iload_n 1, 1) := dk_27 (dk_at dksJ19_fill_0 7 rfl rfl)
theorem dJ19_fill_8 : decode cJ19_fill 8 = .ok (.istore 4, 2) := dk_54 4 (dk_at dksJ19_fill_0 8 rfl rfl)
theorem dJ19_fill_10 : decode cJ19_fill 10 = .ok (.iload 4, 2) := dk_21 4 (dk_at dksJ19_fill_0 10 rfl rfl)
theorem dJ19_fill_12 : decode cJ19_fill 12 = .ok (.iload_n 2, 1) := dk_28 (dk_at dksJ19_fill_0 12 rfl rfl)
theorem dJ19_fill_13 : decode cJ19_fill 13 = .ok (.if_icmp .ge 14, 3) := dk_162 0 14 (dk_at dksJ19_fill_0 13 rfl rfl)
theorem dJ19_fill_16 : decode cJ19_fill 16 = .ok (.aload_n 0, 1) := dk_42 (dk_at dksJ19_fill_0 16 rfl rfl)
theorem dJ19_fill_17 : decode cJ19_fill 17 = .ok (.iload 4, 2) := dk_21 4 (dk_at dksJ19_fill_0 17 rfl rfl)
theorem dJ19_fill_19 : decode cJ19_fill 19 = .ok (.iload_n 3, 1) := dk_29 (dk_at dksJ19_fill_0 19 rfl rfl)
theorem dJ19_fill_20 : decode cJ19_fill 20 = .ok (.bastore, 1) := dk_84 (dk_at dksJ19_fill_0 20 rfl rfl)
theorem dJ19_fill_21 : decode cJ19_fill 21 = .ok (.iinc 4 1, 3) := dk_132 4 1 (dk_at dksJ19_fill_0 21 rfl rfl)
theorem dJ19_fill_24 : decode cJ19_fill 24 = .ok (.goto (-14), 3) := dk_167 255 242 (dk_at dksJ19_fill_1 0 rfl rfl)
theorem dJ19_fill_27 : decode cJ19_fill 27 = .ok (.return_, 1) := dk_177 (dk_at dksJ19_fill_1 3 rfl rfl)
abbrev cJ19_rangeCheck : ByteArray := prog_49_method_30_code
def yJ19_rangeCheck : MethodName := ⟨RJ19, "rangeCheck", "(III)V"⟩
def dkwJ19_rangeCheck_3 : List UInt8 := [183, 0, 70, 191, 177]
abbrev dktJ19_rangeCheck_3 : List UInt8 := dkwJ19_rangeCheck_3 ++ []
def dkwJ19_rangeCheck_2 : List UInt8 := [27, 156, 0, 12, 187, 0, 68, 89, 27, 183, 0, 70, 191, 28, 26, 164, 0, 12, 187, 0, 68, 89, 28]
abbrev dktJ19_rangeCheck_2 : List UInt8 := dkwJ19_rangeCheck_2 ++ dktJ19_rangeCheck_3
def dkwJ19_rangeCheck_1 : List UInt8 := [182, 0, 54, 18, 57, 182, 0, 50, 28, 182, 0, 54, 18, 59, 182, 0, 50, 182, 0, 61, 183, 0, 65, 191]
abbrev dktJ19_rangeCheck_1 : List UInt8 := dkwJ19_rangeCheck_1 ++ dktJ19_rangeCheck_2
def dkwJ19_rangeCheck_0 : List UInt8 := [27, 28, 164, 0, 44, 187, 0, 43, 89, 187, 0, 45, 89, 183, 0, 47, 18, 48, 182, 0, 50, 27]
abbrev dktJ19_rangeCheck_0 : List UInt8 := dkwJ19_rangeCheck_0 ++ dktJ19_rangeCheck_1
theorem dksJ19_rangeCheck_0 : cJ19_rangeCheck.data.toList.drop 0 = dktJ19_rangeCheck_0 := by decide +kernel
theorem dksJ19_rangeCheck_1 : cJ19_rangeCheck.data.toList.drop 22 = dktJ19_rangeCheck_1 := dk_seg dksJ19_rangeCheck_0 22 rfl rfl
theorem dksJ19_rangeCheck_2 : cJ19_rangeCheck.data.toList.drop 46 = dktJ19_rangeCheck_2 := dk_seg dksJ19_rangeCheck_1 24 rfl rfl
theorem dksJ19_rangeCheck_3 : cJ19_rangeCheck.data.toList.drop 69 = dktJ19_rangeCheck_3 := dk_seg dksJ19_rangeCheck_2 23 rfl rfl
theorem dJ19_rangeCheck_0 : decode cJ19_rangeCheck 0 = .ok (.iload_n 1, 1) := dk_27 (dk_at dksJ19_rangeCheck_0 0 rfl rfl)
theorem dJ19_rangeCheck_1 : decode cJ19_rangeCheck 1 = .ok (.iload_n 2, 1) := dk_28 (dk_at dksJ19_rangeCheck_0 1 rfl rfl)
theorem dJ19_rangeCheck_2 : decode cJ19_rangeCheck 2 = .ok (.if_icmp .le 44, 3) := dk_164 0 44 (dk_at dksJ19_rangeCheck_0 2 rfl rfl)
theorem dJ19_rangeCheck_5 : decode cJ19_rangeCheck 5 = .ok (.new 43, 3) := dk_187 0 43 (dk_at dksJ19_rangeCheck_0 5 rfl rfl)
theorem dJ19_rangeCheck_8 : decode cJ19_rangeCheck 8 = .ok (.dup, 1) := dk_89 (dk_at dksJ19_rangeCheck_0 8 rfl rfl)
theorem dJ19_rangeCheck_9 : decode cJ19_rangeCheck 9 = .ok (.new 45, 3) := dk_187 0 45 (dk_at dksJ19_rangeCheck_0 9 rfl rfl)
theorem dJ19_rangeCheck_12 : decode cJ19_rangeCheck 12 = .ok (.dup, 1) := dk_89 (dk_at dksJ19_rangeCheck_0 12 rfl rfl)
theorem dJ19_rangeCheck_13 : decode cJ19_rangeCheck 13 = .ok (.invokespecial 47, 3) := dk_183 0 47 (dk_at dksJ19_rangeCheck_0 13 rfl rfl)
theorem dJ19_rangeCheck_16 : decode cJ19_rangeCheck 16 = .ok (.ldc 48, 2) := dk_18 48 (dk_at dksJ19_rangeCheck_0 16 rfl rfl)
theorem dJ19_rangeCheck_18 : decode cJ19_rangeCheck 18 = .ok (.invokevirtual 50, 3) := dk_182 0 50 (dk_at dksJ19_rangeCheck_0 18 rfl rfl)
theorem dJ19_rangeCheck_21 : decode cJ19_rangeCheck 21 = .ok (.iload_n 1, 1) := dk_27 (dk_at dksJ19_rangeCheck_0 21 rfl rfl)
theorem dJ19_rangeCheck_22 : decode cJ19_rangeCheck 22 = .ok (.invokevirtual 54, 3) := dk_182 0 54 (dk_at dksJ19_rangeCheck_1 0 rfl rfl)
theorem dJ19_rangeCheck_25 : decode cJ19_rangeCheck 25 = .ok (.ldc 57, 2) := dk_18 57 (dk_at dksJ19_rangeCheck_1 3 rfl rfl)
theorem dJ19_rangeCheck_27 : decode cJ19_rangeCheck 27 = .ok (.invokevirtual 50, 3) := dk_182 0 50 (dk_at dksJ19_rangeCheck_1 5 rfl rfl)
theorem dJ19_rangeCheck_30 : decode cJ19_rangeCheck 30 = .ok (.iload_n 2, 1) := dk_28 (dk_at dksJ19_rangeCheck_1 8 rfl rfl)
theorem dJ19_rangeCheck_31 : decode cJ19_rangeCheck 31 = .ok (.invokevirtual 54, 3) := dk_182 0 54 (dk_at dksJ19_rangeCheck_1 9 rfl rfl)
theorem dJ19_rangeCheck_34 : decode cJ19_rangeCheck 34 = .ok (.ldc 59, 2) := dk_18 59 (dk_at dksJ19_rangeCheck_1 12 rfl rfl)
theorem dJ19_rangeCheck_36 : decode cJ19_rangeCheck 36 = .ok (.invokevirtual 50, 3) := dk_182 0 50 (dk_at dksJ19_rangeCheck_1 14 rfl rfl)
theorem dJ19_rangeCheck_39 : decode cJ19_rangeCheck 39 = .ok (.invokevirtual 61, 3) := dk_182 0 61 (dk_at dksJ19_rangeCheck_1 17 rfl rfl)
theorem dJ19_rangeCheck_42 : decode cJ19_rangeCheck 42 = .ok (.invokespecial 65, 3) := dk_183 0 65 (dk_at dksJ19_rangeCheck_1 20 rfl rfl)
theorem dJ19_rangeCheck_45 : decode cJ19_rangeCheck 45 = .ok (.athrow, 1) := dk_191 (dk_at dksJ19_rangeCheck_1 23 rfl rfl)
theorem dJ19_rangeCheck_46 : decode cJ19_rangeCheck 46 = .ok (.iload_n 1, 1) := dk_27 (dk_at dksJ19_rangeCheck_2 0 rfl rfl)
theorem dJ19_rangeCheck_47 : decode cJ19_rangeCheck 47 = .ok (.ifCond .ge 12, 3) := dk_156 0 12 (dk_at dksJ19_rangeCheck_2 1 rfl rfl)
theorem dJ19_rangeCheck_50 : decode cJ19_rangeCheck 50 = .ok (.new 68, 3) := dk_187 0 68 (dk_at dksJ19_rangeCheck_2 4 rfl rfl)
theorem dJ19_rangeCheck_53 : decode cJ19_rangeCheck 53 = .ok (.dup, 1) := dk_89 (dk_at dksJ19_rangeCheck_2 7 rfl rfl)
theorem dJ19_rangeCheck_54 : decode cJ19_rangeCheck 54 = .ok (.iload_n 1, 1) := dk_27 (dk_at dksJ19_rangeCheck_2 8 rfl rfl)
theorem dJ19_rangeCheck_55 : decode cJ19_rangeCheck 55 = .ok (.invokespecial 70, 3) := dk_183 0 70 (dk_at dksJ19_rangeCheck_2 9 rfl rfl)
theorem dJ19_rangeCheck_58 : decode cJ19_rangeCheck 58 = .ok (.athrow, 1) := dk_191 (dk_at dksJ19_rangeCheck_2 12 rfl rfl)
theorem dJ19_rangeCheck_59 : decode cJ19_rangeCheck 59 = .ok (.iload_n 2, 1) := dk_28 (dk_at dksJ19_rangeCheck_2 13 rfl rfl)
theorem dJ19_rangeCheck_60 : decode cJ19_rangeCheck 60 = .ok (.iload_n 0, 1) := dk_26 (dk_at dksJ19_rangeCheck_2 14 rfl rfl)
theorem dJ19_rangeCheck_61 : decode cJ19_rangeCheck 61 = .ok (.if_icmp .le 12, 3) := dk_164 0 12 (dk_at dksJ19_rangeCheck_2 15 rfl rfl)
theorem dJ19_rangeCheck_64 : decode cJ19_rangeCheck 64 = .ok (.new 68, 3) := dk_187 0 68 (dk_at dksJ19_rangeCheck_2 18 rfl rfl)
theorem dJ19_rangeCheck_67 : decode cJ19_rangeCheck 67 = .ok (.dup, 1) := dk_89 (dk_at dksJ19_rangeCheck_2 21 rfl rfl)
theorem dJ19_rangeCheck_68 : decode cJ19_rangeCheck 68 = .ok (.iload_n 2, 1) := dk_28 (dk_at dksJ19_rangeCheck_2 22 rfl rfl)
theorem dJ19_rangeCheck_69 : decode cJ19_rangeCheck 69 = .ok (.invokespecial 70, 3) := dk_183 0 70 (dk_at dksJ19_rangeCheck_3 0 rfl rfl)
theorem dJ19_rangeCheck_72 : decode cJ19_rangeCheck 72 = .ok (.athrow, 1) := dk_191 (dk_at dksJ19_rangeCheck_3 3 rfl rfl)
theorem dJ19_rangeCheck_73 : decode cJ19_rangeCheck 73 = .ok (.return_, 1) := dk_177 (dk_at dksJ19_rangeCheck_3 4 rfl rfl)
theorem q103 : (Jvm.Cond.initialized "java/util/Arrays") ∈ lw_all := lw_g (lw_at lw_m1 25 rfl) rfl
theorem q396 : (Jvm.Cond.static ({ cls := "java/util/Arrays", name := "copyOf", desc := "([Ljava/lang/Object;I)[Ljava/lang/Object;" } : Jvm.MethodName)) ∈ lw_all := lw_g (lw_at lw_m2 78 rfl) rfl
theorem q397 : (Jvm.Cond.code ({ cls := "java/util/Arrays", name := "copyOf", desc := "([Ljava/lang/Object;I)[Ljava/lang/Object;" } : Jvm.MethodName) prog_49_method_119_code (2 : Nat) (Option.some (Jvm.ClassFile.FieldType.array (Jvm.ClassFile.FieldType.object "java/lang/Object")))) ∈ lw_all := lw_g (lw_at lw_m2 79 rfl) rfl
theorem q398 : (Jvm.Cond.methodLink "java/util/Arrays" (86 : Nat) ({ cls := "java/lang/Object", name := "getClass", desc := "()Ljava/lang/Class;" } : Jvm.MethodName)) ∈ lw_all := lw_g (lw_at lw_m2 80 rfl) rfl
theorem q427 : (Jvm.Cond.methodLink "java/util/Arrays" (300 : Nat) ({ cls := "java/util/Arrays", name := "copyOf", desc := "([Ljava/lang/Object;ILjava/lang/Class;)[Ljava/lang/Object;" } : Jvm.MethodName)) ∈ lw_all := lw_g (lw_at lw_m2 109 rfl) rfl
theorem q428 : (Jvm.Cond.static ({ cls := "java/util/Arrays", name := "copyOf", desc := "([Ljava/lang/Object;ILjava/lang/Class;)[Ljava/lang/Object;" } : Jvm.MethodName)) ∈ lw_all := lw_g (lw_at lw_m2 110 rfl) rfl
theorem q429 : (Jvm.Cond.code ({ cls := "java/util/Arrays", name := "copyOf", desc := "([Ljava/lang/Object;ILjava/lang/Class;)[Ljava/lang/Object;" } : Jvm.MethodName) prog_49_method_120_code (4 : Nat) (Option.some (Jvm.ClassFile.FieldType.array (Jvm.ClassFile.FieldType.object "java/lang/Object")))) ∈ lw_all := lw_g (lw_at lw_m2 111 rfl) rfl
theorem q430 : (Jvm.Cond.classLink "java/util/Arrays" (110 : Nat) "[Ljava/lang/Object;") ∈ lw_all := lw_g (lw_at lw_m2 112 rfl) rfl
theorem q431 : (Jvm.Cond.classLink "java/util/Arrays" (2 : Nat) "java/lang/Object") ∈ lw_all := lw_g (lw_at lw_m2 113 rfl) rfl
theorem q432 : (Jvm.Cond.methodLink "java/util/Arrays" (304 : Nat) ({ cls := "java/lang/Math", name := "min", desc := "(II)I" } : Jvm.MethodName)) ∈ lw_all := lw_g (lw_at lw_m2 114 rfl) rfl
theorem q435 : (Jvm.Cond.methodLink "java/util/Arrays" (150 : Nat) ({ cls := "java/lang/System", name := "arraycopy", desc := "(Ljava/lang/Object;ILjava/lang/Object;II)V" } : Jvm.MethodName)) ∈ lw_all := lw_g (lw_at lw_m2 117 rfl) rfl
theorem q1336 : (Jvm.Cond.static ({ cls := "java/util/Arrays", name := "copyOf", desc := "([BI)[B" } : Jvm.MethodName)) ∈ lw_all := lw_g (lw_at lw_m6 58 rfl) rfl
theorem q1337 : (Jvm.Cond.code ({ cls := "java/util/Arrays", name := "copyOf", desc := "([BI)[B" } : Jvm.MethodName) prog_49_method_121_code (3 : Nat) (Option.some (Jvm.ClassFile.FieldType.array Jvm.ClassFile.FieldType.byte))) ∈ lw_all := lw_g (lw_at lw_m6 59 rfl) rfl
theorem q1338 : (Jvm.Cond.methodLink "java/util/Arrays" (310 : Nat) ({ cls := "[B", name := "clone", desc := "()Ljava/lang/Object;" } : Jvm.MethodName)) ∈ lw_all := lw_g (lw_at lw_m6 60 rfl) rfl
theorem q1342 : (Jvm.Cond.classLink "java/util/Arrays" (311 : Nat) "[B") ∈ lw_all := lw_g (lw_at lw_m6 64 rfl) rfl
theorem q1439 : (Jvm.Cond.static ({ cls := "java/util/Arrays", name := "copyOfRange", desc := "([BII)[B" } : Jvm.MethodName)) ∈ lw_all := lw_g (lw_at lw_m6 161 rfl) rfl
theorem q1440 : (Jvm.Cond.code ({ cls := "java/util/Arrays", name := "copyOfRange", desc := "([BII)[B" } : Jvm.MethodName) prog_49_method_132_code (3 : Nat) (Option.some (Jvm.ClassFile.FieldType.array Jvm.ClassFile.FieldType.byte))) ∈ lw_all := lw_g (lw_at lw_m6 162 rfl) rfl
theorem q1441 : (Jvm.Cond.methodLink "java/util/Arrays" (339 : Nat) ({ cls := "java/util/Arrays", name := "copyOfRangeByte", desc := "([BII)[B" } : Jvm.MethodName)) ∈ lw_all := lw_g (lw_at lw_m6 163 rfl) rfl
theorem q1442 : (Jvm.Cond.static ({ cls := "java/util/Arrays", name := "copyOfRangeByte", desc := "([BII)[B" } : Jvm.MethodName)) ∈ lw_all := lw_g (lw_at lw_m6 164 rfl) rfl
theorem q1443 : (Jvm.Cond.code ({ cls := "java/util/Arrays", name := "copyOfRangeByte", desc := "([BII)[B" } : Jvm.MethodName) prog_49_method_133_code (5 : Nat) (Option.some (Jvm.ClassFile.FieldType.array Jvm.ClassFile.FieldType.byte))) ∈ lw_all := lw_g (lw_at lw_m6 165 rfl) rfl
theorem q1444 : (Jvm.Cond.methodLink "java/util/Arrays" (343 : Nat) ({ cls := "java/util/Arrays", name := "checkLength", desc := "(II)V" } : Jvm.MethodName)) ∈ lw_all := lw_g (lw_at lw_m6 166 rfl) rfl
theorem q1445 : (Jvm.Cond.static ({ cls := "java/util/Arrays", name := "checkLength", desc := "(II)V" } : Jvm.MethodName)) ∈ lw_all := lw_g (lw_at lw_m6 167 rfl) rfl
theorem q1446 : (Jvm.Cond.code ({ cls := "java/util/Arrays", name := "checkLength", desc := "(II)V" } : Jvm.MethodName) prog_49_method_131_code (2 : Nat) (Option.none : Option Jvm.ClassFile.FieldType)) ∈ lw_all := lw_g (lw_at lw_m6 168 rfl) rfl
theorem q1447 : (Jvm.Cond.classLink "java/util/Arrays" (43 : Nat) "java/lang/IllegalArgumentException") ∈ lw_all := lw_g (lw_at lw_m6 169 rfl) rfl
theorem q1448 : (Jvm.Cond.classLink "java/util/Arrays" (45 : Nat) "java/lang/StringBuilder") ∈ lw_all := lw_g (lw_at lw_m6 170 rfl) rfl
theorem q1449 : (Jvm.Cond.methodLink "java/util/Arrays" (47 : Nat) ({ cls := "java/lang/StringBuilder", name := "<init>", desc := "()V" } : Jvm.MethodName)) ∈ lw_all := lw_g (lw_at lw_m6 171 rfl) rfl
theorem q1450 : (Jvm.Cond.methodLink "java/util/Arrays" (54 : Nat) ({ cls := "java/lang/StringBuilder", name := "append", desc := "(I)Ljava/lang/StringBuilder;" } : Jvm.MethodName)) ∈ lw_all := lw_g (lw_at lw_m6 172 rfl) rfl
theorem q1451 : (Jvm.Cond.stringRef "java/util/Arrays" (337 : Nat) " > ") ∈ lw_tbl := lw_at lw_m6 173 rfl
theorem q1452 : (Jvm.Cond.methodLink "java/util/Arrays" (50 : Nat) ({ cls := "java/lang/StringBuilder", name := "append", desc := "(Ljava/lang/String;)Ljava/lang/StringBuilder;" } : Jvm.MethodName)) ∈ lw_all := lw_g (lw_at lw_m6 174 rfl) rfl
theorem q1453 : (Jvm.Cond.methodLink "java/util/Arrays" (61 : Nat) ({ cls := "java/lang/StringBuilder", name := "toString", desc := "()Ljava/lang/String;" } : Jvm.MethodName)) ∈ lw_all := lw_g (lw_at lw_m6 175 rfl) rfl
theorem q1454 : (Jvm.Cond.methodLink "java/util/Arrays" (65 : Nat) ({ cls := "java/lang/IllegalArgumentException", name := "<init>", desc := "(Ljava/lang/String;)V" } : Jvm.MethodName)) ∈ lw_all := lw_g (lw_at lw_m6 176 rfl) rfl
theorem q1494 : (Jvm.Cond.static ({ cls := "java/util/Arrays", name := "fill", desc := "([BIIB)V" } : Jvm.MethodName)) ∈ lw_all := lw_g (lw_at lw_m6 216 rfl) rfl
theorem q1495 : (Jvm.Cond.code ({ cls := "java/util/Arrays", name := "fill", desc := "([BIIB)V" } : Jvm.MethodName) prog_49_method_110_code (5 : Nat) (Option.none : Option Jvm.ClassFile.FieldType)) ∈ lw_all := lw_g (lw_at lw_m6 217 rfl) rfl
theorem q1496 : (Jvm.Cond.methodLink "java/util/Arrays" (13 : Nat) ({ cls := "java/util/Arrays", name := "rangeCheck", desc := "(III)V" } : Jvm.MethodName)) ∈ lw_all := lw_g (lw_at lw_m6 218 rfl) rfl
theorem q1497 : (Jvm.Cond.static ({ cls := "java/util/Arrays", name := "rangeCheck", desc := "(III)V" } : Jvm.MethodName)) ∈ lw_all := lw_g (lw_at lw_m6 219 rfl) rfl
theorem q1498 : (Jvm.Cond.code ({ cls := "java/util/Arrays", name := "rangeCheck", desc := "(III)V" } : Jvm.MethodName) prog_49_method_30_code (3 : Nat) (Option.none : Option Jvm.ClassFile.FieldType)) ∈ lw_all := lw_g (lw_at lw_m6 220 rfl) rfl
theorem q1499 : (Jvm.Cond.stringRef "java/util/Arrays" (48 : Nat) "fromIndex(") ∈ lw_tbl := lw_at lw_m6 221 rfl
theorem q1500 : (Jvm.Cond.stringRef "java/util/Arrays" (57 : Nat) ") > toIndex(") ∈ lw_tbl := lw_at lw_m6 222 rfl
theorem q1501 : (Jvm.Cond.stringRef "java/util/Arrays" (59 : Nat) ")") ∈ lw_tbl := lw_at lw_m6 223 rfl
theorem q1502 : (Jvm.Cond.classLink "java/util/Arrays" (68 : Nat) "java/lang/ArrayIndexOutOfBoundsException") ∈ lw_all := lw_g (lw_at lw_m6 224 rfl) rfl
theorem q1513 : (Jvm.Cond.methodLink "java/util/Arrays" (70 : Nat) ({ cls := "java/lang/ArrayIndexOutOfBoundsException", name := "<init>", desc := "(I)V" } : Jvm.MethodName)) ∈ lw_all := lw_g (lw_at lw_m6 235 rfl) rfl

/-! java/util/AbstractQueue -/
set_option maxRecDepth 100000
def RJ20 : String := "java/util/AbstractQueue"
abbrev cJ20_init : ByteArray := prog_45_method_1_code
def yJ20_init : MethodName := ⟨RJ20, "<init>", "()V"⟩
theorem dJ20_init_0 : decode cJ20_init 0 = .ok (.aload_n 0, 1) := by decide +kernel
theorem dJ20_init_1 : decode cJ20_init 1 = .ok (.invokespecial 1, 3) := by decide +kernel
theorem dJ20_init_4 : decode cJ20_init 4 = .ok (.return_, 1) := by decide +kernel
theorem q106 : (Jvm.Cond.initialized "java/util/AbstractQueue") ∈ lw_all := lw_g (lw_at lw_m1 28 rfl) rfl
theorem q1030 : (Jvm.Cond.instanceMethod ({ cls := "java/util/AbstractQueue", name := "<init>", desc := "()V" } : Jvm.MethodName)) ∈ lw_all := lw_g (lw_at lw_m4 232 rfl) rfl
theorem q1031 : (Jvm.Cond.code ({ cls := "java/util/AbstractQueue", name := "<init>", desc := "()V" } : Jvm.MethodName) prog_45_method_1_code (1 : Nat) (Option.none : Option Jvm.ClassFile.FieldType)) ∈ lw_all := lw_g (lw_at lw_m4 233 rfl) rfl
theorem q1032 : (Jvm.Cond.methodLink "java/util/AbstractQueue" (1 : Nat) ({ cls := "java/util/AbstractCollection", name := "<init>", desc := "()V" } : Jvm.MethodName)) ∈ lw_all := lw_g (lw_at lw_m4 234 rfl) rfl

/-! java/util/PriorityQueue -/
set_option maxRecDepth 100000
def RJ21 : String := "java/util/PriorityQueue"
def TJ21 : u_T := fun k => match k with
  | 0 => ("java/util/PriorityQueue", "queue", "[Ljava/lang/Object;", false)
  | 1 => ("java/util/PriorityQueue", "size", "I", false)
  | 2 => ("java/util/PriorityQueue", "comparator", "Ljava/util/Comparator;", true)
  | _ => ("java/util/PriorityQueue", "modCount", "I", false)
def tyJ21 : Nat → FieldType := fun k => match k with
  | 0 => .array (.object "java/lang/Object")
  | 1 => .int
  | 2 => .object "java/util/Comparator"
  | _ => .int
abbrev wsJ210 : List Cond := u_ws RJ21 TJ21 4
theorem nmJ21 : ∀ a, a < 4 → ∀ b, b < 4 → a ≠ b → (TJ21 a).2.1 ≠ (TJ21 b).2.1 := by decide +kernel
theorem tyJ21_ok : ∀ k, k < 4 → parseFieldDescriptor (TJ21 k).2.2.1 = some (tyJ21 k) := by decide +kernel
abbrev cJ21_init : ByteArray := prog_60_method_4_code
def yJ21_init : MethodName := ⟨RJ21, "<init>", "(ILjava/util/Comparator;)V"⟩
def dkwJ21_init_1 : List UInt8 := [181, 0, 17, 42, 44, 181, 0, 21, 177]
abbrev dktJ21_init_1 : List UInt8 := dkwJ21_init_1 ++ []
def dkwJ21_init_0 : List UInt8 := [42, 183, 0, 7, 27, 4, 162, 0, 11, 187, 0, 12, 89, 183, 0, 14, 191, 42, 27, 189, 0, 15]
abbrev dktJ21_init_0 : List UInt8 := dkwJ21_init_0 ++ dktJ21_init_1
theorem dksJ21_init_0 : cJ21_init.data.toList.drop 0 = dktJ21_init_0 := by decide +kernel
theorem dksJ21_init_1 : cJ21_init.data.toList.drop 22 = dktJ21_init_1 := dk_seg dksJ21_init_0 22 rfl rfl
theorem dJ21_init_0 : decode cJ21_init 0 = .ok (.aload_n 0, 1) := dk_42 (dk_at dksJ21_init_0 0 rfl rfl)
theorem dJ21_init_1 : decode cJ21_init 1 = .ok (.invokespecial 7, 3) := dk_183 0 7 (dk_at dksJ21_init_0 1 rfl rfl)
theorem dJ21_init_4 : decode cJ21_init 4 = .ok (.iload_n 1, 1) := dk_27 (dk_at dksJ21_init_0 4 rfl rfl)
theorem dJ21_init_5 : decode cJ21_init 5 = .ok (.iconst 1, 1) := dk_4 (dk_at dksJ21_init_0 5 rfl rfl)
theorem dJ21_init_6 : decode cJ21_init 6 = .ok (.if_icmp .ge 11, 3) := dk_162 0 11 (dk_at dksJ21_init_0 6 rfl rfl)
theorem dJ21_init_9 : decode cJ21_init 9 = .ok (.new 12, 3) := dk_187 0 12 (dk_at dksJ21_init_0 9 rfl rfl)
theorem dJ21_init_12 : decode cJ21_init 12 = .ok (.dup, 1) := dk_89 (dk_at dksJ21_init_0 12 rfl rfl)
theorem dJ21_init_13 : decode cJ21_init 13 = .ok (.invokespecial 14, 3) := dk_183 0 14 (dk_at dksJ21_init_0 13 rfl rfl)
theorem dJ21_init_16 : decode cJ21_init 16 = .ok (.athrow, 1) := dk_191 (dk_at dksJ21_init_0 16 rfl rfl)
theorem dJ21_init_17 : decode cJ21_init 17 = .ok (.aload_n 0, 1) := dk_42 (dk_at dksJ21_init_0 17 rfl rfl)
theorem dJ21_init_18 : decode cJ21_init 18 = .ok (.iload_n 1, 1) := dk_27 (dk_at dksJ21_init_0 18 rfl rfl)
theorem dJ21_init_19 : decode cJ21_init 19 = .ok (.anewarray 15, 3) := dk_189 0 15 (dk_at dksJ21_init_0 19 rfl rfl)
theorem dJ21_init_22 : decode cJ21_init 22 = .ok (.putfield 17, 3) := dk_181 0 17 (dk_at dksJ21_init_1 0 rfl rfl)
theorem dJ21_init_25 : decode cJ21_init 25 = .ok (.aload_n 0, 1) := dk_42 (dk_at dksJ21_init_1 3 rfl rfl)
theorem dJ21_init_26 : decode cJ21_init 26 = .ok (.aload_n 2, 1) := dk_44 (dk_at dksJ21_init_1 4 rfl rfl)
theorem dJ21_init_27 : decode cJ21_init 27 = .ok (.putfield 21, 3) := dk_181 0 21 (dk_at dksJ21_init_1 5 rfl rfl)
theorem dJ21_init_30 : decode cJ21_init 30 = .ok (.return_, 1) := dk_177 (dk_at dksJ21_init_1 8 rfl rfl)
abbrev cJ21_add : ByteArray := prog_60_method_13_code
def yJ21_add : MethodName := ⟨RJ21, "add", "(Ljava/lang/Object;)Z"⟩
def dkwJ21_add_0 : List UInt8 := [42, 43, 182, 0, 89, 172]
abbrev dktJ21_add_0 : List UInt8 := dkwJ21_add_0 ++ []
theorem dksJ21_add_0 : cJ21_add.data.toList.drop 0 = dktJ21_add_0 := by decide +kernel
theorem dJ21_add_0 : decode cJ21_add 0 = .ok (.aload_n 0, 1) := dk_42 (dk_at dksJ21_add_0 0 rfl rfl)
theorem dJ21_add_1 : decode cJ21_add 1 = .ok (.aload_n 1, 1) := dk_43 (dk_at dksJ21_add_0 1 rfl rfl)
theorem dJ21_add_2 : decode cJ21_add 2 = .ok (.invokevirtual 89, 3) := dk_182 0 89 (dk_at dksJ21_add_0 2 rfl rfl)
theorem dJ21_add_5 : decode cJ21_add 5 = .ok (.ireturn, 1) := dk_172 (dk_at dksJ21_add_0 5 rfl rfl)
abbrev cJ21_offer : ByteArray := prog_60_method_14_code
def yJ21_offer : MethodName := ⟨RJ21, "offer", "(Ljava/lang/Object;)Z"⟩
def dkwJ21_offer_2 : List UInt8 := [182, 0, 100, 42, 28, 4, 96, 181, 0, 58, 4, 172]
abbrev dktJ21_offer_2 : List UInt8 := dkwJ21_offer_2 ++ []
def dkwJ21_offer_1 : List UInt8 := [180, 0, 58, 61, 28, 42, 180, 0, 17, 190, 161, 0, 10, 42, 28, 4, 96, 182, 0, 96, 42, 28, 43]
abbrev dktJ21_offer_1 : List UInt8 := dkwJ21_offer_1 ++ dktJ21_offer_2
def dkwJ21_offer_0 : List UInt8 := [43, 199, 0, 11, 187, 0, 74, 89, 183, 0, 76, 191, 42, 89, 180, 0, 93, 4, 96, 181, 0, 93, 42]
abbrev dktJ21_offer_0 : List UInt8 := dkwJ21_offer_0 ++ dktJ21_offer_1
theorem dksJ21_offer_0 : cJ21_offer.data.toList.drop 0 = dktJ21_offer_0 := by decide +kernel
theorem dksJ21_offer_1 : cJ21_offer.data.toList.drop 23 = dktJ21_offer_1 := dk_seg dksJ21_offer_0 23 rfl rfl
theorem dksJ21_offer_2 : cJ21_offer.data.toList.drop 46 = dktJ21_offer_2 := dk_seg dksJ21_offer_1 23 rfl rfl
theorem dJ21_offer_0 : decode cJ21_offer 0 = .ok (.aload_n 1, 1) := dk_43 (dk_at dksJ21_offer_0 0 rfl rfl)
theorem dJ21_offer_1 : decode cJ21_offer 1 = .ok (.ifnonnull 11, 3) := dk_199 0 11 (dk_at dksJ21_offer_0 1 rfl rfl)
theorem dJ21_offer_4 : decode cJ21_offer 4 = .ok (.new 74, 3) := dk_187 0 74 (dk_at dksJ21_offer_0 4 rfl rfl)
theorem dJ21_offer_7 : decode cJ21_offer 7 = .ok (.dup, 1) := dk_89 (dk_at dksJ21_offer_0 7 rfl rfl)
theorem dJ21_offer_8 : decode cJ21_offer 8 = .ok (.invokespecial 76, 3) := dk_183 0 76 (dk_at dksJ21_offer_0 8 rfl rfl)
theorem dJ21_offer_11 : decode cJ21_offer 11 = .ok (.athrow, 1) := dk_191 (dk_at dksJ21_offer_0 11 rfl rfl)
theorem dJ21_offer_12 : decode cJ21_offer 12 = .ok (.aload_n 0, 1) := dk_42 (dk_at dksJ21_offer_0 12 rfl rfl)
theorem dJ21_offer_13 : decode cJ21_offer 13 = .ok (.dup, 1) := dk_89 (dk_at dksJ21_offer_0 13 rfl rfl)
theorem dJ21_offer_14 : decode cJ21_offer 14 = .ok (.getfield 93, 3) := dk_180 0 93 (dk_at dksJ21_offer_0 14 rfl rfl)
theorem dJ21_offer_17 : decode cJ21_offer 17 = .ok (.iconst 1, 1) := dk_4 (dk_at dksJ21_offer_0 17 rfl rfl)
theorem dJ21_offer_18 : decode cJ21_offer 18 = .ok (.iadd, 1) := dk_96 (dk_at dksJ21_offer_0 18 rfl rfl)
theorem dJ21_offer_19 : decode cJ21_offer 19 = .ok (.putfield 93, 3) := dk_181 0 93 (dk_at dksJ21_offer_0 19 rfl rfl)
theorem dJ21_offer_22 : decode cJ21_offer 22 = .ok (.aload_n 0, 1) := dk_42 (dk_at dksJ21_offer_0 22 rfl rfl)
theorem dJ21_offer_23 : decode cJ21_offer 23 = .ok (.getfield 58, 3) := dk_180 0 58 (dk_at dksJ21_offer_1 0 rfl rfl)
theorem dJ21_offer_26 : decode cJ21_offer 26 = .ok (.istore_n 2, 1) := dk_61 (dk_at dksJ21_offer_1 3 rfl rfl)
theorem dJ21_offer_27 : decode cJ21_offer 27 = .ok (.iload_n 2, 1) := dk_28 (dk_at dksJ21_offer_1 4 rfl rfl)
theorem dJ21_offer_28 : decode cJ21_offer 28 = .ok (.aload_n 0, 1) := dk_42 (dk_at dksJ21_offer_1 5 rfl rfl)
theorem dJ21_offer_29 : decode cJ21_offer 29 = .ok (.getfield 17, 3) := dk_180 0 17 (dk_at dksJ21_offer_1 6 rfl rfl)
theorem dJ21_offer_32 : decode cJ21_offer 32 = .ok (.arraylength, 1) := dk_190 (dk_at dksJ21_offer_1 9 rfl rfl)
theorem dJ21_offer_33 : decode cJ21_offer 33 = .ok (.if_icmp .lt 10, 3) := dk_161 0 10 (dk_at dksJ21_offer_1 10 rfl rfl)
theorem dJ21_offer_36 : decode cJ21_offer 36 = .ok (.aload_n 0, 1) := dk_42 (dk_at dksJ21_offer_1 13 rfl rfl)
theorem dJ21_offer_37 : decode cJ21_offer 37 = .ok (.iload_n 2, 1) := dk_28 (dk_at dksJ21_offer_1 14 rfl rfl)
theorem dJ21_offer_38 : decode cJ21_offer 38 = .ok (.iconst 1, 1) := dk_4 (dk_at dksJ21_offer_1 15 rfl rfl)
theorem dJ21_offer_39 : decode cJ21_offer 39 = .ok (.iadd, 1) := dk_96 (dk_at dksJ21_offer_1 16 rfl rfl)
theorem dJ21_offer_40 : decode cJ21_offer 40 = .ok (.invokevirtual 96, 3) := dk_182 0 96 (dk_at dksJ21_offer_1 17 rfl rfl)
theorem dJ21_offer_43 : decode cJ21_offer 43 = .ok (.aload_n 0, 1) := dk_42 (dk_at dksJ21_offer_1 20 rfl rfl)
theorem dJ21_offer_44 : decode cJ21_offer 44 = .ok (.iload_n 2, 1) := dk_28 (dk_at dksJ21_offer_1 21 rfl rfl)
theorem dJ21_offer_45 : decode cJ21_offer 45 = .ok (.aload_n 1, 1) := dk_43 (dk_at dksJ21_offer_1 22 rfl rfl)
theorem dJ21_offer_46 : decode cJ21_offer 46 = .ok (.invokevirtual 100, 3) := dk_182 0 100 (dk_at dksJ21_offer_2 0 rfl rfl)
theorem dJ21_offer_49 : decode cJ21_offer 49 = .ok (.aload_n 0, 1) := dk_42 (dk_at dksJ21_offer_2 3 rfl rfl)
theorem dJ21_offer_50 : decode cJ21_offer 50 = .ok (.iload_n 2, 1) := dk_28 (dk_at dksJ21_offer_2 4 rfl rfl)
theorem dJ21_offer_51 : decode cJ21_offer 51 = .ok (.iconst 1, 1) := dk_4 (dk_at dksJ21_offer_2 5 rfl rfl)
theorem dJ21_offer_52 : decode cJ21_offer 52 = .ok (.iadd, 1) := dk_96 (dk_at dksJ21_offer_2 6 rfl rfl)
theorem dJ21_offer_53 : decode cJ21_offer 53 = .ok (.putfield 58, 3) := dk_181 0 58 (dk_at dksJ21_offer_2 7 rfl rfl)
theorem dJ21_offer_56 : decode cJ21_offer 56 = .ok (.iconst 1, 1) := dk_4 (dk_at dksJ21_offer_2 10 rfl rfl)
theorem dJ21_offer_57 : decode cJ21_offer 57 = .ok (.ireturn, 1) := dk_172 (dk_at dksJ21_offer_2 11 rfl rfl)
abbrev cJ21_grow : ByteArray := prog_60_method_12_code
def yJ21_grow : MethodName := ⟨RJ21, "grow", "(I)V"⟩
def dkwJ21_grow_1 : List UInt8 := [122, 184, 0, 80, 62, 42, 42, 180, 0, 17, 29, 184, 0, 86, 181, 0, 17, 177]
abbrev dktJ21_grow_1 : List UInt8 := dkwJ21_grow_1 ++ []
def dkwJ21_grow_0 : List UInt8 := [42, 180, 0, 17, 190, 61, 28, 27, 28, 100, 28, 16, 64, 162, 0, 9, 28, 5, 96, 167, 0, 6, 28, 4]
abbrev dktJ21_grow_0 : List UInt8 := dkwJ21_grow_0 ++ dktJ21_grow_1
theorem dksJ21_grow_0 : cJ21_grow.data.toList.drop 0 = dktJ21_grow_0 := by decide +kernel
theorem dksJ21_grow_1 : cJ21_grow.data.toList.drop 24 = dktJ21_grow_1 := dk_seg dksJ21_grow_0 24 rfl rfl
theorem dJ21_grow_0 : decode cJ21_grow 0 = .ok (.aload_n 0, 1) := dk_42 (dk_at dksJ21_grow_0 0 rfl rfl)
theorem dJ21_grow_1 : decode cJ21_grow 1 = .ok (.getfield 17, 3) := dk_180 0 17 (dk_at dksJ21_grow_0 1 rfl rfl)
theorem dJ21_grow_4 : decode cJ21_grow 4 = .ok (.arraylength, 1) := dk_190 (dk_at dksJ21_grow_0 4 rfl rfl)
theorem dJ21_grow_5 : decode cJ21_grow 5 = .ok (.istore_n 2, 1) := dk_61 (dk_at dksJ21_grow_0 5 rfl rfl)
theorem dJ21_grow_6 : decode cJ21_grow 6 = .ok (.iload_n 2, 1) := dk_28 (dk_at dksJ21_grow_0 6 rfl rfl)
theorem dJ21_grow_7 : decode cJ21_grow 7 = .ok (.iload_n 1, 1) := dk_27 (dk_at dksJ21_grow_0 7 rfl rfl)
theorem dJ21_grow_8 : decode cJ21_grow 8 = .ok (.iload_n 2, 1) := dk_28 (dk_at dksJ21_grow_0 8 rfl rfl)
theorem dJ21_grow_9 : decode cJ21_grow 9 = .ok (.isub, 1) := dk_100 (dk_at dksJ21_grow_0 9 rfl rfl)
theorem dJ21_grow_10 : decode cJ21_grow 10 = .ok (.iload_n 2, 1) := dk_28 (dk_at dksJ21_grow_0 10 rfl rfl)
theorem dJ21_grow_11 : decode cJ21_grow 11 = .ok (.bipush 64, 2) := dk_16 64 (dk_at dksJ21_grow_0 11 rfl rfl)
theorem dJ21_grow_13 : decode cJ21_grow 13 = .ok (.if_icmp .ge 9, 3) := dk_162 0 9 (dk_at dksJ21_grow_0 13 rfl rfl)
theorem dJ21_grow_16 : decode cJ21_grow 16 = .ok (.iload_n 2, 1) := dk_28 (dk_at dksJ21_grow_0 16 rfl rfl)
theorem dJ21_grow_17 : decode cJ21_grow 17 = .ok (.iconst 2, 1) := dk_5 (dk_at dksJ21_grow_0 17 rfl rfl)
theorem dJ21_grow_18 : decode cJ21_grow 18 = .ok (.iadd, 1) := dk_96 (dk_at dksJ21_grow_0 18 rfl rfl)
theorem dJ21_grow_19 : decode cJ21_grow 19 = .ok (.goto 6, 3) := dk_167 0 6 (dk_at dksJ21_grow_0 19 rfl rfl)
theorem dJ21_grow_22 : decode cJ21_grow 22 = .ok (.iload_n 2, 1) := dk_28 (dk_at dksJ21_grow_0 22 rfl rfl)
theorem dJ21_grow_23 : decode cJ21_grow 23 = .ok (.iconst 1, 1) := dk_4 (dk_at dksJ21_grow_0 23 rfl rfl)
theorem dJ21_grow_24 : decode cJ21_grow 24 = .ok (.ishr, 1) := dk_122 (dk_at dksJ21_grow_1 0 rfl rfl)
theorem dJ21_grow_25 : decode cJ21_grow 25 = .ok (.invokestatic 80, 3) := dk_184 0 80 (dk_at dksJ21_grow_1 1 rfl rfl)
theorem dJ21_grow_28 : decode cJ21_grow 28 = .ok (.istore_n 3, 1) := dk_62 (dk_at dksJ21_grow_1 4 rfl rfl)
theorem dJ21_grow_29 : decode cJ21_grow 29 = .ok (.aload_n 0, 1) := dk_42 (dk_at dksJ21_grow_1 5 rfl rfl)
theorem dJ21_grow_30 : decode cJ21_grow 30 = .ok (.aload_n 0, 1) := dk_42 (dk_at dksJ21_grow_1 6 rfl rfl)
theorem dJ21_grow_31 : decode cJ21_grow 31 = .ok (.getfield 17, 3) := dk_180 0 17 (dk_at dksJ21_grow_1 7 rfl rfl)
theorem dJ21_grow_34 : decode cJ21_grow 34 = .ok (.iload_n 3, 1) := dk_29 (dk_at dksJ21_grow_1 10 rfl rfl)
theorem dJ21_grow_35 : decode cJ21_grow 35 = .ok (.invokestatic 86, 3) := dk_184 0 86 (dk_at dksJ21_grow_1 11 rfl rfl)
theorem dJ21_grow_38 : decode cJ21_grow 38 = .ok (.putfield 17, 3) := dk_181 0 17 (dk_at dksJ21_grow_1 14 rfl rfl)
theorem dJ21_grow_41 : decode cJ21_grow 41 = .ok (.return_, 1) := dk_177 (dk_at dksJ21_grow_1 17 rfl rfl)
abbrev cJ21_siftUp : ByteArray := prog_60_method_27_code
def yJ21_siftUp : MethodName := ⟨RJ21, "siftUp", "(ILjava/lang/Object;)V"⟩
def dkwJ21_siftUp_1 : List UInt8 := [44, 42, 180, 0, 17, 184, 0, 140, 177]
abbrev dktJ21_siftUp_1 : List UInt8 := dkwJ21_siftUp_1 ++ []
def dkwJ21_siftUp_0 : List UInt8 := [42, 180, 0, 21, 198, 0, 19, 27, 44, 42, 180, 0, 17, 42, 180, 0, 21, 184, 0, 136, 167, 0, 12, 27]
abbrev dktJ21_siftUp_0 : List UInt8 := dkwJ21_siftUp_0 ++ dktJ21_siftUp_1
theorem dksJ21_siftUp_0 : cJ21_siftUp.data.toList.drop 0 = dktJ21_siftUp_0 := by decide +kernel
theorem dksJ21_siftUp_1 : cJ21_siftUp.data.toList.drop 24 = dktJ21_siftUp_1 := dk_seg dksJ21_siftUp_0 24 rfl rfl
theorem dJ21_siftUp_0 : decode cJ21_siftUp 0 = .ok (.aload_n 0, 1) := dk_42 (dk_at dksJ21_siftUp_0 0 rfl rfl)
theorem dJ21_siftUp_1 : decode cJ21_siftUp 1 = .ok (.getfield 21, 3) := dk_180 0 21 (dk_at dksJ21_siftUp_0 1 rfl rfl)
theorem dJ21_siftUp_4 : decode cJ21_siftUp 4 = .ok (.ifnull 19, 3) := dk_198 0 19 (dk_at dksJ21_siftUp_0 4 rfl rfl)
theorem dJ21_siftUp_7 : decode cJ21_siftUp 7 = .ok (.iload_n 1, 1) := dk_27 (dk_at dksJ21_siftUp_0 7 rfl rfl)
theorem dJ21_siftUp_8 : decode cJ21_siftUp 8 = .ok (.aload_n 2, 1) := dk_44 (dk_at dksJ21_siftUp_0 8 rfl rfl)
theorem dJ21_siftUp_9 : decode cJ21_siftUp 9 = .ok (.aload_n 0, 1) := dk_42 (dk_at dksJ21_siftUp_0 9 rfl rfl)
theorem dJ21_siftUp_10 : decode cJ21_siftUp 10 = .ok (.getfield 17, 3) := dk_180 0 17 (dk_at dksJ21_siftUp_0 10 rfl rfl)
theorem dJ21_siftUp_13 : decode cJ21_siftUp 13 = .ok (.aload_n 0, 1) := dk_42 (dk_at dksJ21_siftUp_0 13 rfl rfl)
theorem dJ21_siftUp_14 : decode cJ21_siftUp 14 = .ok (.getfield 21, 3) := dk_180 0 21 (dk_at dksJ21_siftUp_0 14 rfl rfl)
theorem dJ21_siftUp_17 : decode cJ21_siftUp 17 = .ok (.invokestatic 136, 3) := dk_184 0 136 (dk_at dksJ21_siftUp_0 17 rfl rfl)
theorem dJ21_siftUp_20 : decode cJ21_siftUp 20 = .ok (.goto 12, 3) := dk_167 0 12 (dk_at dksJ21_siftUp_0 20 rfl rfl)
theorem dJ21_siftUp_23 : decode cJ21_siftUp 23 = .ok (.iload_n 1, 1) := dk_27 (dk_at dksJ21_siftUp_0 23 rfl rfl)
theorem dJ21_siftUp_24 : decode cJ21_siftUp 24 = .ok (.aload_n 2, 1) := dk_44 (dk_at dksJ21_siftUp_1 0 rfl rfl)
theorem dJ21_siftUp_25 : decode cJ21_siftUp 25 = .ok (.aload_n 0, 1) := dk_42 (dk_at dksJ21_siftUp_1 1 rfl rfl)
theorem dJ21_siftUp_26 : decode cJ21_siftUp 26 = .ok (.getfield 17, 3) := dk_180 0 17 (dk_at dksJ21_siftUp_1 2 rfl rfl)
theorem dJ21_siftUp_29 : decode cJ21_siftUp 29 = .ok (.invokestatic 140, 3) := dk_184 0 140 (dk_at dksJ21_siftUp_1 5 rfl rfl)
theorem dJ21_siftUp_32 : decode cJ21_siftUp 32 = .ok (.return_, 1) := dk_177 (dk_at dksJ21_siftUp_1 8 rfl rfl)
abbrev cJ21_siftUpUsingComparator : ByteArray := prog_60_method_29_code
def yJ21_siftUpUsingComparator : MethodName := ⟨RJ21, "siftUpUsingComparator", "(ILjava/lang/Object;[Ljava/lang/Object;Ljava/util/Comparator;)V"⟩
def dkwJ21_siftUpUsingComparator_2 : List UInt8 := [43, 83, 177]
abbrev dktJ21_siftUpUsingComparator_2 : List UInt8 := dkwJ21_siftUpUsingComparator_2 ++ []
def dkwJ21_siftUpUsingComparator_1 : List UInt8 := [185, 0, 149, 3, 0, 155, 0, 6, 167, 0, 14, 44, 26, 25, 5, 83, 21, 4, 59, 167, 255, 216, 44, 26]
abbrev dktJ21_siftUpUsingComparator_1 : List UInt8 := dkwJ21_siftUpUsingComparator_1 ++ dktJ21_siftUpUsingComparator_2
def dkwJ21_siftUpUsingComparator_0 : List UInt8 := [26, 158, 0, 42, 26, 4, 100, 4, 124, 54, 4, 44, 21, 4, 50, 58, 5, 45, 43, 25, 5]
abbrev dktJ21_siftUpUsingComparator_0 : List UInt8 := dkwJ21_siftUpUsingComparator_0 ++ dktJ21_siftUpUsingComparator_1
theorem dksJ21_siftUpUsingComparator_0 : cJ21_siftUpUsingComparator.data.toList.drop 0 = dktJ21_siftUpUsingComparator_0 := by decide +kernel
theorem dksJ21_siftUpUsingComparator_1 : cJ21_siftUpUsingComparator.data.toList.drop 21 = dktJ21_siftUpUsingComparator_1 := dk_seg dksJ21_siftUpUsingComparator_0 21 rfl rfl
theorem dksJ21_siftUpUsingComparator_2 : cJ21_siftUpUsingComparator.data.toList.drop 45 = dktJ21_siftUpUsingComparator_2 := dk_seg dksJ21_siftUpUsingComparator_1 24 rfl rfl
theorem dJ21_siftUpUsingComparator_0 : decode cJ21_siftUpUsingComparator 0 = .ok (.iload_n 0, 1) := dk_26 (dk_at dksJ21_siftUpUsingComparator_0 0 rfl rfl)
theorem dJ21_siftUpUsingComparator_1 : decode cJ21_siftUpUsingComparator 1 = .ok (.ifCond .le 42, 3) := dk_158 0 42 (dk_at dksJ21_siftUpUsingComparator_0 1 rfl rfl)
theorem dJ21_siftUpUsingComparator_4 : decode cJ21_siftUpUsingComparator 4 = .ok (.iload_n 0, 1) := dk_26 (dk_at dksJ21_siftUpUsingComparator_0 4 rfl rfl)
theorem dJ21_siftUpUsingComparator_5 : decode cJ21_siftUpUsingComparator 5 = .ok (.iconst 1, 1) := dk_4 (dk_at dksJ21_siftUpUsingComparator_0 5 rfl rfl)
theorem dJ21_siftUpUsingComparator_6 : decode cJ21_siftUpUsingComparator 6 = .ok (.isub, 1) := dk_100 (dk_at dksJ21_siftUpUsingComparator_0 6 rfl rfl)
theorem dJ21_siftUpUsingComparator_7 : decode cJ21_siftUpUsingComparator 7 = .ok (.iconst 1, 1) := dk_4 (dk_at dksJ21_siftUpUsingComparator_0 7 rfl rfl)
theorem dJ21_siftUpUsingComparator_8 : decode cJ21_siftUpUsingComparator 8 = .ok (.iushr, 1) := dk_124 (dk_at dksJ21_siftUpUsingComparator_0 8 rfl rfl)
theorem dJ21_siftUpUsingComparator_9 : decode cJ21_siftUpUsingComparator 9 = .ok (.istore 4, 2) := dk_54 4 (dk_at dksJ21_siftUpUsingComparator_0 9 rfl rfl)
theorem dJ21_siftUpUsingComparator_11 : decode cJ21_siftUpUsingComparator 11 = .ok (.aload_n 2, 1) := dk_44 (dk_at dksJ21_siftUpUsingComparator_0 11 rfl rfl)
theorem dJ21_siftUpUsingComparator_12 : decode cJ21_siftUpUsingComparator 12 = .ok (.iload 4, 2) := dk_21 4 (dk_at dksJ21_siftUpUsingComparator_0 12 rfl rfl)
theorem dJ21_siftUpUsingComparator_14 : decode cJ21_siftUpUsingComparator 14 = .ok (.aaload, 1) := dk_50 (dk_at dksJ21_siftUpUsingComparator_0 14 rfl rfl)
theorem dJ21_siftUpUsingComparator_15 : decode cJ21_siftUpUsingComparator 15 = .ok (.astore 5, 2) := dk_58 5 (dk_at dksJ21_siftUpUsingComparator_0 15 rfl rfl)
theorem dJ21_siftUpUsingComparator_17 : decode cJ21_siftUpUsingComparator 17 = .ok (.aload_n 3, 1) := dk_45 (dk_at dksJ21_siftUpUsingComparator_0 17 rfl rfl)
theorem dJ21_siftUpUsingComparator_18 : decode cJ21_siftUpUsingComparator 18 = .ok (.aload_n 1, 1) := dk_43 (dk_at dksJ21_siftUpUsingComparator_0 18 rfl rfl)
theorem dJ21_siftUpUsingComparator_19 : decode cJ21_siftUpUsingComparator 19 = .ok (.aload 5, 2) := dk_25 5 (dk_at dksJ21_siftUpUsingComparator_0 19 rfl rfl)
theorem dJ21_siftUpUsingComparator_21 : decode cJ21_siftUpUsingComparator 21 = .ok (.invokeinterface 149 3, 5) := by decide +kernel
theorem dJ21_siftUpUsingComparator_26 : decode cJ21_siftUpUsingComparator 26 = .ok (.ifCond .lt 6, 3) := dk_155 0 6 (dk_at dksJ21_siftUpUsingComparator_1 5 rfl rfl)
theorem dJ21_siftUpUsingComparator_29 : decode cJ21_siftUpUsingComparator 29 = .ok (.goto 14, 3) := dk_167 0 14 (dk_at dksJ21_siftUpUsingComparator_1 8 rfl rfl)
theorem dJ21_siftUpUsingComparator_32 : decode cJ21_siftUpUsingComparator 32 = .ok (.aload_n 2, 1) := dk_44 (dk_at dksJ21_siftUpUsingComparator_1 11 rfl rfl)
theorem dJ21_siftUpUsingComparator_33 : decode cJ21_siftUpUsingComparator 33 = .ok (.iload_n 0, 1) := dk_26 (dk_at dksJ21_siftUpUsingComparator_1 12 rfl rfl)
theorem dJ21_siftUpUsingComparator_34 : decode cJ21_siftUpUsingComparator 34 = .ok (.aload 5, 2) := dk_25 5 (dk_at dksJ21_siftUpUsingComparator_1 13 rfl rfl)
theorem dJ21_siftUpUsingComparator_36 : decode cJ21_siftUpUsingComparator 36 = .ok (.aastore, 1) := dk_83 (dk_at dksJ21_siftUpUsingComparator_1 15 rfl rfl)
theorem dJ21_siftUpUsingComparator_37 : decode cJ21_siftUpUsingComparator 37 = .ok (.iload 4, 2) := dk_21 4 (dk_at dksJ21_siftUpUsingComparator_1 16 rfl rfl)
theorem dJ21_siftUpUsingComparator_39 : decode cJ21_siftUpUsingComparator 39 = .ok (.istore_n 0, 1) := dk_59 (dk_at dksJ21_siftUpUsingComparator_1 18 rfl rfl)
theorem dJ21_siftUpUsingComparator_40 : decode cJ21_siftUpUsingComparator 40 = .ok (.goto (-40), 3) := dk_167 255 216 (dk_at dksJ21_siftUpUsingComparator_1 19 rfl rfl)
theorem dJ21_siftUpUsingComparator_43 : decode cJ21_siftUpUsingComparator 43 = .ok (.aload_n 2, 1) := dk_44 (dk_at dksJ21_siftUpUsingComparator_1 22 rfl rfl)
theorem dJ21_siftUpUsingComparator_44 : decode cJ21_siftUpUsingComparator 44 = .ok (.iload_n 0, 1) := dk_26 (dk_at dksJ21_siftUpUsingComparator_1 23 rfl rfl)
theorem dJ21_siftUpUsingComparator_45 : decode cJ21_siftUpUsingComparator 45 = .ok (.aload_n 1, 1) := dk_43 (dk_at dksJ21_siftUpUsingComparator_2 0 rfl rfl)
theorem dJ21_siftUpUsingComparator_46 : decode cJ21_siftUpUsingComparator 46 = .ok (.aastore, 1) := dk_83 (dk_at dksJ21_siftUpUsingComparator_2 1 rfl rfl)
theorem dJ21_siftUpUsingComparator_47 : decode cJ21_siftUpUsingComparator 47 = .ok (.return_, 1) := dk_177 (dk_at dksJ21_siftUpUsingComparator_2 2 rfl rfl)
abbrev cJ21_siftUpComparable : ByteArray := prog_60_method_28_code
def yJ21_siftUpComparable : MethodName := ⟨RJ21, "siftUpComparable", "(ILjava/lang/Object;[Ljava/lang/Object;)V"⟩
def dkwJ21_siftUpComparable_2 : List UInt8 := [44, 26, 45, 83, 177]
abbrev dktJ21_siftUpComparable_2 : List UInt8 := dkwJ21_siftUpComparable_2 ++ []
def dkwJ21_siftUpComparable_1 : List UInt8 := [25, 5, 185, 0, 146, 2, 0, 155, 0, 6, 167, 0, 14, 44, 26, 25, 5, 83, 21, 4, 59, 167, 255, 217]
abbrev dktJ21_siftUpComparable_1 : List UInt8 := dkwJ21_siftUpComparable_1 ++ dktJ21_siftUpComparable_2
def dkwJ21_siftUpComparable_0 : List UInt8 := [43, 192, 0, 144, 78, 26, 158, 0, 41, 26, 4, 100, 4, 124, 54, 4, 44, 21, 4, 50, 58, 5, 45]
abbrev dktJ21_siftUpComparable_0 : List UInt8 := dkwJ21_siftUpComparable_0 ++ dktJ21_siftUpComparable_1
theorem dksJ21_siftUpComparable_0 : cJ21_siftUpComparable.data.toList.drop 0 = dktJ21_siftUpComparable_0 := by decide +kernel
theorem dksJ21_siftUpComparable_1 : cJ21_siftUpComparable.data.toList.drop 23 = dktJ21_siftUpComparable_1 := dk_seg dksJ21_siftUpComparable_0 23 rfl rfl
theorem dksJ21_siftUpComparable_2 : cJ21_siftUpComparable.data.toList.drop 47 = dktJ21_siftUpComparable_2 := dk_seg dksJ21_siftUpComparable_1 24 rfl rfl
theorem dJ21_siftUpComparable_0 : decode cJ21_siftUpComparable 0 = .ok (.aload_n 1, 1) := dk_43 (dk_at dksJ21_siftUpComparable_0 0 rfl rfl)
theorem dJ21_siftUpComparable_1 : decode cJ21_siftUpComparable 1 = .ok (.checkcast 144, 3) := dk_192 0 144 (dk_at dksJ21_siftUpComparable_0 1 rfl rfl)
theorem dJ21_siftUpComparable_4 : decode cJ21_siftUpComparable 4 = .ok (.astore_n 3, 1) := dk_78 (dk_at dksJ21_siftUpComparable_0 4 rfl rfl)
theorem dJ21_siftUpComparable_5 : decode cJ21_siftUpComparable 5 = .ok (.iload_n 0, 1) := dk_26 (dk_at dksJ21_siftUpComparable_0 5 rfl rfl)
theorem dJ21_siftUpComparable_6 : decode cJ21_siftUpComparable 6 = .ok (.ifCond .le 41, 3) := dk_158 0 41 (dk_at dksJ21_siftUpComparable_0 6 rfl rfl)
theorem dJ21_siftUpComparable_9 : decode cJ21_siftUpComparable 9 = .ok (.iload_n 0, 1) := dk_26 (dk_at dksJ21_siftUpComparable_0 9 rfl rfl)
theorem dJ21_siftUpComparable_10 : decode cJ21_siftUpComparable 10 = .ok (.iconst 1, 1) := dk_4 (dk_at dksJ21_siftUpComparable_0 10 rfl rfl)
theorem dJ21_siftUpComparable_11 : decode cJ21_siftUpComparable 11 = .ok (.isub, 1) := dk_100 (dk_at dksJ21_siftUpComparable_0 11 rfl rfl)
theorem dJ21_siftUpComparable_12 : decode cJ21_siftUpComparable 12 = .ok (.iconst 1, 1) := dk_4 (dk_at dksJ21_siftUpComparable_0 12 rfl rfl)
theorem dJ21_siftUpComparable_13 : decode cJ21_siftUpComparable 13 = .ok (.iushr, 1) := dk_124 (dk_at dksJ21_siftUpComparable_0 13 rfl rfl)
theorem dJ21_siftUpComparable_14 : decode cJ21_siftUpComparable 14 = .ok (.istore 4, 2) := dk_54 4 (dk_at dksJ21_siftUpComparable_0 14 rfl rfl)
theorem dJ21_siftUpComparable_16 : decode cJ21_siftUpComparable 16 = .ok (.aload_n 2, 1) := dk_44 (dk_at dksJ21_siftUpComparable_0 16 rfl rfl)
theorem dJ21_siftUpComparable_17 : decode cJ21_siftUpComparable 17 = .ok (.iload 4, 2) := dk_21 4 (dk_at dksJ21_siftUpComparable_0 17 rfl rfl)
theorem dJ21_siftUpComparable_19 : decode cJ21_siftUpComparable 19 = .ok (.aaload, 1) := dk_50 (dk_at dksJ21_siftUpComparable_0 19 rfl rfl)
theorem dJ21_siftUpComparable_20 : decode cJ21_siftUpComparable 20 = .ok (.astore 5, 2) := dk_58 5 (dk_at dksJ21_siftUpComparable_0 20 rfl rfl)
theorem dJ21_siftUpComparable_22 : decode cJ21_siftUpComparable 22 = .ok (.aload_n 3, 1) := dk_45 (dk_at dksJ21_siftUpComparable_0 22 rfl rfl)
theorem dJ21_siftUpComparable_23 : decode cJ21_siftUpComparable 23 = .ok (.aload 5, 2) := dk_25 5 (dk_at dksJ21_siftUpComparable_1 0 rfl rfl)
theorem dJ21_siftUpComparable_25 : decode cJ21_siftUpComparable 25 = .ok (.invokeinterface 146 2, 5) := by decide +kernel
theorem dJ21_siftUpComparable_30 : decode cJ21_siftUpComparable 30 = .ok (.ifCond .lt 6, 3) := dk_155 0 6 (dk_at dksJ21_siftUpComparable_1 7 rfl rfl)
theorem dJ21_siftUpComparable_33 : decode cJ21_siftUpComparable 33 = .ok (.goto 14, 3) := dk_167 0 14 (dk_at dksJ21_siftUpComparable_1 10 rfl rfl)
theorem dJ21_siftUpComparable_36 : decode cJ21_siftUpComparable 36 = .ok (.aload_n 2, 1) := dk_44 (dk_at dksJ21_siftUpComparable_1 13 rfl rfl)
theorem dJ21_siftUpComparable_37 : decode cJ21_siftUpComparable 37 = .ok (.iload_n 0, 1) := dk_26 (dk_at dksJ21_siftUpComparable_1 14 rfl rfl)
theorem dJ21_siftUpComparable_38 : decode cJ21_siftUpComparable 38 = .ok (.aload 5, 2) := dk_25 5 (dk_at dksJ21_siftUpComparable_1 15 rfl rfl)
theorem dJ21_siftUpComparable_40 : decode cJ21_siftUpComparable 40 = .ok (.aastore, 1) := dk_83 (dk_at dksJ21_siftUpComparable_1 17 rfl rfl)
theorem dJ21_siftUpComparable_41 : decode cJ21_siftUpComparable 41 = .ok (.iload 4, 2) := dk_21 4 (dk_at dksJ21_siftUpComparable_1 18 rfl rfl)
theorem dJ21_siftUpComparable_43 : decode cJ21_siftUpComparable 43 = .ok (.istore_n 0, 1) := dk_59 (dk_at dksJ21_siftUpComparable_1 20 rfl rfl)
theorem dJ21_siftUpComparable_44 : decode cJ21_siftUpComparable 44 = .ok (.goto (-39), 3) := dk_167 255 217 (dk_at dksJ21_siftUpComparable_1 21 rfl rfl)
theorem dJ21_siftUpComparable_47 : decode cJ21_siftUpComparable 47 = .ok (.aload_n 2, 1) := dk_44 (dk_at dksJ21_siftUpComparable_2 0 rfl rfl)
theorem dJ21_siftUpComparable_48 : decode cJ21_siftUpComparable 48 = .ok (.iload_n 0, 1) := dk_26 (dk_at dksJ21_siftUpComparable_2 1 rfl rfl)
theorem dJ21_siftUpComparable_49 : decode cJ21_siftUpComparable 49 = .ok (.aload_n 3, 1) := dk_45 (dk_at dksJ21_siftUpComparable_2 2 rfl rfl)
theorem dJ21_siftUpComparable_50 : decode cJ21_siftUpComparable 50 = .ok (.aastore, 1) := dk_83 (dk_at dksJ21_siftUpComparable_2 3 rfl rfl)
theorem dJ21_siftUpComparable_51 : decode cJ21_siftUpComparable 51 = .ok (.return_, 1) := dk_177 (dk_at dksJ21_siftUpComparable_2 4 rfl rfl)
abbrev cJ21_size : ByteArray := prog_60_method_23_code
def yJ21_size : MethodName := ⟨RJ21, "size", "()I"⟩
theorem dJ21_size_0 : decode cJ21_size 0 = .ok (.aload_n 0, 1) := by decide +kernel
theorem dJ21_size_1 : decode cJ21_size 1 = .ok (.getfield 58, 3) := by decide +kernel
theorem dJ21_size_4 : decode cJ21_size 4 = .ok (.ireturn, 1) := by decide +kernel
abbrev cJ21_peek : ByteArray := prog_60_method_15_code
def yJ21_peek : MethodName := ⟨RJ21, "peek", "()Ljava/lang/Object;"⟩
def dkwJ21_peek_0 : List UInt8 := [42, 180, 0, 17, 3, 50, 176]
abbrev dktJ21_peek_0 : List UInt8 := dkwJ21_peek_0 ++ []
theorem dksJ21_peek_0 : cJ21_peek.data.toList.drop 0 = dktJ21_peek_0 := by decide +kernel
theorem dJ21_peek_0 : decode cJ21_peek 0 = .ok (.aload_n 0, 1) := dk_42 (dk_at dksJ21_peek_0 0 rfl rfl)
theorem dJ21_peek_1 : decode cJ21_peek 1 = .ok (.getfield 17, 3) := dk_180 0 17 (dk_at dksJ21_peek_0 1 rfl rfl)
theorem dJ21_peek_4 : decode cJ21_peek 4 = .ok (.iconst 0, 1) := dk_3 (dk_at dksJ21_peek_0 4 rfl rfl)
theorem dJ21_peek_5 : decode cJ21_peek 5 = .ok (.aaload, 1) := dk_50 (dk_at dksJ21_peek_0 5 rfl rfl)
theorem dJ21_peek_6 : decode cJ21_peek 6 = .ok (.areturn, 1) := dk_176 (dk_at dksJ21_peek_0 6 rfl rfl)
theorem q107 : (Jvm.Cond.initialized "java/util/PriorityQueue") ∈ lw_all := lw_g (lw_at lw_m1 29 rfl) rfl
theorem q420 : (Jvm.Cond.selects "java/util/PriorityQueue" ({ cls := "java/lang/Object", name := "getClass", desc := "()Ljava/lang/Class;" } : Jvm.MethodName) ({ cls := "java/lang/Object", name := "getClass", desc := "()Ljava/lang/Class;" } : Jvm.MethodName)) ∈ lw_all := lw_g (lw_at lw_m2 102 rfl) rfl
theorem q1018 : (Jvm.Cond.instantiable "java/util/PriorityQueue" (4 : Nat)) ∈ lw_all := lw_g (lw_at lw_m4 220 rfl) rfl
theorem q1027 : (Jvm.Cond.instanceMethod ({ cls := "java/util/PriorityQueue", name := "<init>", desc := "(ILjava/util/Comparator;)V" } : Jvm.MethodName)) ∈ lw_all := lw_g (lw_at lw_m4 229 rfl) rfl
theorem q1028 : (Jvm.Cond.code ({ cls := "java/util/PriorityQueue", name := "<init>", desc := "(ILjava/util/Comparator;)V" } : Jvm.MethodName) prog_60_method_4_code (3 : Nat) (Option.none : Option Jvm.ClassFile.FieldType)) ∈ lw_all := lw_g (lw_at lw_m4 230 rfl) rfl
theorem q1029 : (Jvm.Cond.methodLink "java/util/PriorityQueue" (7 : Nat) ({ cls := "java/util/AbstractQueue", name := "<init>", desc := "()V" } : Jvm.MethodName)) ∈ lw_all := lw_g (lw_at lw_m4 231 rfl) rfl
theorem q1033 : (Jvm.Cond.classLink "java/util/PriorityQueue" (12 : Nat) "java/lang/IllegalArgumentException") ∈ lw_all := lw_g (lw_at lw_m4 235 rfl) rfl
theorem q1042 : (Jvm.Cond.methodLink "java/util/PriorityQueue" (14 : Nat) ({ cls := "java/lang/IllegalArgumentException", name := "<init>", desc := "()V" } : Jvm.MethodName)) ∈ lw_all := lw_g (lw_at lw_m5 4 rfl) rfl
theorem q1054 : (Jvm.Cond.classLink "java/util/PriorityQueue" (15 : Nat) "java/lang/Object") ∈ lw_all := lw_g (lw_at lw_m5 16 rfl) rfl
theorem q1055 : (Jvm.Cond.fieldLink "java/util/PriorityQueue" (17 : Nat) "java/util/PriorityQueue" "queue" "[Ljava/lang/Object;") ∈ lw_all := lw_g (lw_at lw_m5 17 rfl) rfl
theorem q1056 : (Jvm.Cond.fieldLink "java/util/PriorityQueue" (58 : Nat) "java/util/PriorityQueue" "size" "I") ∈ lw_all := lw_g (lw_at lw_m5 18 rfl) rfl
theorem q1057 : (Jvm.Cond.fieldLink "java/util/PriorityQueue" (21 : Nat) "java/util/PriorityQueue" "comparator" "Ljava/util/Comparator;") ∈ lw_all := lw_g (lw_at lw_m5 19 rfl) rfl
theorem q1058 : (Jvm.Cond.fieldLink "java/util/PriorityQueue" (93 : Nat) "java/util/PriorityQueue" "modCount" "I") ∈ lw_all := lw_g (lw_at lw_m5 20 rfl) rfl
theorem q1059 : (Jvm.Cond.lays "java/util/PriorityQueue" "java/util/PriorityQueue" "queue" "[Ljava/lang/Object;") ∈ lw_all := lw_g (lw_at lw_m5 21 rfl) rfl
theorem q1060 : (Jvm.Cond.soleField "java/util/PriorityQueue" "queue") ∈ lw_all := lw_g (lw_at lw_m5 22 rfl) rfl
theorem q1061 : (Jvm.Cond.lays "java/util/PriorityQueue" "java/util/PriorityQueue" "size" "I") ∈ lw_all := lw_g (lw_at lw_m5 23 rfl) rfl
theorem q1062 : (Jvm.Cond.soleField "java/util/PriorityQueue" "size") ∈ lw_all := lw_g (lw_at lw_m5 24 rfl) rfl
theorem q1063 : (Jvm.Cond.laysFinal "java/util/PriorityQueue" "java/util/PriorityQueue" "comparator" "Ljava/util/Comparator;") ∈ lw_all := lw_g (lw_at lw_m5 25 rfl) rfl
theorem q1064 : (Jvm.Cond.soleField "java/util/PriorityQueue" "comparator") ∈ lw_all := lw_g (lw_at lw_m5 26 rfl) rfl
theorem q1065 : (Jvm.Cond.lays "java/util/PriorityQueue" "java/util/PriorityQueue" "modCount" "I") ∈ lw_all := lw_g (lw_at lw_m5 27 rfl) rfl
theorem q1066 : (Jvm.Cond.soleField "java/util/PriorityQueue" "modCount") ∈ lw_all := lw_g (lw_at lw_m5 28 rfl) rfl
theorem q1067 : (Jvm.Cond.superclass "java/util/PriorityQueue" "java/util/AbstractQueue") ∈ lw_all := lw_g (lw_at lw_m5 29 rfl) rfl
theorem q1200 : (Jvm.Cond.instanceMethod ({ cls := "java/util/PriorityQueue", name := "add", desc := "(Ljava/lang/Object;)Z" } : Jvm.MethodName)) ∈ lw_all := lw_g (lw_at lw_m5 162 rfl) rfl
theorem q1201 : (Jvm.Cond.selects "java/util/PriorityQueue" ({ cls := "java/util/PriorityQueue", name := "add", desc := "(Ljava/lang/Object;)Z" } : Jvm.MethodName) ({ cls := "java/util/PriorityQueue", name := "add", desc := "(Ljava/lang/Object;)Z" } : Jvm.MethodName)) ∈ lw_all := lw_g (lw_at lw_m5 163 rfl) rfl
theorem q1202 : (Jvm.Cond.code ({ cls := "java/util/PriorityQueue", name := "add", desc := "(Ljava/lang/Object;)Z" } : Jvm.MethodName) prog_60_method_13_code (2 : Nat) (Option.some Jvm.ClassFile.FieldType.boolean)) ∈ lw_all := lw_g (lw_at lw_m5 164 rfl) rfl
theorem q1203 : (Jvm.Cond.methodLink "java/util/PriorityQueue" (89 : Nat) ({ cls := "java/util/PriorityQueue", name := "offer", desc := "(Ljava/lang/Object;)Z" } : Jvm.MethodName)) ∈ lw_all := lw_g (lw_at lw_m5 165 rfl) rfl
theorem q1204 : (Jvm.Cond.instanceMethod ({ cls := "java/util/PriorityQueue", name := "offer", desc := "(Ljava/lang/Object;)Z" } : Jvm.MethodName)) ∈ lw_all := lw_g (lw_at lw_m5 166 rfl) rfl
theorem q1205 : (Jvm.Cond.selects "java/util/PriorityQueue" ({ cls := "java/util/PriorityQueue", name := "offer", desc := "(Ljava/lang/Object;)Z" } : Jvm.MethodName) ({ cls := "java/util/PriorityQueue", name := "offer", desc := "(Ljava/lang/Object;)Z" } : Jvm.MethodName)) ∈ lw_all := lw_g (lw_at lw_m5 167 rfl) rfl
theorem q1206 : (Jvm.Cond.code ({ cls := "java/util/PriorityQueue", name := "offer", desc := "(Ljava/lang/Object;)Z" } : Jvm.MethodName) prog_60_method_14_code (3 : Nat) (Option.some Jvm.ClassFile.FieldType.boolean)) ∈ lw_all := lw_g (lw_at lw_m5 168 rfl) rfl
theorem q1207 : (Jvm.Cond.methodLink "java/util/PriorityQueue" (96 : Nat) ({ cls := "java/util/PriorityQueue", name := "grow", desc := "(I)V" } : Jvm.MethodName)) ∈ lw_all := lw_g (lw_at lw_m5 169 rfl) rfl
theorem q1208 : (Jvm.Cond.privateMethod ({ cls := "java/util/PriorityQueue", name := "grow", desc := "(I)V" } : Jvm.MethodName)) ∈ lw_tbl := lw_at lw_m5 170 rfl
theorem q1209 : (Jvm.Cond.instanceMethod ({ cls := "java/util/PriorityQueue", name := "grow", desc := "(I)V" } : Jvm.MethodName)) ∈ lw_all := lw_g (lw_at lw_m5 171 rfl) rfl
theorem q1210 : (Jvm.Cond.code ({ cls := "java/util/PriorityQueue", name := "grow", desc := "(I)V" } : Jvm.MethodName) prog_60_method_12_code (4 : Nat) (Option.none : Option Jvm.ClassFile.FieldType)) ∈ lw_all := lw_g (lw_at lw_m5 172 rfl) rfl
theorem q1211 : (Jvm.Cond.methodLink "java/util/PriorityQueue" (80 : Nat) ({ cls := "jdk/internal/util/ArraysSupport", name := "newLength", desc := "(III)I" } : Jvm.MethodName)) ∈ lw_all := lw_g (lw_at lw_m5 173 rfl) rfl
theorem q1212 : (Jvm.Cond.methodLink "java/util/PriorityQueue" (86 : Nat) ({ cls := "java/util/Arrays", name := "copyOf", desc := "([Ljava/lang/Object;I)[Ljava/lang/Object;" } : Jvm.MethodName)) ∈ lw_all := lw_g (lw_at lw_m5 174 rfl) rfl
theorem q1213 : (Jvm.Cond.methodLink "java/util/PriorityQueue" (100 : Nat) ({ cls := "java/util/PriorityQueue", name := "siftUp", desc := "(ILjava/lang/Object;)V" } : Jvm.MethodName)) ∈ lw_all := lw_g (lw_at lw_m5 175 rfl) rfl
theorem q1214 : (Jvm.Cond.privateMethod ({ cls := "java/util/PriorityQueue", name := "siftUp", desc := "(ILjava/lang/Object;)V" } : Jvm.MethodName)) ∈ lw_tbl := lw_at lw_m5 176 rfl
theorem q1215 : (Jvm.Cond.instanceMethod ({ cls := "java/util/PriorityQueue", name := "siftUp", desc := "(ILjava/lang/Object;)V" } : Jvm.MethodName)) ∈ lw_all := lw_g (lw_at lw_m5 177 rfl) rfl
theorem q1216 : (Jvm.Cond.code ({ cls := "java/util/PriorityQueue", name := "siftUp", desc := "(ILjava/lang/Object;)V" } : Jvm.MethodName) prog_60_method_27_code (3 : Nat) (Option.none : Option Jvm.ClassFile.FieldType)) ∈ lw_all := lw_g (lw_at lw_m5 178 rfl) rfl
theorem q1217 : (Jvm.Cond.methodLink "java/util/PriorityQueue" (136 : Nat) ({ cls := "java/util/PriorityQueue", name := "siftUpUsingComparator", desc := "(ILjava/lang/Object;[Ljava/lang/Object;Ljava/util/Comparator;)V" } : Jvm.MethodName)) ∈ lw_all := lw_g (lw_at lw_m5 179 rfl) rfl
theorem q1218 : (Jvm.Cond.static ({ cls := "java/util/PriorityQueue", name := "siftUpUsingComparator", desc := "(ILjava/lang/Object;[Ljava/lang/Object;Ljava/util/Comparator;)V" } : Jvm.MethodName)) ∈ lw_all := lw_g (lw_at lw_m5 180 rfl) rfl
theorem q1219 : (Jvm.Cond.code ({ cls := "java/util/PriorityQueue", name := "siftUpUsingComparator", desc := "(ILjava/lang/Object;[Ljava/lang/Object;Ljava/util/Comparator;)V" } : Jvm.MethodName) prog_60_method_29_code (6 : Nat) (Option.none : Option Jvm.ClassFile.FieldType)) ∈ lw_all := lw_g (lw_at lw_m5 181 rfl) rfl
theorem q1220 : (Jvm.Cond.interfaceEntry "java/util/PriorityQueue" (149 : Nat)) ∈ lw_tbl := lw_at lw_m5 182 rfl
theorem q1221 : (Jvm.Cond.methodLink "java/util/PriorityQueue" (149 : Nat) ({ cls := "java/util/Comparator", name := "compare", desc := "(Ljava/lang/Object;Ljava/lang/Object;)I" } : Jvm.MethodName)) ∈ lw_all := lw_g (lw_at lw_m5 183 rfl) rfl
theorem q1222 : (Jvm.Cond.methodLink "java/util/PriorityQueue" (140 : Nat) ({ cls := "java/util/PriorityQueue", name := "siftUpComparable", desc := "(ILjava/lang/Object;[Ljava/lang/Object;)V" } : Jvm.MethodName)) ∈ lw_all := lw_g (lw_at lw_m5 184 rfl) rfl
theorem q1223 : (Jvm.Cond.static ({ cls := "java/util/PriorityQueue", name := "siftUpComparable", desc := "(ILjava/lang/Object;[Ljava/lang/Object;)V" } : Jvm.MethodName)) ∈ lw_all := lw_g (lw_at lw_m5 185 rfl) rfl
theorem q1224 : (Jvm.Cond.code ({ cls := "java/util/PriorityQueue", name := "siftUpComparable", desc := "(ILjava/lang/Object;[Ljava/lang/Object;)V" } : Jvm.MethodName) prog_60_method_28_code (6 : Nat) (Option.none : Option Jvm.ClassFile.FieldType)) ∈ lw_all := lw_g (lw_at lw_m5 186 rfl) rfl
theorem q1225 : (Jvm.Cond.classLink "java/util/PriorityQueue" (144 : Nat) "java/lang/Comparable") ∈ lw_all := lw_g (lw_at lw_m5 187 rfl) rfl
theorem q1226 : (Jvm.Cond.interfaceEntry "java/util/PriorityQueue" (146 : Nat)) ∈ lw_tbl := lw_at lw_m5 188 rfl
theorem q1227 : (Jvm.Cond.methodLink "java/util/PriorityQueue" (146 : Nat) ({ cls := "java/lang/Comparable", name := "compareTo", desc := "(Ljava/lang/Object;)I" } : Jvm.MethodName)) ∈ lw_all := lw_g (lw_at lw_m5 189 rfl) rfl
theorem q1229 : (Jvm.Cond.sameMethod "java/util/PriorityQueue" "java/util/AbstractCollection" "isEmpty" "()Z") ∈ lw_all := lw_g (lw_at lw_m5 191 rfl) rfl
theorem q1231 : (Jvm.Cond.selects "java/util/PriorityQueue" ({ cls := "java/util/PriorityQueue", name := "isEmpty", desc := "()Z" } : Jvm.MethodName) ({ cls := "java/util/AbstractCollection", name := "isEmpty", desc := "()Z" } : Jvm.MethodName)) ∈ lw_all := lw_g (lw_at lw_m5 193 rfl) rfl
theorem q1239 : (Jvm.Cond.selects "java/util/PriorityQueue" ({ cls := "java/util/AbstractCollection", name := "size", desc := "()I" } : Jvm.MethodName) ({ cls := "java/util/PriorityQueue", name := "size", desc := "()I" } : Jvm.MethodName)) ∈ lw_all := lw_g (lw_at lw_m5 201 rfl) rfl
theorem q1240 : (Jvm.Cond.instanceMethod ({ cls := "java/util/PriorityQueue", name := "size", desc := "()I" } : Jvm.MethodName)) ∈ lw_all := lw_g (lw_at lw_m5 202 rfl) rfl
theorem q1241 : (Jvm.Cond.code ({ cls := "java/util/PriorityQueue", name := "size", desc := "()I" } : Jvm.MethodName) prog_60_method_23_code (1 : Nat) (Option.some Jvm.ClassFile.FieldType.int)) ∈ lw_all := lw_g (lw_at lw_m5 203 rfl) rfl
theorem q1255 : (Jvm.Cond.instanceMethod ({ cls := "java/util/PriorityQueue", name := "peek", desc := "()Ljava/lang/Object;" } : Jvm.MethodName)) ∈ lw_all := lw_g (lw_at lw_m5 217 rfl) rfl
theorem q1256 : (Jvm.Cond.selects "java/util/PriorityQueue" ({ cls := "java/util/PriorityQueue", name := "peek", desc := "()Ljava/lang/Object;" } : Jvm.MethodName) ({ cls := "java/util/PriorityQueue", name := "peek", desc := "()Ljava/lang/Object;" } : Jvm.MethodName)) ∈ lw_all := lw_g (lw_at lw_m5 218 rfl) rfl
theorem q1257 : (Jvm.Cond.code ({ cls := "java/util/PriorityQueue", name := "peek", desc := "()Ljava/lang/Object;" } : Jvm.MethodName) prog_60_method_15_code (1 : Nat) (Option.some (Jvm.ClassFile.FieldType.object "java/lang/Object"))) ∈ lw_all := lw_g (lw_at lw_m5 219 rfl) rfl
theorem q2680 : (Jvm.Cond.castable "java/util/PriorityQueue" "java/lang/Object") ∈ lw_tbl := lw_at lw_m11 202 rfl
theorem in_J21 : ∀ w ∈ wsJ210, w ∈ lw_all := lw_in wsJ210 [1059, 1061, 1063, 1065] (by decide +kernel) (by decide +kernel)

/-! java/lang/Number -/
set_option maxRecDepth 100000
def RJ22 : String := "java/lang/Number"
abbrev cJ22_init : ByteArray := prog_31_method_1_code
def yJ22_init : MethodName := ⟨RJ22, "<init>", "()V"⟩
theorem dJ22_init_0 : decode cJ22_init 0 = .ok (.aload_n 0, 1) := by decide +kernel
theorem dJ22_init_1 : decode cJ22_init 1 = .ok (.invokespecial 1, 3) := by decide +kernel
theorem dJ22_init_4 : decode cJ22_init 4 = .ok (.return_, 1) := by decide +kernel
theorem q110 : (Jvm.Cond.initialized "java/lang/Number") ∈ lw_all := lw_g (lw_at lw_m1 32 rfl) rfl
theorem q580 : (Jvm.Cond.instanceMethod ({ cls := "java/lang/Number", name := "<init>", desc := "()V" } : Jvm.MethodName)) ∈ lw_all := lw_g (lw_at lw_m3 22 rfl) rfl
theorem q581 : (Jvm.Cond.code ({ cls := "java/lang/Number", name := "<init>", desc := "()V" } : Jvm.MethodName) prog_31_method_1_code (1 : Nat) (Option.none : Option Jvm.ClassFile.FieldType)) ∈ lw_all := lw_g (lw_at lw_m3 23 rfl) rfl
theorem q582 : (Jvm.Cond.methodLink "java/lang/Number" (1 : Nat) ({ cls := "java/lang/Object", name := "<init>", desc := "()V" } : Jvm.MethodName)) ∈ lw_all := lw_g (lw_at lw_m3 24 rfl) rfl

/-! java/lang/Integer -/
set_option maxRecDepth 100000
def RJ23 : String := "java/lang/Integer"
def TJ23 : u_T := fun k => match k with
  | _ => ("java/lang/Integer", "value", "I", true)
def tyJ23 : Nat → FieldType := fun k => match k with
  | _ => .int
abbrev wsJ230 : List Cond := u_ws RJ23 TJ23 1
theorem nmJ23 : ∀ a, a < 1 → ∀ b, b < 1 → a ≠ b → (TJ23 a).2.1 ≠ (TJ23 b).2.1 := by decide +kernel
theorem tyJ23_ok : ∀ k, k < 1 → parseFieldDescriptor (TJ23 k).2.2.1 = some (tyJ23 k) := by decide +kernel
abbrev cJ23_valueOf : ByteArray := prog_26_method_22_code
def yJ23_valueOf : MethodName := ⟨RJ23, "valueOf", "(I)Ljava/lang/Integer;"⟩
def dkwJ23_valueOf_1 : List UInt8 := [187, 0, 1, 89, 26, 183, 0, 199, 176]
abbrev dktJ23_valueOf_1 : List UInt8 := dkwJ23_valueOf_1 ++ []
def dkwJ23_valueOf_0 : List UInt8 := [26, 16, 128, 161, 0, 20, 26, 178, 0, 191, 163, 0, 13, 178, 0, 195, 26, 17, 0, 128, 96, 50, 176]
abbrev dktJ23_valueOf_0 : List UInt8 := dkwJ23_valueOf_0 ++ dktJ23_valueOf_1
theorem dksJ23_valueOf_0 : cJ23_valueOf.data.toList.drop 0 = dktJ23_valueOf_0 := by decide +kernel
theorem dksJ23_valueOf_1 : cJ23_valueOf.data.toList.drop 23 = dktJ23_valueOf_1 := dk_seg dksJ23_valueOf_0 23 rfl rfl
theorem dJ23_valueOf_0 : decode cJ23_valueOf 0 = .ok (.iload_n 0, 1) := dk_26 (dk_at dksJ23_valueOf_0 0 rfl rfl)
theorem dJ23_valueOf_1 : decode cJ23_valueOf 1 = .ok (.bipush (-128), 2) := dk_16 128 (dk_at dksJ23_valueOf_0 1 rfl rfl)
theorem dJ23_valueOf_3 : decode cJ23_valueOf 3 = .ok (.if_icmp .lt 20, 3) := dk_161 0 20 (dk_at dksJ23_valueOf_0 3 rfl rfl)
theorem dJ23_valueOf_6 : decode cJ23_valueOf 6 = .ok (.iload_n 0, 1) := dk_26 (dk_at dksJ23_valueOf_0 6 rfl rfl)
theorem dJ23_valueOf_7 : decode cJ23_valueOf 7 = .ok (.getstatic 191, 3) := dk_178 0 191 (dk_at dksJ23_valueOf_0 7 rfl rfl)
theorem dJ23_valueOf_10 : decode cJ23_valueOf 10 = .ok (.if_icmp .gt 13, 3) := dk_163 0 13 (dk_at dksJ23_valueOf_0 10 rfl rfl)
theorem dJ23_valueOf_13 : decode cJ23_valueOf 13 = .ok (.getstatic 195, 3) := dk_178 0 195 (dk_at dksJ23_valueOf_0 13 rfl rfl)
theorem dJ23_valueOf_16 : decode cJ23_valueOf 16 = .ok (.iload_n 0, 1) := dk_26 (dk_at dksJ23_valueOf_0 16 rfl rfl)
theorem dJ23_valueOf_17 : decode cJ23_valueOf 17 = .ok (.sipush 128, 3) := dk_17 0 128 (dk_at dksJ23_valueOf_0 17 rfl rfl)
theorem dJ23_valueOf_20 : decode cJ23_valueOf 20 = .ok (.iadd, 1) := dk_96 (dk_at dksJ23_valueOf_0 20 rfl rfl)
theorem dJ23_valueOf_21 : decode cJ23_valueOf 21 = .ok (.aaload, 1) := dk_50 (dk_at dksJ23_valueOf_0 21 rfl rfl)
theorem dJ23_valueOf_22 : decode cJ23_valueOf 22 = .ok (.areturn, 1) := dk_176 (dk_at dksJ23_valueOf_0 22 rfl rfl)
theorem dJ23_valueOf_23 : decode cJ23_valueOf 23 = .ok (.new 1, 3) := dk_187 0 1 (dk_at dksJ23_valueOf_1 0 rfl rfl)
theorem dJ23_valueOf_26 : decode cJ23_valueOf 26 = .ok (.dup, 1) := dk_89 (dk_at dksJ23_valueOf_1 3 rfl rfl)
theorem dJ23_valueOf_27 : decode cJ23_valueOf 27 = .ok (.iload_n 0, 1) := dk_26 (dk_at dksJ23_valueOf_1 4 rfl rfl)
theorem dJ23_valueOf_28 : decode cJ23_valueOf 28 = .ok (.invokespecial 199, 3) := dk_183 0 199 (dk_at dksJ23_valueOf_1 5 rfl rfl)
theorem dJ23_valueOf_31 : decode cJ23_valueOf 31 = .ok (.areturn, 1) := dk_176 (dk_at dksJ23_valueOf_1 8 rfl rfl)
abbrev cJ23_init : ByteArray := prog_26_method_23_code
def yJ23_init : MethodName := ⟨RJ23, "<init>", "(I)V"⟩
def dkwJ23_init_0 : List UInt8 := [42, 183, 0, 202, 42, 27, 181, 0, 205, 177]
abbrev dktJ23_init_0 : List UInt8 := dkwJ23_init_0 ++ []
theorem dksJ23_init_0 : cJ23_init.data.toList.drop 0 = dktJ23_init_0 := by decide +kernel
theorem dJ23_init_0 : decode cJ23_init 0 = .ok (.aload_n 0, 1) := dk_42 (dk_at dksJ23_init_0 0 rfl rfl)
theorem dJ23_init_1 : decode cJ23_init 1 = .ok (.invokespecial 202, 3) := dk_183 0 202 (dk_at dksJ23_init_0 1 rfl rfl)
theorem dJ23_init_4 : decode cJ23_init 4 = .ok (.aload_n 0, 1) := dk_42 (dk_at dksJ23_init_0 4 rfl rfl)
theorem dJ23_init_5 : decode cJ23_init 5 = .ok (.iload_n 1, 1) := dk_27 (dk_at dksJ23_init_0 5 rfl rfl)
theorem dJ23_init_6 : decode cJ23_init 6 = .ok (.putfield 205, 3) := dk_181 0 205 (dk_at dksJ23_init_0 6 rfl rfl)
theorem dJ23_init_9 : decode cJ23_init 9 = .ok (.return_, 1) := dk_177 (dk_at dksJ23_init_0 9 rfl rfl)
abbrev cJ23_compareTo : ByteArray := prog_26_method_63_code
def yJ23_compareTo : MethodName := ⟨RJ23, "compareTo", "(Ljava/lang/Object;)I"⟩
def dkwJ23_compareTo_0 : List UInt8 := [42, 43, 192, 0, 1, 182, 1, 28, 172]
abbrev dktJ23_compareTo_0 : List UInt8 := dkwJ23_compareTo_0 ++ []
theorem dksJ23_compareTo_0 : cJ23_compareTo.data.toList.drop 0 = dktJ23_compareTo_0 := by decide +kernel
theorem dJ23_compareTo_0 : decode cJ23_compareTo 0 = .ok (.aload_n 0, 1) := dk_42 (dk_at dksJ23_compareTo_0 0 rfl rfl)
theorem dJ23_compareTo_1 : decode cJ23_compareTo 1 = .ok (.aload_n 1, 1) := dk_43 (dk_at dksJ23_compareTo_0 1 rfl rfl)
theorem dJ23_compareTo_2 : decode cJ23_compareTo 2 = .ok (.checkcast 1, 3) := dk_192 0 1 (dk_at dksJ23_compareTo_0 2 rfl rfl)
theorem dJ23_compareTo_5 : decode cJ23_compareTo 5 = .ok (.invokevirtual 284, 3) := dk_182 1 28 (dk_at dksJ23_compareTo_0 5 rfl rfl)
theorem dJ23_compareTo_8 : decode cJ23_compareTo 8 = .ok (.ireturn, 1) := dk_172 (dk_at dksJ23_compareTo_0 8 rfl rfl)
abbrev cJ23_compareTo_2 : ByteArray := prog_26_method_39_code
def yJ23_compareTo_2 : MethodName := ⟨RJ23, "compareTo", "(Ljava/lang/Integer;)I"⟩
def dkwJ23_compareTo_2_0 : List UInt8 := [42, 180, 0, 205, 43, 180, 0, 205, 184, 1, 3, 172]
abbrev dktJ23_compareTo_2_0 : List UInt8 := dkwJ23_compareTo_2_0 ++ []
theorem dksJ23_compareTo_2_0 : cJ23_compareTo_2.data.toList.drop 0 = dktJ23_compareTo_2_0 := by decide +kernel
theorem dJ23_compareTo_2_0 : decode cJ23_compareTo_2 0 = .ok (.aload_n 0, 1) := dk_42 (dk_at dksJ23_compareTo_2_0 0 rfl rfl)
theorem dJ23_compareTo_2_1 : decode cJ23_compareTo_2 1 = .ok (.getfield 205, 3) := dk_180 0 205 (dk_at dksJ23_compareTo_2_0 1 rfl rfl)
theorem dJ23_compareTo_2_4 : decode cJ23_compareTo_2 4 = .ok (.aload_n 1, 1) := dk_43 (dk_at dksJ23_compareTo_2_0 4 rfl rfl)
theorem dJ23_compareTo_2_5 : decode cJ23_compareTo_2 5 = .ok (.getfield 205, 3) := dk_180 0 205 (dk_at dksJ23_compareTo_2_0 5 rfl rfl)
theorem dJ23_compareTo_2_8 : decode cJ23_compareTo_2 8 = .ok (.invokestatic 259, 3) := dk_184 1 3 (dk_at dksJ23_compareTo_2_0 8 rfl rfl)
theorem dJ23_compareTo_2_11 : decode cJ23_compareTo_2 11 = .ok (.ireturn, 1) := dk_172 (dk_at dksJ23_compareTo_2_0 11 rfl rfl)
abbrev cJ23_compare : ByteArray := prog_26_method_40_code
def yJ23_compare : MethodName := ⟨RJ23, "compare", "(II)I"⟩
def dkwJ23_compare_0 : List UInt8 := [26, 27, 162, 0, 7, 2, 167, 0, 13, 26, 27, 160, 0, 7, 3, 167, 0, 4, 4, 172]
abbrev dktJ23_compare_0 : List UInt8 := dkwJ23_compare_0 ++ []
theorem dksJ23_compare_0 : cJ23_compare.data.toList.drop 0 = dktJ23_compare_0 := by decide +kernel
theorem dJ23_compare_0 : decode cJ23_compare 0 = .ok (.iload_n 0, 1) := dk_26 (dk_at dksJ23_compare_0 0 rfl rfl)
theorem dJ23_compare_1 : decode cJ23_compare 1 = .ok (.iload_n 1, 1) := dk_27 (dk_at dksJ23_compare_0 1 rfl rfl)
theorem dJ23_compare_2 : decode cJ23_compare 2 = .ok (.if_icmp .ge 7, 3) := dk_162 0 7 (dk_at dksJ23_compare_0 2 rfl rfl)
theorem dJ23_compare_5 : decode cJ23_compare 5 = .ok (.iconst (-1), 1) := dk_2 (dk_at dksJ23_compare_0 5 rfl rfl)
theorem dJ23_compare_6 : decode cJ23_compare 6 = .ok (.goto 13, 3) := dk_167 0 13 (dk_at dksJ23_compare_0 6 rfl rfl)
theorem dJ23_compare_9 : decode cJ23_compare 9 = .ok (.iload_n 0, 1) := dk_26 (dk_at dksJ23_compare_0 9 rfl rfl)
theorem dJ23_compare_10 : decode cJ23_compare 10 = .ok (.iload_n 1, 1) := dk_27 (dk_at dksJ23_compare_0 10 rfl rfl)
theorem dJ23_compare_11 : decode cJ23_compare 11 = .ok (.if_icmp .ne 7, 3) := dk_160 0 7 (dk_at dksJ23_compare_0 11 rfl rfl)
theorem dJ23_compare_14 : decode cJ23_compare 14 = .ok (.iconst 0, 1) := dk_3 (dk_at dksJ23_compare_0 14 rfl rfl)
theorem dJ23_compare_15 : decode cJ23_compare 15 = .ok (.goto 4, 3) := dk_167 0 4 (dk_at dksJ23_compare_0 15 rfl rfl)
theorem dJ23_compare_18 : decode cJ23_compare 18 = .ok (.iconst 1, 1) := dk_4 (dk_at dksJ23_compare_0 18 rfl rfl)
theorem dJ23_compare_19 : decode cJ23_compare 19 = .ok (.ireturn, 1) := dk_172 (dk_at dksJ23_compare_0 19 rfl rfl)
abbrev cJ23_numberOfLeadingZeros : ByteArray := prog_26_method_47_code
def yJ23_numberOfLeadingZeros : MethodName := ⟨RJ23, "numberOfLeadingZeros", "(I)I"⟩
def dkwJ23_numberOfLeadingZeros_3 : List UInt8 := [5, 124, 59, 27, 26, 4, 124, 100, 172]
abbrev dktJ23_numberOfLeadingZeros_3 : List UInt8 := dkwJ23_numberOfLeadingZeros_3 ++ []
def dkwJ23_numberOfLeadingZeros_2 : List UInt8 := [124, 59, 26, 16, 16, 161, 0, 10, 132, 1, 252, 26, 7, 124, 59, 26, 7, 161, 0, 10, 132, 1, 254, 26]
abbrev dktJ23_numberOfLeadingZeros_2 : List UInt8 := dkwJ23_numberOfLeadingZeros_2 ++ dktJ23_numberOfLeadingZeros_3
def dkwJ23_numberOfLeadingZeros_1 : List UInt8 := [161, 0, 11, 132, 1, 240, 26, 16, 16, 124, 59, 26, 17, 1, 0, 161, 0, 11, 132, 1, 248, 26, 16, 8]
abbrev dktJ23_numberOfLeadingZeros_1 : List UInt8 := dkwJ23_numberOfLeadingZeros_1 ++ dktJ23_numberOfLeadingZeros_2
def dkwJ23_numberOfLeadingZeros_0 : List UInt8 := [26, 157, 0, 14, 26, 154, 0, 8, 16, 32, 167, 0, 4, 3, 172, 16, 31, 60, 26, 19, 1, 8]
abbrev dktJ23_numberOfLeadingZeros_0 : List UInt8 := dkwJ23_numberOfLeadingZeros_0 ++ dktJ23_numberOfLeadingZeros_1
theorem dksJ23_numberOfLeadingZeros_0 : cJ23_numberOfLeadingZeros.data.toList.drop 0 = dktJ23_numberOfLeadingZeros_0 := by decide +kernel
theorem dksJ23_numberOfLeadingZeros_1 : cJ23_numberOfLeadingZeros.data.toList.drop 22 = dktJ23_numberOfLeadingZeros_1 := dk_seg dksJ23_numberOfLeadingZeros_0 22 rfl rfl
theorem dksJ23_numberOfLeadingZeros_2 : cJ23_numberOfLeadingZeros.data.toList.drop 46 = dktJ23_numberOfLeadingZeros_2 := dk_seg dksJ23_numberOfLeadingZeros_1 24 rfl rfl
theorem dksJ23_numberOfLeadingZeros_3 : cJ23_numberOfLeadingZeros.data.toList.drop 70 = dktJ23_numberOfLeadingZeros_3 := dk_seg dksJ23_numberOfLeadingZeros_2 24 rfl rfl
theorem dJ23_numberOfLeadingZeros_0 : decode cJ23_numberOfLeadingZeros 0 = .ok (.iload_n 0, 1) := dk_26 (dk_at dksJ23_numberOfLeadingZeros_0 0 rfl rfl)
theorem dJ23_numberOfLeadingZeros_1 : decode cJ23_numberOfLeadingZeros 1 = .ok (.ifCond .gt 14, 3) := dk_157 0 14 (dk_at dksJ23_numberOfLeadingZeros_0 1 rfl rfl)
theorem dJ23_numberOfLeadingZeros_4 : decode cJ23_numberOfLeadingZeros 4 = .ok (.iload_n 0, 1) := dk_26 (dk_at dksJ23_numberOfLeadingZeros_0 4 rfl rfl)
theorem dJ23_numberOfLeadingZeros_5 : decode cJ23_numberOfLeadingZeros 5 = .ok (.ifCond .ne 8, 3) := dk_154 0 8 (dk_at dksJ23_numberOfLeadingZeros_0 5 rfl rfl)
theorem dJ23_numberOfLeadingZeros_8 : decode cJ23_numberOfLeadingZeros 8 = .ok (.bipush 32, 2) := dk_16 32 (dk_at dksJ23_numberOfLeadingZeros_0 8 rfl rfl)
theorem dJ23_numberOfLeadingZeros_10 : decode cJ23_numberOfLeadingZeros 10 = .ok (.goto 4, 3) := dk_167 0 4 (dk_at dksJ23_numberOfLeadingZeros_0 10 rfl rfl)
theorem dJ23_numberOfLeadingZeros_13 : decode cJ23_numberOfLeadingZeros 13 = .ok (.iconst 0, 1) := dk_3 (dk_at dksJ23_numberOfLeadingZeros_0 13 rfl rfl)
theorem dJ23_numberOfLeadingZeros_14 : decode cJ23_numberOfLeadingZeros 14 = .ok (.ireturn, 1) := dk_172 (dk_at dksJ23_numberOfLeadingZeros_0 14 rfl rfl)
theorem dJ23_numberOfLeadingZeros_15 : decode cJ23_numberOfLeadingZeros 15 = .ok (.bipush 31, 2) := dk_16 31 (dk_at dksJ23_numberOfLeadingZeros_0 15 rfl rfl)
theorem dJ23_numberOfLeadingZeros_17 : decode cJ23_numberOfLeadingZeros 17 = .ok (.istore_n 1, 1) := dk_60 (dk_at dksJ23_numberOfLeadingZeros_0 17 rfl rfl)
theorem dJ23_numberOfLeadingZeros_18 : decode cJ23_numberOfLeadingZeros 18 = .ok (.iload_n 0, 1) := dk_26 (dk_at dksJ23_numberOfLeadingZeros_0 18 rfl rfl)
theorem dJ23_numberOfLeadingZeros_19 : decode cJ23_numberOfLeadingZeros 19 = .ok (.ldc_w 264, 3) := dk_19 1 8 (dk_at dksJ23_numberOfLeadingZeros_0 19 rfl rfl)
theorem dJ23_numberOfLeadingZeros_22 : decode cJ23_numberOfLeadingZeros 22 = .ok (.if_icmp .lt 11, 3) := dk_161 0 11 (dk_at dksJ23_numberOfLeadingZeros_1 0 rfl rfl)
theorem dJ23_numberOfLeadingZeros_25 : decode cJ23_numberOfLeadingZeros 25 = .ok (.iinc 1 (-16), 3) := dk_132 1 240 (dk_at dksJ23_numberOfLeadingZeros_1 3 rfl rfl)
theorem dJ23_numberOfLeadingZeros_28 : decode cJ23_numberOfLeadingZeros 28 = .ok (.iload_n 0, 1) := dk_26 (dk_at dksJ23_numberOfLeadingZeros_1 6 rfl rfl)
theorem dJ23_numberOfLeadingZeros_29 : decode cJ23_numberOfLeadingZeros 29 = .ok (.bipush 16, 2) := dk_16 16 (dk_at dksJ23_numberOfLeadingZeros_1 7 rfl rfl)
theorem dJ23_numberOfLeadingZeros_31 : decode cJ23_numberOfLeadingZeros 31 = .ok (.iushr, 1) := dk_124 (dk_at dksJ23_numberOfLeadingZeros_1 9 rfl rfl)
theorem dJ23_numberOfLeadingZeros_32 : decode cJ23_numberOfLeadingZeros 32 = .ok (.istore_n 0, 1) := dk_59 (dk_at dksJ23_numberOfLeadingZeros_1 10 rfl rfl)
theorem dJ23_numberOfLeadingZeros_33 : decode cJ23_numberOfLeadingZeros 33 = .ok (.iload_n 0, 1) := dk_26 (dk_at dksJ23_numberOfLeadingZeros_1 11 rfl rfl)
theorem dJ23_numberOfLeadingZeros_34 : decode cJ23_numberOfLeadingZeros 34 = .ok (.sipush 256, 3) := dk_17 1 0 (dk_at dksJ23_numberOfLeadingZeros_1 12 rfl rfl)
theorem dJ23_numberOfLeadingZeros_37 : decode cJ23_numberOfLeadingZeros 37 = .ok (.if_icmp .lt 11, 3) := dk_161 0 11 (dk_at dksJ23_numberOfLeadingZeros_1 15 rfl rfl)
theorem dJ23_numberOfLeadingZeros_40 : decode cJ23_numberOfLeadingZeros 40 = .ok (.iinc 1 (-8), 3) := dk_132 1 248 (dk_at dksJ23_numberOfLeadingZeros_1 18 rfl rfl)
theorem dJ23_numberOfLeadingZeros_43 : decode cJ23_numberOfLeadingZeros 43 = .ok (.iload_n 0, 1) := dk_26 (dk_at dksJ23_numberOfLeadingZeros_1 21 rfl rfl)
theorem dJ23_numberOfLeadingZeros_44 : decode cJ23_numberOfLeadingZeros 44 = .ok (.bipush 8, 2) := dk_16 8 (dk_at dksJ23_numberOfLeadingZeros_1 22 rfl rfl)
theorem dJ23_numberOfLeadingZeros_46 : decode cJ23_numberOfLeadingZeros 46 = .ok (.iushr, 1) := dk_124 (dk_at dksJ23_numberOfLeadingZeros_2 0 rfl rfl)
theorem dJ23_numberOfLeadingZeros_47 : decode cJ23_numberOfLeadingZeros 47 = .ok (.istore_n 0, 1) := dk_59 (dk_at dksJ23_numberOfLeadingZeros_2 1 rfl rfl)
theorem dJ23_numberOfLeadingZeros_48 : decode cJ23_numberOfLeadingZeros 48 = .ok (.iload_n 0, 1) := dk_26 (dk_at dksJ23_numberOfLeadingZeros_2 2 rfl rfl)
theorem dJ23_numberOfLeadingZeros_49 : decode cJ23_numberOfLeadingZeros 49 = .ok (.bipush 16, 2) := dk_16 16 (dk_at dksJ23_numberOfLeadingZeros_2 3 rfl rfl)
theorem dJ23_numberOfLeadingZeros_51 : decode cJ23_numberOfLeadingZeros 51 = .ok (.if_icmp .lt 10, 3) := dk_161 0 10 (dk_at dksJ23_numberOfLeadingZeros_2 5 rfl rfl)
theorem dJ23_numberOfLeadingZeros_54 : decode cJ23_numberOfLeadingZeros 54 = .ok (.iinc 1 (-4), 3) := dk_132 1 252 (dk_at dksJ23_numberOfLeadingZeros_2 8 rfl rfl)
theorem dJ23_numberOfLeadingZeros_57 : decode cJ23_numberOfLeadingZeros 57 = .ok (.iload_n 0, 1) := dk_26 (dk_at dksJ23_numberOfLeadingZeros_2 11 rfl rfl)
theorem dJ23_numberOfLeadingZeros_58 : decode cJ23_numberOfLeadingZeros 58 = .ok (.iconst 4, 1) := dk_7 (dk_at dksJ23_numberOfLeadingZeros_2 12 rfl rfl)
theorem dJ23_numberOfLeadingZeros_59 : decode cJ23_numberOfLeadingZeros 59 = .ok (.iushr, 1) := dk_124 (dk_at dksJ23_numberOfLeadingZeros_2 13 rfl rfl)
theorem dJ23_numberOfLeadingZeros_60 : decode cJ23_numberOfLeadingZeros 60 = .ok (.istore_n 0, 1) := dk_59 (dk_at dksJ23_numberOfLeadingZeros_2 14 rfl rfl)
theorem dJ23_numberOfLeadingZeros_61 : decode cJ23_numberOfLeadingZeros 61 = .ok (.iload_n 0, 1) := dk_26 (dk_at dksJ23_numberOfLeadingZeros_2 15 rfl rfl)
theorem dJ23_numberOfLeadingZeros_62 : decode cJ23_numberOfLeadingZeros 62 = .ok (.iconst 4, 1) := dk_7 (dk_at dksJ23_numberOfLeadingZeros_2 16 rfl rfl)
theorem dJ23_numberOfLeadingZeros_63 : decode cJ23_numberOfLeadingZeros 63 = .ok (.if_icmp .lt 10, 3) := dk_161 0 10 (dk_at dksJ23_numberOfLeadingZeros_2 17 rfl rfl)
theorem dJ23_numberOfLeadingZeros_66 : decode cJ23_numberOfLeadingZeros 66 = .ok (.iinc 1 (-2), 3) := dk_132 1 254 (dk_at dksJ23_numberOfLeadingZeros_2 20 rfl rfl)
theorem dJ23_numberOfLeadingZeros_69 : decode cJ23_numberOfLeadingZeros 69 = .ok (.iload_n 0, 1) := dk_26 (dk_at dksJ23_numberOfLeadingZeros_2 23 rfl rfl)
theorem dJ23_numberOfLeadingZeros_70 : decode cJ23_numberOfLeadingZeros 70 = .ok (.iconst 2, 1) := dk_5 (dk_at dksJ23_numberOfLeadingZeros_3 0 rfl rfl)
theorem dJ23_numberOfLeadingZeros_71 : decode cJ23_numberOfLeadingZeros 71 = .ok (.iushr, 1) := dk_124 (dk_at dksJ23_numberOfLeadingZeros_3 1 rfl rfl)
theorem dJ23_numberOfLeadingZeros_72 : decode cJ23_numberOfLeadingZeros 72 = .ok (.istore_n 0, 1) := dk_59 (dk_at dksJ23_numberOfLeadingZeros_3 2 rfl rfl)
theorem dJ23_numberOfLeadingZeros_73 : decode cJ23_numberOfLeadingZeros 73 = .ok (.iload_n 1, 1) := dk_27 (dk_at dksJ23_numberOfLeadingZeros_3 3 rfl rfl)
theorem dJ23_numberOfLeadingZeros_74 : decode cJ23_numberOfLeadingZeros 74 = .ok (.iload_n 0, 1) := dk_26 (dk_at dksJ23_numberOfLeadingZeros_3 4 rfl rfl)
theorem dJ23_numberOfLeadingZeros_75 : decode cJ23_numberOfLeadingZeros 75 = .ok (.iconst 1, 1) := dk_4 (dk_at dksJ23_numberOfLeadingZeros_3 5 rfl rfl)
theorem dJ23_numberOfLeadingZeros_76 : decode cJ23_numberOfLeadingZeros 76 = .ok (.iushr, 1) := dk_124 (dk_at dksJ23_numberOfLeadingZeros_3 6 rfl rfl)
theorem dJ23_numberOfLeadingZeros_77 : decode cJ23_numberOfLeadingZeros 77 = .ok (.isub, 1) := dk_100 (dk_at dksJ23_numberOfLeadingZeros_3 7 rfl rfl)
theorem dJ23_numberOfLeadingZeros_78 : decode cJ23_numberOfLeadingZeros 78 = .ok (.ireturn, 1) := dk_172 (dk_at dksJ23_numberOfLeadingZeros_3 8 rfl rfl)
abbrev cJ23_numberOfTrailingZeros : ByteArray := prog_26_method_48_code
def yJ23_numberOfTrailingZeros : MethodName := ⟨RJ23, "numberOfTrailingZeros", "(I)I"⟩
def dkwJ23_numberOfTrailingZeros_3 : List UInt8 := [5, 124, 59, 27, 26, 4, 124, 96, 172]
abbrev dktJ23_numberOfTrailingZeros_3 : List UInt8 := dkwJ23_numberOfTrailingZeros_3 ++ []
def dkwJ23_numberOfTrailingZeros_2 : List UInt8 := [124, 59, 26, 16, 16, 164, 0, 10, 132, 1, 4, 26, 7, 124, 59, 26, 7, 164, 0, 10, 132, 1, 2, 26]
abbrev dktJ23_numberOfTrailingZeros_2 : List UInt8 := dkwJ23_numberOfTrailingZeros_2 ++ dktJ23_numberOfTrailingZeros_3
def dkwJ23_numberOfTrailingZeros_1 : List UInt8 := [164, 0, 11, 132, 1, 16, 26, 16, 16, 124, 59, 26, 17, 1, 0, 164, 0, 11, 132, 1, 8, 26, 16, 8]
abbrev dktJ23_numberOfTrailingZeros_1 : List UInt8 := dkwJ23_numberOfTrailingZeros_1 ++ dktJ23_numberOfTrailingZeros_2
def dkwJ23_numberOfTrailingZeros_0 : List UInt8 := [26, 2, 130, 26, 4, 100, 126, 59, 26, 157, 0, 8, 26, 16, 32, 126, 172, 4, 60, 26, 19, 1, 8]
abbrev dktJ23_numberOfTrailingZeros_0 : List UInt8 := dkwJ23_numberOfTrailingZeros_0 ++ dktJ23_numberOfTrailingZeros_1
theorem dksJ23_numberOfTrailingZeros_0 : cJ23_numberOfTrailingZeros.data.toList.drop 0 = dktJ23_numberOfTrailingZeros_0 := by decide +kernel
theorem dksJ23_numberOfTrailingZeros_1 : cJ23_numberOfTrailingZeros.data.toList.drop 23 = dktJ23_numberOfTrailingZeros_1 := dk_seg dksJ23_numberOfTrailingZeros_0 23 rfl rfl
theorem dksJ23_numberOfTrailingZeros_2 : cJ23_numberOfTrailingZeros.data.toList.drop 47 = dktJ23_numberOfTrailingZeros_2 := dk_seg dksJ23_numberOfTrailingZeros_1 24 rfl rfl
theorem dksJ23_numberOfTrailingZeros_3 : cJ23_numberOfTrailingZeros.data.toList.drop 71 = dktJ23_numberOfTrailingZeros_3 := dk_seg dksJ23_numberOfTrailingZeros_2 24 rfl rfl
theorem dJ23_numberOfTrailingZeros_0 : decode cJ23_numberOfTrailingZeros 0 = .ok (.iload_n 0, 1) := dk_26 (dk_at dksJ23_numberOfTrailingZeros_0 0 rfl rfl)
theorem dJ23_numberOfTrailingZeros_1 : decode cJ23_numberOfTrailingZeros 1 = .ok (.iconst (-1), 1) := dk_2 (dk_at dksJ23_numberOfTrailingZeros_0 1 rfl rfl)
theorem dJ23_numberOfTrailingZeros_2 : decode cJ23_numberOfTrailingZeros 2 = .ok (.ixor, 1) := dk_130 (dk_at dksJ23_numberOfTrailingZeros_0 2 rfl rfl)
theorem dJ23_numberOfTrailingZeros_3 : decode cJ23_numberOfTrailingZeros 3 = .ok (.iload_n 0, 1) := dk_26 (dk_at dksJ23_numberOfTrailingZeros_0 3 rfl rfl)
theorem dJ23_numberOfTrailingZeros_4 : decode cJ23_numberOfTrailingZeros 4 = .ok (.iconst 1, 1) := dk_4 (dk_at dksJ23_numberOfTrailingZeros_0 4 rfl rfl)
theorem dJ23_numberOfTrailingZeros_5 : decode cJ23_numberOfTrailingZeros 5 = .ok (.isub, 1) := dk_100 (dk_at dksJ23_numberOfTrailingZeros_0 5 rfl rfl)
theorem dJ23_numberOfTrailingZeros_6 : decode cJ23_numberOfTrailingZeros 6 = .ok (.iand, 1) := dk_126 (dk_at dksJ23_numberOfTrailingZeros_0 6 rfl rfl)
theorem dJ23_numberOfTrailingZeros_7 : decode cJ23_numberOfTrailingZeros 7 = .ok (.istore_n 0, 1) := dk_59 (dk_at dksJ23_numberOfTrailingZeros_0 7 rfl rfl)
theorem dJ23_numberOfTrailingZeros_8 : decode cJ23_numberOfTrailingZeros 8 = .ok (.iload_n 0, 1) := dk_26 (dk_at dksJ23_numberOfTrailingZeros_0 8 rfl rfl)
theorem dJ23_numberOfTrailingZeros_9 : decode cJ23_numberOfTrailingZeros 9 = .ok (.ifCond .gt 8, 3) := dk_157 0 8 (dk_at dksJ23_numberOfTrailingZeros_0 9 rfl rfl)
theorem dJ23_numberOfTrailingZeros_12 : decode cJ23_numberOfTrailingZeros 12 = .ok (.iload_n 0, 1) := dk_26 (dk_at dksJ23_numberOfTrailingZeros_0 12 rfl rfl)
theorem dJ23_numberOfTrailingZeros_13 : decode cJ23_numberOfTrailingZeros 13 = .ok (.bipush 32, 2) := dk_16 32 (dk_at dksJ23_numberOfTrailingZeros_0 13 rfl rfl)
theorem dJ23_numberOfTrailingZeros_15 : decode cJ23_numberOfTrailingZeros 15 = .ok (.iand, 1) := dk_126 (dk_at dksJ23_numberOfTrailingZeros_0 15 rfl rfl)
theorem dJ23_numberOfTrailingZeros_16 : decode cJ23_numberOfTrailingZeros 16 = .ok (.ireturn, 1) := dk_172 (dk_at dksJ23_numberOfTrailingZeros_0 16 rfl rfl)
theorem dJ23_numberOfTrailingZeros_17 : decode cJ23_numberOfTrailingZeros 17 = .ok (.iconst 1, 1) := dk_4 (dk_at dksJ23_numberOfTrailingZeros_0 17 rfl rfl)
theorem dJ23_numberOfTrailingZeros_18 : decode cJ23_numberOfTrailingZeros 18 = .ok (.istore_n 1, 1) := dk_60 (dk_at dksJ23_numberOfTrailingZeros_0 18 rfl rfl)
theorem dJ23_numberOfTrailingZeros_19 : decode cJ23_numberOfTrailingZeros 19 = .ok (.iload_n 0, 1) := dk_26 (dk_at dksJ23_numberOfTrailingZeros_0 19 rfl rfl)
theorem dJ23_numberOfTrailingZeros_20 : decode cJ23_numberOfTrailingZeros 20 = .ok (.ldc_w 264, 3) := dk_19 1 8 (dk_at dksJ23_numberOfTrailingZeros_0 20 rfl rfl)
theorem dJ23_numberOfTrailingZeros_23 : decode cJ23_numberOfTrailingZeros 23 = .ok (.if_icmp .le 11, 3) := dk_164 0 11 (dk_at dksJ23_numberOfTrailingZeros_1 0 rfl rfl)
theorem dJ23_numberOfTrailingZeros_26 : decode cJ23_numberOfTrailingZeros 26 = .ok (.iinc 1 16, 3) := dk_132 1 16 (dk_at dksJ23_numberOfTrailingZeros_1 3 rfl rfl)
theorem dJ23_numberOfTrailingZeros_29 : decode cJ23_numberOfTrailingZeros 29 = .ok (.iload_n 0, 1) := dk_26 (dk_at dksJ23_numberOfTrailingZeros_1 6 rfl rfl)
theorem dJ23_numberOfTrailingZeros_30 : decode cJ23_numberOfTrailingZeros 30 = .ok (.bipush 16, 2) := dk_16 16 (dk_at dksJ23_numberOfTrailingZeros_1 7 rfl rfl)
theorem dJ23_numberOfTrailingZeros_32 : decode cJ23_numberOfTrailingZeros 32 = .ok (.iushr, 1) := dk_124 (dk_at dksJ23_numberOfTrailingZeros_1 9 rfl rfl)
theorem dJ23_numberOfTrailingZeros_33 : decode cJ23_numberOfTrailingZeros 33 = .ok (.istore_n 0, 1) := dk_59 (dk_at dksJ23_numberOfTrailingZeros_1 10 rfl rfl)
theorem dJ23_numberOfTrailingZeros_34 : decode cJ23_numberOfTrailingZeros 34 = .ok (.iload_n 0, 1) := dk_26 (dk_at dksJ23_numberOfTrailingZeros_1 11 rfl rfl)
theorem dJ23_numberOfTrailingZeros_35 : decode cJ23_numberOfTrailingZeros 35 = .ok (.sipush 256, 3) := dk_17 1 0 (dk_at dksJ23_numberOfTrailingZeros_1 12 rfl rfl)
theorem dJ23_numberOfTrailingZeros_38 : decode cJ23_numberOfTrailingZeros 38 = .ok (.if_icmp .le 11, 3) := dk_164 0 11 (dk_at dksJ23_numberOfTrailingZeros_1 15 rfl rfl)
theorem dJ23_numberOfTrailingZeros_41 : decode cJ23_numberOfTrailingZeros 41 = .ok (.iinc 1 8, 3) := dk_132 1 8 (dk_at dksJ23_numberOfTrailingZeros_1 18 rfl rfl)
theorem dJ23_numberOfTrailingZeros_44 : decode cJ23_numberOfTrailingZeros 44 = .ok (.iload_n 0, 1) := dk_26 (dk_at dksJ23_numberOfTrailingZeros_1 21 rfl rfl)
theorem dJ23_numberOfTrailingZeros_45 : decode cJ23_numberOfTrailingZeros 45 = .ok (.bipush 8, 2) := dk_16 8 (dk_at dksJ23_numberOfTrailingZeros_1 22 rfl rfl)
theorem dJ23_numberOfTrailingZeros_47 : decode cJ23_numberOfTrailingZeros 47 = .ok (.iushr, 1) := dk_124 (dk_at dksJ23_numberOfTrailingZeros_2 0 rfl rfl)
theorem dJ23_numberOfTrailingZeros_48 : decode cJ23_numberOfTrailingZeros 48 = .ok (.istore_n 0, 1) := dk_59 (dk_at dksJ23_numberOfTrailingZeros_2 1 rfl rfl)
theorem dJ23_numberOfTrailingZeros_49 : decode cJ23_numberOfTrailingZeros 49 = .ok (.iload_n 0, 1) := dk_26 (dk_at dksJ23_numberOfTrailingZeros_2 2 rfl rfl)
theorem dJ23_numberOfTrailingZeros_50 : decode cJ23_numberOfTrailingZeros 50 = .ok (.bipush 16, 2) := dk_16 16 (dk_at dksJ23_numberOfTrailingZeros_2 3 rfl rfl)
theorem dJ23_numberOfTrailingZeros_52 : decode cJ23_numberOfTrailingZeros 52 = .ok (.if_icmp .le 10, 3) := dk_164 0 10 (dk_at dksJ23_numberOfTrailingZeros_2 5 rfl rfl)
theorem dJ23_numberOfTrailingZeros_55 : decode cJ23_numberOfTrailingZeros 55 = .ok (.iinc 1 4, 3) := dk_132 1 4 (dk_at dksJ23_numberOfTrailingZeros_2 8 rfl rfl)
theorem dJ23_numberOfTrailingZeros_58 : decode cJ23_numberOfTrailingZeros 58 = .ok (.iload_n 0, 1) := dk_26 (dk_at dksJ23_numberOfTrailingZeros_2 11 rfl rfl)
theorem dJ23_numberOfTrailingZeros_59 : decode cJ23_numberOfTrailingZeros 59 = .ok (.iconst 4, 1) := dk_7 (dk_at dksJ23_numberOfTrailingZeros_2 12 rfl rfl)
theorem dJ23_numberOfTrailingZeros_60 : decode cJ23_numberOfTrailingZeros 60 = .ok (.iushr, 1) := dk_124 (dk_at dksJ23_numberOfTrailingZeros_2 13 rfl rfl)
theorem dJ23_numberOfTrailingZeros_61 : decode cJ23_numberOfTrailingZeros 61 = .ok (.istore_n 0, 1) := dk_59 (dk_at dksJ23_numberOfTrailingZeros_2 14 rfl rfl)
theorem dJ23_numberOfTrailingZeros_62 : decode cJ23_numberOfTrailingZeros 62 = .ok (.iload_n 0, 1) := dk_26 (dk_at dksJ23_numberOfTrailingZeros_2 15 rfl rfl)
theorem dJ23_numberOfTrailingZeros_63 : decode cJ23_numberOfTrailingZeros 63 = .ok (.iconst 4, 1) := dk_7 (dk_at dksJ23_numberOfTrailingZeros_2 16 rfl rfl)
theorem dJ23_numberOfTrailingZeros_64 : decode cJ23_numberOfTrailingZeros 64 = .ok (.if_icmp .le 10, 3) := dk_164 0 10 (dk_at dksJ23_numberOfTrailingZeros_2 17 rfl rfl)
theorem dJ23_numberOfTrailingZeros_67 : decode cJ23_numberOfTrailingZeros 67 = .ok (.iinc 1 2, 3) := dk_132 1 2 (dk_at dksJ23_numberOfTrailingZeros_2 20 rfl rfl)
theorem dJ23_numberOfTrailingZeros_70 : decode cJ23_numberOfTrailingZeros 70 = .ok (.iload_n 0, 1) := dk_26 (dk_at dksJ23_numberOfTrailingZeros_2 23 rfl rfl)
theorem dJ23_numberOfTrailingZeros_71 : decode cJ23_numberOfTrailingZeros 71 = .ok (.iconst 2, 1) := dk_5 (dk_at dksJ23_numberOfTrailingZeros_3 0 rfl rfl)
theorem dJ23_numberOfTrailingZeros_72 : decode cJ23_numberOfTrailingZeros 72 = .ok (.iushr, 1) := dk_124 (dk_at dksJ23_numberOfTrailingZeros_3 1 rfl rfl)
theorem dJ23_numberOfTrailingZeros_73 : decode cJ23_numberOfTrailingZeros 73 = .ok (.istore_n 0, 1) := dk_59 (dk_at dksJ23_numberOfTrailingZeros_3 2 rfl rfl)
theorem dJ23_numberOfTrailingZeros_74 : decode cJ23_numberOfTrailingZeros 74 = .ok (.iload_n 1, 1) := dk_27 (dk_at dksJ23_numberOfTrailingZeros_3 3 rfl rfl)
theorem dJ23_numberOfTrailingZeros_75 : decode cJ23_numberOfTrailingZeros 75 = .ok (.iload_n 0, 1) := dk_26 (dk_at dksJ23_numberOfTrailingZeros_3 4 rfl rfl)
theorem dJ23_numberOfTrailingZeros_76 : decode cJ23_numberOfTrailingZeros 76 = .ok (.iconst 1, 1) := dk_4 (dk_at dksJ23_numberOfTrailingZeros_3 5 rfl rfl)
theorem dJ23_numberOfTrailingZeros_77 : decode cJ23_numberOfTrailingZeros 77 = .ok (.iushr, 1) := dk_124 (dk_at dksJ23_numberOfTrailingZeros_3 6 rfl rfl)
theorem dJ23_numberOfTrailingZeros_78 : decode cJ23_numberOfTrailingZeros 78 = .ok (.iadd, 1) := dk_96 (dk_at dksJ23_numberOfTrailingZeros_3 7 rfl rfl)
theorem dJ23_numberOfTrailingZeros_79 : decode cJ23_numberOfTrailingZeros 79 = .ok (.ireturn, 1) := dk_172 (dk_at dksJ23_numberOfTrailingZeros_3 8 rfl rfl)
abbrev cJ23_intValue : ByteArray := prog_26_method_27_code
def yJ23_intValue : MethodName := ⟨RJ23, "intValue", "()I"⟩
theorem dJ23_intValue_0 : decode cJ23_intValue 0 = .ok (.aload_n 0, 1) := by decide +kernel
theorem dJ23_intValue_1 : decode cJ23_intValue 1 = .ok (.getfield 205, 3) := by decide +kernel
theorem dJ23_intValue_4 : decode cJ23_intValue 4 = .ok (.ireturn, 1) := by decide +kernel
abbrev cJ23_stringSize : ByteArray := prog_26_method_13_code
def yJ23_stringSize : MethodName := ⟨RJ23, "stringSize", "(I)I"⟩
def dkwJ23_stringSize_1 : List UInt8 := [164, 0, 7, 29, 27, 96, 172, 16, 10, 28, 104, 61, 132, 3, 1, 167, 255, 233, 16, 10, 27, 96, 172]
abbrev dktJ23_stringSize_1 : List UInt8 := dkwJ23_stringSize_1 ++ []
def dkwJ23_stringSize_0 : List UInt8 := [4, 60, 26, 155, 0, 8, 3, 60, 26, 116, 59, 16, 246, 61, 4, 62, 29, 16, 10, 162, 0, 23, 26, 28]
abbrev dktJ23_stringSize_0 : List UInt8 := dkwJ23_stringSize_0 ++ dktJ23_stringSize_1
theorem dksJ23_stringSize_0 : cJ23_stringSize.data.toList.drop 0 = dktJ23_stringSize_0 := by decide +kernel
theorem dksJ23_stringSize_1 : cJ23_stringSize.data.toList.drop 24 = dktJ23_stringSize_1 := dk_seg dksJ23_stringSize_0 24 rfl rfl
theorem dJ23_stringSize_0 : decode cJ23_stringSize 0 = .ok (.iconst 1, 1) := dk_4 (dk_at dksJ23_stringSize_0 0 rfl rfl)
theorem dJ23_stringSize_1 : decode cJ23_stringSize 1 = .ok (.istore_n 1, 1) := dk_60 (dk_at dksJ23_stringSize_0 1 rfl rfl)
theorem dJ23_stringSize_2 : decode cJ23_stringSize 2 = .ok (.iload_n 0, 1) := dk_26 (dk_at dksJ23_stringSize_0 2 rfl rfl)
theorem dJ23_stringSize_3 : decode cJ23_stringSize 3 = .ok (.ifCond .lt 8, 3) := dk_155 0 8 (dk_at dksJ23_stringSize_0 3 rfl rfl)
theorem dJ23_stringSize_6 : decode cJ23_stringSize 6 = .ok (.iconst 0, 1) := dk_3 (dk_at dksJ23_stringSize_0 6 rfl rfl)
theorem dJ23_stringSize_7 : decode cJ23_stringSize 7 = .ok (.istore_n 1, 1) := dk_60 (dk_at dksJ23_stringSize_0 7 rfl rfl)
theorem dJ23_stringSize_8 : decode cJ23_stringSize 8 = .ok (.iload_n 0, 1) := dk_26 (dk_at dksJ23_stringSize_0 8 rfl rfl)
theorem dJ23_stringSize_9 : decode cJ23_stringSize 9 = .ok (.ineg, 1) := dk_116 (dk_at dksJ23_stringSize_0 9 rfl rfl)
theorem dJ23_stringSize_10 : decode cJ23_stringSize 10 = .ok (.istore_n 0, 1) := dk_59 (dk_at dksJ23_stringSize_0 10 rfl rfl)
theorem dJ23_stringSize_11 : decode cJ23_stringSize 11 = .ok (.bipush (-10), 2) := dk_16 246 (dk_at dksJ23_stringSize_0 11 rfl rfl)
theorem dJ23_stringSize_13 : decode cJ23_stringSize 13 = .ok (.istore_n 2, 1) := dk_61 (dk_at dksJ23_stringSize_0 13 rfl rfl)
theorem dJ23_stringSize_14 : decode cJ23_stringSize 14 = .ok (.iconst 1, 1) := dk_4 (dk_at dksJ23_stringSize_0 14 rfl rfl)
theorem dJ23_stringSize_15 : decode cJ23_stringSize 15 = .ok (.istore_n 3, 1) := dk_62 (dk_at dksJ23_stringSize_0 15 rfl rfl)
theorem dJ23_stringSize_16 : decode cJ23_stringSize 16 = .ok (.iload_n 3, 1) := dk_29 (dk_at dksJ23_stringSize_0 16 rfl rfl)
theorem dJ23_stringSize_17 : decode cJ23_stringSize 17 = .ok (.bipush 10, 2) := dk_16 10 (dk_at dksJ23_stringSize_0 17 rfl rfl)
theorem dJ23_stringSize_19 : decode cJ23_stringSize 19 = .ok (.if_icmp .ge 23, 3) := dk_162 0 23 (dk_at dksJ23_stringSize_0 19 rfl rfl)
theorem dJ23_stringSize_22 : decode cJ23_stringSize 22 = .ok (.iload_n 0, 1) := dk_26 (dk_at dksJ23_stringSize_0 22 rfl rfl)
theorem dJ23_stringSize_23 : decode cJ23_stringSize 23 = .ok (.iload_n 2, 1) := dk_28 (dk_at dksJ23_stringSize_0 23 rfl rfl)
theorem dJ23_stringSize_24 : decode cJ23_stringSize 24 = .ok (.if_icmp .le 7, 3) := dk_164 0 7 (dk_at dksJ23_stringSize_1 0 rfl rfl)
theorem dJ23_stringSize_27 : decode cJ23_stringSize 27 = .ok (.iload_n 3, 1) := dk_29 (dk_at dksJ23_stringSize_1 3 rfl rfl)
theorem dJ23_stringSize_28 : decode cJ23_stringSize 28 = .ok (.iload_n 1, 1) := dk_27 (dk_at dksJ23_stringSize_1 4 rfl rfl)
theorem dJ23_stringSize_29 : decode cJ23_stringSize 29 = .ok (.iadd, 1) := dk_96 (dk_at dksJ23_stringSize_1 5 rfl rfl)
theorem dJ23_stringSize_30 : decode cJ23_stringSize 30 = .ok (.ireturn, 1) := dk_172 (dk_at dksJ23_stringSize_1 6 rfl rfl)
theorem dJ23_stringSize_31 : decode cJ23_stringSize 31 = .ok (.bipush 10, 2) := dk_16 10 (dk_at dksJ23_stringSize_1 7 rfl rfl)
theorem dJ23_stringSize_33 : decode cJ23_stringSize 33 = .ok (.iload_n 2, 1) := dk_28 (dk_at dksJ23_stringSize_1 9 rfl rfl)
theorem dJ23_stringSize_34 : decode cJ23_stringSize 34 = .ok (.imul, 1) := dk_104 (dk_at dksJ23_stringSize_1 10 rfl rfl)
theorem dJ23_stringSize_35 : decode cJ23_stringSize 35 = .ok (.istore_n 2, 1) := dk_61 (dk_at dksJ23_stringSize_1 11 rfl rfl)
theorem dJ23_stringSize_36 : decode cJ23_stringSize 36 = .ok (.iinc 3 1, 3) := dk_132 3 1 (dk_at dksJ23_stringSize_1 12 rfl rfl)
theorem dJ23_stringSize_39 : decode cJ23_stringSize 39 = .ok (.goto (-23), 3) := dk_167 255 233 (dk_at dksJ23_stringSize_1 15 rfl rfl)
theorem dJ23_stringSize_42 : decode cJ23_stringSize 42 = .ok (.bipush 10, 2) := dk_16 10 (dk_at dksJ23_stringSize_1 18 rfl rfl)
theorem dJ23_stringSize_44 : decode cJ23_stringSize 44 = .ok (.iload_n 1, 1) := dk_27 (dk_at dksJ23_stringSize_1 20 rfl rfl)
theorem dJ23_stringSize_45 : decode cJ23_stringSize 45 = .ok (.iadd, 1) := dk_96 (dk_at dksJ23_stringSize_1 21 rfl rfl)
theorem dJ23_stringSize_46 : decode cJ23_stringSize 46 = .ok (.ireturn, 1) := dk_172 (dk_at dksJ23_stringSize_1 22 rfl rfl)
abbrev cJ23_getChars : ByteArray := prog_26_method_12_code
def yJ23_getChars : MethodName := ⟨RJ23, "getChars", "(II[B)I"⟩
def dkwJ23_getChars_5 : List UInt8 := [16, 45, 84, 21, 5, 172]
abbrev dktJ23_getChars_5 : List UInt8 := dkwJ23_getChars_5 ++ []
def dkwJ23_getChars_4 : List UInt8 := [132, 5, 255, 21, 5, 178, 0, 87, 26, 116, 51, 84, 21, 6, 153, 0, 12, 44, 132, 5, 255, 21, 5]
abbrev dktJ23_getChars_4 : List UInt8 := dkwJ23_getChars_4 ++ dktJ23_getChars_5
def dkwJ23_getChars_3 : List UInt8 := [167, 255, 209, 44, 132, 5, 255, 21, 5, 178, 0, 83, 26, 116, 51, 84, 26, 16, 247, 162, 0, 16, 44]
abbrev dktJ23_getChars_3 : List UInt8 := dkwJ23_getChars_3 ++ dktJ23_getChars_4
def dkwJ23_getChars_2 : List UInt8 := [21, 5, 178, 0, 83, 21, 4, 51, 84, 44, 132, 5, 255, 21, 5, 178, 0, 87, 21, 4, 51, 84]
abbrev dktJ23_getChars_2 : List UInt8 := dkwJ23_getChars_2 ++ dktJ23_getChars_3
def dkwJ23_getChars_1 : List UInt8 := [16, 156, 163, 0, 47, 26, 16, 100, 108, 62, 29, 16, 100, 104, 26, 100, 54, 4, 29, 59, 44, 132, 5, 255]
abbrev dktJ23_getChars_1 : List UInt8 := dkwJ23_getChars_1 ++ dktJ23_getChars_2
def dkwJ23_getChars_0 : List UInt8 := [27, 54, 5, 26, 156, 0, 7, 4, 167, 0, 4, 3, 54, 6, 21, 6, 154, 0, 6, 26, 116, 59, 26]
abbrev dktJ23_getChars_0 : List UInt8 := dkwJ23_getChars_0 ++ dktJ23_getChars_1
theorem dksJ23_getChars_0 : cJ23_getChars.data.toList.drop 0 = dktJ23_getChars_0 := by decide +kernel
theorem dksJ23_getChars_1 : cJ23_getChars.data.toList.drop 23 = dktJ23_getChars_1 := dk_seg dksJ23_getChars_0 23 rfl rfl
theorem dksJ23_getChars_2 : cJ23_getChars.data.toList.drop 47 = dktJ23_getChars_2 := dk_seg dksJ23_getChars_1 24 rfl rfl
theorem dksJ23_getChars_3 : cJ23_getChars.data.toList.drop 69 = dktJ23_getChars_3 := dk_seg dksJ23_getChars_2 22 rfl rfl
theorem dksJ23_getChars_4 : cJ23_getChars.data.toList.drop 92 = dktJ23_getChars_4 := dk_seg dksJ23_getChars_3 23 rfl rfl
theorem dksJ23_getChars_5 : cJ23_getChars.data.toList.drop 115 = dktJ23_getChars_5 := dk_seg dksJ23_getChars_4 23 rfl rfl
theorem dJ23_getChars_0 : decode cJ23_getChars 0 = .ok (.iload_n 1, 1) := dk_27 (dk_at dksJ23_getChars_0 0 rfl rfl)
theorem dJ23_getChars_1 : decode cJ23_getChars 1 = .ok (.istore 5, 2) := dk_54 5 (dk_at dksJ23_getChars_0 1 rfl rfl)
theorem dJ23_getChars_3 : decode cJ23_getChars 3 = .ok (.iload_n 0, 1) := dk_26 (dk_at dksJ23_getChars_0 3 rfl rfl)
theorem dJ23_getChars_4 : decode cJ23_getChars 4 = .ok (.ifCond .ge 7, 3) := dk_156 0 7 (dk_at dksJ23_getChars_0 4 rfl rfl)
theorem dJ23_getChars_7 : decode cJ23_getChars 7 = .ok (.iconst 1, 1) := dk_4 (dk_at dksJ23_getChars_0 7 rfl rfl)
theorem dJ23_getChars_8 : decode cJ23_getChars 8 = .ok (.goto 4, 3) := dk_167 0 4 (dk_at dksJ23_getChars_0 8 rfl rfl)
theorem dJ23_getChars_11 : decode cJ23_getChars 11 = .ok (.iconst 0, 1) := dk_3 (dk_at dksJ23_getChars_0 11 rfl rfl)
theorem dJ23_getChars_12 : decode cJ23_getChars 12 = .ok (.istore 6, 2) := dk_54 6 (dk_at dksJ23_getChars_0 12 rfl rfl)
theorem dJ23_getChars_14 : decode cJ23_getChars 14 = .ok (.iload 6, 2) := dk_21 6 (dk_at dksJ23_getChars_0 14 rfl rfl)
theorem dJ23_getChars_16 : decode cJ23_getChars 16 = .ok (.ifCond .ne 6, 3) := dk_154 0 6 (dk_at dksJ23_getChars_0 16 rfl rfl)
theorem dJ23_getChars_19 : decode cJ23_getChars 19 = .ok (.iload_n 0, 1) := dk_26 (dk_at dksJ23_getChars_0 19 rfl rfl)
theorem dJ23_getChars_20 : decode cJ23_getChars 20 = .ok (.ineg, 1) := dk_116 (dk_at dksJ23_getChars_0 20 rfl rfl)
theorem dJ23_getChars_21 : decode cJ23_getChars 21 = .ok (.istore_n 0, 1) := dk_59 (dk_at dksJ23_getChars_0 21 rfl rfl)
theorem dJ23_getChars_22 : decode cJ23_getChars 22 = .ok (.iload_n 0, 1) := dk_26 (dk_at dksJ23_getChars_0 22 rfl rfl)
theorem dJ23_getChars_23 : decode cJ23_getChars 23 = .ok (.bipush (-100), 2) := dk_16 156 (dk_at dksJ23_getChars_1 0 rfl rfl)
theorem dJ23_getChars_25 : decode cJ23_getChars 25 = .ok (.if_icmp .gt 47, 3) := dk_163 0 47 (dk_at dksJ23_getChars_1 2 rfl rfl)
theorem dJ23_getChars_28 : decode cJ23_getChars 28 = .ok (.iload_n 0, 1) := dk_26 (dk_at dksJ23_getChars_1 5 rfl rfl)
theorem dJ23_getChars_29 : decode cJ23_getChars 29 = .ok (.bipush 100, 2) := dk_16 100 (dk_at dksJ23_getChars_1 6 rfl rfl)
theorem dJ23_getChars_31 : decode cJ23_getChars 31 = .ok (.idiv, 1) := dk_108 (dk_at dksJ23_getChars_1 8 rfl rfl)
theorem dJ23_getChars_32 : decode cJ23_getChars 32 = .ok (.istore_n 3, 1) := dk_62 (dk_at dksJ23_getChars_1 9 rfl rfl)
theorem dJ23_getChars_33 : decode cJ23_getChars 33 = .ok (.iload_n 3, 1) := dk_29 (dk_at dksJ23_getChars_1 10 rfl rfl)
theorem dJ23_getChars_34 : decode cJ23_getChars 34 = .ok (.bipush 100, 2) := dk_16 100 (dk_at dksJ23_getChars_1 11 rfl rfl)
theorem dJ23_getChars_36 : decode cJ23_getChars 36 = .ok (.imul, 1) := dk_104 (dk_at dksJ23_getChars_1 13 rfl rfl)
theorem dJ23_getChars_37 : decode cJ23_getChars 37 = .ok (.iload_n 0, 1) := dk_26 (dk_at dksJ23_getChars_1 14 rfl rfl)
theorem dJ23_getChars_38 : decode cJ23_getChars 38 = .ok (.isub, 1) := dk_100 (dk_at dksJ23_getChars_1 15 rfl rfl)
theorem dJ23_getChars_39 : decode cJ23_getChars 39 = .ok (.istore 4, 2) := dk_54 4 (dk_at dksJ23_getChars_1 16 rfl rfl)
theorem dJ23_getChars_41 : decode cJ23_getChars 41 = .ok (.iload_n 3, 1) := dk_29 (dk_at dksJ23_getChars_1 18 rfl rfl)
theorem dJ23_getChars_42 : decode cJ23_getChars 42 = .ok (.istore_n 0, 1) := dk_59 (dk_at dksJ23_getChars_1 19 rfl rfl)
theorem dJ23_getChars_43 : decode cJ23_getChars 43 = .ok (.aload_n 2, 1) := dk_44 (dk_at dksJ23_getChars_1 20 rfl rfl)
theorem dJ23_getChars_44 : decode cJ23_getChars 44 = .ok (.iinc 5 (-1), 3) := dk_132 5 255 (dk_at dksJ23_getChars_1 21 rfl rfl)
theorem dJ23_getChars_47 : decode cJ23_getChars 47 = .ok (.iload 5, 2) := dk_21 5 (dk_at dksJ23_getChars_2 0 rfl rfl)
theorem dJ23_getChars_49 : decode cJ23_getChars 49 = .ok (.getstatic 83, 3) := dk_178 0 83 (dk_at dksJ23_getChars_2 2 rfl rfl)
theorem dJ23_getChars_52 : decode cJ23_getChars 52 = .ok (.iload 4, 2) := dk_21 4 (dk_at dksJ23_getChars_2 5 rfl rfl)
theorem dJ23_getChars_54 : decode cJ23_getChars 54 = .ok (.baload, 1) := dk_51 (dk_at dksJ23_getChars_2 7 rfl rfl)
theorem dJ23_getChars_55 : decode cJ23_getChars 55 = .ok (.bastore, 1) := dk_84 (dk_at dksJ23_getChars_2 8 rfl rfl)
theorem dJ23_getChars_56 : decode cJ23_getChars 56 = .ok (.aload_n 2, 1) := dk_44 (dk_at dksJ23_getChars_2 9 rfl rfl)
theorem dJ23_getChars_57 : decode cJ23_getChars 57 = .ok (.iinc 5 (-1), 3) := dk_132 5 255 (dk_at dksJ23_getChars_2 10 rfl rfl)
theorem dJ23_getChars_60 : decode cJ23_getChars 60 = .ok (.iload 5, 2) := dk_21 5 (dk_at dksJ23_getChars_2 13 rfl rfl)
theorem dJ23_getChars_62 : decode cJ23_getChars 62 = .ok (.getstatic 87, 3) := dk_178 0 87 (dk_at dksJ23_getChars_2 15 rfl rfl)
theorem dJ23_getChars_65 : decode cJ23_getChars 65 = .ok (.iload 4, 2) := dk_21 4 (dk_at dksJ23_getChars_2 18 rfl rfl)
theorem dJ23_getChars_67 : decode cJ23_getChars 67 = .ok (.baload, 1) := dk_51 (dk_at dksJ23_getChars_2 20 rfl rfl)
theorem dJ23_getChars_68 : decode cJ23_getChars 68 = .ok (.bastore, 1) := dk_84 (dk_at dksJ23_getChars_2 21 rfl rfl)
theorem dJ23_getChars_69 : decode cJ23_getChars 69 = .ok (.goto (-47), 3) := dk_167 255 209 (dk_at dksJ23_getChars_3 0 rfl rfl)
theorem dJ23_getChars_72 : decode cJ23_getChars 72 = .ok (.aload_n 2, 1) := dk_44 (dk_at dksJ23_getChars_3 3 rfl rfl)
theorem dJ23_getChars_73 : decode cJ23_getChars 73 = .ok (.iinc 5 (-1), 3) := dk_132 5 255 (dk_at dksJ23_getChars_3 4 rfl rfl)
theorem dJ23_getChars_76 : decode cJ23_getChars 76 = .ok (.iload 5, 2) := dk_21 5 (dk_at dksJ23_getChars_3 7 rfl rfl)
theorem dJ23_getChars_78 : decode cJ23_getChars 78 = .ok (.getstatic 83, 3) := dk_178 0 83 (dk_at dksJ23_getChars_3 9 rfl rfl)
theorem dJ23_getChars_81 : decode cJ23_getChars 81 = .ok (.iload_n 0, 1) := dk_26 (dk_at dksJ23_getChars_3 12 rfl rfl)
theorem dJ23_getChars_82 : decode cJ23_getChars 82 = .ok (.ineg, 1) := dk_116 (dk_at dksJ23_getChars_3 13 rfl rfl)
theorem dJ23_getChars_83 : decode cJ23_getChars 83 = .ok (.baload, 1) := dk_51 (dk_at dksJ23_getChars_3 14 rfl rfl)
theorem dJ23_getChars_84 : decode cJ23_getChars 84 = .ok (.bastore, 1) := dk_84 (dk_at dksJ23_getChars_3 15 rfl rfl)
theorem dJ23_getChars_85 : decode cJ23_getChars 85 = .ok (.iload_n 0, 1) := dk_26 (dk_at dksJ23_getChars_3 16 rfl rfl)
theorem dJ23_getChars_86 : decode cJ23_getChars 86 = .ok (.bipush (-9), 2) := dk_16 247 (dk_at dksJ23_getChars_3 17 rfl rfl)
theorem dJ23_getChars_88 : decode cJ23_getChars 88 = .ok (.if_icmp .ge 16, 3) := dk_162 0 16 (dk_at dksJ23_getChars_3 19 rfl rfl)
theorem dJ23_getChars_91 : decode cJ23_getChars 91 = .ok (.aload_n 2, 1) := dk_44 (dk_at dksJ23_getChars_3 22 rfl rfl)
theorem dJ23_getChars_92 : decode cJ23_getChars 92 = .ok (.iinc 5 (-1), 3) := dk_132 5 255 (dk_at dksJ23_getChars_4 0 rfl rfl)
theorem dJ23_getChars_95 : decode cJ23_getChars 95 = .ok (.iload 5, 2) := dk_21 5 (dk_at dksJ23_getChars_4 3 rfl rfl)
theorem dJ23_getChars_97 : decode cJ23_getChars 97 = .ok (.getstatic 87, 3) := dk_178 0 87 (dk_at dksJ23_getChars_4 5 rfl rfl)
theorem dJ23_getChars_100 : decode cJ23_getChars 100 = .ok (.iload_n 0, 1) := dk_26 (dk_at dksJ23_getChars_4 8 rfl rfl)
theorem dJ23_getChars_101 : decode cJ23_getChars 101 = .ok (.ineg, 1) := dk_116 (dk_at dksJ23_getChars_4 9 rfl rfl)
theorem dJ23_getChars_102 : decode cJ23_getChars 102 = .ok (.baload, 1) := dk_51 (dk_at dksJ23_getChars_4 10 rfl rfl)
theorem dJ23_getChars_103 : decode cJ23_getChars 103 = .ok (.bastore, 1) := dk_84 (dk_at dksJ23_getChars_4 11 rfl rfl)
theorem dJ23_getChars_104 : decode cJ23_getChars 104 = .ok (.iload 6, 2) := dk_21 6 (dk_at dksJ23_getChars_4 12 rfl rfl)
theorem dJ23_getChars_106 : decode cJ23_getChars 106 = .ok (.ifCond .eq 12, 3) := dk_153 0 12 (dk_at dksJ23_getChars_4 14 rfl rfl)
theorem dJ23_getChars_109 : decode cJ23_getChars 109 = .ok (.aload_n 2, 1) := dk_44 (dk_at dksJ23_getChars_4 17 rfl rfl)
theorem dJ23_getChars_110 : decode cJ23_getChars 110 = .ok (.iinc 5 (-1), 3) := dk_132 5 255 (dk_at dksJ23_getChars_4 18 rfl rfl)
theorem dJ23_getChars_113 : decode cJ23_getChars 113 = .ok (.iload 5, 2) := dk_21 5 (dk_at dksJ23_getChars_4 21 rfl rfl)
theorem dJ23_getChars_115 : decode cJ23_getChars 115 = .ok (.bipush 45, 2) := dk_16 45 (dk_at dksJ23_getChars_5 0 rfl rfl)
theorem dJ23_getChars_117 : decode cJ23_getChars 117 = .ok (.bastore, 1) := dk_84 (dk_at dksJ23_getChars_5 2 rfl rfl)
theorem dJ23_getChars_118 : decode cJ23_getChars 118 = .ok (.iload 5, 2) := dk_21 5 (dk_at dksJ23_getChars_5 3 rfl rfl)
theorem dJ23_getChars_120 : decode cJ23_getChars 120 = .ok (.ireturn, 1) := dk_172 (dk_at dksJ23_getChars_5 5 rfl rfl)
theorem q111 : (Jvm.Cond.initialized "java/lang/Integer") ∈ lw_all := lw_g (lw_at lw_m1 33 rfl) rfl
theorem q414 : (Jvm.Cond.selects "java/lang/Integer" ({ cls := "java/lang/Object", name := "getClass", desc := "()Ljava/lang/Class;" } : Jvm.MethodName) ({ cls := "java/lang/Object", name := "getClass", desc := "()Ljava/lang/Class;" } : Jvm.MethodName)) ∈ lw_all := lw_g (lw_at lw_m2 96 rfl) rfl
theorem q568 : (Jvm.Cond.static ({ cls := "java/lang/Integer", name := "valueOf", desc := "(I)Ljava/lang/Integer;" } : Jvm.MethodName)) ∈ lw_all := lw_g (lw_at lw_m3 10 rfl) rfl
theorem q569 : (Jvm.Cond.code ({ cls := "java/lang/Integer", name := "valueOf", desc := "(I)Ljava/lang/Integer;" } : Jvm.MethodName) prog_26_method_22_code (1 : Nat) (Option.some (Jvm.ClassFile.FieldType.object "java/lang/Integer"))) ∈ lw_all := lw_g (lw_at lw_m3 11 rfl) rfl
theorem q570 : (Jvm.Cond.fieldLink "java/lang/Integer" (191 : Nat) "java/lang/Integer$IntegerCache" "high" "I") ∈ lw_all := lw_g (lw_at lw_m3 12 rfl) rfl
theorem q572 : (Jvm.Cond.fieldLink "java/lang/Integer" (195 : Nat) "java/lang/Integer$IntegerCache" "cache" "[Ljava/lang/Integer;") ∈ lw_all := lw_g (lw_at lw_m3 14 rfl) rfl
theorem q574 : (Jvm.Cond.classLink "java/lang/Integer" (1 : Nat) "java/lang/Integer") ∈ lw_all := lw_g (lw_at lw_m3 16 rfl) rfl
theorem q575 : (Jvm.Cond.instantiable "java/lang/Integer" (1 : Nat)) ∈ lw_all := lw_g (lw_at lw_m3 17 rfl) rfl
theorem q576 : (Jvm.Cond.methodLink "java/lang/Integer" (199 : Nat) ({ cls := "java/lang/Integer", name := "<init>", desc := "(I)V" } : Jvm.MethodName)) ∈ lw_all := lw_g (lw_at lw_m3 18 rfl) rfl
theorem q577 : (Jvm.Cond.instanceMethod ({ cls := "java/lang/Integer", name := "<init>", desc := "(I)V" } : Jvm.MethodName)) ∈ lw_all := lw_g (lw_at lw_m3 19 rfl) rfl
theorem q578 : (Jvm.Cond.code ({ cls := "java/lang/Integer", name := "<init>", desc := "(I)V" } : Jvm.MethodName) prog_26_method_23_code (2 : Nat) (Option.none : Option Jvm.ClassFile.FieldType)) ∈ lw_all := lw_g (lw_at lw_m3 20 rfl) rfl
theorem q579 : (Jvm.Cond.methodLink "java/lang/Integer" (202 : Nat) ({ cls := "java/lang/Number", name := "<init>", desc := "()V" } : Jvm.MethodName)) ∈ lw_all := lw_g (lw_at lw_m3 21 rfl) rfl
theorem q583 : (Jvm.Cond.fieldLink "java/lang/Integer" (205 : Nat) "java/lang/Integer" "value" "I") ∈ lw_all := lw_g (lw_at lw_m3 25 rfl) rfl
theorem q584 : (Jvm.Cond.laysFinal "java/lang/Integer" "java/lang/Integer" "value" "I") ∈ lw_all := lw_g (lw_at lw_m3 26 rfl) rfl
theorem q585 : (Jvm.Cond.soleField "java/lang/Integer" "value") ∈ lw_all := lw_g (lw_at lw_m3 27 rfl) rfl
theorem q586 : (Jvm.Cond.superclass "java/lang/Integer" "java/lang/Number") ∈ lw_all := lw_g (lw_at lw_m3 28 rfl) rfl
theorem q608 : (Jvm.Cond.castable "java/lang/Integer" "java/lang/Comparable") ∈ lw_tbl := lw_at lw_m3 50 rfl
theorem q609 : (Jvm.Cond.selects "java/lang/Integer" ({ cls := "java/lang/Comparable", name := "compareTo", desc := "(Ljava/lang/Object;)I" } : Jvm.MethodName) ({ cls := "java/lang/Integer", name := "compareTo", desc := "(Ljava/lang/Object;)I" } : Jvm.MethodName)) ∈ lw_all := lw_g (lw_at lw_m3 51 rfl) rfl
theorem q610 : (Jvm.Cond.unhidden "java/lang/Integer" "compareTo" "(Ljava/lang/Object;)I") ∈ lw_tbl := lw_at lw_m3 52 rfl
theorem q611 : (Jvm.Cond.instanceMethod ({ cls := "java/lang/Integer", name := "compareTo", desc := "(Ljava/lang/Object;)I" } : Jvm.MethodName)) ∈ lw_all := lw_g (lw_at lw_m3 53 rfl) rfl
theorem q612 : (Jvm.Cond.publicMethod ({ cls := "java/lang/Integer", name := "compareTo", desc := "(Ljava/lang/Object;)I" } : Jvm.MethodName)) ∈ lw_tbl := lw_at lw_m3 54 rfl
theorem q613 : (Jvm.Cond.code ({ cls := "java/lang/Integer", name := "compareTo", desc := "(Ljava/lang/Object;)I" } : Jvm.MethodName) prog_26_method_63_code (2 : Nat) (Option.some Jvm.ClassFile.FieldType.int)) ∈ lw_all := lw_g (lw_at lw_m3 55 rfl) rfl
theorem q614 : (Jvm.Cond.methodLink "java/lang/Integer" (284 : Nat) ({ cls := "java/lang/Integer", name := "compareTo", desc := "(Ljava/lang/Integer;)I" } : Jvm.MethodName)) ∈ lw_all := lw_g (lw_at lw_m3 56 rfl) rfl
theorem q615 : (Jvm.Cond.instanceMethod ({ cls := "java/lang/Integer", name := "compareTo", desc := "(Ljava/lang/Integer;)I" } : Jvm.MethodName)) ∈ lw_all := lw_g (lw_at lw_m3 57 rfl) rfl
theorem q616 : (Jvm.Cond.selects "java/lang/Integer" ({ cls := "java/lang/Integer", name := "compareTo", desc := "(Ljava/lang/Integer;)I" } : Jvm.MethodName) ({ cls := "java/lang/Integer", name := "compareTo", desc := "(Ljava/lang/Integer;)I" } : Jvm.MethodName)) ∈ lw_all := lw_g (lw_at lw_m3 58 rfl) rfl
theorem q617 : (Jvm.Cond.code ({ cls := "java/lang/Integer", name := "compareTo", desc := "(Ljava/lang/Integer;)I" } : Jvm.MethodName) prog_26_method_39_code (2 : Nat) (Option.some Jvm.ClassFile.FieldType.int)) ∈ lw_all := lw_g (lw_at lw_m3 59 rfl) rfl
theorem q618 : (Jvm.Cond.methodLink "java/lang/Integer" (259 : Nat) ({ cls := "java/lang/Integer", name := "compare", desc := "(II)I" } : Jvm.MethodName)) ∈ lw_all := lw_g (lw_at lw_m3 60 rfl) rfl
theorem q619 : (Jvm.Cond.static ({ cls := "java/lang/Integer", name := "compare", desc := "(II)I" } : Jvm.MethodName)) ∈ lw_all := lw_g (lw_at lw_m3 61 rfl) rfl
theorem q620 : (Jvm.Cond.code ({ cls := "java/lang/Integer", name := "compare", desc := "(II)I" } : Jvm.MethodName) prog_26_method_40_code (2 : Nat) (Option.some Jvm.ClassFile.FieldType.int)) ∈ lw_all := lw_g (lw_at lw_m3 62 rfl) rfl
theorem q716 : (Jvm.Cond.static ({ cls := "java/lang/Integer", name := "numberOfLeadingZeros", desc := "(I)I" } : Jvm.MethodName)) ∈ lw_all := lw_g (lw_at lw_m3 158 rfl) rfl
theorem q717 : (Jvm.Cond.code ({ cls := "java/lang/Integer", name := "numberOfLeadingZeros", desc := "(I)I" } : Jvm.MethodName) prog_26_method_47_code (2 : Nat) (Option.some Jvm.ClassFile.FieldType.int)) ∈ lw_all := lw_g (lw_at lw_m3 159 rfl) rfl
theorem q718 : (Jvm.Cond.constant "java/lang/Integer" (264 : Nat) (65536 : Int32)) ∈ lw_all := lw_g (lw_at lw_m3 160 rfl) rfl
theorem q725 : (Jvm.Cond.static ({ cls := "java/lang/Integer", name := "numberOfTrailingZeros", desc := "(I)I" } : Jvm.MethodName)) ∈ lw_all := lw_g (lw_at lw_m3 167 rfl) rfl
theorem q726 : (Jvm.Cond.code ({ cls := "java/lang/Integer", name := "numberOfTrailingZeros", desc := "(I)I" } : Jvm.MethodName) prog_26_method_48_code (2 : Nat) (Option.some Jvm.ClassFile.FieldType.int)) ∈ lw_all := lw_g (lw_at lw_m3 168 rfl) rfl
theorem q1002 : (Jvm.Cond.instanceMethod ({ cls := "java/lang/Integer", name := "intValue", desc := "()I" } : Jvm.MethodName)) ∈ lw_all := lw_g (lw_at lw_m4 204 rfl) rfl
theorem q1003 : (Jvm.Cond.selects "java/lang/Integer" ({ cls := "java/lang/Integer", name := "intValue", desc := "()I" } : Jvm.MethodName) ({ cls := "java/lang/Integer", name := "intValue", desc := "()I" } : Jvm.MethodName)) ∈ lw_all := lw_g (lw_at lw_m4 205 rfl) rfl
theorem q1004 : (Jvm.Cond.code ({ cls := "java/lang/Integer", name := "intValue", desc := "()I" } : Jvm.MethodName) prog_26_method_27_code (1 : Nat) (Option.some Jvm.ClassFile.FieldType.int)) ∈ lw_all := lw_g (lw_at lw_m4 206 rfl) rfl
theorem q1401 : (Jvm.Cond.static ({ cls := "java/lang/Integer", name := "stringSize", desc := "(I)I" } : Jvm.MethodName)) ∈ lw_all := lw_g (lw_at lw_m6 123 rfl) rfl
theorem q1402 : (Jvm.Cond.code ({ cls := "java/lang/Integer", name := "stringSize", desc := "(I)I" } : Jvm.MethodName) prog_26_method_13_code (4 : Nat) (Option.some Jvm.ClassFile.FieldType.int)) ∈ lw_all := lw_g (lw_at lw_m6 124 rfl) rfl
theorem q1404 : (Jvm.Cond.static ({ cls := "java/lang/Integer", name := "getChars", desc := "(II[B)I" } : Jvm.MethodName)) ∈ lw_all := lw_g (lw_at lw_m6 126 rfl) rfl
theorem q1405 : (Jvm.Cond.code ({ cls := "java/lang/Integer", name := "getChars", desc := "(II[B)I" } : Jvm.MethodName) prog_26_method_12_code (7 : Nat) (Option.some Jvm.ClassFile.FieldType.int)) ∈ lw_all := lw_g (lw_at lw_m6 127 rfl) rfl
theorem q1406 : (Jvm.Cond.fieldLink "java/lang/Integer" (83 : Nat) "java/lang/Integer" "DigitOnes" "[B") ∈ lw_all := lw_g (lw_at lw_m6 128 rfl) rfl
theorem q1407 : (Jvm.Cond.laysStatic "java/lang/Integer" "DigitOnes" "[B") ∈ lw_tbl := lw_at lw_m6 129 rfl
theorem q1408 : (Jvm.Cond.fieldLink "java/lang/Integer" (87 : Nat) "java/lang/Integer" "DigitTens" "[B") ∈ lw_all := lw_g (lw_at lw_m6 130 rfl) rfl
theorem q1409 : (Jvm.Cond.laysStatic "java/lang/Integer" "DigitTens" "[B") ∈ lw_tbl := lw_at lw_m6 131 rfl
theorem q2685 : (Jvm.Cond.castable "java/lang/Integer" "java/lang/Object") ∈ lw_tbl := lw_at lw_m11 207 rfl
theorem in_J23 : ∀ w ∈ wsJ230, w ∈ lw_all := lw_in wsJ230 [584] (by decide +kernel) (by decide +kernel)

/-! java/lang/StringLatin1 -/
set_option maxRecDepth 100000
def RJ24 : String := "java/lang/StringLatin1"
abbrev cJ24_compareTo : ByteArray := prog_36_method_14_code
def yJ24_compareTo : MethodName := ⟨RJ24, "compareTo", "([B[B)I"⟩
def dkwJ24_compareTo_0 : List UInt8 := [42, 190, 61, 43, 190, 62, 42, 43, 28, 29, 184, 0, 34, 172]
abbrev dktJ24_compareTo_0 : List UInt8 := dkwJ24_compareTo_0 ++ []
theorem dksJ24_compareTo_0 : cJ24_compareTo.data.toList.drop 0 = dktJ24_compareTo_0 := by decide +kernel
theorem dJ24_compareTo_0 : decode cJ24_compareTo 0 = .ok (.aload_n 0, 1) := dk_42 (dk_at dksJ24_compareTo_0 0 rfl rfl)
theorem dJ24_compareTo_1 : decode cJ24_compareTo 1 = .ok (.arraylength, 1) := dk_190 (dk_at dksJ24_compareTo_0 1 rfl rfl)
theorem dJ24_compareTo_2 : decode cJ24_compareTo 2 = .ok (.istore_n 2, 1) := dk_61 (dk_at dksJ24_compareTo_0 2 rfl rfl)
theorem dJ24_compareTo_3 : decode cJ24_compareTo 3 = .ok (.aload_n 1, 1) := dk_43 (dk_at dksJ24_compareTo_0 3 rfl rfl)
theorem dJ24_compareTo_4 : decode cJ24_compareTo 4 = .ok (.arraylength, 1) := dk_190 (dk_at dksJ24_compareTo_0 4 rfl rfl)
theorem dJ24_compareTo_5 : decode cJ24_compareTo 5 = .ok (.istore_n 3, 1) := dk_62 (dk_at dksJ24_compareTo_0 5 rfl rfl)
theorem dJ24_compareTo_6 : decode cJ24_compareTo 6 = .ok (.aload_n 0, 1) := dk_42 (dk_at dksJ24_compareTo_0 6 rfl rfl)
theorem dJ24_compareTo_7 : decode cJ24_compareTo 7 = .ok (.aload_n 1, 1) := dk_43 (dk_at dksJ24_compareTo_0 7 rfl rfl)
theorem dJ24_compareTo_8 : decode cJ24_compareTo 8 = .ok (.iload_n 2, 1) := dk_28 (dk_at dksJ24_compareTo_0 8 rfl rfl)
theorem dJ24_compareTo_9 : decode cJ24_compareTo 9 = .ok (.iload_n 3, 1) := dk_29 (dk_at dksJ24_compareTo_0 9 rfl rfl)
theorem dJ24_compareTo_10 : decode cJ24_compareTo 10 = .ok (.invokestatic 34, 3) := dk_184 0 34 (dk_at dksJ24_compareTo_0 10 rfl rfl)
theorem dJ24_compareTo_13 : decode cJ24_compareTo 13 = .ok (.ireturn, 1) := dk_172 (dk_at dksJ24_compareTo_0 13 rfl rfl)
abbrev cJ24_compareTo_2 : ByteArray := prog_36_method_15_code
def yJ24_compareTo_2 : MethodName := ⟨RJ24, "compareTo", "([B[BII)I"⟩
def dkwJ24_compareTo_2_1 : List UInt8 := [167, 0, 16, 42, 21, 5, 184, 0, 50, 43, 21, 5, 184, 0, 50, 100, 172]
abbrev dktJ24_compareTo_2_1 : List UInt8 := dkwJ24_compareTo_2_1 ++ []
def dkwJ24_compareTo_2_0 : List UInt8 := [28, 29, 184, 0, 38, 54, 4, 42, 43, 21, 4, 184, 0, 44, 54, 5, 21, 5, 156, 0, 9, 28, 29, 100]
abbrev dktJ24_compareTo_2_0 : List UInt8 := dkwJ24_compareTo_2_0 ++ dktJ24_compareTo_2_1
theorem dksJ24_compareTo_2_0 : cJ24_compareTo_2.data.toList.drop 0 = dktJ24_compareTo_2_0 := by decide +kernel
theorem dksJ24_compareTo_2_1 : cJ24_compareTo_2.data.toList.drop 24 = dktJ24_compareTo_2_1 := dk_seg dksJ24_compareTo_2_0 24 rfl rfl
theorem dJ24_compareTo_2_0 : decode cJ24_compareTo_2 0 = .ok (.iload_n 2, 1) := dk_28 (dk_at dksJ24_compareTo_2_0 0 rfl rfl)
theorem dJ24_compareTo_2_1 : decode cJ24_compareTo_2 1 = .ok (.iload_n 3, 1) := dk_29 (dk_at dksJ24_compareTo_2_0 1 rfl rfl)
theorem dJ24_compareTo_2_2 : decode cJ24_compareTo_2 2 = .ok (.invokestatic 38, 3) := dk_184 0 38 (dk_at dksJ24_compareTo_2_0 2 rfl rfl)
theorem dJ24_compareTo_2_5 : decode cJ24_compareTo_2 5 = .ok (.istore 4, 2) := dk_54 4 (dk_at dksJ24_compareTo_2_0 5 rfl rfl)
theorem dJ24_compareTo_2_7 : decode cJ24_compareTo_2 7 = .ok (.aload_n 0, 1) := dk_42 (dk_at dksJ24_compareTo_2_0 7 rfl rfl)
theorem dJ24_compareTo_2_8 : decode cJ24_compareTo_2 8 = .ok (.aload_n 1, 1) := dk_43 (dk_at dksJ24_compareTo_2_0 8 rfl rfl)
theorem dJ24_compareTo_2_9 : decode cJ24_compareTo_2 9 = .ok (.iload 4, 2) := dk_21 4 (dk_at dksJ24_compareTo_2_0 9 rfl rfl)
theorem dJ24_compareTo_2_11 : decode cJ24_compareTo_2 11 = .ok (.invokestatic 44, 3) := dk_184 0 44 (dk_at dksJ24_compareTo_2_0 11 rfl rfl)
theorem dJ24_compareTo_2_14 : decode cJ24_compareTo_2 14 = .ok (.istore 5, 2) := dk_54 5 (dk_at dksJ24_compareTo_2_0 14 rfl rfl)
theorem dJ24_compareTo_2_16 : decode cJ24_compareTo_2 16 = .ok (.iload 5, 2) := dk_21 5 (dk_at dksJ24_compareTo_2_0 16 rfl rfl)
theorem dJ24_compareTo_2_18 : decode cJ24_compareTo_2 18 = .ok (.ifCond .ge 9, 3) := dk_156 0 9 (dk_at dksJ24_compareTo_2_0 18 rfl rfl)
theorem dJ24_compareTo_2_21 : decode cJ24_compareTo_2 21 = .ok (.iload_n 2, 1) := dk_28 (dk_at dksJ24_compareTo_2_0 21 rfl rfl)
theorem dJ24_compareTo_2_22 : decode cJ24_compareTo_2 22 = .ok (.iload_n 3, 1) := dk_29 (dk_at dksJ24_compareTo_2_0 22 rfl rfl)
theorem dJ24_compareTo_2_23 : decode cJ24_compareTo_2 23 = .ok (.isub, 1) := dk_100 (dk_at dksJ24_compareTo_2_0 23 rfl rfl)
theorem dJ24_compareTo_2_24 : decode cJ24_compareTo_2 24 = .ok (.goto 16, 3) := dk_167 0 16 (dk_at dksJ24_compareTo_2_1 0 rfl rfl)
theorem dJ24_compareTo_2_27 : decode cJ24_compareTo_2 27 = .ok (.aload_n 0, 1) := dk_42 (dk_at dksJ24_compareTo_2_1 3 rfl rfl)
theorem dJ24_compareTo_2_28 : decode cJ24_compareTo_2 28 = .ok (.iload 5, 2) := dk_21 5 (dk_at dksJ24_compareTo_2_1 4 rfl rfl)
theorem dJ24_compareTo_2_30 : decode cJ24_compareTo_2 30 = .ok (.invokestatic 50, 3) := dk_184 0 50 (dk_at dksJ24_compareTo_2_1 6 rfl rfl)
theorem dJ24_compareTo_2_33 : decode cJ24_compareTo_2 33 = .ok (.aload_n 1, 1) := dk_43 (dk_at dksJ24_compareTo_2_1 9 rfl rfl)
theorem dJ24_compareTo_2_34 : decode cJ24_compareTo_2 34 = .ok (.iload 5, 2) := dk_21 5 (dk_at dksJ24_compareTo_2_1 10 rfl rfl)
theorem dJ24_compareTo_2_36 : decode cJ24_compareTo_2 36 = .ok (.invokestatic 50, 3) := dk_184 0 50 (dk_at dksJ24_compareTo_2_1 12 rfl rfl)
theorem dJ24_compareTo_2_39 : decode cJ24_compareTo_2 39 = .ok (.isub, 1) := dk_100 (dk_at dksJ24_compareTo_2_1 15 rfl rfl)
theorem dJ24_compareTo_2_40 : decode cJ24_compareTo_2 40 = .ok (.ireturn, 1) := dk_172 (dk_at dksJ24_compareTo_2_1 16 rfl rfl)
abbrev cJ24_getChar : ByteArray := prog_36_method_44_code
def yJ24_getChar : MethodName := ⟨RJ24, "getChar", "([BI)C"⟩
def dkwJ24_getChar_0 : List UInt8 := [42, 27, 51, 17, 0, 255, 126, 146, 172]
abbrev dktJ24_getChar_0 : List UInt8 := dkwJ24_getChar_0 ++ []
theorem dksJ24_getChar_0 : cJ24_getChar.data.toList.drop 0 = dktJ24_getChar_0 := by decide +kernel
theorem dJ24_getChar_0 : decode cJ24_getChar 0 = .ok (.aload_n 0, 1) := dk_42 (dk_at dksJ24_getChar_0 0 rfl rfl)
theorem dJ24_getChar_1 : decode cJ24_getChar 1 = .ok (.iload_n 1, 1) := dk_27 (dk_at dksJ24_getChar_0 1 rfl rfl)
theorem dJ24_getChar_2 : decode cJ24_getChar 2 = .ok (.baload, 1) := dk_51 (dk_at dksJ24_getChar_0 2 rfl rfl)
theorem dJ24_getChar_3 : decode cJ24_getChar 3 = .ok (.sipush 255, 3) := dk_17 0 255 (dk_at dksJ24_getChar_0 3 rfl rfl)
theorem dJ24_getChar_6 : decode cJ24_getChar 6 = .ok (.iand, 1) := dk_126 (dk_at dksJ24_getChar_0 6 rfl rfl)
theorem dJ24_getChar_7 : decode cJ24_getChar 7 = .ok (.i2c, 1) := dk_146 (dk_at dksJ24_getChar_0 7 rfl rfl)
theorem dJ24_getChar_8 : decode cJ24_getChar 8 = .ok (.ireturn, 1) := dk_172 (dk_at dksJ24_getChar_0 8 rfl rfl)
abbrev cJ24_compareToUTF16 : ByteArray := prog_36_method_16_code
def yJ24_compareToUTF16 : MethodName := ⟨RJ24, "compareToUTF16", "([B[B)I"⟩
def dkwJ24_compareToUTF16_0 : List UInt8 := [42, 184, 0, 54, 61, 43, 184, 0, 58, 62, 42, 43, 28, 29, 184, 0, 59, 172]
abbrev dktJ24_compareToUTF16_0 : List UInt8 := dkwJ24_compareToUTF16_0 ++ []
theorem dksJ24_compareToUTF16_0 : cJ24_compareToUTF16.data.toList.drop 0 = dktJ24_compareToUTF16_0 := by decide +kernel
theorem dJ24_compareToUTF16_0 : decode cJ24_compareToUTF16 0 = .ok (.aload_n 0, 1) := dk_42 (dk_at dksJ24_compareToUTF16_0 0 rfl rfl)
theorem dJ24_compareToUTF16_1 : decode cJ24_compareToUTF16 1 = .ok (.invokestatic 54, 3) := dk_184 0 54 (dk_at dksJ24_compareToUTF16_0 1 rfl rfl)
theorem dJ24_compareToUTF16_4 : decode cJ24_compareToUTF16 4 = .ok (.istore_n 2, 1) := dk_61 (dk_at dksJ24_compareToUTF16_0 4 rfl rfl)
theorem dJ24_compareToUTF16_5 : decode cJ24_compareToUTF16 5 = .ok (.aload_n 1, 1) := dk_43 (dk_at dksJ24_compareToUTF16_0 5 rfl rfl)
theorem dJ24_compareToUTF16_6 : decode cJ24_compareToUTF16 6 = .ok (.invokestatic 58, 3) := dk_184 0 58 (dk_at dksJ24_compareToUTF16_0 6 rfl rfl)
theorem dJ24_compareToUTF16_9 : decode cJ24_compareToUTF16 9 = .ok (.istore_n 3, 1) := dk_62 (dk_at dksJ24_compareToUTF16_0 9 rfl rfl)
theorem dJ24_compareToUTF16_10 : decode cJ24_compareToUTF16 10 = .ok (.aload_n 0, 1) := dk_42 (dk_at dksJ24_compareToUTF16_0 10 rfl rfl)
theorem dJ24_compareToUTF16_11 : decode cJ24_compareToUTF16 11 = .ok (.aload_n 1, 1) := dk_43 (dk_at dksJ24_compareToUTF16_0 11 rfl rfl)
theorem dJ24_compareToUTF16_12 : decode cJ24_compareToUTF16 12 = .ok (.iload_n 2, 1) := dk_28 (dk_at dksJ24_compareToUTF16_0 12 rfl rfl)
theorem dJ24_compareToUTF16_13 : decode cJ24_compareToUTF16 13 = .ok (.iload_n 3, 1) := dk_29 (dk_at dksJ24_compareToUTF16_0 13 rfl rfl)
theorem dJ24_compareToUTF16_14 : decode cJ24_compareToUTF16 14 = .ok (.invokestatic 59, 3) := dk_184 0 59 (dk_at dksJ24_compareToUTF16_0 14 rfl rfl)
theorem dJ24_compareToUTF16_17 : decode cJ24_compareToUTF16 17 = .ok (.ireturn, 1) := dk_172 (dk_at dksJ24_compareToUTF16_0 17 rfl rfl)
abbrev cJ24_length : ByteArray := prog_36_method_5_code
def yJ24_length : MethodName := ⟨RJ24, "length", "([B)I"⟩
theorem dJ24_length_0 : decode cJ24_length 0 = .ok (.aload_n 0, 1) := by decide +kernel
theorem dJ24_length_1 : decode cJ24_length 1 = .ok (.arraylength, 1) := by decide +kernel
theorem dJ24_length_2 : decode cJ24_length 2 = .ok (.ireturn, 1) := by decide +kernel
abbrev cJ24_compareToUTF16Values : ByteArray := prog_36_method_18_code
def yJ24_compareToUTF16Values : MethodName := ⟨RJ24, "compareToUTF16Values", "([B[BII)I"⟩
def dkwJ24_compareToUTF16Values_2 : List UInt8 := [132, 5, 1, 167, 255, 217, 28, 29, 100, 172]
abbrev dktJ24_compareToUTF16Values_2 : List UInt8 := dkwJ24_compareToUTF16Values_2 ++ []
def dkwJ24_compareToUTF16Values_1 : List UInt8 := [54, 6, 43, 21, 5, 184, 0, 65, 54, 7, 21, 6, 21, 7, 159, 0, 9, 21, 6, 21, 7, 100, 172]
abbrev dktJ24_compareToUTF16Values_1 : List UInt8 := dkwJ24_compareToUTF16Values_1 ++ dktJ24_compareToUTF16Values_2
def dkwJ24_compareToUTF16Values_0 : List UInt8 := [28, 29, 184, 0, 38, 54, 4, 3, 54, 5, 21, 5, 21, 4, 162, 0, 38, 42, 21, 5, 184, 0, 50]
abbrev dktJ24_compareToUTF16Values_0 : List UInt8 := dkwJ24_compareToUTF16Values_0 ++ dktJ24_compareToUTF16Values_1
theorem dksJ24_compareToUTF16Values_0 : cJ24_compareToUTF16Values.data.toList.drop 0 = dktJ24_compareToUTF16Values_0 := by decide +kernel
theorem dksJ24_compareToUTF16Values_1 : cJ24_compareToUTF16Values.data.toList.drop 23 = dktJ24_compareToUTF16Values_1 := dk_seg dksJ24_compareToUTF16Values_0 23 rfl rfl
theorem dksJ24_compareToUTF16Values_2 : cJ24_compareToUTF16Values.data.toList.drop 46 = dktJ24_compareToUTF16Values_2 := dk_seg dksJ24_compareToUTF16Values_1 23 rfl rfl
theorem dJ24_compareToUTF16Values_0 : decode cJ24_compareToUTF16Values 0 = .ok (.iload_n 2, 1) := dk_28 (dk_at dksJ24_compareToUTF16Values_0 0 rfl rfl)
theorem dJ24_compareToUTF16Values_1 : decode cJ24_compareToUTF16Values 1 = .ok (.iload_n 3, 1) := dk_29 (dk_at dksJ24_compareToUTF16Values_0 1 rfl rfl)
theorem dJ24_compareToUTF16Values_2 : decode cJ24_compareToUTF16Values 2 = .ok (.invokestatic 38, 3) := dk_184 0 38 (dk_at dksJ24_compareToUTF16Values_0 2 rfl rfl)
theorem dJ24_compareToUTF16Values_5 : decode cJ24_compareToUTF16Values 5 = .ok (.istore 4, 2) := dk_54 4 (dk_at dksJ24_compareToUTF16Values_0 5 rfl rfl)
theorem dJ24_compareToUTF16Values_7 : decode cJ24_compareToUTF16Values 7 = .ok (.iconst 0, 1) := dk_3 (dk_at dksJ24_compareToUTF16Values_0 7 rfl rfl)
theorem dJ24_compareToUTF16Values_8 : decode cJ24_compareToUTF16Values 8 = .ok (.istore 5, 2) := dk_54 5 (dk_at dksJ24_compareToUTF16Values_0 8 rfl rfl)
theorem dJ24_compareToUTF16Values_10 : decode cJ24_compareToUTF16Values 10 = .ok (.iload 5, 2) := dk_21 5 (dk_at dksJ24_compareToUTF16Values_0 10 rfl rfl)
theorem dJ24_compareToUTF16Values_12 : decode cJ24_compareToUTF16Values 12 = .ok (.iload 4, 2) := dk_21 4 (dk_at dksJ24_compareToUTF16Values_0 12 rfl rfl)
theorem dJ24_compareToUTF16Values_14 : decode cJ24_compareToUTF16Values 14 = .ok (.if_icmp .ge 38, 3) := dk_162 0 38 (dk_at dksJ24_compareToUTF16Values_0 14 rfl rfl)
theorem dJ24_compareToUTF16Values_17 : decode cJ24_compareToUTF16Values 17 = .ok (.aload_n 0, 1) := dk_42 (dk_at dksJ24_compareToUTF16Values_0 17 rfl rfl)
theorem dJ24_compareToUTF16Values_18 : decode cJ24_compareToUTF16Values 18 = .ok (.iload 5, 2) := dk_21 5 (dk_at dksJ24_compareToUTF16Values_0 18 rfl rfl)
theorem dJ24_compareToUTF16Values_20 : decode cJ24_compareToUTF16Values 20 = .ok (.invokestatic 50, 3) := dk_184 0 50 (dk_at dksJ24_compareToUTF16Values_0 20 rfl rfl)
theorem dJ24_compareToUTF16Values_23 : decode cJ24_compareToUTF16Values 23 = .ok (.istore 6, 2) := dk_54 6 (dk_at dksJ24_compareToUTF16Values_1 0 rfl rfl)
theorem dJ24_compareToUTF16Values_25 : decode cJ24_compareToUTF16Values 25 = .ok (.aload_n 1, 1) := dk_43 (dk_at dksJ24_compareToUTF16Values_1 2 rfl rfl)
theorem dJ24_compareToUTF16Values_26 : decode cJ24_compareToUTF16Values 26 = .ok (.iload 5, 2) := dk_21 5 (dk_at dksJ24_compareToUTF16Values_1 3 rfl rfl)
theorem dJ24_compareToUTF16Values_28 : decode cJ24_compareToUTF16Values 28 = .ok (.invokestatic 65, 3) := dk_184 0 65 (dk_at dksJ24_compareToUTF16Values_1 5 rfl rfl)
theorem dJ24_compareToUTF16Values_31 : decode cJ24_compareToUTF16Values 31 = .ok (.istore 7, 2) := dk_54 7 (dk_at dksJ24_compareToUTF16Values_1 8 rfl rfl)
theorem dJ24_compareToUTF16Values_33 : decode cJ24_compareToUTF16Values 33 = .ok (.iload 6, 2) := dk_21 6 (dk_at dksJ24_compareToUTF16Values_1 10 rfl rfl)
theorem dJ24_compareToUTF16Values_35 : decode cJ24_compareToUTF16Values 35 = .ok (.iload 7, 2) := dk_21 7 (dk_at dksJ24_compareToUTF16Values_1 12 rfl rfl)
theorem dJ24_compareToUTF16Values_37 : decode cJ24_compareToUTF16Values 37 = .ok (.if_icmp .eq 9, 3) := dk_159 0 9 (dk_at dksJ24_compareToUTF16Values_1 14 rfl rfl)
theorem dJ24_compareToUTF16Values_40 : decode cJ24_compareToUTF16Values 40 = .ok (.iload 6, 2) := dk_21 6 (dk_at dksJ24_compareToUTF16Values_1 17 rfl rfl)
theorem dJ24_compareToUTF16Values_42 : decode cJ24_compareToUTF16Values 42 = .ok (.iload 7, 2) := dk_21 7 (dk_at dksJ24_compareToUTF16Values_1 19 rfl rfl)
theorem dJ24_compareToUTF16Values_44 : decode cJ24_compareToUTF16Values 44 = .ok (.isub, 1) := dk_100 (dk_at dksJ24_compareToUTF16Values_1 21 rfl rfl)
theorem dJ24_compareToUTF16Values_45 : decode cJ24_compareToUTF16Values 45 = .ok (.ireturn, 1) := dk_172 (dk_at dksJ24_compareToUTF16Values_1 22 rfl rfl)
theorem dJ24_compareToUTF16Values_46 : decode cJ24_compareToUTF16Values 46 = .ok (.iinc 5 1, 3) := dk_132 5 1 (dk_at dksJ24_compareToUTF16Values_2 0 rfl rfl)
theorem dJ24_compareToUTF16Values_49 : decode cJ24_compareToUTF16Values 49 = .ok (.goto (-39), 3) := dk_167 255 217 (dk_at dksJ24_compareToUTF16Values_2 3 rfl rfl)
theorem dJ24_compareToUTF16Values_52 : decode cJ24_compareToUTF16Values 52 = .ok (.iload_n 2, 1) := dk_28 (dk_at dksJ24_compareToUTF16Values_2 6 rfl rfl)
theorem dJ24_compareToUTF16Values_53 : decode cJ24_compareToUTF16Values 53 = .ok (.iload_n 3, 1) := dk_29 (dk_at dksJ24_compareToUTF16Values_2 7 rfl rfl)
theorem dJ24_compareToUTF16Values_54 : decode cJ24_compareToUTF16Values 54 = .ok (.isub, 1) := dk_100 (dk_at dksJ24_compareToUTF16Values_2 8 rfl rfl)
theorem dJ24_compareToUTF16Values_55 : decode cJ24_compareToUTF16Values 55 = .ok (.ireturn, 1) := dk_172 (dk_at dksJ24_compareToUTF16Values_2 9 rfl rfl)
abbrev cJ24_compareToUTF16_2 : ByteArray := prog_36_method_17_code
def yJ24_compareToUTF16_2 : MethodName := ⟨RJ24, "compareToUTF16", "([B[BII)I"⟩
def dkwJ24_compareToUTF16_2_0 : List UInt8 := [28, 42, 184, 0, 54, 184, 0, 62, 29, 43, 184, 0, 58, 184, 0, 62, 42, 43, 28, 29, 184, 0, 59, 172]
abbrev dktJ24_compareToUTF16_2_0 : List UInt8 := dkwJ24_compareToUTF16_2_0 ++ []
theorem dksJ24_compareToUTF16_2_0 : cJ24_compareToUTF16_2.data.toList.drop 0 = dktJ24_compareToUTF16_2_0 := by decide +kernel
theorem dJ24_compareToUTF16_2_0 : decode cJ24_compareToUTF16_2 0 = .ok (.iload_n 2, 1) := dk_28 (dk_at dksJ24_compareToUTF16_2_0 0 rfl rfl)
theorem dJ24_compareToUTF16_2_1 : decode cJ24_compareToUTF16_2 1 = .ok (.aload_n 0, 1) := dk_42 (dk_at dksJ24_compareToUTF16_2_0 1 rfl rfl)
theorem dJ24_compareToUTF16_2_2 : decode cJ24_compareToUTF16_2 2 = .ok (.invokestatic 54, 3) := dk_184 0 54 (dk_at dksJ24_compareToUTF16_2_0 2 rfl rfl)
theorem dJ24_compareToUTF16_2_5 : decode cJ24_compareToUTF16_2 5 = .ok (.invokestatic 62, 3) := dk_184 0 62 (dk_at dksJ24_compareToUTF16_2_0 5 rfl rfl)
theorem dJ24_compareToUTF16_2_8 : decode cJ24_compareToUTF16_2 8 = .ok (.iload_n 3, 1) := dk_29 (dk_at dksJ24_compareToUTF16_2_0 8 rfl rfl)
theorem dJ24_compareToUTF16_2_9 : decode cJ24_compareToUTF16_2 9 = .ok (.aload_n 1, 1) := dk_43 (dk_at dksJ24_compareToUTF16_2_0 9 rfl rfl)
theorem dJ24_compareToUTF16_2_10 : decode cJ24_compareToUTF16_2 10 = .ok (.invokestatic 58, 3) := dk_184 0 58 (dk_at dksJ24_compareToUTF16_2_0 10 rfl rfl)
theorem dJ24_compareToUTF16_2_13 : decode cJ24_compareToUTF16_2 13 = .ok (.invokestatic 62, 3) := dk_184 0 62 (dk_at dksJ24_compareToUTF16_2_0 13 rfl rfl)
theorem dJ24_compareToUTF16_2_16 : decode cJ24_compareToUTF16_2 16 = .ok (.aload_n 0, 1) := dk_42 (dk_at dksJ24_compareToUTF16_2_0 16 rfl rfl)
theorem dJ24_compareToUTF16_2_17 : decode cJ24_compareToUTF16_2 17 = .ok (.aload_n 1, 1) := dk_43 (dk_at dksJ24_compareToUTF16_2_0 17 rfl rfl)
theorem dJ24_compareToUTF16_2_18 : decode cJ24_compareToUTF16_2 18 = .ok (.iload_n 2, 1) := dk_28 (dk_at dksJ24_compareToUTF16_2_0 18 rfl rfl)
theorem dJ24_compareToUTF16_2_19 : decode cJ24_compareToUTF16_2 19 = .ok (.iload_n 3, 1) := dk_29 (dk_at dksJ24_compareToUTF16_2_0 19 rfl rfl)
theorem dJ24_compareToUTF16_2_20 : decode cJ24_compareToUTF16_2 20 = .ok (.invokestatic 59, 3) := dk_184 0 59 (dk_at dksJ24_compareToUTF16_2_0 20 rfl rfl)
theorem dJ24_compareToUTF16_2_23 : decode cJ24_compareToUTF16_2 23 = .ok (.ireturn, 1) := dk_172 (dk_at dksJ24_compareToUTF16_2_0 23 rfl rfl)
abbrev cJ24_inflate : ByteArray := prog_36_method_50_code
def yJ24_inflate : MethodName := ⟨RJ24, "inflate", "([BI[BII)V"⟩
def dkwJ24_inflate_0 : List UInt8 := [42, 27, 44, 29, 21, 4, 184, 0, 240, 177]
abbrev dktJ24_inflate_0 : List UInt8 := dkwJ24_inflate_0 ++ []
theorem dksJ24_inflate_0 : cJ24_inflate.data.toList.drop 0 = dktJ24_inflate_0 := by decide +kernel
theorem dJ24_inflate_0 : decode cJ24_inflate 0 = .ok (.aload_n 0, 1) := dk_42 (dk_at dksJ24_inflate_0 0 rfl rfl)
theorem dJ24_inflate_1 : decode cJ24_inflate 1 = .ok (.iload_n 1, 1) := dk_27 (dk_at dksJ24_inflate_0 1 rfl rfl)
theorem dJ24_inflate_2 : decode cJ24_inflate 2 = .ok (.aload_n 2, 1) := dk_44 (dk_at dksJ24_inflate_0 2 rfl rfl)
theorem dJ24_inflate_3 : decode cJ24_inflate 3 = .ok (.iload_n 3, 1) := dk_29 (dk_at dksJ24_inflate_0 3 rfl rfl)
theorem dJ24_inflate_4 : decode cJ24_inflate 4 = .ok (.iload 4, 2) := dk_21 4 (dk_at dksJ24_inflate_0 4 rfl rfl)
theorem dJ24_inflate_6 : decode cJ24_inflate 6 = .ok (.invokestatic 240, 3) := dk_184 0 240 (dk_at dksJ24_inflate_0 6 rfl rfl)
theorem dJ24_inflate_9 : decode cJ24_inflate 9 = .ok (.return_, 1) := dk_177 (dk_at dksJ24_inflate_0 9 rfl rfl)
abbrev cJ24_fillNull : ByteArray := prog_36_method_48_code
def yJ24_fillNull : MethodName := ⟨RJ24, "fillNull", "([BII)V"⟩
def dkwJ24_fillNull_0 : List UInt8 := [42, 27, 28, 3, 184, 0, 236, 177]
abbrev dktJ24_fillNull_0 : List UInt8 := dkwJ24_fillNull_0 ++ []
theorem dksJ24_fillNull_0 : cJ24_fillNull.data.toList.drop 0 = dktJ24_fillNull_0 := by decide +kernel
theorem dJ24_fillNull_0 : decode cJ24_fillNull 0 = .ok (.aload_n 0, 1) := dk_42 (dk_at dksJ24_fillNull_0 0 rfl rfl)
theorem dJ24_fillNull_1 : decode cJ24_fillNull 1 = .ok (.iload_n 1, 1) := dk_27 (dk_at dksJ24_fillNull_0 1 rfl rfl)
theorem dJ24_fillNull_2 : decode cJ24_fillNull 2 = .ok (.iload_n 2, 1) := dk_28 (dk_at dksJ24_fillNull_0 2 rfl rfl)
theorem dJ24_fillNull_3 : decode cJ24_fillNull 3 = .ok (.iconst 0, 1) := dk_3 (dk_at dksJ24_fillNull_0 3 rfl rfl)
theorem dJ24_fillNull_4 : decode cJ24_fillNull 4 = .ok (.invokestatic 236, 3) := dk_184 0 236 (dk_at dksJ24_fillNull_0 4 rfl rfl)
theorem dJ24_fillNull_7 : decode cJ24_fillNull 7 = .ok (.return_, 1) := dk_177 (dk_at dksJ24_fillNull_0 7 rfl rfl)
abbrev cJ24_indexOf : ByteArray := prog_36_method_22_code
def yJ24_indexOf : MethodName := ⟨RJ24, "indexOf", "([BIII)I"⟩
def dkwJ24_indexOf_1 : List UInt8 := [161, 0, 5, 2, 172, 42, 27, 28, 29, 184, 0, 95, 172]
abbrev dktJ24_indexOf_1 : List UInt8 := dkwJ24_indexOf_1 ++ []
def dkwJ24_indexOf_0 : List UInt8 := [27, 184, 0, 88, 154, 0, 5, 2, 172, 28, 3, 184, 0, 92, 61, 29, 42, 190, 184, 0, 38, 62, 28, 29]
abbrev dktJ24_indexOf_0 : List UInt8 := dkwJ24_indexOf_0 ++ dktJ24_indexOf_1
theorem dksJ24_indexOf_0 : cJ24_indexOf.data.toList.drop 0 = dktJ24_indexOf_0 := by decide +kernel
theorem dksJ24_indexOf_1 : cJ24_indexOf.data.toList.drop 24 = dktJ24_indexOf_1 := dk_seg dksJ24_indexOf_0 24 rfl rfl
theorem dJ24_indexOf_0 : decode cJ24_indexOf 0 = .ok (.iload_n 1, 1) := dk_27 (dk_at dksJ24_indexOf_0 0 rfl rfl)
theorem dJ24_indexOf_1 : decode cJ24_indexOf 1 = .ok (.invokestatic 88, 3) := dk_184 0 88 (dk_at dksJ24_indexOf_0 1 rfl rfl)
theorem dJ24_indexOf_4 : decode cJ24_indexOf 4 = .ok (.ifCond .ne 5, 3) := dk_154 0 5 (dk_at dksJ24_indexOf_0 4 rfl rfl)
theorem dJ24_indexOf_7 : decode cJ24_indexOf 7 = .ok (.iconst (-1), 1) := dk_2 (dk_at dksJ24_indexOf_0 7 rfl rfl)
theorem dJ24_indexOf_8 : decode cJ24_indexOf 8 = .ok (.ireturn, 1) := dk_172 (dk_at dksJ24_indexOf_0 8 rfl rfl)
theorem dJ24_indexOf_9 : decode cJ24_indexOf 9 = .ok (.iload_n 2, 1) := dk_28 (dk_at dksJ24_indexOf_0 9 rfl rfl)
theorem dJ24_indexOf_10 : decode cJ24_indexOf 10 = .ok (.iconst 0, 1) := dk_3 (dk_at dksJ24_indexOf_0 10 rfl rfl)
theorem dJ24_indexOf_11 : decode cJ24_indexOf 11 = .ok (.invokestatic 92, 3) := dk_184 0 92 (dk_at dksJ24_indexOf_0 11 rfl rfl)
theorem dJ24_indexOf_14 : decode cJ24_indexOf 14 = .ok (.istore_n 2, 1) := dk_61 (dk_at dksJ24_indexOf_0 14 rfl rfl)
theorem dJ24_indexOf_15 : decode cJ24_indexOf 15 = .ok (.iload_n 3, 1) := dk_29 (dk_at dksJ24_indexOf_0 15 rfl rfl)
theorem dJ24_indexOf_16 : decode cJ24_indexOf 16 = .ok (.aload_n 0, 1) := dk_42 (dk_at dksJ24_indexOf_0 16 rfl rfl)
theorem dJ24_indexOf_17 : decode cJ24_indexOf 17 = .ok (.arraylength, 1) := dk_190 (dk_at dksJ24_indexOf_0 17 rfl rfl)
theorem dJ24_indexOf_18 : decode cJ24_indexOf 18 = .ok (.invokestatic 38, 3) := dk_184 0 38 (dk_at dksJ24_indexOf_0 18 rfl rfl)
theorem dJ24_indexOf_21 : decode cJ24_indexOf 21 = .ok (.istore_n 3, 1) := dk_62 (dk_at dksJ24_indexOf_0 21 rfl rfl)
theorem dJ24_indexOf_22 : decode cJ24_indexOf 22 = .ok (.iload_n 2, 1) := dk_28 (dk_at dksJ24_indexOf_0 22 rfl rfl)
theorem dJ24_indexOf_23 : decode cJ24_indexOf 23 = .ok (.iload_n 3, 1) := dk_29 (dk_at dksJ24_indexOf_0 23 rfl rfl)
theorem dJ24_indexOf_24 : decode cJ24_indexOf 24 = .ok (.if_icmp .lt 5, 3) := dk_161 0 5 (dk_at dksJ24_indexOf_1 0 rfl rfl)
theorem dJ24_indexOf_27 : decode cJ24_indexOf 27 = .ok (.iconst (-1), 1) := dk_2 (dk_at dksJ24_indexOf_1 3 rfl rfl)
theorem dJ24_indexOf_28 : decode cJ24_indexOf 28 = .ok (.ireturn, 1) := dk_172 (dk_at dksJ24_indexOf_1 4 rfl rfl)
theorem dJ24_indexOf_29 : decode cJ24_indexOf 29 = .ok (.aload_n 0, 1) := dk_42 (dk_at dksJ24_indexOf_1 5 rfl rfl)
theorem dJ24_indexOf_30 : decode cJ24_indexOf 30 = .ok (.iload_n 1, 1) := dk_27 (dk_at dksJ24_indexOf_1 6 rfl rfl)
theorem dJ24_indexOf_31 : decode cJ24_indexOf 31 = .ok (.iload_n 2, 1) := dk_28 (dk_at dksJ24_indexOf_1 7 rfl rfl)
theorem dJ24_indexOf_32 : decode cJ24_indexOf 32 = .ok (.iload_n 3, 1) := dk_29 (dk_at dksJ24_indexOf_1 8 rfl rfl)
theorem dJ24_indexOf_33 : decode cJ24_indexOf 33 = .ok (.invokestatic 95, 3) := dk_184 0 95 (dk_at dksJ24_indexOf_1 9 rfl rfl)
theorem dJ24_indexOf_36 : decode cJ24_indexOf 36 = .ok (.ireturn, 1) := dk_172 (dk_at dksJ24_indexOf_1 12 rfl rfl)
abbrev cJ24_canEncode : ByteArray := prog_36_method_4_code
def yJ24_canEncode : MethodName := ⟨RJ24, "canEncode", "(I)Z"⟩
def dkwJ24_canEncode_0 : List UInt8 := [26, 155, 0, 14, 26, 17, 0, 255, 163, 0, 7, 4, 167, 0, 4, 3, 172]
abbrev dktJ24_canEncode_0 : List UInt8 := dkwJ24_canEncode_0 ++ []
theorem dksJ24_canEncode_0 : cJ24_canEncode.data.toList.drop 0 = dktJ24_canEncode_0 := by decide +kernel
theorem dJ24_canEncode_0 : decode cJ24_canEncode 0 = .ok (.iload_n 0, 1) := dk_26 (dk_at dksJ24_canEncode_0 0 rfl rfl)
theorem dJ24_canEncode_1 : decode cJ24_canEncode 1 = .ok (.ifCond .lt 14, 3) := dk_155 0 14 (dk_at dksJ24_canEncode_0 1 rfl rfl)
theorem dJ24_canEncode_4 : decode cJ24_canEncode 4 = .ok (.iload_n 0, 1) := dk_26 (dk_at dksJ24_canEncode_0 4 rfl rfl)
theorem dJ24_canEncode_5 : decode cJ24_canEncode 5 = .ok (.sipush 255, 3) := dk_17 0 255 (dk_at dksJ24_canEncode_0 5 rfl rfl)
theorem dJ24_canEncode_8 : decode cJ24_canEncode 8 = .ok (.if_icmp .gt 7, 3) := dk_163 0 7 (dk_at dksJ24_canEncode_0 8 rfl rfl)
theorem dJ24_canEncode_11 : decode cJ24_canEncode 11 = .ok (.iconst 1, 1) := dk_4 (dk_at dksJ24_canEncode_0 11 rfl rfl)
theorem dJ24_canEncode_12 : decode cJ24_canEncode 12 = .ok (.goto 4, 3) := dk_167 0 4 (dk_at dksJ24_canEncode_0 12 rfl rfl)
theorem dJ24_canEncode_15 : decode cJ24_canEncode 15 = .ok (.iconst 0, 1) := dk_3 (dk_at dksJ24_canEncode_0 15 rfl rfl)
theorem dJ24_canEncode_16 : decode cJ24_canEncode 16 = .ok (.ireturn, 1) := dk_172 (dk_at dksJ24_canEncode_0 16 rfl rfl)
abbrev cJ24_indexOfChar : ByteArray := prog_36_method_23_code
def yJ24_indexOfChar : MethodName := ⟨RJ24, "indexOfChar", "([BIII)I"⟩
def dkwJ24_indexOfChar_1 : List UInt8 := [172, 132, 5, 1, 167, 255, 235, 2, 172]
abbrev dktJ24_indexOfChar_1 : List UInt8 := dkwJ24_indexOfChar_1 ++ []
def dkwJ24_indexOfChar_0 : List UInt8 := [27, 145, 54, 4, 28, 54, 5, 21, 5, 29, 162, 0, 21, 42, 21, 5, 51, 21, 4, 160, 0, 6, 21, 5]
abbrev dktJ24_indexOfChar_0 : List UInt8 := dkwJ24_indexOfChar_0 ++ dktJ24_indexOfChar_1
theorem dksJ24_indexOfChar_0 : cJ24_indexOfChar.data.toList.drop 0 = dktJ24_indexOfChar_0 := by decide +kernel
theorem dksJ24_indexOfChar_1 : cJ24_indexOfChar.data.toList.drop 24 = dktJ24_indexOfChar_1 := dk_seg dksJ24_indexOfChar_0 24 rfl rfl
theorem dJ24_indexOfChar_0 : decode cJ24_indexOfChar 0 = .ok (.iload_n 1, 1) := dk_27 (dk_at dksJ24_indexOfChar_0 0 rfl rfl)
theorem dJ24_indexOfChar_1 : decode cJ24_indexOfChar 1 = .ok (.i2b, 1) := dk_145 (dk_at dksJ24_indexOfChar_0 1 rfl rfl)
theorem dJ24_indexOfChar_2 : decode cJ24_indexOfChar 2 = .ok (.istore 4, 2) := dk_54 4 (dk_at dksJ24_indexOfChar_0 2 rfl rfl)
theorem dJ24_indexOfChar_4 : decode cJ24_indexOfChar 4 = .ok (.iload_n 2, 1) := dk_28 (dk_at dksJ24_indexOfChar_0 4 rfl rfl)
theorem dJ24_indexOfChar_5 : decode cJ24_indexOfChar 5 = .ok (.istore 5, 2) := dk_54 5 (dk_at dksJ24_indexOfChar_0 5 rfl rfl)
theorem dJ24_indexOfChar_7 : decode cJ24_indexOfChar 7 = .ok (.iload 5, 2) := dk_21 5 (dk_at dksJ24_indexOfChar_0 7 rfl rfl)
theorem dJ24_indexOfChar_9 : decode cJ24_indexOfChar 9 = .ok (.iload_n 3, 1) := dk_29 (dk_at dksJ24_indexOfChar_0 9 rfl rfl)
theorem dJ24_indexOfChar_10 : decode cJ24_indexOfChar 10 = .ok (.if_icmp .ge 21, 3) := dk_162 0 21 (dk_at dksJ24_indexOfChar_0 10 rfl rfl)
theorem dJ24_indexOfChar_13 : decode cJ24_indexOfChar 13 = .ok (.aload_n 0, 1) := dk_42 (dk_at dksJ24_indexOfChar_0 13 rfl rfl)
theorem dJ24_indexOfChar_14 : decode cJ24_indexOfChar 14 = .ok (.iload 5, 2) := dk_21 5 (dk_at dksJ24_indexOfChar_0 14 rfl rfl)
theorem dJ24_indexOfChar_16 : decode cJ24_indexOfChar 16 = .ok (.baload, 1) := dk_51 (dk_at dksJ24_indexOfChar_0 16 rfl rfl)
theorem dJ24_indexOfChar_17 : decode cJ24_indexOfChar 17 = .ok (.iload 4, 2) := dk_21 4 (dk_at dksJ24_indexOfChar_0 17 rfl rfl)
theorem dJ24_indexOfChar_19 : decode cJ24_indexOfChar 19 = .ok (.if_icmp .ne 6, 3) := dk_160 0 6 (dk_at dksJ24_indexOfChar_0 19 rfl rfl)
theorem dJ24_indexOfChar_22 : decode cJ24_indexOfChar 22 = .ok (.iload 5, 2) := dk_21 5 (dk_at dksJ24_indexOfChar_0 22 rfl rfl)
theorem dJ24_indexOfChar_24 : decode cJ24_indexOfChar 24 = .ok (.ireturn, 1) := dk_172 (dk_at dksJ24_indexOfChar_1 0 rfl rfl)
theorem dJ24_indexOfChar_25 : decode cJ24_indexOfChar 25 = .ok (.iinc 5 1, 3) := dk_132 5 1 (dk_at dksJ24_indexOfChar_1 1 rfl rfl)
theorem dJ24_indexOfChar_28 : decode cJ24_indexOfChar 28 = .ok (.goto (-21), 3) := dk_167 255 235 (dk_at dksJ24_indexOfChar_1 4 rfl rfl)
theorem dJ24_indexOfChar_31 : decode cJ24_indexOfChar 31 = .ok (.iconst (-1), 1) := dk_2 (dk_at dksJ24_indexOfChar_1 7 rfl rfl)
theorem dJ24_indexOfChar_32 : decode cJ24_indexOfChar 32 = .ok (.ireturn, 1) := dk_172 (dk_at dksJ24_indexOfChar_1 8 rfl rfl)
abbrev cJ24_canEncode_2 : ByteArray := prog_36_method_3_code
def yJ24_canEncode_2 : MethodName := ⟨RJ24, "canEncode", "(C)Z"⟩
def dkwJ24_canEncode_2_0 : List UInt8 := [26, 17, 0, 255, 163, 0, 7, 4, 167, 0, 4, 3, 172]
abbrev dktJ24_canEncode_2_0 : List UInt8 := dkwJ24_canEncode_2_0 ++ []
theorem dksJ24_canEncode_2_0 : cJ24_canEncode_2.data.toList.drop 0 = dktJ24_canEncode_2_0 := by decide +kernel
theorem dJ24_canEncode_2_0 : decode cJ24_canEncode_2 0 = .ok (.iload_n 0, 1) := dk_26 (dk_at dksJ24_canEncode_2_0 0 rfl rfl)
theorem dJ24_canEncode_2_1 : decode cJ24_canEncode_2 1 = .ok (.sipush 255, 3) := dk_17 0 255 (dk_at dksJ24_canEncode_2_0 1 rfl rfl)
theorem dJ24_canEncode_2_4 : decode cJ24_canEncode_2 4 = .ok (.if_icmp .gt 7, 3) := dk_163 0 7 (dk_at dksJ24_canEncode_2_0 4 rfl rfl)
theorem dJ24_canEncode_2_7 : decode cJ24_canEncode_2 7 = .ok (.iconst 1, 1) := dk_4 (dk_at dksJ24_canEncode_2_0 7 rfl rfl)
theorem dJ24_canEncode_2_8 : decode cJ24_canEncode_2 8 = .ok (.goto 4, 3) := dk_167 0 4 (dk_at dksJ24_canEncode_2_0 8 rfl rfl)
theorem dJ24_canEncode_2_11 : decode cJ24_canEncode_2 11 = .ok (.iconst 0, 1) := dk_3 (dk_at dksJ24_canEncode_2_0 11 rfl rfl)
theorem dJ24_canEncode_2_12 : decode cJ24_canEncode_2 12 = .ok (.ireturn, 1) := dk_172 (dk_at dksJ24_canEncode_2_0 12 rfl rfl)
theorem q112 : (Jvm.Cond.initialized "java/lang/StringLatin1") ∈ lw_all := lw_g (lw_at lw_m1 34 rfl) rfl
theorem q638 : (Jvm.Cond.static ({ cls := "java/lang/StringLatin1", name := "compareTo", desc := "([B[B)I" } : Jvm.MethodName)) ∈ lw_all := lw_g (lw_at lw_m3 80 rfl) rfl
theorem q639 : (Jvm.Cond.code ({ cls := "java/lang/StringLatin1", name := "compareTo", desc := "([B[B)I" } : Jvm.MethodName) prog_36_method_14_code (4 : Nat) (Option.some Jvm.ClassFile.FieldType.int)) ∈ lw_all := lw_g (lw_at lw_m3 81 rfl) rfl
theorem q640 : (Jvm.Cond.methodLink "java/lang/StringLatin1" (34 : Nat) ({ cls := "java/lang/StringLatin1", name := "compareTo", desc := "([B[BII)I" } : Jvm.MethodName)) ∈ lw_all := lw_g (lw_at lw_m3 82 rfl) rfl
theorem q641 : (Jvm.Cond.static ({ cls := "java/lang/StringLatin1", name := "compareTo", desc := "([B[BII)I" } : Jvm.MethodName)) ∈ lw_all := lw_g (lw_at lw_m3 83 rfl) rfl
theorem q642 : (Jvm.Cond.code ({ cls := "java/lang/StringLatin1", name := "compareTo", desc := "([B[BII)I" } : Jvm.MethodName) prog_36_method_15_code (6 : Nat) (Option.some Jvm.ClassFile.FieldType.int)) ∈ lw_all := lw_g (lw_at lw_m3 84 rfl) rfl
theorem q643 : (Jvm.Cond.methodLink "java/lang/StringLatin1" (38 : Nat) ({ cls := "java/lang/Math", name := "min", desc := "(II)I" } : Jvm.MethodName)) ∈ lw_all := lw_g (lw_at lw_m3 85 rfl) rfl
theorem q644 : (Jvm.Cond.methodLink "java/lang/StringLatin1" (44 : Nat) ({ cls := "jdk/internal/util/ArraysSupport", name := "mismatch", desc := "([B[BI)I" } : Jvm.MethodName)) ∈ lw_all := lw_g (lw_at lw_m3 86 rfl) rfl
theorem q748 : (Jvm.Cond.methodLink "java/lang/StringLatin1" (50 : Nat) ({ cls := "java/lang/StringLatin1", name := "getChar", desc := "([BI)C" } : Jvm.MethodName)) ∈ lw_all := lw_g (lw_at lw_m3 190 rfl) rfl
theorem q749 : (Jvm.Cond.static ({ cls := "java/lang/StringLatin1", name := "getChar", desc := "([BI)C" } : Jvm.MethodName)) ∈ lw_all := lw_g (lw_at lw_m3 191 rfl) rfl
theorem q750 : (Jvm.Cond.code ({ cls := "java/lang/StringLatin1", name := "getChar", desc := "([BI)C" } : Jvm.MethodName) prog_36_method_44_code (2 : Nat) (Option.some Jvm.ClassFile.FieldType.char)) ∈ lw_all := lw_g (lw_at lw_m3 192 rfl) rfl
theorem q771 : (Jvm.Cond.static ({ cls := "java/lang/StringLatin1", name := "compareToUTF16", desc := "([B[B)I" } : Jvm.MethodName)) ∈ lw_all := lw_g (lw_at lw_m3 213 rfl) rfl
theorem q772 : (Jvm.Cond.code ({ cls := "java/lang/StringLatin1", name := "compareToUTF16", desc := "([B[B)I" } : Jvm.MethodName) prog_36_method_16_code (4 : Nat) (Option.some Jvm.ClassFile.FieldType.int)) ∈ lw_all := lw_g (lw_at lw_m3 214 rfl) rfl
theorem q773 : (Jvm.Cond.methodLink "java/lang/StringLatin1" (54 : Nat) ({ cls := "java/lang/StringLatin1", name := "length", desc := "([B)I" } : Jvm.MethodName)) ∈ lw_all := lw_g (lw_at lw_m3 215 rfl) rfl
theorem q774 : (Jvm.Cond.static ({ cls := "java/lang/StringLatin1", name := "length", desc := "([B)I" } : Jvm.MethodName)) ∈ lw_all := lw_g (lw_at lw_m3 216 rfl) rfl
theorem q775 : (Jvm.Cond.code ({ cls := "java/lang/StringLatin1", name := "length", desc := "([B)I" } : Jvm.MethodName) prog_36_method_5_code (1 : Nat) (Option.some Jvm.ClassFile.FieldType.int)) ∈ lw_all := lw_g (lw_at lw_m3 217 rfl) rfl
theorem q776 : (Jvm.Cond.methodLink "java/lang/StringLatin1" (58 : Nat) ({ cls := "java/lang/StringUTF16", name := "length", desc := "([B)I" } : Jvm.MethodName)) ∈ lw_all := lw_g (lw_at lw_m3 218 rfl) rfl
theorem q777 : (Jvm.Cond.methodLink "java/lang/StringLatin1" (59 : Nat) ({ cls := "java/lang/StringLatin1", name := "compareToUTF16Values", desc := "([B[BII)I" } : Jvm.MethodName)) ∈ lw_all := lw_g (lw_at lw_m3 219 rfl) rfl
theorem q778 : (Jvm.Cond.static ({ cls := "java/lang/StringLatin1", name := "compareToUTF16Values", desc := "([B[BII)I" } : Jvm.MethodName)) ∈ lw_all := lw_g (lw_at lw_m3 220 rfl) rfl
theorem q779 : (Jvm.Cond.code ({ cls := "java/lang/StringLatin1", name := "compareToUTF16Values", desc := "([B[BII)I" } : Jvm.MethodName) prog_36_method_18_code (8 : Nat) (Option.some Jvm.ClassFile.FieldType.int)) ∈ lw_all := lw_g (lw_at lw_m3 221 rfl) rfl
theorem q780 : (Jvm.Cond.methodLink "java/lang/StringLatin1" (65 : Nat) ({ cls := "java/lang/StringUTF16", name := "getChar", desc := "([BI)C" } : Jvm.MethodName)) ∈ lw_all := lw_g (lw_at lw_m3 222 rfl) rfl
theorem q820 : (Jvm.Cond.static ({ cls := "java/lang/StringLatin1", name := "compareToUTF16", desc := "([B[BII)I" } : Jvm.MethodName)) ∈ lw_all := lw_g (lw_at lw_m4 22 rfl) rfl
theorem q821 : (Jvm.Cond.code ({ cls := "java/lang/StringLatin1", name := "compareToUTF16", desc := "([B[BII)I" } : Jvm.MethodName) prog_36_method_17_code (4 : Nat) (Option.some Jvm.ClassFile.FieldType.int)) ∈ lw_all := lw_g (lw_at lw_m4 23 rfl) rfl
theorem q822 : (Jvm.Cond.methodLink "java/lang/StringLatin1" (62 : Nat) ({ cls := "java/lang/String", name := "checkOffset", desc := "(II)V" } : Jvm.MethodName)) ∈ lw_all := lw_g (lw_at lw_m4 24 rfl) rfl
theorem q1373 : (Jvm.Cond.static ({ cls := "java/lang/StringLatin1", name := "inflate", desc := "([BI[BII)V" } : Jvm.MethodName)) ∈ lw_all := lw_g (lw_at lw_m6 95 rfl) rfl
theorem q1374 : (Jvm.Cond.code ({ cls := "java/lang/StringLatin1", name := "inflate", desc := "([BI[BII)V" } : Jvm.MethodName) prog_36_method_50_code (5 : Nat) (Option.none : Option Jvm.ClassFile.FieldType)) ∈ lw_all := lw_g (lw_at lw_m6 96 rfl) rfl
theorem q1375 : (Jvm.Cond.methodLink "java/lang/StringLatin1" (240 : Nat) ({ cls := "java/lang/StringUTF16", name := "inflate", desc := "([BI[BII)V" } : Jvm.MethodName)) ∈ lw_all := lw_g (lw_at lw_m6 97 rfl) rfl
theorem q1491 : (Jvm.Cond.static ({ cls := "java/lang/StringLatin1", name := "fillNull", desc := "([BII)V" } : Jvm.MethodName)) ∈ lw_all := lw_g (lw_at lw_m6 213 rfl) rfl
theorem q1492 : (Jvm.Cond.code ({ cls := "java/lang/StringLatin1", name := "fillNull", desc := "([BII)V" } : Jvm.MethodName) prog_36_method_48_code (3 : Nat) (Option.none : Option Jvm.ClassFile.FieldType)) ∈ lw_all := lw_g (lw_at lw_m6 214 rfl) rfl
theorem q1493 : (Jvm.Cond.methodLink "java/lang/StringLatin1" (236 : Nat) ({ cls := "java/util/Arrays", name := "fill", desc := "([BIIB)V" } : Jvm.MethodName)) ∈ lw_all := lw_g (lw_at lw_m6 215 rfl) rfl
theorem q1599 : (Jvm.Cond.static ({ cls := "java/lang/StringLatin1", name := "indexOf", desc := "([BIII)I" } : Jvm.MethodName)) ∈ lw_all := lw_g (lw_at lw_m7 81 rfl) rfl
theorem q1600 : (Jvm.Cond.code ({ cls := "java/lang/StringLatin1", name := "indexOf", desc := "([BIII)I" } : Jvm.MethodName) prog_36_method_22_code (4 : Nat) (Option.some Jvm.ClassFile.FieldType.int)) ∈ lw_all := lw_g (lw_at lw_m7 82 rfl) rfl
theorem q1601 : (Jvm.Cond.methodLink "java/lang/StringLatin1" (88 : Nat) ({ cls := "java/lang/StringLatin1", name := "canEncode", desc := "(I)Z" } : Jvm.MethodName)) ∈ lw_all := lw_g (lw_at lw_m7 83 rfl) rfl
theorem q1602 : (Jvm.Cond.static ({ cls := "java/lang/StringLatin1", name := "canEncode", desc := "(I)Z" } : Jvm.MethodName)) ∈ lw_all := lw_g (lw_at lw_m7 84 rfl) rfl
theorem q1603 : (Jvm.Cond.code ({ cls := "java/lang/StringLatin1", name := "canEncode", desc := "(I)Z" } : Jvm.MethodName) prog_36_method_4_code (1 : Nat) (Option.some Jvm.ClassFile.FieldType.boolean)) ∈ lw_all := lw_g (lw_at lw_m7 85 rfl) rfl
theorem q1604 : (Jvm.Cond.methodLink "java/lang/StringLatin1" (92 : Nat) ({ cls := "java/lang/Math", name := "max", desc := "(II)I" } : Jvm.MethodName)) ∈ lw_all := lw_g (lw_at lw_m7 86 rfl) rfl
theorem q1605 : (Jvm.Cond.methodLink "java/lang/StringLatin1" (95 : Nat) ({ cls := "java/lang/StringLatin1", name := "indexOfChar", desc := "([BIII)I" } : Jvm.MethodName)) ∈ lw_all := lw_g (lw_at lw_m7 87 rfl) rfl
theorem q1606 : (Jvm.Cond.static ({ cls := "java/lang/StringLatin1", name := "indexOfChar", desc := "([BIII)I" } : Jvm.MethodName)) ∈ lw_all := lw_g (lw_at lw_m7 88 rfl) rfl
theorem q1607 : (Jvm.Cond.code ({ cls := "java/lang/StringLatin1", name := "indexOfChar", desc := "([BIII)I" } : Jvm.MethodName) prog_36_method_23_code (6 : Nat) (Option.some Jvm.ClassFile.FieldType.int)) ∈ lw_all := lw_g (lw_at lw_m7 89 rfl) rfl
theorem q2179 : (Jvm.Cond.static ({ cls := "java/lang/StringLatin1", name := "canEncode", desc := "(C)Z" } : Jvm.MethodName)) ∈ lw_all := lw_g (lw_at lw_m9 181 rfl) rfl
theorem q2180 : (Jvm.Cond.code ({ cls := "java/lang/StringLatin1", name := "canEncode", desc := "(C)Z" } : Jvm.MethodName) prog_36_method_3_code (1 : Nat) (Option.some Jvm.ClassFile.FieldType.boolean)) ∈ lw_all := lw_g (lw_at lw_m9 182 rfl) rfl

/-! java/util/AbstractMap -/
set_option maxRecDepth 100000
def RJ27 : String := "java/util/AbstractMap"
abbrev cJ27_init : ByteArray := prog_44_method_1_code
def yJ27_init : MethodName := ⟨RJ27, "<init>", "()V"⟩
theorem dJ27_init_0 : decode cJ27_init 0 = .ok (.aload_n 0, 1) := by decide +kernel
theorem dJ27_init_1 : decode cJ27_init 1 = .ok (.invokespecial 1, 3) := by decide +kernel
theorem dJ27_init_4 : decode cJ27_init 4 = .ok (.return_, 1) := by decide +kernel
theorem q116 : (Jvm.Cond.initialized "java/util/AbstractMap") ∈ lw_all := lw_g (lw_at lw_m1 38 rfl) rfl
theorem q539 : (Jvm.Cond.instanceMethod ({ cls := "java/util/AbstractMap", name := "<init>", desc := "()V" } : Jvm.MethodName)) ∈ lw_all := lw_g (lw_at lw_m2 221 rfl) rfl
theorem q540 : (Jvm.Cond.code ({ cls := "java/util/AbstractMap", name := "<init>", desc := "()V" } : Jvm.MethodName) prog_44_method_1_code (1 : Nat) (Option.none : Option Jvm.ClassFile.FieldType)) ∈ lw_all := lw_g (lw_at lw_m2 222 rfl) rfl
theorem q541 : (Jvm.Cond.methodLink "java/util/AbstractMap" (1 : Nat) ({ cls := "java/lang/Object", name := "<init>", desc := "()V" } : Jvm.MethodName)) ∈ lw_all := lw_g (lw_at lw_m2 223 rfl) rfl
theorem q563 : (Jvm.Cond.soleField "java/util/AbstractMap" "keySet") ∈ lw_all := lw_g (lw_at lw_m3 5 rfl) rfl
theorem q565 : (Jvm.Cond.soleField "java/util/AbstractMap" "values") ∈ lw_all := lw_g (lw_at lw_m3 7 rfl) rfl

/-! java/util/TreeMap -/
set_option maxRecDepth 100000
def RJ28 : String := "java/util/TreeMap"
def TJ28 : u_T := fun k => match k with
  | 0 => ("java/util/AbstractMap", "keySet", "Ljava/util/Set;", false)
  | 1 => ("java/util/AbstractMap", "values", "Ljava/util/Collection;", false)
  | 2 => ("java/util/TreeMap", "comparator", "Ljava/util/Comparator;", true)
  | 3 => ("java/util/TreeMap", "root", "Ljava/util/TreeMap$Entry;", false)
  | 4 => ("java/util/TreeMap", "size", "I", false)
  | 5 => ("java/util/TreeMap", "modCount", "I", false)
  | 6 => ("java/util/TreeMap", "entrySet", "Ljava/util/TreeMap$EntrySet;", false)
  | 7 => ("java/util/TreeMap", "navigableKeySet", "Ljava/util/TreeMap$KeySet;", false)
  | _ => ("java/util/TreeMap", "descendingMap", "Ljava/util/NavigableMap;", false)
def tyJ28 : Nat → FieldType := fun k => match k with
  | 0 => .object "java/util/Set"
  | 1 => .object "java/util/Collection"
  | 2 => .object "java/util/Comparator"
  | 3 => .object "java/util/TreeMap$Entry"
  | 4 => .int
  | 5 => .int
  | 6 => .object "java/util/TreeMap$EntrySet"
  | 7 => .object "java/util/TreeMap$KeySet"
  | _ => .object "java/util/NavigableMap"
abbrev wsJ280 : List Cond := u_ws RJ28 TJ28 9
theorem nmJ28 : ∀ a, a < 9 → ∀ b, b < 9 → a ≠ b → (TJ28 a).2.1 ≠ (TJ28 b).2.1 := by decide +kernel
theorem tyJ28_ok : ∀ k, k < 9 → parseFieldDescriptor (TJ28 k).2.2.1 = some (tyJ28 k) := by decide +kernel
abbrev cJ28_init : ByteArray := prog_69_method_1_code
def yJ28_init : MethodName := ⟨RJ28, "<init>", "()V"⟩
def dkwJ28_init_0 : List UInt8 := [42, 183, 0, 1, 42, 3, 181, 0, 7, 42, 3, 181, 0, 13, 42, 1, 181, 0, 16, 177]
abbrev dktJ28_init_0 : List UInt8 := dkwJ28_init_0 ++ []
theorem dksJ28_init_0 : cJ28_init.data.toList.drop 0 = dktJ28_init_0 := by decide +kernel
theorem dJ28_init_0 : decode cJ28_init 0 = .ok (.aload_n 0, 1) := dk_42 (dk_at dksJ28_init_0 0 rfl rfl)
theorem dJ28_init_1 : decode cJ28_init 1 = .ok (.invokespecial 1, 3) := dk_183 0 1 (dk_at dksJ28_init_0 1 rfl rfl)
theorem dJ28_init_4 : decode cJ28_init 4 = .ok (.aload_n 0, 1) := dk_42 (dk_at dksJ28_init_0 4 rfl rfl)
theorem dJ28_init_5 : decode cJ28_init 5 = .ok (.iconst 0, 1) := dk_3 (dk_at dksJ28_init_0 5 rfl rfl)
theorem dJ28_init_6 : decode cJ28_init 6 = .ok (.putfield 7, 3) := dk_181 0 7 (dk_at dksJ28_init_0 6 rfl rfl)
theorem dJ28_init_9 : decode cJ28_init 9 = .ok (.aload_n 0, 1) := dk_42 (dk_at dksJ28_init_0 9 rfl rfl)
theorem dJ28_init_10 : decode cJ28_init 10 = .ok (.iconst 0, 1) := dk_3 (dk_at dksJ28_init_0 10 rfl rfl)
theorem dJ28_init_11 : decode cJ28_init 11 = .ok (.putfield 13, 3) := dk_181 0 13 (dk_at dksJ28_init_0 11 rfl rfl)
theorem dJ28_init_14 : decode cJ28_init 14 = .ok (.aload_n 0, 1) := dk_42 (dk_at dksJ28_init_0 14 rfl rfl)
theorem dJ28_init_15 : decode cJ28_init 15 = .ok (.aconst_null, 1) := dk_1 (dk_at dksJ28_init_0 15 rfl rfl)
theorem dJ28_init_16 : decode cJ28_init 16 = .ok (.putfield 16, 3) := dk_181 0 16 (dk_at dksJ28_init_0 16 rfl rfl)
theorem dJ28_init_19 : decode cJ28_init 19 = .ok (.return_, 1) := dk_177 (dk_at dksJ28_init_0 19 rfl rfl)
abbrev cJ28_put : ByteArray := prog_69_method_21_code
def yJ28_put : MethodName := ⟨RJ28, "put", "(Ljava/lang/Object;Ljava/lang/Object;)Ljava/lang/Object;"⟩
def dkwJ28_put_0 : List UInt8 := [42, 43, 44, 4, 182, 0, 127, 176]
abbrev dktJ28_put_0 : List UInt8 := dkwJ28_put_0 ++ []
theorem dksJ28_put_0 : cJ28_put.data.toList.drop 0 = dktJ28_put_0 := by decide +kernel
theorem dJ28_put_0 : decode cJ28_put 0 = .ok (.aload_n 0, 1) := dk_42 (dk_at dksJ28_put_0 0 rfl rfl)
theorem dJ28_put_1 : decode cJ28_put 1 = .ok (.aload_n 1, 1) := dk_43 (dk_at dksJ28_put_0 1 rfl rfl)
theorem dJ28_put_2 : decode cJ28_put 2 = .ok (.aload_n 2, 1) := dk_44 (dk_at dksJ28_put_0 2 rfl rfl)
theorem dJ28_put_3 : decode cJ28_put 3 = .ok (.iconst 1, 1) := dk_4 (dk_at dksJ28_put_0 3 rfl rfl)
theorem dJ28_put_4 : decode cJ28_put 4 = .ok (.invokevirtual 127, 3) := dk_182 0 127 (dk_at dksJ28_put_0 4 rfl rfl)
theorem dJ28_put_7 : decode cJ28_put 7 = .ok (.areturn, 1) := dk_176 (dk_at dksJ28_put_0 7 rfl rfl)
abbrev cJ28_put_2 : ByteArray := prog_69_method_31_code
def yJ28_put_2 : MethodName := ⟨RJ28, "put", "(Ljava/lang/Object;Ljava/lang/Object;Z)Ljava/lang/Object;"⟩
def dkwJ28_put_2_9 : List UInt8 := [4, 167, 0, 4, 3, 182, 0, 139, 1, 176]
abbrev dktJ28_put_2_9 : List UInt8 := dkwJ28_put_2_9 ++ []
def dkwJ28_put_2_8 : List UInt8 := [25, 4, 44, 181, 0, 58, 25, 9, 176, 25, 4, 199, 255, 181, 42, 43, 44, 25, 6, 21, 5, 156, 0, 7]
abbrev dktJ28_put_2_8 : List UInt8 := dkwJ28_put_2_8 ++ dktJ28_put_2_9
def dkwJ28_put_2_7 : List UInt8 := [180, 0, 114, 58, 4, 167, 0, 28, 25, 4, 180, 0, 58, 58, 9, 29, 154, 0, 8, 25, 9, 199, 0, 9]
abbrev dktJ28_put_2_7 : List UInt8 := dkwJ28_put_2_7 ++ dktJ28_put_2_8
def dkwJ28_put_2_6 : List UInt8 := [21, 5, 156, 0, 13, 25, 4, 180, 0, 111, 58, 4, 167, 0, 43, 21, 5, 158, 0, 13, 25, 4]
abbrev dktJ28_put_2_6 : List UInt8 := dkwJ28_put_2_6 ++ dktJ28_put_2_7
def dkwJ28_put_2_5 : List UInt8 := [192, 0, 99, 58, 8, 25, 4, 58, 6, 25, 8, 25, 4, 180, 0, 105, 185, 0, 107, 2, 0, 54, 5]
abbrev dktJ28_put_2_5 : List UInt8 := dkwJ28_put_2_5 ++ dktJ28_put_2_6
def dkwJ28_put_2_4 : List UInt8 := [25, 4, 44, 181, 0, 58, 25, 8, 176, 25, 4, 199, 255, 180, 167, 0, 92, 43, 184, 0, 95, 87, 43]
abbrev dktJ28_put_2_4 : List UInt8 := dkwJ28_put_2_4 ++ dktJ28_put_2_5
def dkwJ28_put_2_3 : List UInt8 := [180, 0, 114, 58, 4, 167, 0, 28, 25, 4, 180, 0, 58, 58, 8, 29, 154, 0, 8, 25, 8, 199, 0, 9]
abbrev dktJ28_put_2_3 : List UInt8 := dkwJ28_put_2_3 ++ dktJ28_put_2_4
def dkwJ28_put_2_2 : List UInt8 := [54, 5, 21, 5, 156, 0, 13, 25, 4, 180, 0, 111, 58, 4, 167, 0, 43, 21, 5, 158, 0, 13, 25, 4]
abbrev dktJ28_put_2_2 : List UInt8 := dkwJ28_put_2_2 ++ dktJ28_put_2_3
def dkwJ28_put_2_1 : List UInt8 := [58, 7, 25, 7, 198, 0, 85, 25, 4, 58, 6, 25, 7, 43, 25, 4, 180, 0, 105, 185, 0, 117, 3, 0]
abbrev dktJ28_put_2_1 : List UInt8 := dkwJ28_put_2_1 ++ dktJ28_put_2_2
def dkwJ28_put_2_0 : List UInt8 := [42, 180, 0, 101, 58, 4, 25, 4, 199, 0, 11, 42, 43, 44, 182, 0, 135, 1, 176, 42, 180, 0, 16]
abbrev dktJ28_put_2_0 : List UInt8 := dkwJ28_put_2_0 ++ dktJ28_put_2_1
theorem dksJ28_put_2_0 : cJ28_put_2.data.toList.drop 0 = dktJ28_put_2_0 := by decide +kernel
theorem dksJ28_put_2_1 : cJ28_put_2.data.toList.drop 23 = dktJ28_put_2_1 := dk_seg dksJ28_put_2_0 23 rfl rfl
theorem dksJ28_put_2_2 : cJ28_put_2.data.toList.drop 47 = dktJ28_put_2_2 := dk_seg dksJ28_put_2_1 24 rfl rfl
theorem dksJ28_put_2_3 : cJ28_put_2.data.toList.drop 71 = dktJ28_put_2_3 := dk_seg dksJ28_put_2_2 24 rfl rfl
theorem dksJ28_put_2_4 : cJ28_put_2.data.toList.drop 95 = dktJ28_put_2_4 := dk_seg dksJ28_put_2_3 24 rfl rfl
theorem dksJ28_put_2_5 : cJ28_put_2.data.toList.drop 118 = dktJ28_put_2_5 := dk_seg dksJ28_put_2_4 23 rfl rfl
theorem dksJ28_put_2_6 : cJ28_put_2.data.toList.drop 141 = dktJ28_put_2_6 := dk_seg dksJ28_put_2_5 23 rfl rfl
theorem dksJ28_put_2_7 : cJ28_put_2.data.toList.drop 163 = dktJ28_put_2_7 := dk_seg dksJ28_put_2_6 22 rfl rfl
theorem dksJ28_put_2_8 : cJ28_put_2.data.toList.drop 187 = dktJ28_put_2_8 := dk_seg dksJ28_put_2_7 24 rfl rfl
theorem dksJ28_put_2_9 : cJ28_put_2.data.toList.drop 211 = dktJ28_put_2_9 := dk_seg dksJ28_put_2_8 24 rfl rfl
theorem dJ28_put_2_0 : decode cJ28_put_2 0 = .ok (.aload_n 0, 1) := dk_42 (dk_at dksJ28_put_2_0 0 rfl rfl)
theorem dJ28_put_2_1 : decode cJ28_put_2 1 = .ok (.getfield 101, 3) := dk_180 0 101 (dk_at dksJ28_put_2_0 1 rfl rfl)
theorem dJ28_put_2_4 : decode cJ28_put_2 4 = .ok (.astore 4, 2) := dk_58 4 (dk_at dksJ28_put_2_0 4 rfl rfl)
theorem dJ28_put_2_6 : decode cJ28_put_2 6 = .ok (.aload 4, 2) := dk_25 4 (dk_at dksJ28_put_2_0 6 rfl rfl)
theorem dJ28_put_2_8 : decode cJ28_put_2 8 = .ok (.ifnonnull 11, 3) := dk_199 0 11 (dk_at dksJ28_put_2_0 8 rfl rfl)
theorem dJ28_put_2_11 : decode cJ28_put_2 11 = .ok (.aload_n 0, 1) := dk_42 (dk_at dksJ28_put_2_0 11 rfl rfl)
theorem dJ28_put_2_12 : decode cJ28_put_2 12 = .ok (.aload_n 1, 1) := dk_43 (dk_at dksJ28_put_2_0 12 rfl rfl)
theorem dJ28_put_2_13 : decode cJ28_put_2 13 = .ok (.aload_n 2, 1) := dk_44 (dk_at dksJ28_put_2_0 13 rfl rfl)
theorem dJ28_put_2_14 : decode cJ28_put_2 14 = .ok (.invokevirtual 135, 3) := dk_182 0 135 (dk_at dksJ28_put_2_0 14 rfl rfl)
theorem dJ28_put_2_17 : decode cJ28_put_2 17 = .ok (.aconst_null, 1) := dk_1 (dk_at dksJ28_put_2_0 17 rfl rfl)
theorem dJ28_put_2_18 : decode cJ28_put_2 18 = .ok (.areturn, 1) := dk_176 (dk_at dksJ28_put_2_0 18 rfl rfl)
theorem dJ28_put_2_19 : decode cJ28_put_2 19 = .ok (.aload_n 0, 1) := dk_42 (dk_at dksJ28_put_2_0 19 rfl rfl)
theorem dJ28_put_2_20 : decode cJ28_put_2 20 = .ok (.getfield 16, 3) := dk_180 0 16 (dk_at dksJ28_put_2_0 20 rfl rfl)
theorem dJ28_put_2_23 : decode cJ28_put_2 23 = .ok (.astore 7, 2) := dk_58 7 (dk_at dksJ28_put_2_1 0 rfl rfl)
theorem dJ28_put_2_25 : decode cJ28_put_2 25 = .ok (.aload 7, 2) := dk_25 7 (dk_at dksJ28_put_2_1 2 rfl rfl)
theorem dJ28_put_2_27 : decode cJ28_put_2 27 = .ok (.ifnull 85, 3) := dk_198 0 85 (dk_at dksJ28_put_2_1 4 rfl rfl)
theorem dJ28_put_2_30 : decode cJ28_put_2 30 = .ok (.aload 4, 2) := dk_25 4 (dk_at dksJ28_put_2_1 7 rfl rfl)
theorem dJ28_put_2_32 : decode cJ28_put_2 32 = .ok (.astore 6, 2) := dk_58 6 (dk_at dksJ28_put_2_1 9 rfl rfl)
theorem dJ28_put_2_34 : decode cJ28_put_2 34 = .ok (.aload 7, 2) := dk_25 7 (dk_at dksJ28_put_2_1 11 rfl rfl)
theorem dJ28_put_2_36 : decode cJ28_put_2 36 = .ok (.aload_n 1, 1) := dk_43 (dk_at dksJ28_put_2_1 13 rfl rfl)
theorem dJ28_put_2_37 : decode cJ28_put_2 37 = .ok (.aload 4, 2) := dk_25 4 (dk_at dksJ28_put_2_1 14 rfl rfl)
theorem dJ28_put_2_39 : decode cJ28_put_2 39 = .ok (.getfield 105, 3) := dk_180 0 105 (dk_at dksJ28_put_2_1 16 rfl rfl)
theorem dJ28_put_2_42 : decode cJ28_put_2 42 = .ok (.invokeinterface 117 3, 5) := by decide +kernel
theorem dJ28_put_2_47 : decode cJ28_put_2 47 = .ok (.istore 5, 2) := dk_54 5 (dk_at dksJ28_put_2_2 0 rfl rfl)
theorem dJ28_put_2_49 : decode cJ28_put_2 49 = .ok (.iload 5, 2) := dk_21 5 (dk_at dksJ28_put_2_2 2 rfl rfl)
theorem dJ28_put_2_51 : decode cJ28_put_2 51 = .ok (.ifCond .ge 13, 3) := dk_156 0 13 (dk_at dksJ28_put_2_2 4 rfl rfl)
theorem dJ28_put_2_54 : decode cJ28_put_2 54 = .ok (.aload 4, 2) := dk_25 4 (dk_at dksJ28_put_2_2 7 rfl rfl)
theorem dJ28_put_2_56 : decode cJ28_put_2 56 = .ok (.getfield 111, 3) := dk_180 0 111 (dk_at dksJ28_put_2_2 9 rfl rfl)
theorem dJ28_put_2_59 : decode cJ28_put_2 59 = .ok (.astore 4, 2) := dk_58 4 (dk_at dksJ28_put_2_2 12 rfl rfl)
theorem dJ28_put_2_61 : decode cJ28_put_2 61 = .ok (.goto 43, 3) := dk_167 0 43 (dk_at dksJ28_put_2_2 14 rfl rfl)
theorem dJ28_put_2_64 : decode cJ28_put_2 64 = .ok (.iload 5, 2) := dk_21 5 (dk_at dksJ28_put_2_2 17 rfl rfl)
theorem dJ28_put_2_66 : decode cJ28_put_2 66 = .ok (.ifCond .le 13, 3) := dk_158 0 13 (dk_at dksJ28_put_2_2 19 rfl rfl)
theorem dJ28_put_2_69 : decode cJ28_put_2 69 = .ok (.aload 4, 2) := dk_25 4 (dk_at dksJ28_put_2_2 22 rfl rfl)
theorem dJ28_put_2_71 : decode cJ28_put_2 71 = .ok (.getfield 114, 3) := dk_180 0 114 (dk_at dksJ28_put_2_3 0 rfl rfl)
theorem dJ28_put_2_74 : decode cJ28_put_2 74 = .ok (.astore 4, 2) := dk_58 4 (dk_at dksJ28_put_2_3 3 rfl rfl)
theorem dJ28_put_2_76 : decode cJ28_put_2 76 = .ok (.goto 28, 3) := dk_167 0 28 (dk_at dksJ28_put_2_3 5 rfl rfl)
theorem dJ28_put_2_79 : decode cJ28_put_2 79 = .ok (.aload 4, 2) := dk_25 4 (dk_at dksJ28_put_2_3 8 rfl rfl)
theorem dJ28_put_2_81 : decode cJ28_put_2 81 = .ok (.getfield 58, 3) := dk_180 0 58 (dk_at dksJ28_put_2_3 10 rfl rfl)
theorem dJ28_put_2_84 : decode cJ28_put_2 84 = .ok (.astore 8, 2) := dk_58 8 (dk_at dksJ28_put_2_3 13 rfl rfl)
theorem dJ28_put_2_86 : decode cJ28_put_2 86 = .ok (.iload_n 3, 1) := dk_29 (dk_at dksJ28_put_2_3 15 rfl rfl)
theorem dJ28_put_2_87 : decode cJ28_put_2 87 = .ok (.ifCond .ne 8, 3) := dk_154 0 8 (dk_at dksJ28_put_2_3 16 rfl rfl)
theorem dJ28_put_2_90 : decode cJ28_put_2 90 = .ok (.aload 8, 2) := dk_25 8 (dk_at dksJ28_put_2_3 19 rfl rfl)
theorem dJ28_put_2_92 : decode cJ28_put_2 92 = .ok (.ifnonnull 9, 3) := dk_199 0 9 (dk_at dksJ28_put_2_3 21 rfl rfl)
theorem dJ28_put_2_95 : decode cJ28_put_2 95 = .ok (.aload 4, 2) := dk_25 4 (dk_at dksJ28_put_2_4 0 rfl rfl)
theorem dJ28_put_2_97 : decode cJ28_put_2 97 = .ok (.aload_n 2, 1) := dk_44 (dk_at dksJ28_put_2_4 2 rfl rfl)
theorem dJ28_put_2_98 : decode cJ28_put_2 98 = .ok (.putfield 58, 3) := dk_181 0 58 (dk_at dksJ28_put_2_4 3 rfl rfl)
theorem dJ28_put_2_101 : decode cJ28_put_2 101 = .ok (.aload 8, 2) := dk_25 8 (dk_at dksJ28_put_2_4 6 rfl rfl)
theorem dJ28_put_2_103 : decode cJ28_put_2 103 = .ok (.areturn, 1) := dk_176 (dk_at dksJ28_put_2_4 8 rfl rfl)
theorem dJ28_put_2_104 : decode cJ28_put_2 104 = .ok (.aload 4, 2) := dk_25 4 (dk_at dksJ28_put_2_4 9 rfl rfl)
theorem dJ28_put_2_106 : decode cJ28_put_2 106 = .ok (.ifnonnull (-76), 3) := dk_199 255 180 (dk_at dksJ28_put_2_4 11 rfl rfl)
theorem dJ28_put_2_109 : decode cJ28_put_2 109 = .ok (.goto 92, 3) := dk_167 0 92 (dk_at dksJ28_put_2_4 14 rfl rfl)
theorem dJ28_put_2_112 : decode cJ28_put_2 112 = .ok (.aload_n 1, 1) := dk_43 (dk_at dksJ28_put_2_4 17 rfl rfl)
theorem dJ28_put_2_113 : decode cJ28_put_2 113 = .ok (.invokestatic 95, 3) := dk_184 0 95 (dk_at dksJ28_put_2_4 18 rfl rfl)
theorem dJ28_put_2_116 : decode cJ28_put_2 116 = .ok (.pop, 1) := dk_87 (dk_at dksJ28_put_2_4 21 rfl rfl)
theorem dJ28_put_2_117 : decode cJ28_put_2 117 = .ok (.aload_n 1, 1) := dk_43 (dk_at dksJ28_put_2_4 22 rfl rfl)
theorem dJ28_put_2_118 : decode cJ28_put_2 118 = .ok (.checkcast 99, 3) := dk_192 0 99 (dk_at dksJ28_put_2_5 0 rfl rfl)
theorem dJ28_put_2_121 : decode cJ28_put_2 121 = .ok (.astore 8, 2) := dk_58 8 (dk_at dksJ28_put_2_5 3 rfl rfl)
theorem dJ28_put_2_123 : decode cJ28_put_2 123 = .ok (.aload 4, 2) := dk_25 4 (dk_at dksJ28_put_2_5 5 rfl rfl)
theorem dJ28_put_2_125 : decode cJ28_put_2 125 = .ok (.astore 6, 2) := dk_58 6 (dk_at dksJ28_put_2_5 7 rfl rfl)
theorem dJ28_put_2_127 : decode cJ28_put_2 127 = .ok (.aload 8, 2) := dk_25 8 (dk_at dksJ28_put_2_5 9 rfl rfl)
theorem dJ28_put_2_129 : decode cJ28_put_2 129 = .ok (.aload 4, 2) := dk_25 4 (dk_at dksJ28_put_2_5 11 rfl rfl)
theorem dJ28_put_2_131 : decode cJ28_put_2 131 = .ok (.getfield 105, 3) := dk_180 0 105 (dk_at dksJ28_put_2_5 13 rfl rfl)
theorem dJ28_put_2_134 : decode cJ28_put_2 134 = .ok (.invokeinterface 107 2, 5) := by decide +kernel
theorem dJ28_put_2_139 : decode cJ28_put_2 139 = .ok (.istore 5, 2) := dk_54 5 (dk_at dksJ28_put_2_5 21 rfl rfl)
theorem dJ28_put_2_141 : decode cJ28_put_2 141 = .ok (.iload 5, 2) := dk_21 5 (dk_at dksJ28_put_2_6 0 rfl rfl)
theorem dJ28_put_2_143 : decode cJ28_put_2 143 = .ok (.ifCond .ge 13, 3) := dk_156 0 13 (dk_at dksJ28_put_2_6 2 rfl rfl)
theorem dJ28_put_2_146 : decode cJ28_put_2 146 = .ok (.aload 4, 2) := dk_25 4 (dk_at dksJ28_put_2_6 5 rfl rfl)
theorem dJ28_put_2_148 : decode cJ28_put_2 148 = .ok (.getfield 111, 3) := dk_180 0 111 (dk_at dksJ28_put_2_6 7 rfl rfl)
theorem dJ28_put_2_151 : decode cJ28_put_2 151 = .ok (.astore 4, 2) := dk_58 4 (dk_at dksJ28_put_2_6 10 rfl rfl)
theorem dJ28_put_2_153 : decode cJ28_put_2 153 = .ok (.goto 43, 3) := dk_167 0 43 (dk_at dksJ28_put_2_6 12 rfl rfl)
theorem dJ28_put_2_156 : decode cJ28_put_2 156 = .ok (.iload 5, 2) := dk_21 5 (dk_at dksJ28_put_2_6 15 rfl rfl)
theorem dJ28_put_2_158 : decode cJ28_put_2 158 = .ok (.ifCond .le 13, 3) := dk_158 0 13 (dk_at dksJ28_put_2_6 17 rfl rfl)
theorem dJ28_put_2_161 : decode cJ28_put_2 161 = .ok (.aload 4, 2) := dk_25 4 (dk_at dksJ28_put_2_6 20 rfl rfl)
theorem dJ28_put_2_163 : decode cJ28_put_2 163 = .ok (.getfield 114, 3) := dk_180 0 114 (dk_at dksJ28_put_2_7 0 rfl rfl)
theorem dJ28_put_2_166 : decode cJ28_put_2 166 = .ok (.astore 4, 2) := dk_58 4 (dk_at dksJ28_put_2_7 3 rfl rfl)
theorem dJ28_put_2_168 : decode cJ28_put_2 168 = .ok (.goto 28, 3) := dk_167 0 28 (dk_at dksJ28_put_2_7 5 rfl rfl)
theorem dJ28_put_2_171 : decode cJ28_put_2 171 = .ok (.aload 4, 2) := dk_25 4 (dk_at dksJ28_put_2_7 8 rfl rfl)
theorem dJ28_put_2_173 : decode cJ28_put_2 173 = .ok (.getfield 58, 3) := dk_180 0 58 (dk_at dksJ28_put_2_7 10 rfl rfl)
theorem dJ28_put_2_176 : decode cJ28_put_2 176 = .ok (.astore 9, 2) := dk_58 9 (dk_at dksJ28_put_2_7 13 rfl rfl)
theorem dJ28_put_2_178 : decode cJ28_put_2 178 = .ok (.iload_n 3, 1) := dk_29 (dk_at dksJ28_put_2_7 15 rfl rfl)
theorem dJ28_put_2_179 : decode cJ28_put_2 179 = .ok (.ifCond .ne 8, 3) := dk_154 0 8 (dk_at dksJ28_put_2_7 16 rfl rfl)
theorem dJ28_put_2_182 : decode cJ28_put_2 182 = .ok (.aload 9, 2) := dk_25 9 (dk_at dksJ28_put_2_7 19 rfl rfl)
theorem dJ28_put_2_184 : decode cJ28_put_2 184 = .ok (.ifnonnull 9, 3) := dk_199 0 9 (dk_at dksJ28_put_2_7 21 rfl rfl)
theorem dJ28_put_2_187 : decode cJ28_put_2 187 = .ok (.aload 4, 2) := dk_25 4 (dk_at dksJ28_put_2_8 0 rfl rfl)
theorem dJ28_put_2_189 : decode cJ28_put_2 189 = .ok (.aload_n 2, 1) := dk_44 (dk_at dksJ28_put_2_8 2 rfl rfl)
theorem dJ28_put_2_190 : decode cJ28_put_2 190 = .ok (.putfield 58, 3) := dk_181 0 58 (dk_at dksJ28_put_2_8 3 rfl rfl)
theorem dJ28_put_2_193 : decode cJ28_put_2 193 = .ok (.aload 9, 2) := dk_25 9 (dk_at dksJ28_put_2_8 6 rfl rfl)
theorem dJ28_put_2_195 : decode cJ28_put_2 195 = .ok (.areturn, 1) := dk_176 (dk_at dksJ28_put_2_8 8 rfl rfl)
theorem dJ28_put_2_196 : decode cJ28_put_2 196 = .ok (.aload 4, 2) := dk_25 4 (dk_at dksJ28_put_2_8 9 rfl rfl)
theorem dJ28_put_2_198 : decode cJ28_put_2 198 = .ok (.ifnonnull (-75), 3) := dk_199 255 181 (dk_at dksJ28_put_2_8 11 rfl rfl)
theorem dJ28_put_2_201 : decode cJ28_put_2 201 = .ok (.aload_n 0, 1) := dk_42 (dk_at dksJ28_put_2_8 14 rfl rfl)
theorem dJ28_put_2_202 : decode cJ28_put_2 202 = .ok (.aload_n 1, 1) := dk_43 (dk_at dksJ28_put_2_8 15 rfl rfl)
theorem dJ28_put_2_203 : decode cJ28_put_2 203 = .ok (.aload_n 2, 1) := dk_44 (dk_at dksJ28_put_2_8 16 rfl rfl)
theorem dJ28_put_2_204 : decode cJ28_put_2 204 = .ok (.aload 6, 2) := dk_25 6 (dk_at dksJ28_put_2_8 17 rfl rfl)
theorem dJ28_put_2_206 : decode cJ28_put_2 206 = .ok (.iload 5, 2) := dk_21 5 (dk_at dksJ28_put_2_8 19 rfl rfl)
theorem dJ28_put_2_208 : decode cJ28_put_2 208 = .ok (.ifCond .ge 7, 3) := dk_156 0 7 (dk_at dksJ28_put_2_8 21 rfl rfl)
theorem dJ28_put_2_211 : decode cJ28_put_2 211 = .ok (.iconst 1, 1) := dk_4 (dk_at dksJ28_put_2_9 0 rfl rfl)
theorem dJ28_put_2_212 : decode cJ28_put_2 212 = .ok (.goto 4, 3) := dk_167 0 4 (dk_at dksJ28_put_2_9 1 rfl rfl)
theorem dJ28_put_2_215 : decode cJ28_put_2 215 = .ok (.iconst 0, 1) := dk_3 (dk_at dksJ28_put_2_9 4 rfl rfl)
theorem dJ28_put_2_216 : decode cJ28_put_2 216 = .ok (.invokevirtual 139, 3) := dk_182 0 139 (dk_at dksJ28_put_2_9 5 rfl rfl)
theorem dJ28_put_2_219 : decode cJ28_put_2 219 = .ok (.aconst_null, 1) := dk_1 (dk_at dksJ28_put_2_9 8 rfl rfl)
theorem dJ28_put_2_220 : decode cJ28_put_2 220 = .ok (.areturn, 1) := dk_176 (dk_at dksJ28_put_2_9 9 rfl rfl)
abbrev cJ28_addEntryToEmptyMap : ByteArray := prog_69_method_30_code
def yJ28_addEntryToEmptyMap : MethodName := ⟨RJ28, "addEntryToEmptyMap", "(Ljava/lang/Object;Ljava/lang/Object;)V"⟩
def dkwJ28_addEntryToEmptyMap_1 : List UInt8 := [181, 0, 7, 42, 89, 180, 0, 13, 4, 96, 181, 0, 13, 177]
abbrev dktJ28_addEntryToEmptyMap_1 : List UInt8 := dkwJ28_addEntryToEmptyMap_1 ++ []
def dkwJ28_addEntryToEmptyMap_0 : List UInt8 := [42, 43, 43, 182, 0, 123, 87, 42, 187, 0, 59, 89, 43, 44, 1, 183, 0, 167, 181, 0, 101, 42, 4]
abbrev dktJ28_addEntryToEmptyMap_0 : List UInt8 := dkwJ28_addEntryToEmptyMap_0 ++ dktJ28_addEntryToEmptyMap_1
theorem dksJ28_addEntryToEmptyMap_0 : cJ28_addEntryToEmptyMap.data.toList.drop 0 = dktJ28_addEntryToEmptyMap_0 := by decide +kernel
theorem dksJ28_addEntryToEmptyMap_1 : cJ28_addEntryToEmptyMap.data.toList.drop 23 = dktJ28_addEntryToEmptyMap_1 := dk_seg dksJ28_addEntryToEmptyMap_0 23 rfl rfl
theorem dJ28_addEntryToEmptyMap_0 : decode cJ28_addEntryToEmptyMap 0 = .ok (.aload_n 0, 1) := dk_42 (dk_at dksJ28_addEntryToEmptyMap_0 0 rfl rfl)
theorem dJ28_addEntryToEmptyMap_1 : decode cJ28_addEntryToEmptyMap 1 = .ok (.aload_n 1, 1) := dk_43 (dk_at dksJ28_addEntryToEmptyMap_0 1 rfl rfl)
theorem dJ28_addEntryToEmptyMap_2 : decode cJ28_addEntryToEmptyMap 2 = .ok (.aload_n 1, 1) := dk_43 (dk_at dksJ28_addEntryToEmptyMap_0 2 rfl rfl)
theorem dJ28_addEntryToEmptyMap_3 : decode cJ28_addEntryToEmptyMap 3 = .ok (.invokevirtual 123, 3) := dk_182 0 123 (dk_at dksJ28_addEntryToEmptyMap_0 3 rfl rfl)
theorem dJ28_addEntryToEmptyMap_6 : decode cJ28_addEntryToEmptyMap 6 = .ok (.pop, 1) := dk_87 (dk_at dksJ28_addEntryToEmptyMap_0 6 rfl rfl)
theorem dJ28_addEntryToEmptyMap_7 : decode cJ28_addEntryToEmptyMap 7 = .ok (.aload_n 0, 1) := dk_42 (dk_at dksJ28_addEntryToEmptyMap_0 7 rfl rfl)
theorem dJ28_addEntryToEmptyMap_8 : decode cJ28_addEntryToEmptyMap 8 = .ok (.new 59, 3) := dk_187 0 59 (dk_at dksJ28_addEntryToEmptyMap_0 8 rfl rfl)
theorem dJ28_addEntryToEmptyMap_11 : decode cJ28_addEntryToEmptyMap 11 = .ok (.dup, 1) := dk_89 (dk_at dksJ28_addEntryToEmptyMap_0 11 rfl rfl)
theorem dJ28_addEntryToEmptyMap_12 : decode cJ28_addEntryToEmptyMap 12 = .ok (.aload_n 1, 1) := dk_43 (dk_at dksJ28_addEntryToEmptyMap_0 12 rfl rfl)
theorem dJ28_addEntryToEmptyMap_13 : decode cJ28_addEntryToEmptyMap 13 = .ok (.aload_n 2, 1) := dk_44 (dk_at dksJ28_addEntryToEmptyMap_0 13 rfl rfl)
theorem dJ28_addEntryToEmptyMap_14 : decode cJ28_addEntryToEmptyMap 14 = .ok (.aconst_null, 1) := dk_1 (dk_at dksJ28_addEntryToEmptyMap_0 14 rfl rfl)
theorem dJ28_addEntryToEmptyMap_15 : decode cJ28_addEntryToEmptyMap 15 = .ok (.invokespecial 167, 3) := dk_183 0 167 (dk_at dksJ28_addEntryToEmptyMap_0 15 rfl rfl)
theorem dJ28_addEntryToEmptyMap_18 : decode cJ28_addEntryToEmptyMap 18 = .ok (.putfield 101, 3) := dk_181 0 101 (dk_at dksJ28_addEntryToEmptyMap_0 18 rfl rfl)
theorem dJ28_addEntryToEmptyMap_21 : decode cJ28_addEntryToEmptyMap 21 = .ok (.aload_n 0, 1) := dk_42 (dk_at dksJ28_addEntryToEmptyMap_0 21 rfl rfl)
theorem dJ28_addEntryToEmptyMap_22 : decode cJ28_addEntryToEmptyMap 22 = .ok (.iconst 1, 1) := dk_4 (dk_at dksJ28_addEntryToEmptyMap_0 22 rfl rfl)
theorem dJ28_addEntryToEmptyMap_23 : decode cJ28_addEntryToEmptyMap 23 = .ok (.putfield 7, 3) := dk_181 0 7 (dk_at dksJ28_addEntryToEmptyMap_1 0 rfl rfl)
theorem dJ28_addEntryToEmptyMap_26 : decode cJ28_addEntryToEmptyMap 26 = .ok (.aload_n 0, 1) := dk_42 (dk_at dksJ28_addEntryToEmptyMap_1 3 rfl rfl)
theorem dJ28_addEntryToEmptyMap_27 : decode cJ28_addEntryToEmptyMap 27 = .ok (.dup, 1) := dk_89 (dk_at dksJ28_addEntryToEmptyMap_1 4 rfl rfl)
theorem dJ28_addEntryToEmptyMap_28 : decode cJ28_addEntryToEmptyMap 28 = .ok (.getfield 13, 3) := dk_180 0 13 (dk_at dksJ28_addEntryToEmptyMap_1 5 rfl rfl)
theorem dJ28_addEntryToEmptyMap_31 : decode cJ28_addEntryToEmptyMap 31 = .ok (.iconst 1, 1) := dk_4 (dk_at dksJ28_addEntryToEmptyMap_1 8 rfl rfl)
theorem dJ28_addEntryToEmptyMap_32 : decode cJ28_addEntryToEmptyMap 32 = .ok (.iadd, 1) := dk_96 (dk_at dksJ28_addEntryToEmptyMap_1 9 rfl rfl)
theorem dJ28_addEntryToEmptyMap_33 : decode cJ28_addEntryToEmptyMap 33 = .ok (.putfield 13, 3) := dk_181 0 13 (dk_at dksJ28_addEntryToEmptyMap_1 10 rfl rfl)
theorem dJ28_addEntryToEmptyMap_36 : decode cJ28_addEntryToEmptyMap 36 = .ok (.return_, 1) := dk_177 (dk_at dksJ28_addEntryToEmptyMap_1 13 rfl rfl)
abbrev cJ28_compare : ByteArray := prog_69_method_67_code
def yJ28_compare : MethodName := ⟨RJ28, "compare", "(Ljava/lang/Object;Ljava/lang/Object;)I"⟩
def dkwJ28_compare_1 : List UInt8 := [43, 44, 185, 0, 117, 3, 0, 172]
abbrev dktJ28_compare_1 : List UInt8 := dkwJ28_compare_1 ++ []
def dkwJ28_compare_0 : List UInt8 := [42, 180, 0, 16, 199, 0, 16, 43, 192, 0, 99, 44, 185, 0, 107, 2, 0, 167, 0, 14, 42, 180, 0, 16]
abbrev dktJ28_compare_0 : List UInt8 := dkwJ28_compare_0 ++ dktJ28_compare_1
theorem dksJ28_compare_0 : cJ28_compare.data.toList.drop 0 = dktJ28_compare_0 := by decide +kernel
theorem dksJ28_compare_1 : cJ28_compare.data.toList.drop 24 = dktJ28_compare_1 := dk_seg dksJ28_compare_0 24 rfl rfl
theorem dJ28_compare_0 : decode cJ28_compare 0 = .ok (.aload_n 0, 1) := dk_42 (dk_at dksJ28_compare_0 0 rfl rfl)
theorem dJ28_compare_1 : decode cJ28_compare 1 = .ok (.getfield 16, 3) := dk_180 0 16 (dk_at dksJ28_compare_0 1 rfl rfl)
theorem dJ28_compare_4 : decode cJ28_compare 4 = .ok (.ifnonnull 16, 3) := dk_199 0 16 (dk_at dksJ28_compare_0 4 rfl rfl)
theorem dJ28_compare_7 : decode cJ28_compare 7 = .ok (.aload_n 1, 1) := dk_43 (dk_at dksJ28_compare_0 7 rfl rfl)
theorem dJ28_compare_8 : decode cJ28_compare 8 = .ok (.checkcast 99, 3) := dk_192 0 99 (dk_at dksJ28_compare_0 8 rfl rfl)
theorem dJ28_compare_11 : decode cJ28_compare 11 = .ok (.aload_n 2, 1) := dk_44 (dk_at dksJ28_compare_0 11 rfl rfl)
theorem dJ28_compare_12 : decode cJ28_compare 12 = .ok (.invokeinterface 107 2, 5) := by decide +kernel
theorem dJ28_compare_17 : decode cJ28_compare 17 = .ok (.goto 14, 3) := dk_167 0 14 (dk_at dksJ28_compare_0 17 rfl rfl)
theorem dJ28_compare_20 : decode cJ28_compare 20 = .ok (.aload_n 0, 1) := dk_42 (dk_at dksJ28_compare_0 20 rfl rfl)
theorem dJ28_compare_21 : decode cJ28_compare 21 = .ok (.getfield 16, 3) := dk_180 0 16 (dk_at dksJ28_compare_0 21 rfl rfl)
theorem dJ28_compare_24 : decode cJ28_compare 24 = .ok (.aload_n 1, 1) := dk_43 (dk_at dksJ28_compare_1 0 rfl rfl)
theorem dJ28_compare_25 : decode cJ28_compare 25 = .ok (.aload_n 2, 1) := dk_44 (dk_at dksJ28_compare_1 1 rfl rfl)
theorem dJ28_compare_26 : decode cJ28_compare 26 = .ok (.invokeinterface 117 3, 5) := by decide +kernel
theorem dJ28_compare_31 : decode cJ28_compare 31 = .ok (.ireturn, 1) := dk_172 (dk_at dksJ28_compare_1 7 rfl rfl)
abbrev cJ28_addEntry : ByteArray := prog_69_method_29_code
def yJ28_addEntry : MethodName := ⟨RJ28, "addEntry", "(Ljava/lang/Object;Ljava/lang/Object;Ljava/util/TreeMap$Entry;Z)V"⟩
def dkwJ28_addEntry_2 : List UInt8 := [181, 0, 7, 42, 89, 180, 0, 13, 4, 96, 181, 0, 13, 177]
abbrev dktJ28_addEntry_2 : List UInt8 := dkwJ28_addEntry_2 ++ []
def dkwJ28_addEntry_1 : List UInt8 := [167, 0, 9, 45, 25, 5, 181, 0, 114, 42, 25, 5, 182, 0, 170, 42, 89, 180, 0, 7, 4, 96]
abbrev dktJ28_addEntry_1 : List UInt8 := dkwJ28_addEntry_1 ++ dktJ28_addEntry_2
def dkwJ28_addEntry_0 : List UInt8 := [187, 0, 59, 89, 43, 44, 45, 183, 0, 167, 58, 5, 21, 4, 153, 0, 12, 45, 25, 5, 181, 0, 111]
abbrev dktJ28_addEntry_0 : List UInt8 := dkwJ28_addEntry_0 ++ dktJ28_addEntry_1
theorem dksJ28_addEntry_0 : cJ28_addEntry.data.toList.drop 0 = dktJ28_addEntry_0 := by decide +kernel
theorem dksJ28_addEntry_1 : cJ28_addEntry.data.toList.drop 23 = dktJ28_addEntry_1 := dk_seg dksJ28_addEntry_0 23 rfl rfl
theorem dksJ28_addEntry_2 : cJ28_addEntry.data.toList.drop 45 = dktJ28_addEntry_2 := dk_seg dksJ28_addEntry_1 22 rfl rfl
theorem dJ28_addEntry_0 : decode cJ28_addEntry 0 = .ok (.new 59, 3) := dk_187 0 59 (dk_at dksJ28_addEntry_0 0 rfl rfl)
theorem dJ28_addEntry_3 : decode cJ28_addEntry 3 = .ok (.dup, 1) := dk_89 (dk_at dksJ28_addEntry_0 3 rfl rfl)
theorem dJ28_addEntry_4 : decode cJ28_addEntry 4 = .ok (.aload_n 1, 1) := dk_43 (dk_at dksJ28_addEntry_0 4 rfl rfl)
theorem dJ28_addEntry_5 : decode cJ28_addEntry 5 = .ok (.aload_n 2, 1) := dk_44 (dk_at dksJ28_addEntry_0 5 rfl rfl)
theorem dJ28_addEntry_6 : decode cJ28_addEntry 6 = .ok (.aload_n 3, 1) := dk_45 (dk_at dksJ28_addEntry_0 6 rfl rfl)
theorem dJ28_addEntry_7 : decode cJ28_addEntry 7 = .ok (.invokespecial 167, 3) := dk_183 0 167 (dk_at dksJ28_addEntry_0 7 rfl rfl)
theorem dJ28_addEntry_10 : decode cJ28_addEntry 10 = .ok (.astore 5, 2) := dk_58 5 (dk_at dksJ28_addEntry_0 10 rfl rfl)
theorem dJ28_addEntry_12 : decode cJ28_addEntry 12 = .ok (.iload 4, 2) := dk_21 4 (dk_at dksJ28_addEntry_0 12 rfl rfl)
theorem dJ28_addEntry_14 : decode cJ28_addEntry 14 = .ok (.ifCond .eq 12, 3) := dk_153 0 12 (dk_at dksJ28_addEntry_0 14 rfl rfl)
theorem dJ28_addEntry_17 : decode cJ28_addEntry 17 = .ok (.aload_n 3, 1) := dk_45 (dk_at dksJ28_addEntry_0 17 rfl rfl)
theorem dJ28_addEntry_18 : decode cJ28_addEntry 18 = .ok (.aload 5, 2) := dk_25 5 (dk_at dksJ28_addEntry_0 18 rfl rfl)
theorem dJ28_addEntry_20 : decode cJ28_addEntry 20 = .ok (.putfield 111, 3) := dk_181 0 111 (dk_at dksJ28_addEntry_0 20 rfl rfl)
theorem dJ28_addEntry_23 : decode cJ28_addEntry 23 = .ok (.goto 9, 3) := dk_167 0 9 (dk_at dksJ28_addEntry_1 0 rfl rfl)
theorem dJ28_addEntry_26 : decode cJ28_addEntry 26 = .ok (.aload_n 3, 1) := dk_45 (dk_at dksJ28_addEntry_1 3 rfl rfl)
theorem dJ28_addEntry_27 : decode cJ28_addEntry 27 = .ok (.aload 5, 2) := dk_25 5 (dk_at dksJ28_addEntry_1 4 rfl rfl)
theorem dJ28_addEntry_29 : decode cJ28_addEntry 29 = .ok (.putfield 114, 3) := dk_181 0 114 (dk_at dksJ28_addEntry_1 6 rfl rfl)
theorem dJ28_addEntry_32 : decode cJ28_addEntry 32 = .ok (.aload_n 0, 1) := dk_42 (dk_at dksJ28_addEntry_1 9 rfl rfl)
theorem dJ28_addEntry_33 : decode cJ28_addEntry 33 = .ok (.aload 5, 2) := dk_25 5 (dk_at dksJ28_addEntry_1 10 rfl rfl)
theorem dJ28_addEntry_35 : decode cJ28_addEntry 35 = .ok (.invokevirtual 170, 3) := dk_182 0 170 (dk_at dksJ28_addEntry_1 12 rfl rfl)
theorem dJ28_addEntry_38 : decode cJ28_addEntry 38 = .ok (.aload_n 0, 1) := dk_42 (dk_at dksJ28_addEntry_1 15 rfl rfl)
theorem dJ28_addEntry_39 : decode cJ28_addEntry 39 = .ok (.dup, 1) := dk_89 (dk_at dksJ28_addEntry_1 16 rfl rfl)
theorem dJ28_addEntry_40 : decode cJ28_addEntry 40 = .ok (.getfield 7, 3) := dk_180 0 7 (dk_at dksJ28_addEntry_1 17 rfl rfl)
theorem dJ28_addEntry_43 : decode cJ28_addEntry 43 = .ok (.iconst 1, 1) := dk_4 (dk_at dksJ28_addEntry_1 20 rfl rfl)
theorem dJ28_addEntry_44 : decode cJ28_addEntry 44 = .ok (.iadd, 1) := dk_96 (dk_at dksJ28_addEntry_1 21 rfl rfl)
theorem dJ28_addEntry_45 : decode cJ28_addEntry 45 = .ok (.putfield 7, 3) := dk_181 0 7 (dk_at dksJ28_addEntry_2 0 rfl rfl)
theorem dJ28_addEntry_48 : decode cJ28_addEntry 48 = .ok (.aload_n 0, 1) := dk_42 (dk_at dksJ28_addEntry_2 3 rfl rfl)
theorem dJ28_addEntry_49 : decode cJ28_addEntry 49 = .ok (.dup, 1) := dk_89 (dk_at dksJ28_addEntry_2 4 rfl rfl)
theorem dJ28_addEntry_50 : decode cJ28_addEntry 50 = .ok (.getfield 13, 3) := dk_180 0 13 (dk_at dksJ28_addEntry_2 5 rfl rfl)
theorem dJ28_addEntry_53 : decode cJ28_addEntry 53 = .ok (.iconst 1, 1) := dk_4 (dk_at dksJ28_addEntry_2 8 rfl rfl)
theorem dJ28_addEntry_54 : decode cJ28_addEntry 54 = .ok (.iadd, 1) := dk_96 (dk_at dksJ28_addEntry_2 9 rfl rfl)
theorem dJ28_addEntry_55 : decode cJ28_addEntry 55 = .ok (.putfield 13, 3) := dk_181 0 13 (dk_at dksJ28_addEntry_2 10 rfl rfl)
theorem dJ28_addEntry_58 : decode cJ28_addEntry 58 = .ok (.return_, 1) := dk_177 (dk_at dksJ28_addEntry_2 13 rfl rfl)
abbrev cJ28_fixAfterInsertion : ByteArray := prog_69_method_83_code
def yJ28_fixAfterInsertion : MethodName := ⟨RJ28, "fixAfterInsertion", "(Ljava/util/TreeMap$Entry;)V"⟩
def dkwJ28_fixAfterInsertion_11 : List UInt8 := [42, 180, 0, 101, 4, 181, 1, 34, 177]
abbrev dktJ28_fixAfterInsertion_11 : List UInt8 := dkwJ28_fixAfterInsertion_11 ++ []
def dkwJ28_fixAfterInsertion_10 : List UInt8 := [184, 1, 38, 184, 1, 38, 3, 184, 1, 51, 42, 43, 184, 1, 38, 184, 1, 38, 182, 1, 55, 167, 255, 6]
abbrev dktJ28_fixAfterInsertion_10 : List UInt8 := dkwJ28_fixAfterInsertion_10 ++ dktJ28_fixAfterInsertion_11
def dkwJ28_fixAfterInsertion_9 : List UInt8 := [166, 0, 13, 43, 184, 1, 38, 76, 42, 43, 182, 1, 58, 43, 184, 1, 38, 4, 184, 1, 51, 43]
abbrev dktJ28_fixAfterInsertion_9 : List UInt8 := dkwJ28_fixAfterInsertion_9 ++ dktJ28_fixAfterInsertion_10
def dkwJ28_fixAfterInsertion_8 : List UInt8 := [184, 1, 51, 43, 184, 1, 38, 184, 1, 38, 76, 167, 0, 54, 43, 43, 184, 1, 38, 184, 1, 41]
abbrev dktJ28_fixAfterInsertion_8 : List UInt8 := dkwJ28_fixAfterInsertion_8 ++ dktJ28_fixAfterInsertion_9
def dkwJ28_fixAfterInsertion_7 : List UInt8 := [154, 0, 38, 43, 184, 1, 38, 4, 184, 1, 51, 44, 4, 184, 1, 51, 43, 184, 1, 38, 184, 1, 38, 3]
abbrev dktJ28_fixAfterInsertion_7 : List UInt8 := dkwJ28_fixAfterInsertion_7 ++ dktJ28_fixAfterInsertion_8
def dkwJ28_fixAfterInsertion_6 : List UInt8 := [184, 1, 38, 182, 1, 58, 167, 255, 113, 43, 184, 1, 38, 184, 1, 38, 184, 1, 41, 77, 44, 184, 1, 47]
abbrev dktJ28_fixAfterInsertion_6 : List UInt8 := dkwJ28_fixAfterInsertion_6 ++ dktJ28_fixAfterInsertion_7
def dkwJ28_fixAfterInsertion_5 : List UInt8 := [43, 184, 1, 38, 4, 184, 1, 51, 43, 184, 1, 38, 184, 1, 38, 3, 184, 1, 51, 42, 43, 184, 1, 38]
abbrev dktJ28_fixAfterInsertion_5 : List UInt8 := dkwJ28_fixAfterInsertion_5 ++ dktJ28_fixAfterInsertion_6
def dkwJ28_fixAfterInsertion_4 : List UInt8 := [167, 0, 54, 43, 43, 184, 1, 38, 184, 1, 44, 166, 0, 13, 43, 184, 1, 38, 76, 42, 43, 182, 1, 55]
abbrev dktJ28_fixAfterInsertion_4 : List UInt8 := dkwJ28_fixAfterInsertion_4 ++ dktJ28_fixAfterInsertion_5
def dkwJ28_fixAfterInsertion_3 : List UInt8 := [184, 1, 51, 43, 184, 1, 38, 184, 1, 38, 3, 184, 1, 51, 43, 184, 1, 38, 184, 1, 38, 76]
abbrev dktJ28_fixAfterInsertion_3 : List UInt8 := dkwJ28_fixAfterInsertion_3 ++ dktJ28_fixAfterInsertion_4
def dkwJ28_fixAfterInsertion_2 : List UInt8 := [184, 1, 38, 184, 1, 44, 77, 44, 184, 1, 47, 154, 0, 38, 43, 184, 1, 38, 4, 184, 1, 51, 44, 4]
abbrev dktJ28_fixAfterInsertion_2 : List UInt8 := dkwJ28_fixAfterInsertion_2 ++ dktJ28_fixAfterInsertion_3
def dkwJ28_fixAfterInsertion_1 : List UInt8 := [154, 0, 234, 43, 184, 1, 38, 43, 184, 1, 38, 184, 1, 38, 184, 1, 41, 166, 0, 110, 43, 184, 1, 38]
abbrev dktJ28_fixAfterInsertion_1 : List UInt8 := dkwJ28_fixAfterInsertion_1 ++ dktJ28_fixAfterInsertion_2
def dkwJ28_fixAfterInsertion_0 : List UInt8 := [43, 3, 181, 1, 34, 43, 198, 0, 252, 43, 42, 180, 0, 101, 165, 0, 244, 43, 180, 0, 124, 180, 1, 34]
abbrev dktJ28_fixAfterInsertion_0 : List UInt8 := dkwJ28_fixAfterInsertion_0 ++ dktJ28_fixAfterInsertion_1
theorem dksJ28_fixAfterInsertion_0 : cJ28_fixAfterInsertion.data.toList.drop 0 = dktJ28_fixAfterInsertion_0 := by decide +kernel
theorem dksJ28_fixAfterInsertion_1 : cJ28_fixAfterInsertion.data.toList.drop 24 = dktJ28_fixAfterInsertion_1 := dk_seg dksJ28_fixAfterInsertion_0 24 rfl rfl
theorem dksJ28_fixAfterInsertion_2 : cJ28_fixAfterInsertion.data.toList.drop 48 = dktJ28_fixAfterInsertion_2 := dk_seg dksJ28_fixAfterInsertion_1 24 rfl rfl
theorem dksJ28_fixAfterInsertion_3 : cJ28_fixAfterInsertion.data.toList.drop 72 = dktJ28_fixAfterInsertion_3 := dk_seg dksJ28_fixAfterInsertion_2 24 rfl rfl
theorem dksJ28_fixAfterInsertion_4 : cJ28_fixAfterInsertion.data.toList.drop 94 = dktJ28_fixAfterInsertion_4 := dk_seg dksJ28_fixAfterInsertion_3 22 rfl rfl
theorem dksJ28_fixAfterInsertion_5 : cJ28_fixAfterInsertion.data.toList.drop 118 = dktJ28_fixAfterInsertion_5 := dk_seg dksJ28_fixAfterInsertion_4 24 rfl rfl
theorem dksJ28_fixAfterInsertion_6 : cJ28_fixAfterInsertion.data.toList.drop 142 = dktJ28_fixAfterInsertion_6 := dk_seg dksJ28_fixAfterInsertion_5 24 rfl rfl
theorem dksJ28_fixAfterInsertion_7 : cJ28_fixAfterInsertion.data.toList.drop 166 = dktJ28_fixAfterInsertion_7 := dk_seg dksJ28_fixAfterInsertion_6 24 rfl rfl
theorem dksJ28_fixAfterInsertion_8 : cJ28_fixAfterInsertion.data.toList.drop 190 = dktJ28_fixAfterInsertion_8 := dk_seg dksJ28_fixAfterInsertion_7 24 rfl rfl
theorem dksJ28_fixAfterInsertion_9 : cJ28_fixAfterInsertion.data.toList.drop 212 = dktJ28_fixAfterInsertion_9 := dk_seg dksJ28_fixAfterInsertion_8 22 rfl rfl
theorem dksJ28_fixAfterInsertion_10 : cJ28_fixAfterInsertion.data.toList.drop 234 = dktJ28_fixAfterInsertion_10 := dk_seg dksJ28_fixAfterInsertion_9 22 rfl rfl
theorem dksJ28_fixAfterInsertion_11 : cJ28_fixAfterInsertion.data.toList.drop 258 = dktJ28_fixAfterInsertion_11 := dk_seg dksJ28_fixAfterInsertion_10 24 rfl rfl
theorem dJ28_fixAfterInsertion_0 : decode cJ28_fixAfterInsertion 0 = .ok (.aload_n 1, 1) := dk_43 (dk_at dksJ28_fixAfterInsertion_0 0 rfl rfl)
theorem dJ28_fixAfterInsertion_1 : decode cJ28_fixAfterInsertion 1 = .ok (.iconst 0, 1) := dk_3 (dk_at dksJ28_fixAfterInsertion_0 1 rfl rfl)
theorem dJ28_fixAfterInsertion_2 : decode cJ28_fixAfterInsertion 2 = .ok (.putfield 290, 3) := dk_181 1 34 (dk_at dksJ28_fixAfterInsertion_0 2 rfl rfl)
theorem dJ28_fixAfterInsertion_5 : decode cJ28_fixAfterInsertion 5 = .ok (.aload_n 1, 1) := dk_43 (dk_at dksJ28_fixAfterInsertion_0 5 rfl rfl)
theorem dJ28_fixAfterInsertion_6 : decode cJ28_fixAfterInsertion 6 = .ok (.ifnull 252, 3) := dk_198 0 252 (dk_at dksJ28_fixAfterInsertion_0 6 rfl rfl)
theorem dJ28_fixAfterInsertion_9 : decode cJ28_fixAfterInsertion 9 = .ok (.aload_n 1, 1) := dk_43 (dk_at dksJ28_fixAfterInsertion_0 9 rfl rfl)
theorem dJ28_fixAfterInsertion_10 : decode cJ28_fixAfterInsertion 10 = .ok (.aload_n 0, 1) := dk_42 (dk_at dksJ28_fixAfterInsertion_0 10 rfl rfl)
theorem dJ28_fixAfterInsertion_11 : decode cJ28_fixAfterInsertion 11 = .ok (.getfield 101, 3) := dk_180 0 101 (dk_at dksJ28_fixAfterInsertion_0 11 rfl rfl)
theorem dJ28_fixAfterInsertion_14 : decode cJ28_fixAfterInsertion 14 = .ok (.if_acmp .eq 244, 3) := dk_165 0 244 (dk_at dksJ28_fixAfterInsertion_0 14 rfl rfl)
theorem dJ28_fixAfterInsertion_17 : decode cJ28_fixAfterInsertion 17 = .ok (.aload_n 1, 1) := dk_43 (dk_at dksJ28_fixAfterInsertion_0 17 rfl rfl)
theorem dJ28_fixAfterInsertion_18 : decode cJ28_fixAfterInsertion 18 = .ok (.getfield 124, 3) := dk_180 0 124 (dk_at dksJ28_fixAfterInsertion_0 18 rfl rfl)
theorem dJ28_fixAfterInsertion_21 : decode cJ28_fixAfterInsertion 21 = .ok (.getfield 290, 3) := dk_180 1 34 (dk_at dksJ28_fixAfterInsertion_0 21 rfl rfl)
theorem dJ28_fixAfterInsertion_24 : decode cJ28_fixAfterInsertion 24 = .ok (.ifCond .ne 234, 3) := dk_154 0 234 (dk_at dksJ28_fixAfterInsertion_1 0 rfl rfl)
theorem dJ28_fixAfterInsertion_27 : decode cJ28_fixAfterInsertion 27 = .ok (.aload_n 1, 1) := dk_43 (dk_at dksJ28_fixAfterInsertion_1 3 rfl rfl)
theorem dJ28_fixAfterInsertion_28 : decode cJ28_fixAfterInsertion 28 = .ok (.invokestatic 294, 3) := dk_184 1 38 (dk_at dksJ28_fixAfterInsertion_1 4 rfl rfl)
theorem dJ28_fixAfterInsertion_31 : decode cJ28_fixAfterInsertion 31 = .ok (.aload_n 1, 1) := dk_43 (dk_at dksJ28_fixAfterInsertion_1 7 rfl rfl)
theorem dJ28_fixAfterInsertion_32 : decode cJ28_fixAfterInsertion 32 = .ok (.invokestatic 294, 3) := dk_184 1 38 (dk_at dksJ28_fixAfterInsertion_1 8 rfl rfl)
theorem dJ28_fixAfterInsertion_35 : decode cJ28_fixAfterInsertion 35 = .ok (.invokestatic 294, 3) := dk_184 1 38 (dk_at dksJ28_fixAfterInsertion_1 11 rfl rfl)
theorem dJ28_fixAfterInsertion_38 : decode cJ28_fixAfterInsertion 38 = .ok (.invokestatic 297, 3) := dk_184 1 41 (dk_at dksJ28_fixAfterInsertion_1 14 rfl rfl)
theorem dJ28_fixAfterInsertion_41 : decode cJ28_fixAfterInsertion 41 = .ok (.if_acmp .ne 110, 3) := dk_166 0 110 (dk_at dksJ28_fixAfterInsertion_1 17 rfl rfl)
theorem dJ28_fixAfterInsertion_44 : decode cJ28_fixAfterInsertion 44 = .ok (.aload_n 1, 1) := dk_43 (dk_at dksJ28_fixAfterInsertion_1 20 rfl rfl)
theorem dJ28_fixAfterInsertion_45 : decode cJ28_fixAfterInsertion 45 = .ok (.invokestatic 294, 3) := dk_184 1 38 (dk_at dksJ28_fixAfterInsertion_1 21 rfl rfl)
theorem dJ28_fixAfterInsertion_48 : decode cJ28_fixAfterInsertion 48 = .ok (.invokestatic 294, 3) := dk_184 1 38 (dk_at dksJ28_fixAfterInsertion_2 0 rfl rfl)
theorem dJ28_fixAfterInsertion_51 : decode cJ28_fixAfterInsertion 51 = .ok (.invokestatic 300, 3) := dk_184 1 44 (dk_at dksJ28_fixAfterInsertion_2 3 rfl rfl)
theorem dJ28_fixAfterInsertion_54 : decode cJ28_fixAfterInsertion 54 = .ok (.astore_n 2, 1) := dk_77 (dk_at dksJ28_fixAfterInsertion_2 6 rfl rfl)
theorem dJ28_fixAfterInsertion_55 : decode cJ28_fixAfterInsertion 55 = .ok (.aload_n 2, 1) := dk_44 (dk_at dksJ28_fixAfterInsertion_2 7 rfl rfl)
theorem dJ28_fixAfterInsertion_56 : decode cJ28_fixAfterInsertion 56 = .ok (.invokestatic 303, 3) := dk_184 1 47 (dk_at dksJ28_fixAfterInsertion_2 8 rfl rfl)
theorem dJ28_fixAfterInsertion_59 : decode cJ28_fixAfterInsertion 59 = .ok (.ifCond .ne 38, 3) := dk_154 0 38 (dk_at dksJ28_fixAfterInsertion_2 11 rfl rfl)
theorem dJ28_fixAfterInsertion_62 : decode cJ28_fixAfterInsertion 62 = .ok (.aload_n 1, 1) := dk_43 (dk_at dksJ28_fixAfterInsertion_2 14 rfl rfl)
theorem dJ28_fixAfterInsertion_63 : decode cJ28_fixAfterInsertion 63 = .ok (.invokestatic 294, 3) := dk_184 1 38 (dk_at dksJ28_fixAfterInsertion_2 15 rfl rfl)
theorem dJ28_fixAfterInsertion_66 : decode cJ28_fixAfterInsertion 66 = .ok (.iconst 1, 1) := dk_4 (dk_at dksJ28_fixAfterInsertion_2 18 rfl rfl)
theorem dJ28_fixAfterInsertion_67 : decode cJ28_fixAfterInsertion 67 = .ok (.invokestatic 307, 3) := dk_184 1 51 (dk_at dksJ28_fixAfterInsertion_2 19 rfl rfl)
theorem dJ28_fixAfterInsertion_70 : decode cJ28_fixAfterInsertion 70 = .ok (.aload_n 2, 1) := dk_44 (dk_at dksJ28_fixAfterInsertion_2 22 rfl rfl)
theorem dJ28_fixAfterInsertion_71 : decode cJ28_fixAfterInsertion 71 = .ok (.iconst 1, 1) := dk_4 (dk_at dksJ28_fixAfterInsertion_2 23 rfl rfl)
theorem dJ28_fixAfterInsertion_72 : decode cJ28_fixAfterInsertion 72 = .ok (.invokestatic 307, 3) := dk_184 1 51 (dk_at dksJ28_fixAfterInsertion_3 0 rfl rfl)
theorem dJ28_fixAfterInsertion_75 : decode cJ28_fixAfterInsertion 75 = .ok (.aload_n 1, 1) := dk_43 (dk_at dksJ28_fixAfterInsertion_3 3 rfl rfl)
theorem dJ28_fixAfterInsertion_76 : decode cJ28_fixAfterInsertion 76 = .ok (.invokestatic 294, 3) := dk_184 1 38 (dk_at dksJ28_fixAfterInsertion_3 4 rfl rfl)
theorem dJ28_fixAfterInsertion_79 : decode cJ28_fixAfterInsertion 79 = .ok (.invokestatic 294, 3) := dk_184 1 38 (dk_at dksJ28_fixAfterInsertion_3 7 rfl rfl)
theorem dJ28_fixAfterInsertion_82 : decode cJ28_fixAfterInsertion 82 = .ok (.iconst 0, 1) := dk_3 (dk_at dksJ28_fixAfterInsertion_3 10 rfl rfl)
theorem dJ28_fixAfterInsertion_83 : decode cJ28_fixAfterInsertion 83 = .ok (.invokestatic 307, 3) := dk_184 1 51 (dk_at dksJ28_fixAfterInsertion_3 11 rfl rfl)
theorem dJ28_fixAfterInsertion_86 : decode cJ28_fixAfterInsertion 86 = .ok (.aload_n 1, 1) := dk_43 (dk_at dksJ28_fixAfterInsertion_3 14 rfl rfl)
theorem dJ28_fixAfterInsertion_87 : decode cJ28_fixAfterInsertion 87 = .ok (.invokestatic 294, 3) := dk_184 1 38 (dk_at dksJ28_fixAfterInsertion_3 15 rfl rfl)
theorem dJ28_fixAfterInsertion_90 : decode cJ28_fixAfterInsertion 90 = .ok (.invokestatic 294, 3) := dk_184 1 38 (dk_at dksJ28_fixAfterInsertion_3 18 rfl rfl)
theorem dJ28_fixAfterInsertion_93 : decode cJ28_fixAfterInsertion 93 = .ok (.astore_n 1, 1) := dk_76 (dk_at dksJ28_fixAfterInsertion_3 21 rfl rfl)
theorem dJ28_fixAfterInsertion_94 : decode cJ28_fixAfterInsertion 94 = .ok (.goto 54, 3) := dk_167 0 54 (dk_at dksJ28_fixAfterInsertion_4 0 rfl rfl)
theorem dJ28_fixAfterInsertion_97 : decode cJ28_fixAfterInsertion 97 = .ok (.aload_n 1, 1) := dk_43 (dk_at dksJ28_fixAfterInsertion_4 3 rfl rfl)
theorem dJ28_fixAfterInsertion_98 : decode cJ28_fixAfterInsertion 98 = .ok (.aload_n 1, 1) := dk_43 (dk_at dksJ28_fixAfterInsertion_4 4 rfl rfl)
theorem dJ28_fixAfterInsertion_99 : decode cJ28_fixAfterInsertion 99 = .ok (.invokestatic 294, 3) := dk_184 1 38 (dk_at dksJ28_fixAfterInsertion_4 5 rfl rfl)
theorem dJ28_fixAfterInsertion_102 : decode cJ28_fixAfterInsertion 102 = .ok (.invokestatic 300, 3) := dk_184 1 44 (dk_at dksJ28_fixAfterInsertion_4 8 rfl rfl)
theorem dJ28_fixAfterInsertion_105 : decode cJ28_fixAfterInsertion 105 = .ok (.if_acmp .ne 13, 3) := dk_166 0 13 (dk_at dksJ28_fixAfterInsertion_4 11 rfl rfl)
theorem dJ28_fixAfterInsertion_108 : decode cJ28_fixAfterInsertion 108 = .ok (.aload_n 1, 1) := dk_43 (dk_at dksJ28_fixAfterInsertion_4 14 rfl rfl)
theorem dJ28_fixAfterInsertion_109 : decode cJ28_fixAfterInsertion 109 = .ok (.invokestatic 294, 3) := dk_184 1 38 (dk_at dksJ28_fixAfterInsertion_4 15 rfl rfl)
theorem dJ28_fixAfterInsertion_112 : decode cJ28_fixAfterInsertion 112 = .ok (.astore_n 1, 1) := dk_76 (dk_at dksJ28_fixAfterInsertion_4 18 rfl rfl)
theorem dJ28_fixAfterInsertion_113 : decode cJ28_fixAfterInsertion 113 = .ok (.aload_n 0, 1) := dk_42 (dk_at dksJ28_fixAfterInsertion_4 19 rfl rfl)
theorem dJ28_fixAfterInsertion_114 : decode cJ28_fixAfterInsertion 114 = .ok (.aload_n 1, 1) := dk_43 (dk_at dksJ28_fixAfterInsertion_4 20 rfl rfl)
theorem dJ28_fixAfterInsertion_115 : decode cJ28_fixAfterInsertion 115 = .ok (.invokevirtual 311, 3) := dk_182 1 55 (dk_at dksJ28_fixAfterInsertion_4 21 rfl rfl)
theorem dJ28_fixAfterInsertion_118 : decode cJ28_fixAfterInsertion 118 = .ok (.aload_n 1, 1) := dk_43 (dk_at dksJ28_fixAfterInsertion_5 0 rfl rfl)
theorem dJ28_fixAfterInsertion_119 : decode cJ28_fixAfterInsertion 119 = .ok (.invokestatic 294, 3) := dk_184 1 38 (dk_at dksJ28_fixAfterInsertion_5 1 rfl rfl)
theorem dJ28_fixAfterInsertion_122 : decode cJ28_fixAfterInsertion 122 = .ok (.iconst 1, 1) := dk_4 (dk_at dksJ28_fixAfterInsertion_5 4 rfl rfl)
theorem dJ28_fixAfterInsertion_123 : decode cJ28_fixAfterInsertion 123 = .ok (.invokestatic 307, 3) := dk_184 1 51 (dk_at dksJ28_fixAfterInsertion_5 5 rfl rfl)
theorem dJ28_fixAfterInsertion_126 : decode cJ28_fixAfterInsertion 126 = .ok (.aload_n 1, 1) := dk_43 (dk_at dksJ28_fixAfterInsertion_5 8 rfl rfl)
theorem dJ28_fixAfterInsertion_127 : decode cJ28_fixAfterInsertion 127 = .ok (.invokestatic 294, 3) := dk_184 1 38 (dk_at dksJ28_fixAfterInsertion_5 9 rfl rfl)
theorem dJ28_fixAfterInsertion_130 : decode cJ28_fixAfterInsertion 130 = .ok (.invokestatic 294, 3) := dk_184 1 38 (dk_at dksJ28_fixAfterInsertion_5 12 rfl rfl)
theorem dJ28_fixAfterInsertion_133 : decode cJ28_fixAfterInsertion 133 = .ok (.iconst 0, 1) := dk_3 (dk_at dksJ28_fixAfterInsertion_5 15 rfl rfl)
theorem dJ28_fixAfterInsertion_134 : decode cJ28_fixAfterInsertion 134 = .ok (.invokestatic 307, 3) := dk_184 1 51 (dk_at dksJ28_fixAfterInsertion_5 16 rfl rfl)
theorem dJ28_fixAfterInsertion_137 : decode cJ28_fixAfterInsertion 137 = .ok (.aload_n 0, 1) := dk_42 (dk_at dksJ28_fixAfterInsertion_5 19 rfl rfl)
theorem dJ28_fixAfterInsertion_138 : decode cJ28_fixAfterInsertion 138 = .ok (.aload_n 1, 1) := dk_43 (dk_at dksJ28_fixAfterInsertion_5 20 rfl rfl)
theorem dJ28_fixAfterInsertion_139 : decode cJ28_fixAfterInsertion 139 = .ok (.invokestatic 294, 3) := dk_184 1 38 (dk_at dksJ28_fixAfterInsertion_5 21 rfl rfl)
theorem dJ28_fixAfterInsertion_142 : decode cJ28_fixAfterInsertion 142 = .ok (.invokestatic 294, 3) := dk_184 1 38 (dk_at dksJ28_fixAfterInsertion_6 0 rfl rfl)
theorem dJ28_fixAfterInsertion_145 : decode cJ28_fixAfterInsertion 145 = .ok (.invokevirtual 314, 3) := dk_182 1 58 (dk_at dksJ28_fixAfterInsertion_6 3 rfl rfl)
theorem dJ28_fixAfterInsertion_148 : decode cJ28_fixAfterInsertion 148 = .ok (.goto (-143), 3) := dk_167 255 113 (dk_at dksJ28_fixAfterInsertion_6 6 rfl rfl)
theorem dJ28_fixAfterInsertion_151 : decode cJ28_fixAfterInsertion 151 = .ok (.aload_n 1, 1) := dk_43 (dk_at dksJ28_fixAfterInsertion_6 9 rfl rfl)
theorem dJ28_fixAfterInsertion_152 : decode cJ28_fixAfterInsertion 152 = .ok (.invokestatic 294, 3) := dk_184 1 38 (dk_at dksJ28_fixAfterInsertion_6 10 rfl rfl)
theorem dJ28_fixAfterInsertion_155 : decode cJ28_fixAfterInsertion 155 = .ok (.invokestatic 294, 3) := dk_184 1 38 (dk_at dksJ28_fixAfterInsertion_6 13 rfl rfl)
theorem dJ28_fixAfterInsertion_158 : decode cJ28_fixAfterInsertion 158 = .ok (.invokestatic 297, 3) := dk_184 1 41 (dk_at dksJ28_fixAfterInsertion_6 16 rfl rfl)
theorem dJ28_fixAfterInsertion_161 : decode cJ28_fixAfterInsertion 161 = .ok (.astore_n 2, 1) := dk_77 (dk_at dksJ28_fixAfterInsertion_6 19 rfl rfl)
theorem dJ28_fixAfterInsertion_162 : decode cJ28_fixAfterInsertion 162 = .ok (.aload_n 2, 1) := dk_44 (dk_at dksJ28_fixAfterInsertion_6 20 rfl rfl)
theorem dJ28_fixAfterInsertion_163 : decode cJ28_fixAfterInsertion 163 = .ok (.invokestatic 303, 3) := dk_184 1 47 (dk_at dksJ28_fixAfterInsertion_6 21 rfl rfl)
theorem dJ28_fixAfterInsertion_166 : decode cJ28_fixAfterInsertion 166 = .ok (.ifCond .ne 38, 3) := dk_154 0 38 (dk_at dksJ28_fixAfterInsertion_7 0 rfl rfl)
theorem dJ28_fixAfterInsertion_169 : decode cJ28_fixAfterInsertion 169 = .ok (.aload_n 1, 1) := dk_43 (dk_at dksJ28_fixAfterInsertion_7 3 rfl rfl)
theorem dJ28_fixAfterInsertion_170 : decode cJ28_fixAfterInsertion 170 = .ok (.invokestatic 294, 3) := dk_184 1 38 (dk_at dksJ28_fixAfterInsertion_7 4 rfl rfl)
theorem dJ28_fixAfterInsertion_173 : decode cJ28_fixAfterInsertion 173 = .ok (.iconst 1, 1) := dk_4 (dk_at dksJ28_fixAfterInsertion_7 7 rfl rfl)
theorem dJ28_fixAfterInsertion_174 : decode cJ28_fixAfterInsertion 174 = .ok (.invokestatic 307, 3) := dk_184 1 51 (dk_at dksJ28_fixAfterInsertion_7 8 rfl rfl)
theorem dJ28_fixAfterInsertion_177 : decode cJ28_fixAfterInsertion 177 = .ok (.aload_n 2, 1) := dk_44 (dk_at dksJ28_fixAfterInsertion_7 11 rfl rfl)
theorem dJ28_fixAfterInsertion_178 : decode cJ28_fixAfterInsertion 178 = .ok (.iconst 1, 1) := dk_4 (dk_at dksJ28_fixAfterInsertion_7 12 rfl rfl)
theorem dJ28_fixAfterInsertion_179 : decode cJ28_fixAfterInsertion 179 = .ok (.invokestatic 307, 3) := dk_184 1 51 (dk_at dksJ28_fixAfterInsertion_7 13 rfl rfl)
theorem dJ28_fixAfterInsertion_182 : decode cJ28_fixAfterInsertion 182 = .ok (.aload_n 1, 1) := dk_43 (dk_at dksJ28_fixAfterInsertion_7 16 rfl rfl)
theorem dJ28_fixAfterInsertion_183 : decode cJ28_fixAfterInsertion 183 = .ok (.invokestatic 294, 3) := dk_184 1 38 (dk_at dksJ28_fixAfterInsertion_7 17 rfl rfl)
theorem dJ28_fixAfterInsertion_186 : decode cJ28_fixAfterInsertion 186 = .ok (.invokestatic 294, 3) := dk_184 1 38 (dk_at dksJ28_fixAfterInsertion_7 20 rfl rfl)
theorem dJ28_fixAfterInsertion_189 : decode cJ28_fixAfterInsertion 189 = .ok (.iconst 0, 1) := dk_3 (dk_at dksJ28_fixAfterInsertion_7 23 rfl rfl)
theorem dJ28_fixAfterInsertion_190 : decode cJ28_fixAfterInsertion 190 = .ok (.invokestatic 307, 3) := dk_184 1 51 (dk_at dksJ28_fixAfterInsertion_8 0 rfl rfl)
theorem dJ28_fixAfterInsertion_193 : decode cJ28_fixAfterInsertion 193 = .ok (.aload_n 1, 1) := dk_43 (dk_at dksJ28_fixAfterInsertion_8 3 rfl rfl)
theorem dJ28_fixAfterInsertion_194 : decode cJ28_fixAfterInsertion 194 = .ok (.invokestatic 294, 3) := dk_184 1 38 (dk_at dksJ28_fixAfterInsertion_8 4 rfl rfl)
theorem dJ28_fixAfterInsertion_197 : decode cJ28_fixAfterInsertion 197 = .ok (.invokestatic 294, 3) := dk_184 1 38 (dk_at dksJ28_fixAfterInsertion_8 7 rfl rfl)
theorem dJ28_fixAfterInsertion_200 : decode cJ28_fixAfterInsertion 200 = .ok (.astore_n 1, 1) := dk_76 (dk_at dksJ28_fixAfterInsertion_8 10 rfl rfl)
theorem dJ28_fixAfterInsertion_201 : decode cJ28_fixAfterInsertion 201 = .ok (.goto 54, 3) := dk_167 0 54 (dk_at dksJ28_fixAfterInsertion_8 11 rfl rfl)
theorem dJ28_fixAfterInsertion_204 : decode cJ28_fixAfterInsertion 204 = .ok (.aload_n 1, 1) := dk_43 (dk_at dksJ28_fixAfterInsertion_8 14 rfl rfl)
theorem dJ28_fixAfterInsertion_205 : decode cJ28_fixAfterInsertion 205 = .ok (.aload_n 1, 1) := dk_43 (dk_at dksJ28_fixAfterInsertion_8 15 rfl rfl)
theorem dJ28_fixAfterInsertion_206 : decode cJ28_fixAfterInsertion 206 = .ok (.invokestatic 294, 3) := dk_184 1 38 (dk_at dksJ28_fixAfterInsertion_8 16 rfl rfl)
theorem dJ28_fixAfterInsertion_209 : decode cJ28_fixAfterInsertion 209 = .ok (.invokestatic 297, 3) := dk_184 1 41 (dk_at dksJ28_fixAfterInsertion_8 19 rfl rfl)
theorem dJ28_fixAfterInsertion_212 : decode cJ28_fixAfterInsertion 212 = .ok (.if_acmp .ne 13, 3) := dk_166 0 13 (dk_at dksJ28_fixAfterInsertion_9 0 rfl rfl)
theorem dJ28_fixAfterInsertion_215 : decode cJ28_fixAfterInsertion 215 = .ok (.aload_n 1, 1) := dk_43 (dk_at dksJ28_fixAfterInsertion_9 3 rfl rfl)
theorem dJ28_fixAfterInsertion_216 : decode cJ28_fixAfterInsertion 216 = .ok (.invokestatic 294, 3) := dk_184 1 38 (dk_at dksJ28_fixAfterInsertion_9 4 rfl rfl)
theorem dJ28_fixAfterInsertion_219 : decode cJ28_fixAfterInsertion 219 = .ok (.astore_n 1, 1) := dk_76 (dk_at dksJ28_fixAfterInsertion_9 7 rfl rfl)
theorem dJ28_fixAfterInsertion_220 : decode cJ28_fixAfterInsertion 220 = .ok (.aload_n 0, 1) := dk_42 (dk_at dksJ28_fixAfterInsertion_9 8 rfl rfl)
theorem dJ28_fixAfterInsertion_221 : decode cJ28_fixAfterInsertion 221 = .ok (.aload_n 1, 1) := dk_43 (dk_at dksJ28_fixAfterInsertion_9 9 rfl rfl)
theorem dJ28_fixAfterInsertion_222 : decode cJ28_fixAfterInsertion 222 = .ok (.invokevirtual 314, 3) := dk_182 1 58 (dk_at dksJ28_fixAfterInsertion_9 10 rfl rfl)
theorem dJ28_fixAfterInsertion_225 : decode cJ28_fixAfterInsertion 225 = .ok (.aload_n 1, 1) := dk_43 (dk_at dksJ28_fixAfterInsertion_9 13 rfl rfl)
theorem dJ28_fixAfterInsertion_226 : decode cJ28_fixAfterInsertion 226 = .ok (.invokestatic 294, 3) := dk_184 1 38 (dk_at dksJ28_fixAfterInsertion_9 14 rfl rfl)
theorem dJ28_fixAfterInsertion_229 : decode cJ28_fixAfterInsertion 229 = .ok (.iconst 1, 1) := dk_4 (dk_at dksJ28_fixAfterInsertion_9 17 rfl rfl)
theorem dJ28_fixAfterInsertion_230 : decode cJ28_fixAfterInsertion 230 = .ok (.invokestatic 307, 3) := dk_184 1 51 (dk_at dksJ28_fixAfterInsertion_9 18 rfl rfl)
theorem dJ28_fixAfterInsertion_233 : decode cJ28_fixAfterInsertion 233 = .ok (.aload_n 1, 1) := dk_43 (dk_at dksJ28_fixAfterInsertion_9 21 rfl rfl)
theorem dJ28_fixAfterInsertion_234 : decode cJ28_fixAfterInsertion 234 = .ok (.invokestatic 294, 3) := dk_184 1 38 (dk_at dksJ28_fixAfterInsertion_10 0 rfl rfl)
theorem dJ28_fixAfterInsertion_237 : decode cJ28_fixAfterInsertion 237 = .ok (.invokestatic 294, 3) := dk_184 1 38 (dk_at dksJ28_fixAfterInsertion_10 3 rfl rfl)
theorem dJ28_fixAfterInsertion_240 : decode cJ28_fixAfterInsertion 240 = .ok (.iconst 0, 1) := dk_3 (dk_at dksJ28_fixAfterInsertion_10 6 rfl rfl)
theorem dJ28_fixAfterInsertion_241 : decode cJ28_fixAfterInsertion 241 = .ok (.invokestatic 307, 3) := dk_184 1 51 (dk_at dksJ28_fixAfterInsertion_10 7 rfl rfl)
theorem dJ28_fixAfterInsertion_244 : decode cJ28_fixAfterInsertion 244 = .ok (.aload_n 0, 1) := dk_42 (dk_at dksJ28_fixAfterInsertion_10 10 rfl rfl)
theorem dJ28_fixAfterInsertion_245 : decode cJ28_fixAfterInsertion 245 = .ok (.aload_n 1, 1) := dk_43 (dk_at dksJ28_fixAfterInsertion_10 11 rfl rfl)
theorem dJ28_fixAfterInsertion_246 : decode cJ28_fixAfterInsertion 246 = .ok (.invokestatic 294, 3) := dk_184 1 38 (dk_at dksJ28_fixAfterInsertion_10 12 rfl rfl)
theorem dJ28_fixAfterInsertion_249 : decode cJ28_fixAfterInsertion 249 = .ok (.invokestatic 294, 3) := dk_184 1 38 (dk_at dksJ28_fixAfterInsertion_10 15 rfl rfl)
theorem dJ28_fixAfterInsertion_252 : decode cJ28_fixAfterInsertion 252 = .ok (.invokevirtual 311, 3) := dk_182 1 55 (dk_at dksJ28_fixAfterInsertion_10 18 rfl rfl)
theorem dJ28_fixAfterInsertion_255 : decode cJ28_fixAfterInsertion 255 = .ok (.goto (-250), 3) := dk_167 255 6 (dk_at dksJ28_fixAfterInsertion_10 21 rfl rfl)
theorem dJ28_fixAfterInsertion_258 : decode cJ28_fixAfterInsertion 258 = .ok (.aload_n 0, 1) := dk_42 (dk_at dksJ28_fixAfterInsertion_11 0 rfl rfl)
theorem dJ28_fixAfterInsertion_259 : decode cJ28_fixAfterInsertion 259 = .ok (.getfield 101, 3) := dk_180 0 101 (dk_at dksJ28_fixAfterInsertion_11 1 rfl rfl)
theorem dJ28_fixAfterInsertion_262 : decode cJ28_fixAfterInsertion 262 = .ok (.iconst 1, 1) := dk_4 (dk_at dksJ28_fixAfterInsertion_11 4 rfl rfl)
theorem dJ28_fixAfterInsertion_263 : decode cJ28_fixAfterInsertion 263 = .ok (.putfield 290, 3) := dk_181 1 34 (dk_at dksJ28_fixAfterInsertion_11 5 rfl rfl)
theorem dJ28_fixAfterInsertion_266 : decode cJ28_fixAfterInsertion 266 = .ok (.return_, 1) := dk_177 (dk_at dksJ28_fixAfterInsertion_11 8 rfl rfl)
abbrev cJ28_parentOf : ByteArray := prog_69_method_77_code
def yJ28_parentOf : MethodName := ⟨RJ28, "parentOf", "(Ljava/util/TreeMap$Entry;)Ljava/util/TreeMap$Entry;"⟩
def dkwJ28_parentOf_0 : List UInt8 := [42, 199, 0, 7, 1, 167, 0, 7, 42, 180, 0, 124, 176]
abbrev dktJ28_parentOf_0 : List UInt8 := dkwJ28_parentOf_0 ++ []
theorem dksJ28_parentOf_0 : cJ28_parentOf.data.toList.drop 0 = dktJ28_parentOf_0 := by decide +kernel
theorem dJ28_parentOf_0 : decode cJ28_parentOf 0 = .ok (.aload_n 0, 1) := dk_42 (dk_at dksJ28_parentOf_0 0 rfl rfl)
theorem dJ28_parentOf_1 : decode cJ28_parentOf 1 = .ok (.ifnonnull 7, 3) := dk_199 0 7 (dk_at dksJ28_parentOf_0 1 rfl rfl)
theorem dJ28_parentOf_4 : decode cJ28_parentOf 4 = .ok (.aconst_null, 1) := dk_1 (dk_at dksJ28_parentOf_0 4 rfl rfl)
theorem dJ28_parentOf_5 : decode cJ28_parentOf 5 = .ok (.goto 7, 3) := dk_167 0 7 (dk_at dksJ28_parentOf_0 5 rfl rfl)
theorem dJ28_parentOf_8 : decode cJ28_parentOf 8 = .ok (.aload_n 0, 1) := dk_42 (dk_at dksJ28_parentOf_0 8 rfl rfl)
theorem dJ28_parentOf_9 : decode cJ28_parentOf 9 = .ok (.getfield 124, 3) := dk_180 0 124 (dk_at dksJ28_parentOf_0 9 rfl rfl)
theorem dJ28_parentOf_12 : decode cJ28_parentOf 12 = .ok (.areturn, 1) := dk_176 (dk_at dksJ28_parentOf_0 12 rfl rfl)
abbrev cJ28_leftOf : ByteArray := prog_69_method_79_code
def yJ28_leftOf : MethodName := ⟨RJ28, "leftOf", "(Ljava/util/TreeMap$Entry;)Ljava/util/TreeMap$Entry;"⟩
def dkwJ28_leftOf_0 : List UInt8 := [42, 199, 0, 7, 1, 167, 0, 7, 42, 180, 0, 111, 176]
abbrev dktJ28_leftOf_0 : List UInt8 := dkwJ28_leftOf_0 ++ []
theorem dksJ28_leftOf_0 : cJ28_leftOf.data.toList.drop 0 = dktJ28_leftOf_0 := by decide +kernel
theorem dJ28_leftOf_0 : decode cJ28_leftOf 0 = .ok (.aload_n 0, 1) := dk_42 (dk_at dksJ28_leftOf_0 0 rfl rfl)
theorem dJ28_leftOf_1 : decode cJ28_leftOf 1 = .ok (.ifnonnull 7, 3) := dk_199 0 7 (dk_at dksJ28_leftOf_0 1 rfl rfl)
theorem dJ28_leftOf_4 : decode cJ28_leftOf 4 = .ok (.aconst_null, 1) := dk_1 (dk_at dksJ28_leftOf_0 4 rfl rfl)
theorem dJ28_leftOf_5 : decode cJ28_leftOf 5 = .ok (.goto 7, 3) := dk_167 0 7 (dk_at dksJ28_leftOf_0 5 rfl rfl)
theorem dJ28_leftOf_8 : decode cJ28_leftOf 8 = .ok (.aload_n 0, 1) := dk_42 (dk_at dksJ28_leftOf_0 8 rfl rfl)
theorem dJ28_leftOf_9 : decode cJ28_leftOf 9 = .ok (.getfield 111, 3) := dk_180 0 111 (dk_at dksJ28_leftOf_0 9 rfl rfl)
theorem dJ28_leftOf_12 : decode cJ28_leftOf 12 = .ok (.areturn, 1) := dk_176 (dk_at dksJ28_leftOf_0 12 rfl rfl)
abbrev cJ28_rightOf : ByteArray := prog_69_method_80_code
def yJ28_rightOf : MethodName := ⟨RJ28, "rightOf", "(Ljava/util/TreeMap$Entry;)Ljava/util/TreeMap$Entry;"⟩
def dkwJ28_rightOf_0 : List UInt8 := [42, 199, 0, 7, 1, 167, 0, 7, 42, 180, 0, 114, 176]
abbrev dktJ28_rightOf_0 : List UInt8 := dkwJ28_rightOf_0 ++ []
theorem dksJ28_rightOf_0 : cJ28_rightOf.data.toList.drop 0 = dktJ28_rightOf_0 := by decide +kernel
theorem dJ28_rightOf_0 : decode cJ28_rightOf 0 = .ok (.aload_n 0, 1) := dk_42 (dk_at dksJ28_rightOf_0 0 rfl rfl)
theorem dJ28_rightOf_1 : decode cJ28_rightOf 1 = .ok (.ifnonnull 7, 3) := dk_199 0 7 (dk_at dksJ28_rightOf_0 1 rfl rfl)
theorem dJ28_rightOf_4 : decode cJ28_rightOf 4 = .ok (.aconst_null, 1) := dk_1 (dk_at dksJ28_rightOf_0 4 rfl rfl)
theorem dJ28_rightOf_5 : decode cJ28_rightOf 5 = .ok (.goto 7, 3) := dk_167 0 7 (dk_at dksJ28_rightOf_0 5 rfl rfl)
theorem dJ28_rightOf_8 : decode cJ28_rightOf 8 = .ok (.aload_n 0, 1) := dk_42 (dk_at dksJ28_rightOf_0 8 rfl rfl)
theorem dJ28_rightOf_9 : decode cJ28_rightOf 9 = .ok (.getfield 114, 3) := dk_180 0 114 (dk_at dksJ28_rightOf_0 9 rfl rfl)
theorem dJ28_rightOf_12 : decode cJ28_rightOf 12 = .ok (.areturn, 1) := dk_176 (dk_at dksJ28_rightOf_0 12 rfl rfl)
abbrev cJ28_colorOf : ByteArray := prog_69_method_76_code
def yJ28_colorOf : MethodName := ⟨RJ28, "colorOf", "(Ljava/util/TreeMap$Entry;)Z"⟩
def dkwJ28_colorOf_0 : List UInt8 := [42, 199, 0, 7, 4, 167, 0, 7, 42, 180, 1, 34, 172]
abbrev dktJ28_colorOf_0 : List UInt8 := dkwJ28_colorOf_0 ++ []
theorem dksJ28_colorOf_0 : cJ28_colorOf.data.toList.drop 0 = dktJ28_colorOf_0 := by decide +kernel
theorem dJ28_colorOf_0 : decode cJ28_colorOf 0 = .ok (.aload_n 0, 1) := dk_42 (dk_at dksJ28_colorOf_0 0 rfl rfl)
theorem dJ28_colorOf_1 : decode cJ28_colorOf 1 = .ok (.ifnonnull 7, 3) := dk_199 0 7 (dk_at dksJ28_colorOf_0 1 rfl rfl)
theorem dJ28_colorOf_4 : decode cJ28_colorOf 4 = .ok (.iconst 1, 1) := dk_4 (dk_at dksJ28_colorOf_0 4 rfl rfl)
theorem dJ28_colorOf_5 : decode cJ28_colorOf 5 = .ok (.goto 7, 3) := dk_167 0 7 (dk_at dksJ28_colorOf_0 5 rfl rfl)
theorem dJ28_colorOf_8 : decode cJ28_colorOf 8 = .ok (.aload_n 0, 1) := dk_42 (dk_at dksJ28_colorOf_0 8 rfl rfl)
theorem dJ28_colorOf_9 : decode cJ28_colorOf 9 = .ok (.getfield 290, 3) := dk_180 1 34 (dk_at dksJ28_colorOf_0 9 rfl rfl)
theorem dJ28_colorOf_12 : decode cJ28_colorOf 12 = .ok (.ireturn, 1) := dk_172 (dk_at dksJ28_colorOf_0 12 rfl rfl)
abbrev cJ28_setColor : ByteArray := prog_69_method_78_code
def yJ28_setColor : MethodName := ⟨RJ28, "setColor", "(Ljava/util/TreeMap$Entry;Z)V"⟩
def dkwJ28_setColor_0 : List UInt8 := [42, 198, 0, 8, 42, 27, 181, 1, 34, 177]
abbrev dktJ28_setColor_0 : List UInt8 := dkwJ28_setColor_0 ++ []
theorem dksJ28_setColor_0 : cJ28_setColor.data.toList.drop 0 = dktJ28_setColor_0 := by decide +kernel
theorem dJ28_setColor_0 : decode cJ28_setColor 0 = .ok (.aload_n 0, 1) := dk_42 (dk_at dksJ28_setColor_0 0 rfl rfl)
theorem dJ28_setColor_1 : decode cJ28_setColor 1 = .ok (.ifnull 8, 3) := dk_198 0 8 (dk_at dksJ28_setColor_0 1 rfl rfl)
theorem dJ28_setColor_4 : decode cJ28_setColor 4 = .ok (.aload_n 0, 1) := dk_42 (dk_at dksJ28_setColor_0 4 rfl rfl)
theorem dJ28_setColor_5 : decode cJ28_setColor 5 = .ok (.iload_n 1, 1) := dk_27 (dk_at dksJ28_setColor_0 5 rfl rfl)
theorem dJ28_setColor_6 : decode cJ28_setColor 6 = .ok (.putfield 290, 3) := dk_181 1 34 (dk_at dksJ28_setColor_0 6 rfl rfl)
theorem dJ28_setColor_9 : decode cJ28_setColor 9 = .ok (.return_, 1) := dk_177 (dk_at dksJ28_setColor_0 9 rfl rfl)
abbrev cJ28_rotateLeft : ByteArray := prog_69_method_81_code
def yJ28_rotateLeft : MethodName := ⟨RJ28, "rotateLeft", "(Ljava/util/TreeMap$Entry;)V"⟩
def dkwJ28_rotateLeft_4 : List UInt8 := [177]
abbrev dktJ28_rotateLeft_4 : List UInt8 := dkwJ28_rotateLeft_4 ++ []
def dkwJ28_rotateLeft_3 : List UInt8 := [181, 0, 111, 167, 0, 11, 43, 180, 0, 124, 44, 181, 0, 114, 44, 43, 181, 0, 111, 43, 44, 181, 0, 124]
abbrev dktJ28_rotateLeft_3 : List UInt8 := dkwJ28_rotateLeft_3 ++ dktJ28_rotateLeft_4
def dkwJ28_rotateLeft_2 : List UInt8 := [44, 181, 0, 101, 167, 0, 33, 43, 180, 0, 124, 180, 0, 111, 43, 166, 0, 14, 43, 180, 0, 124, 44]
abbrev dktJ28_rotateLeft_2 : List UInt8 := dkwJ28_rotateLeft_2 ++ dktJ28_rotateLeft_3
def dkwJ28_rotateLeft_1 : List UInt8 := [44, 180, 0, 111, 43, 181, 0, 124, 44, 43, 180, 0, 124, 181, 0, 124, 43, 180, 0, 124, 199, 0, 11, 42]
abbrev dktJ28_rotateLeft_1 : List UInt8 := dkwJ28_rotateLeft_1 ++ dktJ28_rotateLeft_2
def dkwJ28_rotateLeft_0 : List UInt8 := [43, 198, 0, 94, 43, 180, 0, 114, 77, 43, 44, 180, 0, 111, 181, 0, 114, 44, 180, 0, 111, 198, 0, 11]
abbrev dktJ28_rotateLeft_0 : List UInt8 := dkwJ28_rotateLeft_0 ++ dktJ28_rotateLeft_1
theorem dksJ28_rotateLeft_0 : cJ28_rotateLeft.data.toList.drop 0 = dktJ28_rotateLeft_0 := by decide +kernel
theorem dksJ28_rotateLeft_1 : cJ28_rotateLeft.data.toList.drop 24 = dktJ28_rotateLeft_1 := dk_seg dksJ28_rotateLeft_0 24 rfl rfl
theorem dksJ28_rotateLeft_2 : cJ28_rotateLeft.data.toList.drop 48 = dktJ28_rotateLeft_2 := dk_seg dksJ28_rotateLeft_1 24 rfl rfl
theorem dksJ28_rotateLeft_3 : cJ28_rotateLeft.data.toList.drop 71 = dktJ28_rotateLeft_3 := dk_seg dksJ28_rotateLeft_2 23 rfl rfl
theorem dksJ28_rotateLeft_4 : cJ28_rotateLeft.data.toList.drop 95 = dktJ28_rotateLeft_4 := dk_seg dksJ28_rotateLeft_3 24 rfl rfl
theorem dJ28_rotateLeft_0 : decode cJ28_rotateLeft 0 = .ok (.aload_n 1, 1) := dk_43 (dk_at dksJ28_rotateLeft_0 0 rfl rfl)
theorem dJ28_rotateLeft_1 : decode cJ28_rotateLeft 1 = .ok (.ifnull 94, 3) := dk_198 0 94 (dk_at dksJ28_rotateLeft_0 1 rfl rfl)
theorem dJ28_rotateLeft_4 : decode cJ28_rotateLeft 4 = .ok (.aload_n 1, 1) := dk_43 (dk_at dksJ28_rotateLeft_0 4 rfl rfl)
theorem dJ28_rotateLeft_5 : decode cJ28_rotateLeft 5 = .ok (.getfield 114, 3) := dk_180 0 114 (dk_at dksJ28_rotateLeft_0 5 rfl rfl)
theorem dJ28_rotateLeft_8 : decode cJ28_rotateLeft 8 = .ok (.astore_n 2, 1) := dk_77 (dk_at dksJ28_rotateLeft_0 8 rfl rfl)
theorem dJ28_rotateLeft_9 : decode cJ28_rotateLeft 9 = .ok (.aload_n 1, 1) := dk_43 (dk_at dksJ28_rotateLeft_0 9 rfl rfl)
theorem dJ28_rotateLeft_10 : decode cJ28_rotateLeft 10 = .ok (.aload_n 2, 1) := dk_44 (dk_at dksJ28_rotateLeft_0 10 rfl rfl)
theorem dJ28_rotateLeft_11 : decode cJ28_rotateLeft 11 = .ok (.getfield 111, 3) := dk_180 0 111 (dk_at dksJ28_rotateLeft_0 11 rfl rfl)
theorem dJ28_rotateLeft_14 : decode cJ28_rotateLeft 14 = .ok (.putfield 114, 3) := dk_181 0 114 (dk_at dksJ28_rotateLeft_0 14 rfl rfl)
theorem dJ28_rotateLeft_17 : decode cJ28_rotateLeft 17 = .ok (.aload_n 2, 1) := dk_44 (dk_at dksJ28_rotateLeft_0 17 rfl rfl)
theorem dJ28_rotateLeft_18 : decode cJ28_rotateLeft 18 = .ok (.getfield 111, 3) := dk_180 0 111 (dk_at dksJ28_rotateLeft_0 18 rfl rfl)
theorem dJ28_rotateLeft_21 : decode cJ28_rotateLeft 21 = .ok (.ifnull 11, 3) := dk_198 0 11 (dk_at dksJ28_rotateLeft_0 21 rfl rfl)
theorem dJ28_rotateLeft_24 : decode cJ28_rotateLeft 24 = .ok (.aload_n 2, 1) := dk_44 (dk_at dksJ28_rotateLeft_1 0 rfl rfl)
theorem dJ28_rotateLeft_25 : decode cJ28_rotateLeft 25 = .ok (.getfield 111, 3) := dk_180 0 111 (dk_at dksJ28_rotateLeft_1 1 rfl rfl)
theorem dJ28_rotateLeft_28 : decode cJ28_rotateLeft 28 = .ok (.aload_n 1, 1) := dk_43 (dk_at dksJ28_rotateLeft_1 4 rfl rfl)
theorem dJ28_rotateLeft_29 : decode cJ28_rotateLeft 29 = .ok (.putfield 124, 3) := dk_181 0 124 (dk_at dksJ28_rotateLeft_1 5 rfl rfl)
theorem dJ28_rotateLeft_32 : decode cJ28_rotateLeft 32 = .ok (.aload_n 2, 1) := dk_44 (dk_at dksJ28_rotateLeft_1 8 rfl rfl)
theorem dJ28_rotateLeft_33 : decode cJ28_rotateLeft 33 = .ok (.aload_n 1, 1) := dk_43 (dk_at dksJ28_rotateLeft_1 9 rfl rfl)
theorem dJ28_rotateLeft_34 : decode cJ28_rotateLeft 34 = .ok (.getfield 124, 3) := dk_180 0 124 (dk_at dksJ28_rotateLeft_1 10 rfl rfl)
theorem dJ28_rotateLeft_37 : decode cJ28_rotateLeft 37 = .ok (.putfield 124, 3) := dk_181 0 124 (dk_at dksJ28_rotateLeft_1 13 rfl rfl)
theorem dJ28_rotateLeft_40 : decode cJ28_rotateLeft 40 = .ok (.aload_n 1, 1) := dk_43 (dk_at dksJ28_rotateLeft_1 16 rfl rfl)
theorem dJ28_rotateLeft_41 : decode cJ28_rotateLeft 41 = .ok (.getfield 124, 3) := dk_180 0 124 (dk_at dksJ28_rotateLeft_1 17 rfl rfl)
theorem dJ28_rotateLeft_44 : decode cJ28_rotateLeft 44 = .ok (.ifnonnull 11, 3) := dk_199 0 11 (dk_at dksJ28_rotateLeft_1 20 rfl rfl)
theorem dJ28_rotateLeft_47 : decode cJ28_rotateLeft 47 = .ok (.aload_n 0, 1) := dk_42 (dk_at dksJ28_rotateLeft_1 23 rfl rfl)
theorem dJ28_rotateLeft_48 : decode cJ28_rotateLeft 48 = .ok (.aload_n 2, 1) := dk_44 (dk_at dksJ28_rotateLeft_2 0 rfl rfl)
theorem dJ28_rotateLeft_49 : decode cJ28_rotateLeft 49 = .ok (.putfield 101, 3) := dk_181 0 101 (dk_at dksJ28_rotateLeft_2 1 rfl rfl)
theorem dJ28_rotateLeft_52 : decode cJ28_rotateLeft 52 = .ok (.goto 33, 3) := dk_167 0 33 (dk_at dksJ28_rotateLeft_2 4 rfl rfl)
theorem dJ28_rotateLeft_55 : decode cJ28_rotateLeft 55 = .ok (.aload_n 1, 1) := dk_43 (dk_at dksJ28_rotateLeft_2 7 rfl rfl)
theorem dJ28_rotateLeft_56 : decode cJ28_rotateLeft 56 = .ok (.getfield 124, 3) := dk_180 0 124 (dk_at dksJ28_rotateLeft_2 8 rfl rfl)
theorem dJ28_rotateLeft_59 : decode cJ28_rotateLeft 59 = .ok (.getfield 111, 3) := dk_180 0 111 (dk_at dksJ28_rotateLeft_2 11 rfl rfl)
theorem dJ28_rotateLeft_62 : decode cJ28_rotateLeft 62 = .ok (.aload_n 1, 1) := dk_43 (dk_at dksJ28_rotateLeft_2 14 rfl rfl)
theorem dJ28_rotateLeft_63 : decode cJ28_rotateLeft 63 = .ok (.if_acmp .ne 14, 3) := dk_166 0 14 (dk_at dksJ28_rotateLeft_2 15 rfl rfl)
theorem dJ28_rotateLeft_66 : decode cJ28_rotateLeft 66 = .ok (.aload_n 1, 1) := dk_43 (dk_at dksJ28_rotateLeft_2 18 rfl rfl)
theorem dJ28_rotateLeft_67 : decode cJ28_rotateLeft 67 = .ok (.getfield 124, 3) := dk_180 0 124 (dk_at dksJ28_rotateLeft_2 19 rfl rfl)
theorem dJ28_rotateLeft_70 : decode cJ28_rotateLeft 70 = .ok (.aload_n 2, 1) := dk_44 (dk_at dksJ28_rotateLeft_2 22 rfl rfl)
theorem dJ28_rotateLeft_71 : decode cJ28_rotateLeft 71 = .ok (.putfield 111, 3) := dk_181 0 111 (dk_at dksJ28_rotateLeft_3 0 rfl rfl)
theorem dJ28_rotateLeft_74 : decode cJ28_rotateLeft 74 = .ok (.goto 11, 3) := dk_167 0 11 (dk_at dksJ28_rotateLeft_3 3 rfl rfl)
theorem dJ28_rotateLeft_77 : decode cJ28_rotateLeft 77 = .ok (.aload_n 1, 1) := dk_43 (dk_at dksJ28_rotateLeft_3 6 rfl rfl)
theorem dJ28_rotateLeft_78 : decode cJ28_rotateLeft 78 = .ok (.getfield 124, 3) := dk_180 0 124 (dk_at dksJ28_rotateLeft_3 7 rfl rfl)
theorem dJ28_rotateLeft_81 : decode cJ28_rotateLeft 81 = .ok (.aload_n 2, 1) := dk_44 (dk_at dksJ28_rotateLeft_3 10 rfl rfl)
theorem dJ28_rotateLeft_82 : decode cJ28_rotateLeft 82 = .ok (.putfield 114, 3) := dk_181 0 114 (dk_at dksJ28_rotateLeft_3 11 rfl rfl)
theorem dJ28_rotateLeft_85 : decode cJ28_rotateLeft 85 = .ok (.aload_n 2, 1) := dk_44 (dk_at dksJ28_rotateLeft_3 14 rfl rfl)
theorem dJ28_rotateLeft_86 : decode cJ28_rotateLeft 86 = .ok (.aload_n 1, 1) := dk_43 (dk_at dksJ28_rotateLeft_3 15 rfl rfl)
theorem dJ28_rotateLeft_87 : decode cJ28_rotateLeft 87 = .ok (.putfield 111, 3) := dk_181 0 111 (dk_at dksJ28_rotateLeft_3 16 rfl rfl)
theorem dJ28_rotateLeft_90 : decode cJ28_rotateLeft 90 = .ok (.aload_n 1, 1) := dk_43 (dk_at dksJ28_rotateLeft_3 19 rfl rfl)
theorem dJ28_rotateLeft_91 : decode cJ28_rotateLeft 91 = .ok (.aload_n 2, 1) := dk_44 (dk_at dksJ28_rotateLeft_3 20 rfl rfl)
theorem dJ28_rotateLeft_92 : decode cJ28_rotateLeft 92 = .ok (.putfield 124, 3) := dk_181 0 124 (dk_at dksJ28_rotateLeft_3 21 rfl rfl)
theorem dJ28_rotateLeft_95 : decode cJ28_rotateLeft 95 = .ok (.return_, 1) := dk_177 (dk_at dksJ28_rotateLeft_4 0 rfl rfl)
abbrev cJ28_rotateRight : ByteArray := prog_69_method_82_code
def yJ28_rotateRight : MethodName := ⟨RJ28, "rotateRight", "(Ljava/util/TreeMap$Entry;)V"⟩
def dkwJ28_rotateRight_4 : List UInt8 := [177]
abbrev dktJ28_rotateRight_4 : List UInt8 := dkwJ28_rotateRight_4 ++ []
def dkwJ28_rotateRight_3 : List UInt8 := [181, 0, 114, 167, 0, 11, 43, 180, 0, 124, 44, 181, 0, 111, 44, 43, 181, 0, 114, 43, 44, 181, 0, 124]
abbrev dktJ28_rotateRight_3 : List UInt8 := dkwJ28_rotateRight_3 ++ dktJ28_rotateRight_4
def dkwJ28_rotateRight_2 : List UInt8 := [44, 181, 0, 101, 167, 0, 33, 43, 180, 0, 124, 180, 0, 114, 43, 166, 0, 14, 43, 180, 0, 124, 44]
abbrev dktJ28_rotateRight_2 : List UInt8 := dkwJ28_rotateRight_2 ++ dktJ28_rotateRight_3
def dkwJ28_rotateRight_1 : List UInt8 := [44, 180, 0, 114, 43, 181, 0, 124, 44, 43, 180, 0, 124, 181, 0, 124, 43, 180, 0, 124, 199, 0, 11, 42]
abbrev dktJ28_rotateRight_1 : List UInt8 := dkwJ28_rotateRight_1 ++ dktJ28_rotateRight_2
def dkwJ28_rotateRight_0 : List UInt8 := [43, 198, 0, 94, 43, 180, 0, 111, 77, 43, 44, 180, 0, 114, 181, 0, 111, 44, 180, 0, 114, 198, 0, 11]
abbrev dktJ28_rotateRight_0 : List UInt8 := dkwJ28_rotateRight_0 ++ dktJ28_rotateRight_1
theorem dksJ28_rotateRight_0 : cJ28_rotateRight.data.toList.drop 0 = dktJ28_rotateRight_0 := by decide +kernel
theorem dksJ28_rotateRight_1 : cJ28_rotateRight.data.toList.drop 24 = dktJ28_rotateRight_1 := dk_seg dksJ28_rotateRight_0 24 rfl rfl
theorem dksJ28_rotateRight_2 : cJ28_rotateRight.data.toList.drop 48 = dktJ28_rotateRight_2 := dk_seg dksJ28_rotateRight_1 24 rfl rfl
theorem dksJ28_rotateRight_3 : cJ28_rotateRight.data.toList.drop 71 = dktJ28_rotateRight_3 := dk_seg dksJ28_rotateRight_2 23 rfl rfl
theorem dksJ28_rotateRight_4 : cJ28_rotateRight.data.toList.drop 95 = dktJ28_rotateRight_4 := dk_seg dksJ28_rotateRight_3 24 rfl rfl
theorem dJ28_rotateRight_0 : decode cJ28_rotateRight 0 = .ok (.aload_n 1, 1) := dk_43 (dk_at dksJ28_rotateRight_0 0 rfl rfl)
theorem dJ28_rotateRight_1 : decode cJ28_rotateRight 1 = .ok (.ifnull 94, 3) := dk_198 0 94 (dk_at dksJ28_rotateRight_0 1 rfl rfl)
theorem dJ28_rotateRight_4 : decode cJ28_rotateRight 4 = .ok (.aload_n 1, 1) := dk_43 (dk_at dksJ28_rotateRight_0 4 rfl rfl)
theorem dJ28_rotateRight_5 : decode cJ28_rotateRight 5 = .ok (.getfield 111, 3) := dk_180 0 111 (dk_at dksJ28_rotateRight_0 5 rfl rfl)
theorem dJ28_rotateRight_8 : decode cJ28_rotateRight 8 = .ok (.astore_n 2, 1) := dk_77 (dk_at dksJ28_rotateRight_0 8 rfl rfl)
theorem dJ28_rotateRight_9 : decode cJ28_rotateRight 9 = .ok (.aload_n 1, 1) := dk_43 (dk_at dksJ28_rotateRight_0 9 rfl rfl)
theorem dJ28_rotateRight_10 : decode cJ28_rotateRight 10 = .ok (.aload_n 2, 1) := dk_44 (dk_at dksJ28_rotateRight_0 10 rfl rfl)
theorem dJ28_rotateRight_11 : decode cJ28_rotateRight 11 = .ok (.getfield 114, 3) := dk_180 0 114 (dk_at dksJ28_rotateRight_0 11 rfl rfl)
theorem dJ28_rotateRight_14 : decode cJ28_rotateRight 14 = .ok (.putfield 111, 3) := dk_181 0 111 (dk_at dksJ28_rotateRight_0 14 rfl rfl)
theorem dJ28_rotateRight_17 : decode cJ28_rotateRight 17 = .ok (.aload_n 2, 1) := dk_44 (dk_at dksJ28_rotateRight_0 17 rfl rfl)
theorem dJ28_rotateRight_18 : decode cJ28_rotateRight 18 = .ok (.getfield 114, 3) := dk_180 0 114 (dk_at dksJ28_rotateRight_0 18 rfl rfl)
theorem dJ28_rotateRight_21 : decode cJ28_rotateRight 21 = .ok (.ifnull 11, 3) := dk_198 0 11 (dk_at dksJ28_rotateRight_0 21 rfl rfl)
theorem dJ28_rotateRight_24 : decode cJ28_rotateRight 24 = .ok (.aload_n 2, 1) := dk_44 (dk_at dksJ28_rotateRight_1 0 rfl rfl)
theorem dJ28_rotateRight_25 : decode cJ28_rotateRight 25 = .ok (.getfield 114, 3) := dk_180 0 114 (dk_at dksJ28_rotateRight_1 1 rfl rfl)
theorem dJ28_rotateRight_28 : decode cJ28_rotateRight 28 = .ok (.aload_n 1, 1) := dk_43 (dk_at dksJ28_rotateRight_1 4 rfl rfl)
theorem dJ28_rotateRight_29 : decode cJ28_rotateRight 29 = .ok (.putfield 124, 3) := dk_181 0 124 (dk_at dksJ28_rotateRight_1 5 rfl rfl)
theorem dJ28_rotateRight_32 : decode cJ28_rotateRight 32 = .ok (.aload_n 2, 1) := dk_44 (dk_at dksJ28_rotateRight_1 8 rfl rfl)
theorem dJ28_rotateRight_33 : decode cJ28_rotateRight 33 = .ok (.aload_n 1, 1) := dk_43 (dk_at dksJ28_rotateRight_1 9 rfl rfl)
theorem dJ28_rotateRight_34 : decode cJ28_rotateRight 34 = .ok (.getfield 124, 3) := dk_180 0 124 (dk_at dksJ28_rotateRight_1 10 rfl rfl)
theorem dJ28_rotateRight_37 : decode cJ28_rotateRight 37 = .ok (.putfield 124, 3) := dk_181 0 124 (dk_at dksJ28_rotateRight_1 13 rfl rfl)
theorem dJ28_rotateRight_40 : decode cJ28_rotateRight 40 = .ok (.aload_n 1, 1) := dk_43 (dk_at dksJ28_rotateRight_1 16 rfl rfl)
theorem dJ28_rotateRight_41 : decode cJ28_rotateRight 41 = .ok (.getfield 124, 3) := dk_180 0 124 (dk_at dksJ28_rotateRight_1 17 rfl rfl)
theorem dJ28_rotateRight_44 : decode cJ28_rotateRight 44 = .ok (.ifnonnull 11, 3) := dk_199 0 11 (dk_at dksJ28_rotateRight_1 20 rfl rfl)
theorem dJ28_rotateRight_47 : decode cJ28_rotateRight 47 = .ok (.aload_n 0, 1) := dk_42 (dk_at dksJ28_rotateRight_1 23 rfl rfl)
theorem dJ28_rotateRight_48 : decode cJ28_rotateRight 48 = .ok (.aload_n 2, 1) := dk_44 (dk_at dksJ28_rotateRight_2 0 rfl rfl)
theorem dJ28_rotateRight_49 : decode cJ28_rotateRight 49 = .ok (.putfield 101, 3) := dk_181 0 101 (dk_at dksJ28_rotateRight_2 1 rfl rfl)
theorem dJ28_rotateRight_52 : decode cJ28_rotateRight 52 = .ok (.goto 33, 3) := dk_167 0 33 (dk_at dksJ28_rotateRight_2 4 rfl rfl)
theorem dJ28_rotateRight_55 : decode cJ28_rotateRight 55 = .ok (.aload_n 1, 1) := dk_43 (dk_at dksJ28_rotateRight_2 7 rfl rfl)
theorem dJ28_rotateRight_56 : decode cJ28_rotateRight 56 = .ok (.getfield 124, 3) := dk_180 0 124 (dk_at dksJ28_rotateRight_2 8 rfl rfl)
theorem dJ28_rotateRight_59 : decode cJ28_rotateRight 59 = .ok (.getfield 114, 3) := dk_180 0 114 (dk_at dksJ28_rotateRight_2 11 rfl rfl)
theorem dJ28_rotateRight_62 : decode cJ28_rotateRight 62 = .ok (.aload_n 1, 1) := dk_43 (dk_at dksJ28_rotateRight_2 14 rfl rfl)
theorem dJ28_rotateRight_63 : decode cJ28_rotateRight 63 = .ok (.if_acmp .ne 14, 3) := dk_166 0 14 (dk_at dksJ28_rotateRight_2 15 rfl rfl)
theorem dJ28_rotateRight_66 : decode cJ28_rotateRight 66 = .ok (.aload_n 1, 1) := dk_43 (dk_at dksJ28_rotateRight_2 18 rfl rfl)
theorem dJ28_rotateRight_67 : decode cJ28_rotateRight 67 = .ok (.getfield 124, 3) := dk_180 0 124 (dk_at dksJ28_rotateRight_2 19 rfl rfl)
theorem dJ28_rotateRight_70 : decode cJ28_rotateRight 70 = .ok (.aload_n 2, 1) := dk_44 (dk_at dksJ28_rotateRight_2 22 rfl rfl)
theorem dJ28_rotateRight_71 : decode cJ28_rotateRight 71 = .ok (.putfield 114, 3) := dk_181 0 114 (dk_at dksJ28_rotateRight_3 0 rfl rfl)
theorem dJ28_rotateRight_74 : decode cJ28_rotateRight 74 = .ok (.goto 11, 3) := dk_167 0 11 (dk_at dksJ28_rotateRight_3 3 rfl rfl)
theorem dJ28_rotateRight_77 : decode cJ28_rotateRight 77 = .ok (.aload_n 1, 1) := dk_43 (dk_at dksJ28_rotateRight_3 6 rfl rfl)
theorem dJ28_rotateRight_78 : decode cJ28_rotateRight 78 = .ok (.getfield 124, 3) := dk_180 0 124 (dk_at dksJ28_rotateRight_3 7 rfl rfl)
theorem dJ28_rotateRight_81 : decode cJ28_rotateRight 81 = .ok (.aload_n 2, 1) := dk_44 (dk_at dksJ28_rotateRight_3 10 rfl rfl)
theorem dJ28_rotateRight_82 : decode cJ28_rotateRight 82 = .ok (.putfield 111, 3) := dk_181 0 111 (dk_at dksJ28_rotateRight_3 11 rfl rfl)
theorem dJ28_rotateRight_85 : decode cJ28_rotateRight 85 = .ok (.aload_n 2, 1) := dk_44 (dk_at dksJ28_rotateRight_3 14 rfl rfl)
theorem dJ28_rotateRight_86 : decode cJ28_rotateRight 86 = .ok (.aload_n 1, 1) := dk_43 (dk_at dksJ28_rotateRight_3 15 rfl rfl)
theorem dJ28_rotateRight_87 : decode cJ28_rotateRight 87 = .ok (.putfield 114, 3) := dk_181 0 114 (dk_at dksJ28_rotateRight_3 16 rfl rfl)
theorem dJ28_rotateRight_90 : decode cJ28_rotateRight 90 = .ok (.aload_n 1, 1) := dk_43 (dk_at dksJ28_rotateRight_3 19 rfl rfl)
theorem dJ28_rotateRight_91 : decode cJ28_rotateRight 91 = .ok (.aload_n 2, 1) := dk_44 (dk_at dksJ28_rotateRight_3 20 rfl rfl)
theorem dJ28_rotateRight_92 : decode cJ28_rotateRight 92 = .ok (.putfield 124, 3) := dk_181 0 124 (dk_at dksJ28_rotateRight_3 21 rfl rfl)
theorem dJ28_rotateRight_95 : decode cJ28_rotateRight 95 = .ok (.return_, 1) := dk_177 (dk_at dksJ28_rotateRight_4 0 rfl rfl)
abbrev cJ28_keySet : ByteArray := prog_69_method_49_code
def yJ28_keySet : MethodName := ⟨RJ28, "keySet", "()Ljava/util/Set;"⟩
theorem dJ28_keySet_0 : decode cJ28_keySet 0 = .ok (.aload_n 0, 1) := by decide +kernel
theorem dJ28_keySet_1 : decode cJ28_keySet 1 = .ok (.invokevirtual 219, 3) := by decide +kernel
theorem dJ28_keySet_4 : decode cJ28_keySet 4 = .ok (.areturn, 1) := by decide +kernel
abbrev cJ28_navigableKeySet : ByteArray := prog_69_method_50_code
def yJ28_navigableKeySet : MethodName := ⟨RJ28, "navigableKeySet", "()Ljava/util/NavigableSet;"⟩
def dkwJ28_navigableKeySet_1 : List UInt8 := [181, 0, 191, 176]
abbrev dktJ28_navigableKeySet_1 : List UInt8 := dkwJ28_navigableKeySet_1 ++ []
def dkwJ28_navigableKeySet_0 : List UInt8 := [42, 180, 0, 191, 76, 43, 198, 0, 7, 43, 167, 0, 16, 42, 187, 0, 222, 89, 42, 183, 0, 224, 90]
abbrev dktJ28_navigableKeySet_0 : List UInt8 := dkwJ28_navigableKeySet_0 ++ dktJ28_navigableKeySet_1
theorem dksJ28_navigableKeySet_0 : cJ28_navigableKeySet.data.toList.drop 0 = dktJ28_navigableKeySet_0 := by decide +kernel
theorem dksJ28_navigableKeySet_1 : cJ28_navigableKeySet.data.toList.drop 23 = dktJ28_navigableKeySet_1 := dk_seg dksJ28_navigableKeySet_0 23 rfl rfl
theorem dJ28_navigableKeySet_0 : decode cJ28_navigableKeySet 0 = .ok (.aload_n 0, 1) := dk_42 (dk_at dksJ28_navigableKeySet_0 0 rfl rfl)
theorem dJ28_navigableKeySet_1 : decode cJ28_navigableKeySet 1 = .ok (.getfield 191, 3) := dk_180 0 191 (dk_at dksJ28_navigableKeySet_0 1 rfl rfl)
theorem dJ28_navigableKeySet_4 : decode cJ28_navigableKeySet 4 = .ok (.astore_n 1, 1) := dk_76 (dk_at dksJ28_navigableKeySet_0 4 rfl rfl)
theorem dJ28_navigableKeySet_5 : decode cJ28_navigableKeySet 5 = .ok (.aload_n 1, 1) := dk_43 (dk_at dksJ28_navigableKeySet_0 5 rfl rfl)
theorem dJ28_navigableKeySet_6 : decode cJ28_navigableKeySet 6 = .ok (.ifnull 7, 3) := dk_198 0 7 (dk_at dksJ28_navigableKeySet_0 6 rfl rfl)
theorem dJ28_navigableKeySet_9 : decode cJ28_navigableKeySet 9 = .ok (.aload_n 1, 1) := dk_43 (dk_at dksJ28_navigableKeySet_0 9 rfl rfl)
theorem dJ28_navigableKeySet_10 : decode cJ28_navigableKeySet 10 = .ok (.goto 16, 3) := dk_167 0 16 (dk_at dksJ28_navigableKeySet_0 10 rfl rfl)
theorem dJ28_navigableKeySet_13 : decode cJ28_navigableKeySet 13 = .ok (.aload_n 0, 1) := dk_42 (dk_at dksJ28_navigableKeySet_0 13 rfl rfl)
theorem dJ28_navigableKeySet_14 : decode cJ28_navigableKeySet 14 = .ok (.new 222, 3) := dk_187 0 222 (dk_at dksJ28_navigableKeySet_0 14 rfl rfl)
theorem dJ28_navigableKeySet_17 : decode cJ28_navigableKeySet 17 = .ok (.dup, 1) := dk_89 (dk_at dksJ28_navigableKeySet_0 17 rfl rfl)
theorem dJ28_navigableKeySet_18 : decode cJ28_navigableKeySet 18 = .ok (.aload_n 0, 1) := dk_42 (dk_at dksJ28_navigableKeySet_0 18 rfl rfl)
theorem dJ28_navigableKeySet_19 : decode cJ28_navigableKeySet 19 = .ok (.invokespecial 224, 3) := dk_183 0 224 (dk_at dksJ28_navigableKeySet_0 19 rfl rfl)
theorem dJ28_navigableKeySet_22 : decode cJ28_navigableKeySet 22 = .ok (.dup_x1, 1) := dk_90 (dk_at dksJ28_navigableKeySet_0 22 rfl rfl)
theorem dJ28_navigableKeySet_23 : decode cJ28_navigableKeySet 23 = .ok (.putfield 191, 3) := dk_181 0 191 (dk_at dksJ28_navigableKeySet_1 0 rfl rfl)
theorem dJ28_navigableKeySet_26 : decode cJ28_navigableKeySet 26 = .ok (.areturn, 1) := dk_176 (dk_at dksJ28_navigableKeySet_1 3 rfl rfl)
abbrev cJ28_keyIterator : ByteArray := prog_69_method_65_code
def yJ28_keyIterator : MethodName := ⟨RJ28, "keyIterator", "()Ljava/util/Iterator;"⟩
def dkwJ28_keyIterator_0 : List UInt8 := [187, 1, 13, 89, 42, 42, 182, 0, 54, 183, 1, 15, 176]
abbrev dktJ28_keyIterator_0 : List UInt8 := dkwJ28_keyIterator_0 ++ []
theorem dksJ28_keyIterator_0 : cJ28_keyIterator.data.toList.drop 0 = dktJ28_keyIterator_0 := by decide +kernel
theorem dJ28_keyIterator_0 : decode cJ28_keyIterator 0 = .ok (.new 269, 3) := dk_187 1 13 (dk_at dksJ28_keyIterator_0 0 rfl rfl)
theorem dJ28_keyIterator_3 : decode cJ28_keyIterator 3 = .ok (.dup, 1) := dk_89 (dk_at dksJ28_keyIterator_0 3 rfl rfl)
theorem dJ28_keyIterator_4 : decode cJ28_keyIterator 4 = .ok (.aload_n 0, 1) := dk_42 (dk_at dksJ28_keyIterator_0 4 rfl rfl)
theorem dJ28_keyIterator_5 : decode cJ28_keyIterator 5 = .ok (.aload_n 0, 1) := dk_42 (dk_at dksJ28_keyIterator_0 5 rfl rfl)
theorem dJ28_keyIterator_6 : decode cJ28_keyIterator 6 = .ok (.invokevirtual 54, 3) := dk_182 0 54 (dk_at dksJ28_keyIterator_0 6 rfl rfl)
theorem dJ28_keyIterator_9 : decode cJ28_keyIterator 9 = .ok (.invokespecial 271, 3) := dk_183 1 15 (dk_at dksJ28_keyIterator_0 9 rfl rfl)
theorem dJ28_keyIterator_12 : decode cJ28_keyIterator 12 = .ok (.areturn, 1) := dk_176 (dk_at dksJ28_keyIterator_0 12 rfl rfl)
abbrev cJ28_getFirstEntry : ByteArray := prog_69_method_72_code
def yJ28_getFirstEntry : MethodName := ⟨RJ28, "getFirstEntry", "()Ljava/util/TreeMap$Entry;"⟩
def dkwJ28_getFirstEntry_1 : List UInt8 := [43, 176]
abbrev dktJ28_getFirstEntry_1 : List UInt8 := dkwJ28_getFirstEntry_1 ++ []
def dkwJ28_getFirstEntry_0 : List UInt8 := [42, 180, 0, 101, 76, 43, 198, 0, 18, 43, 180, 0, 111, 198, 0, 11, 43, 180, 0, 111, 76, 167, 255, 244]
abbrev dktJ28_getFirstEntry_0 : List UInt8 := dkwJ28_getFirstEntry_0 ++ dktJ28_getFirstEntry_1
theorem dksJ28_getFirstEntry_0 : cJ28_getFirstEntry.data.toList.drop 0 = dktJ28_getFirstEntry_0 := by decide +kernel
theorem dksJ28_getFirstEntry_1 : cJ28_getFirstEntry.data.toList.drop 24 = dktJ28_getFirstEntry_1 := dk_seg dksJ28_getFirstEntry_0 24 rfl rfl
theorem dJ28_getFirstEntry_0 : decode cJ28_getFirstEntry 0 = .ok (.aload_n 0, 1) := dk_42 (dk_at dksJ28_getFirstEntry_0 0 rfl rfl)
theorem dJ28_getFirstEntry_1 : decode cJ28_getFirstEntry 1 = .ok (.getfield 101, 3) := dk_180 0 101 (dk_at dksJ28_getFirstEntry_0 1 rfl rfl)
theorem dJ28_getFirstEntry_4 : decode cJ28_getFirstEntry 4 = .ok (.astore_n 1, 1) := dk_76 (dk_at dksJ28_getFirstEntry_0 4 rfl rfl)
theorem dJ28_getFirstEntry_5 : decode cJ28_getFirstEntry 5 = .ok (.aload_n 1, 1) := dk_43 (dk_at dksJ28_getFirstEntry_0 5 rfl rfl)
theorem dJ28_getFirstEntry_6 : decode cJ28_getFirstEntry 6 = .ok (.ifnull 18, 3) := dk_198 0 18 (dk_at dksJ28_getFirstEntry_0 6 rfl rfl)
theorem dJ28_getFirstEntry_9 : decode cJ28_getFirstEntry 9 = .ok (.aload_n 1, 1) := dk_43 (dk_at dksJ28_getFirstEntry_0 9 rfl rfl)
theorem dJ28_getFirstEntry_10 : decode cJ28_getFirstEntry 10 = .ok (.getfield 111, 3) := dk_180 0 111 (dk_at dksJ28_getFirstEntry_0 10 rfl rfl)
theorem dJ28_getFirstEntry_13 : decode cJ28_getFirstEntry 13 = .ok (.ifnull 11, 3) := dk_198 0 11 (dk_at dksJ28_getFirstEntry_0 13 rfl rfl)
theorem dJ28_getFirstEntry_16 : decode cJ28_getFirstEntry 16 = .ok (.aload_n 1, 1) := dk_43 (dk_at dksJ28_getFirstEntry_0 16 rfl rfl)
theorem dJ28_getFirstEntry_17 : decode cJ28_getFirstEntry 17 = .ok (.getfield 111, 3) := dk_180 0 111 (dk_at dksJ28_getFirstEntry_0 17 rfl rfl)
theorem dJ28_getFirstEntry_20 : decode cJ28_getFirstEntry 20 = .ok (.astore_n 1, 1) := dk_76 (dk_at dksJ28_getFirstEntry_0 20 rfl rfl)
theorem dJ28_getFirstEntry_21 : decode cJ28_getFirstEntry 21 = .ok (.goto (-12), 3) := dk_167 255 244 (dk_at dksJ28_getFirstEntry_0 21 rfl rfl)
theorem dJ28_getFirstEntry_24 : decode cJ28_getFirstEntry 24 = .ok (.aload_n 1, 1) := dk_43 (dk_at dksJ28_getFirstEntry_1 0 rfl rfl)
theorem dJ28_getFirstEntry_25 : decode cJ28_getFirstEntry 25 = .ok (.areturn, 1) := dk_176 (dk_at dksJ28_getFirstEntry_1 1 rfl rfl)
abbrev cJ28_successor : ByteArray := prog_69_method_74_code
def yJ28_successor : MethodName := ⟨RJ28, "successor", "(Ljava/util/TreeMap$Entry;)Ljava/util/TreeMap$Entry;"⟩
def dkwJ28_successor_2 : List UInt8 := [44, 43, 180, 0, 114, 166, 0, 13, 43, 77, 43, 180, 0, 124, 76, 167, 255, 237, 43, 176]
abbrev dktJ28_successor_2 : List UInt8 := dkwJ28_successor_2 ++ []
def dkwJ28_successor_1 : List UInt8 := [198, 0, 11, 43, 180, 0, 111, 76, 167, 255, 244, 43, 176, 42, 180, 0, 124, 76, 42, 77, 43, 198, 0, 21]
abbrev dktJ28_successor_1 : List UInt8 := dkwJ28_successor_1 ++ dktJ28_successor_2
def dkwJ28_successor_0 : List UInt8 := [42, 199, 0, 5, 1, 176, 42, 180, 0, 114, 198, 0, 25, 42, 180, 0, 114, 76, 43, 180, 0, 111]
abbrev dktJ28_successor_0 : List UInt8 := dkwJ28_successor_0 ++ dktJ28_successor_1
theorem dksJ28_successor_0 : cJ28_successor.data.toList.drop 0 = dktJ28_successor_0 := by decide +kernel
theorem dksJ28_successor_1 : cJ28_successor.data.toList.drop 22 = dktJ28_successor_1 := dk_seg dksJ28_successor_0 22 rfl rfl
theorem dksJ28_successor_2 : cJ28_successor.data.toList.drop 46 = dktJ28_successor_2 := dk_seg dksJ28_successor_1 24 rfl rfl
theorem dJ28_successor_0 : decode cJ28_successor 0 = .ok (.aload_n 0, 1) := dk_42 (dk_at dksJ28_successor_0 0 rfl rfl)
theorem dJ28_successor_1 : decode cJ28_successor 1 = .ok (.ifnonnull 5, 3) := dk_199 0 5 (dk_at dksJ28_successor_0 1 rfl rfl)
theorem dJ28_successor_4 : decode cJ28_successor 4 = .ok (.aconst_null, 1) := dk_1 (dk_at dksJ28_successor_0 4 rfl rfl)
theorem dJ28_successor_5 : decode cJ28_successor 5 = .ok (.areturn, 1) := dk_176 (dk_at dksJ28_successor_0 5 rfl rfl)
theorem dJ28_successor_6 : decode cJ28_successor 6 = .ok (.aload_n 0, 1) := dk_42 (dk_at dksJ28_successor_0 6 rfl rfl)
theorem dJ28_successor_7 : decode cJ28_successor 7 = .ok (.getfield 114, 3) := dk_180 0 114 (dk_at dksJ28_successor_0 7 rfl rfl)
theorem dJ28_successor_10 : decode cJ28_successor 10 = .ok (.ifnull 25, 3) := dk_198 0 25 (dk_at dksJ28_successor_0 10 rfl rfl)
theorem dJ28_successor_13 : decode cJ28_successor 13 = .ok (.aload_n 0, 1) := dk_42 (dk_at dksJ28_successor_0 13 rfl rfl)
theorem dJ28_successor_14 : decode cJ28_successor 14 = .ok (.getfield 114, 3) := dk_180 0 114 (dk_at dksJ28_successor_0 14 rfl rfl)
theorem dJ28_successor_17 : decode cJ28_successor 17 = .ok (.astore_n 1, 1) := dk_76 (dk_at dksJ28_successor_0 17 rfl rfl)
theorem dJ28_successor_18 : decode cJ28_successor 18 = .ok (.aload_n 1, 1) := dk_43 (dk_at dksJ28_successor_0 18 rfl rfl)
theorem dJ28_successor_19 : decode cJ28_successor 19 = .ok (.getfield 111, 3) := dk_180 0 111 (dk_at dksJ28_successor_0 19 rfl rfl)
theorem dJ28_successor_22 : decode cJ28_successor 22 = .ok (.ifnull 11, 3) := dk_198 0 11 (dk_at dksJ28_successor_1 0 rfl rfl)
theorem dJ28_successor_25 : decode cJ28_successor 25 = .ok (.aload_n 1, 1) := dk_43 (dk_at dksJ28_successor_1 3 rfl rfl)
theorem dJ28_successor_26 : decode cJ28_successor 26 = .ok (.getfield 111, 3) := dk_180 0 111 (dk_at dksJ28_successor_1 4 rfl rfl)
theorem dJ28_successor_29 : decode cJ28_successor 29 = .ok (.astore_n 1, 1) := dk_76 (dk_at dksJ28_successor_1 7 rfl rfl)
theorem dJ28_successor_30 : decode cJ28_successor 30 = .ok (.goto (-12), 3) := dk_167 255 244 (dk_at dksJ28_successor_1 8 rfl rfl)
theorem dJ28_successor_33 : decode cJ28_successor 33 = .ok (.aload_n 1, 1) := dk_43 (dk_at dksJ28_successor_1 11 rfl rfl)
theorem dJ28_successor_34 : decode cJ28_successor 34 = .ok (.areturn, 1) := dk_176 (dk_at dksJ28_successor_1 12 rfl rfl)
theorem dJ28_successor_35 : decode cJ28_successor 35 = .ok (.aload_n 0, 1) := dk_42 (dk_at dksJ28_successor_1 13 rfl rfl)
theorem dJ28_successor_36 : decode cJ28_successor 36 = .ok (.getfield 124, 3) := dk_180 0 124 (dk_at dksJ28_successor_1 14 rfl rfl)
theorem dJ28_successor_39 : decode cJ28_successor 39 = .ok (.astore_n 1, 1) := dk_76 (dk_at dksJ28_successor_1 17 rfl rfl)
theorem dJ28_successor_40 : decode cJ28_successor 40 = .ok (.aload_n 0, 1) := dk_42 (dk_at dksJ28_successor_1 18 rfl rfl)
theorem dJ28_successor_41 : decode cJ28_successor 41 = .ok (.astore_n 2, 1) := dk_77 (dk_at dksJ28_successor_1 19 rfl rfl)
theorem dJ28_successor_42 : decode cJ28_successor 42 = .ok (.aload_n 1, 1) := dk_43 (dk_at dksJ28_successor_1 20 rfl rfl)
theorem dJ28_successor_43 : decode cJ28_successor 43 = .ok (.ifnull 21, 3) := dk_198 0 21 (dk_at dksJ28_successor_1 21 rfl rfl)
theorem dJ28_successor_46 : decode cJ28_successor 46 = .ok (.aload_n 2, 1) := dk_44 (dk_at dksJ28_successor_2 0 rfl rfl)
theorem dJ28_successor_47 : decode cJ28_successor 47 = .ok (.aload_n 1, 1) := dk_43 (dk_at dksJ28_successor_2 1 rfl rfl)
theorem dJ28_successor_48 : decode cJ28_successor 48 = .ok (.getfield 114, 3) := dk_180 0 114 (dk_at dksJ28_successor_2 2 rfl rfl)
theorem dJ28_successor_51 : decode cJ28_successor 51 = .ok (.if_acmp .ne 13, 3) := dk_166 0 13 (dk_at dksJ28_successor_2 5 rfl rfl)
theorem dJ28_successor_54 : decode cJ28_successor 54 = .ok (.aload_n 1, 1) := dk_43 (dk_at dksJ28_successor_2 8 rfl rfl)
theorem dJ28_successor_55 : decode cJ28_successor 55 = .ok (.astore_n 2, 1) := dk_77 (dk_at dksJ28_successor_2 9 rfl rfl)
theorem dJ28_successor_56 : decode cJ28_successor 56 = .ok (.aload_n 1, 1) := dk_43 (dk_at dksJ28_successor_2 10 rfl rfl)
theorem dJ28_successor_57 : decode cJ28_successor 57 = .ok (.getfield 124, 3) := dk_180 0 124 (dk_at dksJ28_successor_2 11 rfl rfl)
theorem dJ28_successor_60 : decode cJ28_successor 60 = .ok (.astore_n 1, 1) := dk_76 (dk_at dksJ28_successor_2 14 rfl rfl)
theorem dJ28_successor_61 : decode cJ28_successor 61 = .ok (.goto (-19), 3) := dk_167 255 237 (dk_at dksJ28_successor_2 15 rfl rfl)
theorem dJ28_successor_64 : decode cJ28_successor 64 = .ok (.aload_n 1, 1) := dk_43 (dk_at dksJ28_successor_2 18 rfl rfl)
theorem dJ28_successor_65 : decode cJ28_successor 65 = .ok (.areturn, 1) := dk_176 (dk_at dksJ28_successor_2 19 rfl rfl)
abbrev cJ28_size : ByteArray := prog_69_method_5_code
def yJ28_size : MethodName := ⟨RJ28, "size", "()I"⟩
theorem dJ28_size_0 : decode cJ28_size 0 = .ok (.aload_n 0, 1) := by decide +kernel
theorem dJ28_size_1 : decode cJ28_size 1 = .ok (.getfield 7, 3) := by decide +kernel
theorem dJ28_size_4 : decode cJ28_size 4 = .ok (.ireturn, 1) := by decide +kernel
theorem q117 : (Jvm.Cond.initialized "java/util/TreeMap") ∈ lw_all := lw_g (lw_at lw_m1 39 rfl) rfl
theorem q421 : (Jvm.Cond.selects "java/util/TreeMap" ({ cls := "java/lang/Object", name := "getClass", desc := "()Ljava/lang/Class;" } : Jvm.MethodName) ({ cls := "java/lang/Object", name := "getClass", desc := "()Ljava/lang/Class;" } : Jvm.MethodName)) ∈ lw_all := lw_g (lw_at lw_m2 103 rfl) rfl
theorem q534 : (Jvm.Cond.instantiable "java/util/TreeMap" (9 : Nat)) ∈ lw_all := lw_g (lw_at lw_m2 216 rfl) rfl
theorem q536 : (Jvm.Cond.instanceMethod ({ cls := "java/util/TreeMap", name := "<init>", desc := "()V" } : Jvm.MethodName)) ∈ lw_all := lw_g (lw_at lw_m2 218 rfl) rfl
theorem q537 : (Jvm.Cond.code ({ cls := "java/util/TreeMap", name := "<init>", desc := "()V" } : Jvm.MethodName) prog_69_method_1_code (1 : Nat) (Option.none : Option Jvm.ClassFile.FieldType)) ∈ lw_all := lw_g (lw_at lw_m2 219 rfl) rfl
theorem q538 : (Jvm.Cond.methodLink "java/util/TreeMap" (1 : Nat) ({ cls := "java/util/AbstractMap", name := "<init>", desc := "()V" } : Jvm.MethodName)) ∈ lw_all := lw_g (lw_at lw_m2 220 rfl) rfl
theorem q542 : (Jvm.Cond.fieldLink "java/util/TreeMap" (16 : Nat) "java/util/TreeMap" "comparator" "Ljava/util/Comparator;") ∈ lw_all := lw_g (lw_at lw_m2 224 rfl) rfl
theorem q543 : (Jvm.Cond.fieldLink "java/util/TreeMap" (101 : Nat) "java/util/TreeMap" "root" "Ljava/util/TreeMap$Entry;") ∈ lw_all := lw_g (lw_at lw_m2 225 rfl) rfl
theorem q544 : (Jvm.Cond.fieldLink "java/util/TreeMap" (7 : Nat) "java/util/TreeMap" "size" "I") ∈ lw_all := lw_g (lw_at lw_m2 226 rfl) rfl
theorem q545 : (Jvm.Cond.fieldLink "java/util/TreeMap" (13 : Nat) "java/util/TreeMap" "modCount" "I") ∈ lw_all := lw_g (lw_at lw_m2 227 rfl) rfl
theorem q547 : (Jvm.Cond.fieldLink "java/util/TreeMap" (191 : Nat) "java/util/TreeMap" "navigableKeySet" "Ljava/util/TreeMap$KeySet;") ∈ lw_all := lw_g (lw_at lw_m2 229 rfl) rfl
theorem q548 : (Jvm.Cond.laysFinal "java/util/TreeMap" "java/util/TreeMap" "comparator" "Ljava/util/Comparator;") ∈ lw_all := lw_g (lw_at lw_m2 230 rfl) rfl
theorem q549 : (Jvm.Cond.soleField "java/util/TreeMap" "comparator") ∈ lw_all := lw_g (lw_at lw_m2 231 rfl) rfl
theorem q550 : (Jvm.Cond.lays "java/util/TreeMap" "java/util/TreeMap" "root" "Ljava/util/TreeMap$Entry;") ∈ lw_all := lw_g (lw_at lw_m2 232 rfl) rfl
theorem q551 : (Jvm.Cond.soleField "java/util/TreeMap" "root") ∈ lw_all := lw_g (lw_at lw_m2 233 rfl) rfl
theorem q552 : (Jvm.Cond.lays "java/util/TreeMap" "java/util/TreeMap" "size" "I") ∈ lw_all := lw_g (lw_at lw_m2 234 rfl) rfl
theorem q553 : (Jvm.Cond.soleField "java/util/TreeMap" "size") ∈ lw_all := lw_g (lw_at lw_m2 235 rfl) rfl
theorem q554 : (Jvm.Cond.lays "java/util/TreeMap" "java/util/TreeMap" "modCount" "I") ∈ lw_all := lw_g (lw_at lw_m2 236 rfl) rfl
theorem q555 : (Jvm.Cond.soleField "java/util/TreeMap" "modCount") ∈ lw_all := lw_g (lw_at lw_m2 237 rfl) rfl
theorem q556 : (Jvm.Cond.lays "java/util/TreeMap" "java/util/TreeMap" "entrySet" "Ljava/util/TreeMap$EntrySet;") ∈ lw_all := lw_g (lw_at lw_m2 238 rfl) rfl
theorem q557 : (Jvm.Cond.soleField "java/util/TreeMap" "entrySet") ∈ lw_all := lw_g (lw_at lw_m2 239 rfl) rfl
theorem q558 : (Jvm.Cond.lays "java/util/TreeMap" "java/util/TreeMap" "navigableKeySet" "Ljava/util/TreeMap$KeySet;") ∈ lw_all := lw_g (lw_at lw_m3 0 rfl) rfl
theorem q559 : (Jvm.Cond.soleField "java/util/TreeMap" "navigableKeySet") ∈ lw_all := lw_g (lw_at lw_m3 1 rfl) rfl
theorem q560 : (Jvm.Cond.lays "java/util/TreeMap" "java/util/TreeMap" "descendingMap" "Ljava/util/NavigableMap;") ∈ lw_all := lw_g (lw_at lw_m3 2 rfl) rfl
theorem q561 : (Jvm.Cond.soleField "java/util/TreeMap" "descendingMap") ∈ lw_all := lw_g (lw_at lw_m3 3 rfl) rfl
theorem q562 : (Jvm.Cond.lays "java/util/TreeMap" "java/util/AbstractMap" "keySet" "Ljava/util/Set;") ∈ lw_all := lw_g (lw_at lw_m3 4 rfl) rfl
theorem q564 : (Jvm.Cond.lays "java/util/TreeMap" "java/util/AbstractMap" "values" "Ljava/util/Collection;") ∈ lw_all := lw_g (lw_at lw_m3 6 rfl) rfl
theorem q566 : (Jvm.Cond.superclass "java/util/TreeMap" "java/util/AbstractMap") ∈ lw_all := lw_g (lw_at lw_m3 8 rfl) rfl
theorem q588 : (Jvm.Cond.instanceMethod ({ cls := "java/util/TreeMap", name := "put", desc := "(Ljava/lang/Object;Ljava/lang/Object;)Ljava/lang/Object;" } : Jvm.MethodName)) ∈ lw_all := lw_g (lw_at lw_m3 30 rfl) rfl
theorem q589 : (Jvm.Cond.selects "java/util/TreeMap" ({ cls := "java/util/TreeMap", name := "put", desc := "(Ljava/lang/Object;Ljava/lang/Object;)Ljava/lang/Object;" } : Jvm.MethodName) ({ cls := "java/util/TreeMap", name := "put", desc := "(Ljava/lang/Object;Ljava/lang/Object;)Ljava/lang/Object;" } : Jvm.MethodName)) ∈ lw_all := lw_g (lw_at lw_m3 31 rfl) rfl
theorem q590 : (Jvm.Cond.code ({ cls := "java/util/TreeMap", name := "put", desc := "(Ljava/lang/Object;Ljava/lang/Object;)Ljava/lang/Object;" } : Jvm.MethodName) prog_69_method_21_code (3 : Nat) (Option.some (Jvm.ClassFile.FieldType.object "java/lang/Object"))) ∈ lw_all := lw_g (lw_at lw_m3 32 rfl) rfl
theorem q591 : (Jvm.Cond.methodLink "java/util/TreeMap" (127 : Nat) ({ cls := "java/util/TreeMap", name := "put", desc := "(Ljava/lang/Object;Ljava/lang/Object;Z)Ljava/lang/Object;" } : Jvm.MethodName)) ∈ lw_all := lw_g (lw_at lw_m3 33 rfl) rfl
theorem q592 : (Jvm.Cond.privateMethod ({ cls := "java/util/TreeMap", name := "put", desc := "(Ljava/lang/Object;Ljava/lang/Object;Z)Ljava/lang/Object;" } : Jvm.MethodName)) ∈ lw_tbl := lw_at lw_m3 34 rfl
theorem q593 : (Jvm.Cond.instanceMethod ({ cls := "java/util/TreeMap", name := "put", desc := "(Ljava/lang/Object;Ljava/lang/Object;Z)Ljava/lang/Object;" } : Jvm.MethodName)) ∈ lw_all := lw_g (lw_at lw_m3 35 rfl) rfl
theorem q594 : (Jvm.Cond.code ({ cls := "java/util/TreeMap", name := "put", desc := "(Ljava/lang/Object;Ljava/lang/Object;Z)Ljava/lang/Object;" } : Jvm.MethodName) prog_69_method_31_code (10 : Nat) (Option.some (Jvm.ClassFile.FieldType.object "java/lang/Object"))) ∈ lw_all := lw_g (lw_at lw_m3 36 rfl) rfl
theorem q595 : (Jvm.Cond.methodLink "java/util/TreeMap" (135 : Nat) ({ cls := "java/util/TreeMap", name := "addEntryToEmptyMap", desc := "(Ljava/lang/Object;Ljava/lang/Object;)V" } : Jvm.MethodName)) ∈ lw_all := lw_g (lw_at lw_m3 37 rfl) rfl
theorem q596 : (Jvm.Cond.privateMethod ({ cls := "java/util/TreeMap", name := "addEntryToEmptyMap", desc := "(Ljava/lang/Object;Ljava/lang/Object;)V" } : Jvm.MethodName)) ∈ lw_tbl := lw_at lw_m3 38 rfl
theorem q597 : (Jvm.Cond.instanceMethod ({ cls := "java/util/TreeMap", name := "addEntryToEmptyMap", desc := "(Ljava/lang/Object;Ljava/lang/Object;)V" } : Jvm.MethodName)) ∈ lw_all := lw_g (lw_at lw_m3 39 rfl) rfl
theorem q598 : (Jvm.Cond.code ({ cls := "java/util/TreeMap", name := "addEntryToEmptyMap", desc := "(Ljava/lang/Object;Ljava/lang/Object;)V" } : Jvm.MethodName) prog_69_method_30_code (3 : Nat) (Option.none : Option Jvm.ClassFile.FieldType)) ∈ lw_all := lw_g (lw_at lw_m3 40 rfl) rfl
theorem q599 : (Jvm.Cond.methodLink "java/util/TreeMap" (123 : Nat) ({ cls := "java/util/TreeMap", name := "compare", desc := "(Ljava/lang/Object;Ljava/lang/Object;)I" } : Jvm.MethodName)) ∈ lw_all := lw_g (lw_at lw_m3 41 rfl) rfl
theorem q600 : (Jvm.Cond.instanceMethod ({ cls := "java/util/TreeMap", name := "compare", desc := "(Ljava/lang/Object;Ljava/lang/Object;)I" } : Jvm.MethodName)) ∈ lw_all := lw_g (lw_at lw_m3 42 rfl) rfl
theorem q601 : (Jvm.Cond.selects "java/util/TreeMap" ({ cls := "java/util/TreeMap", name := "compare", desc := "(Ljava/lang/Object;Ljava/lang/Object;)I" } : Jvm.MethodName) ({ cls := "java/util/TreeMap", name := "compare", desc := "(Ljava/lang/Object;Ljava/lang/Object;)I" } : Jvm.MethodName)) ∈ lw_all := lw_g (lw_at lw_m3 43 rfl) rfl
theorem q602 : (Jvm.Cond.code ({ cls := "java/util/TreeMap", name := "compare", desc := "(Ljava/lang/Object;Ljava/lang/Object;)I" } : Jvm.MethodName) prog_69_method_67_code (3 : Nat) (Option.some Jvm.ClassFile.FieldType.int)) ∈ lw_all := lw_g (lw_at lw_m3 44 rfl) rfl
theorem q603 : (Jvm.Cond.classLink "java/util/TreeMap" (99 : Nat) "java/lang/Comparable") ∈ lw_all := lw_g (lw_at lw_m3 45 rfl) rfl
theorem q604 : (Jvm.Cond.interfaceEntry "java/util/TreeMap" (107 : Nat)) ∈ lw_tbl := lw_at lw_m3 46 rfl
theorem q605 : (Jvm.Cond.methodLink "java/util/TreeMap" (107 : Nat) ({ cls := "java/lang/Comparable", name := "compareTo", desc := "(Ljava/lang/Object;)I" } : Jvm.MethodName)) ∈ lw_all := lw_g (lw_at lw_m3 47 rfl) rfl
theorem q827 : (Jvm.Cond.interfaceEntry "java/util/TreeMap" (117 : Nat)) ∈ lw_tbl := lw_at lw_m4 29 rfl
theorem q828 : (Jvm.Cond.methodLink "java/util/TreeMap" (117 : Nat) ({ cls := "java/util/Comparator", name := "compare", desc := "(Ljava/lang/Object;Ljava/lang/Object;)I" } : Jvm.MethodName)) ∈ lw_all := lw_g (lw_at lw_m4 30 rfl) rfl
theorem q842 : (Jvm.Cond.classLink "java/util/TreeMap" (59 : Nat) "java/util/TreeMap$Entry") ∈ lw_all := lw_g (lw_at lw_m4 44 rfl) rfl
theorem q844 : (Jvm.Cond.methodLink "java/util/TreeMap" (167 : Nat) ({ cls := "java/util/TreeMap$Entry", name := "<init>", desc := "(Ljava/lang/Object;Ljava/lang/Object;Ljava/util/TreeMap$Entry;)V" } : Jvm.MethodName)) ∈ lw_all := lw_g (lw_at lw_m4 46 rfl) rfl
theorem q850 : (Jvm.Cond.fieldLink "java/util/TreeMap" (105 : Nat) "java/util/TreeMap$Entry" "key" "Ljava/lang/Object;") ∈ lw_all := lw_g (lw_at lw_m4 52 rfl) rfl
theorem q852 : (Jvm.Cond.fieldLink "java/util/TreeMap" (58 : Nat) "java/util/TreeMap$Entry" "value" "Ljava/lang/Object;") ∈ lw_all := lw_g (lw_at lw_m4 54 rfl) rfl
theorem q853 : (Jvm.Cond.fieldLink "java/util/TreeMap" (111 : Nat) "java/util/TreeMap$Entry" "left" "Ljava/util/TreeMap$Entry;") ∈ lw_all := lw_g (lw_at lw_m4 55 rfl) rfl
theorem q854 : (Jvm.Cond.fieldLink "java/util/TreeMap" (114 : Nat) "java/util/TreeMap$Entry" "right" "Ljava/util/TreeMap$Entry;") ∈ lw_all := lw_g (lw_at lw_m4 56 rfl) rfl
theorem q856 : (Jvm.Cond.fieldLink "java/util/TreeMap" (124 : Nat) "java/util/TreeMap$Entry" "parent" "Ljava/util/TreeMap$Entry;") ∈ lw_all := lw_g (lw_at lw_m4 58 rfl) rfl
theorem q858 : (Jvm.Cond.fieldLink "java/util/TreeMap" (290 : Nat) "java/util/TreeMap$Entry" "color" "Z") ∈ lw_all := lw_g (lw_at lw_m4 60 rfl) rfl
theorem q872 : (Jvm.Cond.methodLink "java/util/TreeMap" (95 : Nat) ({ cls := "java/util/Objects", name := "requireNonNull", desc := "(Ljava/lang/Object;)Ljava/lang/Object;" } : Jvm.MethodName)) ∈ lw_all := lw_g (lw_at lw_m4 74 rfl) rfl
theorem q875 : (Jvm.Cond.methodLink "java/util/TreeMap" (139 : Nat) ({ cls := "java/util/TreeMap", name := "addEntry", desc := "(Ljava/lang/Object;Ljava/lang/Object;Ljava/util/TreeMap$Entry;Z)V" } : Jvm.MethodName)) ∈ lw_all := lw_g (lw_at lw_m4 77 rfl) rfl
theorem q876 : (Jvm.Cond.privateMethod ({ cls := "java/util/TreeMap", name := "addEntry", desc := "(Ljava/lang/Object;Ljava/lang/Object;Ljava/util/TreeMap$Entry;Z)V" } : Jvm.MethodName)) ∈ lw_tbl := lw_at lw_m4 78 rfl
theorem q877 : (Jvm.Cond.instanceMethod ({ cls := "java/util/TreeMap", name := "addEntry", desc := "(Ljava/lang/Object;Ljava/lang/Object;Ljava/util/TreeMap$Entry;Z)V" } : Jvm.MethodName)) ∈ lw_all := lw_g (lw_at lw_m4 79 rfl) rfl
theorem q878 : (Jvm.Cond.code ({ cls := "java/util/TreeMap", name := "addEntry", desc := "(Ljava/lang/Object;Ljava/lang/Object;Ljava/util/TreeMap$Entry;Z)V" } : Jvm.MethodName) prog_69_method_29_code (6 : Nat) (Option.none : Option Jvm.ClassFile.FieldType)) ∈ lw_all := lw_g (lw_at lw_m4 80 rfl) rfl
theorem q879 : (Jvm.Cond.methodLink "java/util/TreeMap" (170 : Nat) ({ cls := "java/util/TreeMap", name := "fixAfterInsertion", desc := "(Ljava/util/TreeMap$Entry;)V" } : Jvm.MethodName)) ∈ lw_all := lw_g (lw_at lw_m4 81 rfl) rfl
theorem q880 : (Jvm.Cond.privateMethod ({ cls := "java/util/TreeMap", name := "fixAfterInsertion", desc := "(Ljava/util/TreeMap$Entry;)V" } : Jvm.MethodName)) ∈ lw_tbl := lw_at lw_m4 82 rfl
theorem q881 : (Jvm.Cond.instanceMethod ({ cls := "java/util/TreeMap", name := "fixAfterInsertion", desc := "(Ljava/util/TreeMap$Entry;)V" } : Jvm.MethodName)) ∈ lw_all := lw_g (lw_at lw_m4 83 rfl) rfl
theorem q882 : (Jvm.Cond.code ({ cls := "java/util/TreeMap", name := "fixAfterInsertion", desc := "(Ljava/util/TreeMap$Entry;)V" } : Jvm.MethodName) prog_69_method_83_code (3 : Nat) (Option.none : Option Jvm.ClassFile.FieldType)) ∈ lw_all := lw_g (lw_at lw_m4 84 rfl) rfl
theorem q883 : (Jvm.Cond.methodLink "java/util/TreeMap" (294 : Nat) ({ cls := "java/util/TreeMap", name := "parentOf", desc := "(Ljava/util/TreeMap$Entry;)Ljava/util/TreeMap$Entry;" } : Jvm.MethodName)) ∈ lw_all := lw_g (lw_at lw_m4 85 rfl) rfl
theorem q884 : (Jvm.Cond.static ({ cls := "java/util/TreeMap", name := "parentOf", desc := "(Ljava/util/TreeMap$Entry;)Ljava/util/TreeMap$Entry;" } : Jvm.MethodName)) ∈ lw_all := lw_g (lw_at lw_m4 86 rfl) rfl
theorem q885 : (Jvm.Cond.code ({ cls := "java/util/TreeMap", name := "parentOf", desc := "(Ljava/util/TreeMap$Entry;)Ljava/util/TreeMap$Entry;" } : Jvm.MethodName) prog_69_method_77_code (1 : Nat) (Option.some (Jvm.ClassFile.FieldType.object "java/util/TreeMap$Entry"))) ∈ lw_all := lw_g (lw_at lw_m4 87 rfl) rfl
theorem q886 : (Jvm.Cond.methodLink "java/util/TreeMap" (297 : Nat) ({ cls := "java/util/TreeMap", name := "leftOf", desc := "(Ljava/util/TreeMap$Entry;)Ljava/util/TreeMap$Entry;" } : Jvm.MethodName)) ∈ lw_all := lw_g (lw_at lw_m4 88 rfl) rfl
theorem q887 : (Jvm.Cond.static ({ cls := "java/util/TreeMap", name := "leftOf", desc := "(Ljava/util/TreeMap$Entry;)Ljava/util/TreeMap$Entry;" } : Jvm.MethodName)) ∈ lw_all := lw_g (lw_at lw_m4 89 rfl) rfl
theorem q888 : (Jvm.Cond.code ({ cls := "java/util/TreeMap", name := "leftOf", desc := "(Ljava/util/TreeMap$Entry;)Ljava/util/TreeMap$Entry;" } : Jvm.MethodName) prog_69_method_79_code (1 : Nat) (Option.some (Jvm.ClassFile.FieldType.object "java/util/TreeMap$Entry"))) ∈ lw_all := lw_g (lw_at lw_m4 90 rfl) rfl
theorem q889 : (Jvm.Cond.methodLink "java/util/TreeMap" (300 : Nat) ({ cls := "java/util/TreeMap", name := "rightOf", desc := "(Ljava/util/TreeMap$Entry;)Ljava/util/TreeMap$Entry;" } : Jvm.MethodName)) ∈ lw_all := lw_g (lw_at lw_m4 91 rfl) rfl
theorem q890 : (Jvm.Cond.static ({ cls := "java/util/TreeMap", name := "rightOf", desc := "(Ljava/util/TreeMap$Entry;)Ljava/util/TreeMap$Entry;" } : Jvm.MethodName)) ∈ lw_all := lw_g (lw_at lw_m4 92 rfl) rfl
theorem q891 : (Jvm.Cond.code ({ cls := "java/util/TreeMap", name := "rightOf", desc := "(Ljava/util/TreeMap$Entry;)Ljava/util/TreeMap$Entry;" } : Jvm.MethodName) prog_69_method_80_code (1 : Nat) (Option.some (Jvm.ClassFile.FieldType.object "java/util/TreeMap$Entry"))) ∈ lw_all := lw_g (lw_at lw_m4 93 rfl) rfl
theorem q892 : (Jvm.Cond.methodLink "java/util/TreeMap" (303 : Nat) ({ cls := "java/util/TreeMap", name := "colorOf", desc := "(Ljava/util/TreeMap$Entry;)Z" } : Jvm.MethodName)) ∈ lw_all := lw_g (lw_at lw_m4 94 rfl) rfl
theorem q893 : (Jvm.Cond.static ({ cls := "java/util/TreeMap", name := "colorOf", desc := "(Ljava/util/TreeMap$Entry;)Z" } : Jvm.MethodName)) ∈ lw_all := lw_g (lw_at lw_m4 95 rfl) rfl
theorem q894 : (Jvm.Cond.code ({ cls := "java/util/TreeMap", name := "colorOf", desc := "(Ljava/util/TreeMap$Entry;)Z" } : Jvm.MethodName) prog_69_method_76_code (1 : Nat) (Option.some Jvm.ClassFile.FieldType.boolean)) ∈ lw_all := lw_g (lw_at lw_m4 96 rfl) rfl
theorem q895 : (Jvm.Cond.methodLink "java/util/TreeMap" (307 : Nat) ({ cls := "java/util/TreeMap", name := "setColor", desc := "(Ljava/util/TreeMap$Entry;Z)V" } : Jvm.MethodName)) ∈ lw_all := lw_g (lw_at lw_m4 97 rfl) rfl
theorem q896 : (Jvm.Cond.static ({ cls := "java/util/TreeMap", name := "setColor", desc := "(Ljava/util/TreeMap$Entry;Z)V" } : Jvm.MethodName)) ∈ lw_all := lw_g (lw_at lw_m4 98 rfl) rfl
theorem q897 : (Jvm.Cond.code ({ cls := "java/util/TreeMap", name := "setColor", desc := "(Ljava/util/TreeMap$Entry;Z)V" } : Jvm.MethodName) prog_69_method_78_code (2 : Nat) (Option.none : Option Jvm.ClassFile.FieldType)) ∈ lw_all := lw_g (lw_at lw_m4 99 rfl) rfl
theorem q898 : (Jvm.Cond.methodLink "java/util/TreeMap" (311 : Nat) ({ cls := "java/util/TreeMap", name := "rotateLeft", desc := "(Ljava/util/TreeMap$Entry;)V" } : Jvm.MethodName)) ∈ lw_all := lw_g (lw_at lw_m4 100 rfl) rfl
theorem q899 : (Jvm.Cond.privateMethod ({ cls := "java/util/TreeMap", name := "rotateLeft", desc := "(Ljava/util/TreeMap$Entry;)V" } : Jvm.MethodName)) ∈ lw_tbl := lw_at lw_m4 101 rfl
theorem q900 : (Jvm.Cond.instanceMethod ({ cls := "java/util/TreeMap", name := "rotateLeft", desc := "(Ljava/util/TreeMap$Entry;)V" } : Jvm.MethodName)) ∈ lw_all := lw_g (lw_at lw_m4 102 rfl) rfl
theorem q901 : (Jvm.Cond.code ({ cls := "java/util/TreeMap", name := "rotateLeft", desc := "(Ljava/util/TreeMap$Entry;)V" } : Jvm.MethodName) prog_69_method_81_code (3 : Nat) (Option.none : Option Jvm.ClassFile.FieldType)) ∈ lw_all := lw_g (lw_at lw_m4 103 rfl) rfl
theorem q902 : (Jvm.Cond.methodLink "java/util/TreeMap" (314 : Nat) ({ cls := "java/util/TreeMap", name := "rotateRight", desc := "(Ljava/util/TreeMap$Entry;)V" } : Jvm.MethodName)) ∈ lw_all := lw_g (lw_at lw_m4 104 rfl) rfl
theorem q903 : (Jvm.Cond.privateMethod ({ cls := "java/util/TreeMap", name := "rotateRight", desc := "(Ljava/util/TreeMap$Entry;)V" } : Jvm.MethodName)) ∈ lw_tbl := lw_at lw_m4 105 rfl
theorem q904 : (Jvm.Cond.instanceMethod ({ cls := "java/util/TreeMap", name := "rotateRight", desc := "(Ljava/util/TreeMap$Entry;)V" } : Jvm.MethodName)) ∈ lw_all := lw_g (lw_at lw_m4 106 rfl) rfl
theorem q905 : (Jvm.Cond.code ({ cls := "java/util/TreeMap", name := "rotateRight", desc := "(Ljava/util/TreeMap$Entry;)V" } : Jvm.MethodName) prog_69_method_82_code (3 : Nat) (Option.none : Option Jvm.ClassFile.FieldType)) ∈ lw_all := lw_g (lw_at lw_m4 107 rfl) rfl
theorem q907 : (Jvm.Cond.instanceMethod ({ cls := "java/util/TreeMap", name := "keySet", desc := "()Ljava/util/Set;" } : Jvm.MethodName)) ∈ lw_all := lw_g (lw_at lw_m4 109 rfl) rfl
theorem q908 : (Jvm.Cond.selects "java/util/TreeMap" ({ cls := "java/util/TreeMap", name := "keySet", desc := "()Ljava/util/Set;" } : Jvm.MethodName) ({ cls := "java/util/TreeMap", name := "keySet", desc := "()Ljava/util/Set;" } : Jvm.MethodName)) ∈ lw_all := lw_g (lw_at lw_m4 110 rfl) rfl
theorem q909 : (Jvm.Cond.code ({ cls := "java/util/TreeMap", name := "keySet", desc := "()Ljava/util/Set;" } : Jvm.MethodName) prog_69_method_49_code (1 : Nat) (Option.some (Jvm.ClassFile.FieldType.object "java/util/Set"))) ∈ lw_all := lw_g (lw_at lw_m4 111 rfl) rfl
theorem q910 : (Jvm.Cond.methodLink "java/util/TreeMap" (219 : Nat) ({ cls := "java/util/TreeMap", name := "navigableKeySet", desc := "()Ljava/util/NavigableSet;" } : Jvm.MethodName)) ∈ lw_all := lw_g (lw_at lw_m4 112 rfl) rfl
theorem q911 : (Jvm.Cond.instanceMethod ({ cls := "java/util/TreeMap", name := "navigableKeySet", desc := "()Ljava/util/NavigableSet;" } : Jvm.MethodName)) ∈ lw_all := lw_g (lw_at lw_m4 113 rfl) rfl
theorem q912 : (Jvm.Cond.selects "java/util/TreeMap" ({ cls := "java/util/TreeMap", name := "navigableKeySet", desc := "()Ljava/util/NavigableSet;" } : Jvm.MethodName) ({ cls := "java/util/TreeMap", name := "navigableKeySet", desc := "()Ljava/util/NavigableSet;" } : Jvm.MethodName)) ∈ lw_all := lw_g (lw_at lw_m4 114 rfl) rfl
theorem q913 : (Jvm.Cond.code ({ cls := "java/util/TreeMap", name := "navigableKeySet", desc := "()Ljava/util/NavigableSet;" } : Jvm.MethodName) prog_69_method_50_code (2 : Nat) (Option.some (Jvm.ClassFile.FieldType.object "java/util/NavigableSet"))) ∈ lw_all := lw_g (lw_at lw_m4 115 rfl) rfl
theorem q914 : (Jvm.Cond.classLink "java/util/TreeMap" (222 : Nat) "java/util/TreeMap$KeySet") ∈ lw_all := lw_g (lw_at lw_m4 116 rfl) rfl
theorem q916 : (Jvm.Cond.methodLink "java/util/TreeMap" (224 : Nat) ({ cls := "java/util/TreeMap$KeySet", name := "<init>", desc := "(Ljava/util/NavigableMap;)V" } : Jvm.MethodName)) ∈ lw_all := lw_g (lw_at lw_m4 118 rfl) rfl
theorem q939 : (Jvm.Cond.instanceMethod ({ cls := "java/util/TreeMap", name := "keyIterator", desc := "()Ljava/util/Iterator;" } : Jvm.MethodName)) ∈ lw_all := lw_g (lw_at lw_m4 141 rfl) rfl
theorem q940 : (Jvm.Cond.selects "java/util/TreeMap" ({ cls := "java/util/TreeMap", name := "keyIterator", desc := "()Ljava/util/Iterator;" } : Jvm.MethodName) ({ cls := "java/util/TreeMap", name := "keyIterator", desc := "()Ljava/util/Iterator;" } : Jvm.MethodName)) ∈ lw_all := lw_g (lw_at lw_m4 142 rfl) rfl
theorem q941 : (Jvm.Cond.code ({ cls := "java/util/TreeMap", name := "keyIterator", desc := "()Ljava/util/Iterator;" } : Jvm.MethodName) prog_69_method_65_code (1 : Nat) (Option.some (Jvm.ClassFile.FieldType.object "java/util/Iterator"))) ∈ lw_all := lw_g (lw_at lw_m4 143 rfl) rfl
theorem q942 : (Jvm.Cond.classLink "java/util/TreeMap" (269 : Nat) "java/util/TreeMap$KeyIterator") ∈ lw_all := lw_g (lw_at lw_m4 144 rfl) rfl
theorem q944 : (Jvm.Cond.methodLink "java/util/TreeMap" (54 : Nat) ({ cls := "java/util/TreeMap", name := "getFirstEntry", desc := "()Ljava/util/TreeMap$Entry;" } : Jvm.MethodName)) ∈ lw_all := lw_g (lw_at lw_m4 146 rfl) rfl
theorem q945 : (Jvm.Cond.instanceMethod ({ cls := "java/util/TreeMap", name := "getFirstEntry", desc := "()Ljava/util/TreeMap$Entry;" } : Jvm.MethodName)) ∈ lw_all := lw_g (lw_at lw_m4 147 rfl) rfl
theorem q946 : (Jvm.Cond.selects "java/util/TreeMap" ({ cls := "java/util/TreeMap", name := "getFirstEntry", desc := "()Ljava/util/TreeMap$Entry;" } : Jvm.MethodName) ({ cls := "java/util/TreeMap", name := "getFirstEntry", desc := "()Ljava/util/TreeMap$Entry;" } : Jvm.MethodName)) ∈ lw_all := lw_g (lw_at lw_m4 148 rfl) rfl
theorem q947 : (Jvm.Cond.code ({ cls := "java/util/TreeMap", name := "getFirstEntry", desc := "()Ljava/util/TreeMap$Entry;" } : Jvm.MethodName) prog_69_method_72_code (2 : Nat) (Option.some (Jvm.ClassFile.FieldType.object "java/util/TreeMap$Entry"))) ∈ lw_all := lw_g (lw_at lw_m4 149 rfl) rfl
theorem q948 : (Jvm.Cond.methodLink "java/util/TreeMap" (271 : Nat) ({ cls := "java/util/TreeMap$KeyIterator", name := "<init>", desc := "(Ljava/util/TreeMap;Ljava/util/TreeMap$Entry;)V" } : Jvm.MethodName)) ∈ lw_all := lw_g (lw_at lw_m4 150 rfl) rfl
theorem q998 : (Jvm.Cond.static ({ cls := "java/util/TreeMap", name := "successor", desc := "(Ljava/util/TreeMap$Entry;)Ljava/util/TreeMap$Entry;" } : Jvm.MethodName)) ∈ lw_all := lw_g (lw_at lw_m4 200 rfl) rfl
theorem q999 : (Jvm.Cond.code ({ cls := "java/util/TreeMap", name := "successor", desc := "(Ljava/util/TreeMap$Entry;)Ljava/util/TreeMap$Entry;" } : Jvm.MethodName) prog_69_method_74_code (3 : Nat) (Option.some (Jvm.ClassFile.FieldType.object "java/util/TreeMap$Entry"))) ∈ lw_all := lw_g (lw_at lw_m4 201 rfl) rfl
theorem q1248 : (Jvm.Cond.castable "java/util/TreeMap" "java/util/NavigableMap") ∈ lw_tbl := lw_at lw_m5 210 rfl
theorem q1249 : (Jvm.Cond.selects "java/util/TreeMap" ({ cls := "java/util/Map", name := "size", desc := "()I" } : Jvm.MethodName) ({ cls := "java/util/TreeMap", name := "size", desc := "()I" } : Jvm.MethodName)) ∈ lw_all := lw_g (lw_at lw_m5 211 rfl) rfl
theorem q1250 : (Jvm.Cond.unhidden "java/util/TreeMap" "size" "()I") ∈ lw_tbl := lw_at lw_m5 212 rfl
theorem q1251 : (Jvm.Cond.instanceMethod ({ cls := "java/util/TreeMap", name := "size", desc := "()I" } : Jvm.MethodName)) ∈ lw_all := lw_g (lw_at lw_m5 213 rfl) rfl
theorem q1252 : (Jvm.Cond.publicMethod ({ cls := "java/util/TreeMap", name := "size", desc := "()I" } : Jvm.MethodName)) ∈ lw_tbl := lw_at lw_m5 214 rfl
theorem q1253 : (Jvm.Cond.code ({ cls := "java/util/TreeMap", name := "size", desc := "()I" } : Jvm.MethodName) prog_69_method_5_code (1 : Nat) (Option.some Jvm.ClassFile.FieldType.int)) ∈ lw_all := lw_g (lw_at lw_m5 215 rfl) rfl
theorem q2684 : (Jvm.Cond.castable "java/util/TreeMap" "java/lang/Object") ∈ lw_tbl := lw_at lw_m11 206 rfl
theorem in_J28 : ∀ w ∈ wsJ280, w ∈ lw_all := lw_in wsJ280 [562, 564, 548, 550, 552, 554, 556, 558, 560] (by decide +kernel) (by decide +kernel)

/-! java/util/TreeMap$Entry -/
set_option maxRecDepth 100000
def RJ29 : String := "java/util/TreeMap$Entry"
def TJ29 : u_T := fun k => match k with
  | 0 => ("java/util/TreeMap$Entry", "key", "Ljava/lang/Object;", false)
  | 1 => ("java/util/TreeMap$Entry", "value", "Ljava/lang/Object;", false)
  | 2 => ("java/util/TreeMap$Entry", "left", "Ljava/util/TreeMap$Entry;", false)
  | 3 => ("java/util/TreeMap$Entry", "right", "Ljava/util/TreeMap$Entry;", false)
  | 4 => ("java/util/TreeMap$Entry", "parent", "Ljava/util/TreeMap$Entry;", false)
  | _ => ("java/util/TreeMap$Entry", "color", "Z", false)
def tyJ29 : Nat → FieldType := fun k => match k with
  | 0 => .object "java/lang/Object"
  | 1 => .object "java/lang/Object"
  | 2 => .object "java/util/TreeMap$Entry"
  | 3 => .object "java/util/TreeMap$Entry"
  | 4 => .object "java/util/TreeMap$Entry"
  | _ => .boolean
abbrev wsJ290 : List Cond := u_ws RJ29 TJ29 6
theorem nmJ29 : ∀ a, a < 6 → ∀ b, b < 6 → a ≠ b → (TJ29 a).2.1 ≠ (TJ29 b).2.1 := by decide +kernel
theorem tyJ29_ok : ∀ k, k < 6 → parseFieldDescriptor (TJ29 k).2.2.1 = some (tyJ29 k) := by decide +kernel
abbrev cJ29_init : ByteArray := prog_70_method_1_code
def yJ29_init : MethodName := ⟨RJ29, "<init>", "(Ljava/lang/Object;Ljava/lang/Object;Ljava/util/TreeMap$Entry;)V"⟩
def dkwJ29_init_1 : List UInt8 := [177]
abbrev dktJ29_init_1 : List UInt8 := dkwJ29_init_1 ++ []
def dkwJ29_init_0 : List UInt8 := [42, 183, 0, 3, 42, 4, 181, 0, 9, 42, 43, 181, 0, 15, 42, 44, 181, 0, 19, 42, 45, 181, 0, 22]
abbrev dktJ29_init_0 : List UInt8 := dkwJ29_init_0 ++ dktJ29_init_1
theorem dksJ29_init_0 : cJ29_init.data.toList.drop 0 = dktJ29_init_0 := by decide +kernel
theorem dksJ29_init_1 : cJ29_init.data.toList.drop 24 = dktJ29_init_1 := dk_seg dksJ29_init_0 24 rfl rfl
theorem dJ29_init_0 : decode cJ29_init 0 = .ok (.aload_n 0, 1) := dk_42 (dk_at dksJ29_init_0 0 rfl rfl)
theorem dJ29_init_1 : decode cJ29_init 1 = .ok (.invokespecial 3, 3) := dk_183 0 3 (dk_at dksJ29_init_0 1 rfl rfl)
theorem dJ29_init_4 : decode cJ29_init 4 = .ok (.aload_n 0, 1) := dk_42 (dk_at dksJ29_init_0 4 rfl rfl)
theorem dJ29_init_5 : decode cJ29_init 5 = .ok (.iconst 1, 1) := dk_4 (dk_at dksJ29_init_0 5 rfl rfl)
theorem dJ29_init_6 : decode cJ29_init 6 = .ok (.putfield 9, 3) := dk_181 0 9 (dk_at dksJ29_init_0 6 rfl rfl)
theorem dJ29_init_9 : decode cJ29_init 9 = .ok (.aload_n 0, 1) := dk_42 (dk_at dksJ29_init_0 9 rfl rfl)
theorem dJ29_init_10 : decode cJ29_init 10 = .ok (.aload_n 1, 1) := dk_43 (dk_at dksJ29_init_0 10 rfl rfl)
theorem dJ29_init_11 : decode cJ29_init 11 = .ok (.putfield 15, 3) := dk_181 0 15 (dk_at dksJ29_init_0 11 rfl rfl)
theorem dJ29_init_14 : decode cJ29_init 14 = .ok (.aload_n 0, 1) := dk_42 (dk_at dksJ29_init_0 14 rfl rfl)
theorem dJ29_init_15 : decode cJ29_init 15 = .ok (.aload_n 2, 1) := dk_44 (dk_at dksJ29_init_0 15 rfl rfl)
theorem dJ29_init_16 : decode cJ29_init 16 = .ok (.putfield 19, 3) := dk_181 0 19 (dk_at dksJ29_init_0 16 rfl rfl)
theorem dJ29_init_19 : decode cJ29_init 19 = .ok (.aload_n 0, 1) := dk_42 (dk_at dksJ29_init_0 19 rfl rfl)
theorem dJ29_init_20 : decode cJ29_init 20 = .ok (.aload_n 3, 1) := dk_45 (dk_at dksJ29_init_0 20 rfl rfl)
theorem dJ29_init_21 : decode cJ29_init 21 = .ok (.putfield 22, 3) := dk_181 0 22 (dk_at dksJ29_init_0 21 rfl rfl)
theorem dJ29_init_24 : decode cJ29_init 24 = .ok (.return_, 1) := dk_177 (dk_at dksJ29_init_1 0 rfl rfl)
theorem q119 : (Jvm.Cond.initialized "java/util/TreeMap$Entry") ∈ lw_all := lw_g (lw_at lw_m1 41 rfl) rfl
theorem q422 : (Jvm.Cond.selects "java/util/TreeMap$Entry" ({ cls := "java/lang/Object", name := "getClass", desc := "()Ljava/lang/Class;" } : Jvm.MethodName) ({ cls := "java/lang/Object", name := "getClass", desc := "()Ljava/lang/Class;" } : Jvm.MethodName)) ∈ lw_all := lw_g (lw_at lw_m2 104 rfl) rfl
theorem q843 : (Jvm.Cond.instantiable "java/util/TreeMap$Entry" (6 : Nat)) ∈ lw_all := lw_g (lw_at lw_m4 45 rfl) rfl
theorem q845 : (Jvm.Cond.instanceMethod ({ cls := "java/util/TreeMap$Entry", name := "<init>", desc := "(Ljava/lang/Object;Ljava/lang/Object;Ljava/util/TreeMap$Entry;)V" } : Jvm.MethodName)) ∈ lw_all := lw_g (lw_at lw_m4 47 rfl) rfl
theorem q846 : (Jvm.Cond.code ({ cls := "java/util/TreeMap$Entry", name := "<init>", desc := "(Ljava/lang/Object;Ljava/lang/Object;Ljava/util/TreeMap$Entry;)V" } : Jvm.MethodName) prog_70_method_1_code (4 : Nat) (Option.none : Option Jvm.ClassFile.FieldType)) ∈ lw_all := lw_g (lw_at lw_m4 48 rfl) rfl
theorem q847 : (Jvm.Cond.methodLink "java/util/TreeMap$Entry" (3 : Nat) ({ cls := "java/lang/Object", name := "<init>", desc := "()V" } : Jvm.MethodName)) ∈ lw_all := lw_g (lw_at lw_m4 49 rfl) rfl
theorem q848 : (Jvm.Cond.fieldLink "java/util/TreeMap$Entry" (15 : Nat) "java/util/TreeMap$Entry" "key" "Ljava/lang/Object;") ∈ lw_all := lw_g (lw_at lw_m4 50 rfl) rfl
theorem q851 : (Jvm.Cond.fieldLink "java/util/TreeMap$Entry" (19 : Nat) "java/util/TreeMap$Entry" "value" "Ljava/lang/Object;") ∈ lw_all := lw_g (lw_at lw_m4 53 rfl) rfl
theorem q855 : (Jvm.Cond.fieldLink "java/util/TreeMap$Entry" (22 : Nat) "java/util/TreeMap$Entry" "parent" "Ljava/util/TreeMap$Entry;") ∈ lw_all := lw_g (lw_at lw_m4 57 rfl) rfl
theorem q857 : (Jvm.Cond.fieldLink "java/util/TreeMap$Entry" (9 : Nat) "java/util/TreeMap$Entry" "color" "Z") ∈ lw_all := lw_g (lw_at lw_m4 59 rfl) rfl
theorem q859 : (Jvm.Cond.lays "java/util/TreeMap$Entry" "java/util/TreeMap$Entry" "key" "Ljava/lang/Object;") ∈ lw_all := lw_g (lw_at lw_m4 61 rfl) rfl
theorem q860 : (Jvm.Cond.soleField "java/util/TreeMap$Entry" "key") ∈ lw_all := lw_g (lw_at lw_m4 62 rfl) rfl
theorem q861 : (Jvm.Cond.lays "java/util/TreeMap$Entry" "java/util/TreeMap$Entry" "value" "Ljava/lang/Object;") ∈ lw_all := lw_g (lw_at lw_m4 63 rfl) rfl
theorem q862 : (Jvm.Cond.soleField "java/util/TreeMap$Entry" "value") ∈ lw_all := lw_g (lw_at lw_m4 64 rfl) rfl
theorem q863 : (Jvm.Cond.lays "java/util/TreeMap$Entry" "java/util/TreeMap$Entry" "left" "Ljava/util/TreeMap$Entry;") ∈ lw_all := lw_g (lw_at lw_m4 65 rfl) rfl
theorem q864 : (Jvm.Cond.soleField "java/util/TreeMap$Entry" "left") ∈ lw_all := lw_g (lw_at lw_m4 66 rfl) rfl
theorem q865 : (Jvm.Cond.lays "java/util/TreeMap$Entry" "java/util/TreeMap$Entry" "right" "Ljava/util/TreeMap$Entry;") ∈ lw_all := lw_g (lw_at lw_m4 67 rfl) rfl
theorem q866 : (Jvm.Cond.soleField "java/util/TreeMap$Entry" "right") ∈ lw_all := lw_g (lw_at lw_m4 68 rfl) rfl
theorem q867 : (Jvm.Cond.lays "java/util/TreeMap$Entry" "java/util/TreeMap$Entry" "parent" "Ljava/util/TreeMap$Entry;") ∈ lw_all := lw_g (lw_at lw_m4 69 rfl) rfl
theorem q868 : (Jvm.Cond.soleField "java/util/TreeMap$Entry" "parent") ∈ lw_all := lw_g (lw_at lw_m4 70 rfl) rfl
theorem q869 : (Jvm.Cond.lays "java/util/TreeMap$Entry" "java/util/TreeMap$Entry" "color" "Z") ∈ lw_all := lw_g (lw_at lw_m4 71 rfl) rfl
theorem q870 : (Jvm.Cond.soleField "java/util/TreeMap$Entry" "color") ∈ lw_all := lw_g (lw_at lw_m4 72 rfl) rfl
theorem q871 : (Jvm.Cond.superclass "java/util/TreeMap$Entry" "java/lang/Object") ∈ lw_all := lw_g (lw_at lw_m4 73 rfl) rfl
theorem q2686 : (Jvm.Cond.castable "java/util/TreeMap$Entry" "java/lang/Object") ∈ lw_tbl := lw_at lw_m11 208 rfl
theorem in_J29 : ∀ w ∈ wsJ290, w ∈ lw_all := lw_in wsJ290 [859, 861, 863, 865, 867, 869] (by decide +kernel) (by decide +kernel)

/-! java/util/AbstractSet -/
set_option maxRecDepth 100000
def RJ30 : String := "java/util/AbstractSet"
abbrev cJ30_init : ByteArray := prog_46_method_1_code
def yJ30_init : MethodName := ⟨RJ30, "<init>", "()V"⟩
theorem dJ30_init_0 : decode cJ30_init 0 = .ok (.aload_n 0, 1) := by decide +kernel
theorem dJ30_init_1 : decode cJ30_init 1 = .ok (.invokespecial 1, 3) := by decide +kernel
theorem dJ30_init_4 : decode cJ30_init 4 = .ok (.return_, 1) := by decide +kernel
theorem q120 : (Jvm.Cond.initialized "java/util/AbstractSet") ∈ lw_all := lw_g (lw_at lw_m1 42 rfl) rfl
theorem q920 : (Jvm.Cond.instanceMethod ({ cls := "java/util/AbstractSet", name := "<init>", desc := "()V" } : Jvm.MethodName)) ∈ lw_all := lw_g (lw_at lw_m4 122 rfl) rfl
theorem q921 : (Jvm.Cond.code ({ cls := "java/util/AbstractSet", name := "<init>", desc := "()V" } : Jvm.MethodName) prog_46_method_1_code (1 : Nat) (Option.none : Option Jvm.ClassFile.FieldType)) ∈ lw_all := lw_g (lw_at lw_m4 123 rfl) rfl
theorem q922 : (Jvm.Cond.methodLink "java/util/AbstractSet" (1 : Nat) ({ cls := "java/util/AbstractCollection", name := "<init>", desc := "()V" } : Jvm.MethodName)) ∈ lw_all := lw_g (lw_at lw_m4 124 rfl) rfl

/-! java/util/TreeMap$KeySet -/
set_option maxRecDepth 100000
def RJ31 : String := "java/util/TreeMap$KeySet"
def TJ31 : u_T := fun k => match k with
  | _ => ("java/util/TreeMap$KeySet", "m", "Ljava/util/NavigableMap;", true)
def tyJ31 : Nat → FieldType := fun k => match k with
  | _ => .object "java/util/NavigableMap"
abbrev wsJ310 : List Cond := u_ws RJ31 TJ31 1
theorem nmJ31 : ∀ a, a < 1 → ∀ b, b < 1 → a ≠ b → (TJ31 a).2.1 ≠ (TJ31 b).2.1 := by decide +kernel
theorem tyJ31_ok : ∀ k, k < 1 → parseFieldDescriptor (TJ31 k).2.2.1 = some (tyJ31 k) := by decide +kernel
abbrev cJ31_init : ByteArray := prog_72_method_1_code
def yJ31_init : MethodName := ⟨RJ31, "<init>", "(Ljava/util/NavigableMap;)V"⟩
def dkwJ31_init_0 : List UInt8 := [42, 183, 0, 1, 42, 43, 181, 0, 7, 177]
abbrev dktJ31_init_0 : List UInt8 := dkwJ31_init_0 ++ []
theorem dksJ31_init_0 : cJ31_init.data.toList.drop 0 = dktJ31_init_0 := by decide +kernel
theorem dJ31_init_0 : decode cJ31_init 0 = .ok (.aload_n 0, 1) := dk_42 (dk_at dksJ31_init_0 0 rfl rfl)
theorem dJ31_init_1 : decode cJ31_init 1 = .ok (.invokespecial 1, 3) := dk_183 0 1 (dk_at dksJ31_init_0 1 rfl rfl)
theorem dJ31_init_4 : decode cJ31_init 4 = .ok (.aload_n 0, 1) := dk_42 (dk_at dksJ31_init_0 4 rfl rfl)
theorem dJ31_init_5 : decode cJ31_init 5 = .ok (.aload_n 1, 1) := dk_43 (dk_at dksJ31_init_0 5 rfl rfl)
theorem dJ31_init_6 : decode cJ31_init 6 = .ok (.putfield 7, 3) := dk_181 0 7 (dk_at dksJ31_init_0 6 rfl rfl)
theorem dJ31_init_9 : decode cJ31_init 9 = .ok (.return_, 1) := dk_177 (dk_at dksJ31_init_0 9 rfl rfl)
abbrev cJ31_iterator : ByteArray := prog_72_method_2_code
def yJ31_iterator : MethodName := ⟨RJ31, "iterator", "()Ljava/util/Iterator;"⟩
def dkwJ31_iterator_1 : List UInt8 := [180, 0, 7, 192, 0, 19, 182, 0, 21, 176]
abbrev dktJ31_iterator_1 : List UInt8 := dkwJ31_iterator_1 ++ []
def dkwJ31_iterator_0 : List UInt8 := [42, 180, 0, 7, 193, 0, 13, 153, 0, 14, 42, 180, 0, 7, 192, 0, 13, 182, 0, 15, 176, 42]
abbrev dktJ31_iterator_0 : List UInt8 := dkwJ31_iterator_0 ++ dktJ31_iterator_1
theorem dksJ31_iterator_0 : cJ31_iterator.data.toList.drop 0 = dktJ31_iterator_0 := by decide +kernel
theorem dksJ31_iterator_1 : cJ31_iterator.data.toList.drop 22 = dktJ31_iterator_1 := dk_seg dksJ31_iterator_0 22 rfl rfl
theorem dJ31_iterator_0 : decode cJ31_iterator 0 = .ok (.aload_n 0, 1) := dk_42 (dk_at dksJ31_iterator_0 0 rfl rfl)
theorem dJ31_iterator_1 : decode cJ31_iterator 1 = .ok (.getfield 7, 3) := dk_180 0 7 (dk_at dksJ31_iterator_0 1 rfl rfl)
theorem dJ31_iterator_4 : decode cJ31_iterator 4 = .ok (.instanceof 13, 3) := dk_193 0 13 (dk_at dksJ31_iterator_0 4 rfl rfl)
theorem dJ31_iterator_7 : decode cJ31_iterator 7 = .ok (.ifCond .eq 14, 3) := dk_153 0 14 (dk_at dksJ31_iterator_0 7 rfl rfl)
theorem dJ31_iterator_10 : decode cJ31_iterator 10 = .ok (.aload_n 0, 1) := dk_42 (dk_at dksJ31_iterator_0 10 rfl rfl)
theorem dJ31_iterator_11 : decode cJ31_iterator 11 = .ok (.getfield 7, 3) := dk_180 0 7 (dk_at dksJ31_iterator_0 11 rfl rfl)
theorem dJ31_iterator_14 : decode cJ31_iterator 14 = .ok (.checkcast 13, 3) := dk_192 0 13 (dk_at dksJ31_iterator_0 14 rfl rfl)
theorem dJ31_iterator_17 : decode cJ31_iterator 17 = .ok (.invokevirtual 15, 3) := dk_182 0 15 (dk_at dksJ31_iterator_0 17 rfl rfl)
theorem dJ31_iterator_20 : decode cJ31_iterator 20 = .ok (.areturn, 1) := dk_176 (dk_at dksJ31_iterator_0 20 rfl rfl)
theorem dJ31_iterator_21 : decode cJ31_iterator 21 = .ok (.aload_n 0, 1) := dk_42 (dk_at dksJ31_iterator_0 21 rfl rfl)
theorem dJ31_iterator_22 : decode cJ31_iterator 22 = .ok (.getfield 7, 3) := dk_180 0 7 (dk_at dksJ31_iterator_1 0 rfl rfl)
theorem dJ31_iterator_25 : decode cJ31_iterator 25 = .ok (.checkcast 19, 3) := dk_192 0 19 (dk_at dksJ31_iterator_1 3 rfl rfl)
theorem dJ31_iterator_28 : decode cJ31_iterator 28 = .ok (.invokevirtual 21, 3) := dk_182 0 21 (dk_at dksJ31_iterator_1 6 rfl rfl)
theorem dJ31_iterator_31 : decode cJ31_iterator 31 = .ok (.areturn, 1) := dk_176 (dk_at dksJ31_iterator_1 9 rfl rfl)
abbrev cJ31_size : ByteArray := prog_72_method_4_code
def yJ31_size : MethodName := ⟨RJ31, "size", "()I"⟩
def dkwJ31_size_0 : List UInt8 := [42, 180, 0, 7, 185, 0, 26, 1, 0, 172]
abbrev dktJ31_size_0 : List UInt8 := dkwJ31_size_0 ++ []
theorem dksJ31_size_0 : cJ31_size.data.toList.drop 0 = dktJ31_size_0 := by decide +kernel
theorem dJ31_size_0 : decode cJ31_size 0 = .ok (.aload_n 0, 1) := dk_42 (dk_at dksJ31_size_0 0 rfl rfl)
theorem dJ31_size_1 : decode cJ31_size 1 = .ok (.getfield 7, 3) := dk_180 0 7 (dk_at dksJ31_size_0 1 rfl rfl)
theorem dJ31_size_4 : decode cJ31_size 4 = .ok (.invokeinterface 26 1, 5) := by decide +kernel
theorem dJ31_size_9 : decode cJ31_size 9 = .ok (.ireturn, 1) := dk_172 (dk_at dksJ31_size_0 9 rfl rfl)
theorem q121 : (Jvm.Cond.initialized "java/util/TreeMap$KeySet") ∈ lw_all := lw_g (lw_at lw_m1 43 rfl) rfl
theorem q424 : (Jvm.Cond.selects "java/util/TreeMap$KeySet" ({ cls := "java/lang/Object", name := "getClass", desc := "()Ljava/lang/Class;" } : Jvm.MethodName) ({ cls := "java/lang/Object", name := "getClass", desc := "()Ljava/lang/Class;" } : Jvm.MethodName)) ∈ lw_all := lw_g (lw_at lw_m2 106 rfl) rfl
theorem q915 : (Jvm.Cond.instantiable "java/util/TreeMap$KeySet" (1 : Nat)) ∈ lw_all := lw_g (lw_at lw_m4 117 rfl) rfl
theorem q917 : (Jvm.Cond.instanceMethod ({ cls := "java/util/TreeMap$KeySet", name := "<init>", desc := "(Ljava/util/NavigableMap;)V" } : Jvm.MethodName)) ∈ lw_all := lw_g (lw_at lw_m4 119 rfl) rfl
theorem q918 : (Jvm.Cond.code ({ cls := "java/util/TreeMap$KeySet", name := "<init>", desc := "(Ljava/util/NavigableMap;)V" } : Jvm.MethodName) prog_72_method_1_code (2 : Nat) (Option.none : Option Jvm.ClassFile.FieldType)) ∈ lw_all := lw_g (lw_at lw_m4 120 rfl) rfl
theorem q919 : (Jvm.Cond.methodLink "java/util/TreeMap$KeySet" (1 : Nat) ({ cls := "java/util/AbstractSet", name := "<init>", desc := "()V" } : Jvm.MethodName)) ∈ lw_all := lw_g (lw_at lw_m4 121 rfl) rfl
theorem q923 : (Jvm.Cond.fieldLink "java/util/TreeMap$KeySet" (7 : Nat) "java/util/TreeMap$KeySet" "m" "Ljava/util/NavigableMap;") ∈ lw_all := lw_g (lw_at lw_m4 125 rfl) rfl
theorem q924 : (Jvm.Cond.laysFinal "java/util/TreeMap$KeySet" "java/util/TreeMap$KeySet" "m" "Ljava/util/NavigableMap;") ∈ lw_all := lw_g (lw_at lw_m4 126 rfl) rfl
theorem q925 : (Jvm.Cond.soleField "java/util/TreeMap$KeySet" "m") ∈ lw_all := lw_g (lw_at lw_m4 127 rfl) rfl
theorem q926 : (Jvm.Cond.superclass "java/util/TreeMap$KeySet" "java/util/AbstractSet") ∈ lw_all := lw_g (lw_at lw_m4 128 rfl) rfl
theorem q931 : (Jvm.Cond.castable "java/util/TreeMap$KeySet" "java/util/Set") ∈ lw_tbl := lw_at lw_m4 133 rfl
theorem q932 : (Jvm.Cond.selects "java/util/TreeMap$KeySet" ({ cls := "java/util/Set", name := "iterator", desc := "()Ljava/util/Iterator;" } : Jvm.MethodName) ({ cls := "java/util/TreeMap$KeySet", name := "iterator", desc := "()Ljava/util/Iterator;" } : Jvm.MethodName)) ∈ lw_all := lw_g (lw_at lw_m4 134 rfl) rfl
theorem q933 : (Jvm.Cond.unhidden "java/util/TreeMap$KeySet" "iterator" "()Ljava/util/Iterator;") ∈ lw_tbl := lw_at lw_m4 135 rfl
theorem q934 : (Jvm.Cond.instanceMethod ({ cls := "java/util/TreeMap$KeySet", name := "iterator", desc := "()Ljava/util/Iterator;" } : Jvm.MethodName)) ∈ lw_all := lw_g (lw_at lw_m4 136 rfl) rfl
theorem q935 : (Jvm.Cond.publicMethod ({ cls := "java/util/TreeMap$KeySet", name := "iterator", desc := "()Ljava/util/Iterator;" } : Jvm.MethodName)) ∈ lw_tbl := lw_at lw_m4 137 rfl
theorem q936 : (Jvm.Cond.code ({ cls := "java/util/TreeMap$KeySet", name := "iterator", desc := "()Ljava/util/Iterator;" } : Jvm.MethodName) prog_72_method_2_code (1 : Nat) (Option.some (Jvm.ClassFile.FieldType.object "java/util/Iterator"))) ∈ lw_all := lw_g (lw_at lw_m4 138 rfl) rfl
theorem q937 : (Jvm.Cond.classLink "java/util/TreeMap$KeySet" (13 : Nat) "java/util/TreeMap") ∈ lw_all := lw_g (lw_at lw_m4 139 rfl) rfl
theorem q938 : (Jvm.Cond.methodLink "java/util/TreeMap$KeySet" (15 : Nat) ({ cls := "java/util/TreeMap", name := "keyIterator", desc := "()Ljava/util/Iterator;" } : Jvm.MethodName)) ∈ lw_all := lw_g (lw_at lw_m4 140 rfl) rfl
theorem q968 : (Jvm.Cond.classLink "java/util/TreeMap$KeySet" (19 : Nat) "java/util/TreeMap$NavigableSubMap") ∈ lw_all := lw_g (lw_at lw_m4 170 rfl) rfl
theorem q969 : (Jvm.Cond.methodLink "java/util/TreeMap$KeySet" (21 : Nat) ({ cls := "java/util/TreeMap$NavigableSubMap", name := "keyIterator", desc := "()Ljava/util/Iterator;" } : Jvm.MethodName)) ∈ lw_all := lw_g (lw_at lw_m4 171 rfl) rfl
theorem q1242 : (Jvm.Cond.selects "java/util/TreeMap$KeySet" ({ cls := "java/util/AbstractCollection", name := "size", desc := "()I" } : Jvm.MethodName) ({ cls := "java/util/TreeMap$KeySet", name := "size", desc := "()I" } : Jvm.MethodName)) ∈ lw_all := lw_g (lw_at lw_m5 204 rfl) rfl
theorem q1243 : (Jvm.Cond.instanceMethod ({ cls := "java/util/TreeMap$KeySet", name := "size", desc := "()I" } : Jvm.MethodName)) ∈ lw_all := lw_g (lw_at lw_m5 205 rfl) rfl
theorem q1244 : (Jvm.Cond.code ({ cls := "java/util/TreeMap$KeySet", name := "size", desc := "()I" } : Jvm.MethodName) prog_72_method_4_code (1 : Nat) (Option.some Jvm.ClassFile.FieldType.int)) ∈ lw_all := lw_g (lw_at lw_m5 206 rfl) rfl
theorem q1245 : (Jvm.Cond.interfaceEntry "java/util/TreeMap$KeySet" (26 : Nat)) ∈ lw_tbl := lw_at lw_m5 207 rfl
theorem q2687 : (Jvm.Cond.castable "java/util/TreeMap$KeySet" "java/lang/Object") ∈ lw_tbl := lw_at lw_m11 209 rfl
theorem in_J31 : ∀ w ∈ wsJ310, w ∈ lw_all := lw_in wsJ310 [924] (by decide +kernel) (by decide +kernel)

/-! java/util/TreeMap$PrivateEntryIterator -/
set_option maxRecDepth 100000
def RJ32 : String := "java/util/TreeMap$PrivateEntryIterator"
abbrev cJ32_init : ByteArray := prog_74_method_1_code
def yJ32_init : MethodName := ⟨RJ32, "<init>", "(Ljava/util/TreeMap;Ljava/util/TreeMap$Entry;)V"⟩
def dkwJ32_init_1 : List UInt8 := [181, 0, 26, 177]
abbrev dktJ32_init_1 : List UInt8 := dkwJ32_init_1 ++ []
def dkwJ32_init_0 : List UInt8 := [42, 43, 181, 0, 1, 42, 183, 0, 7, 42, 43, 180, 0, 13, 181, 0, 19, 42, 1, 181, 0, 22, 42, 44]
abbrev dktJ32_init_0 : List UInt8 := dkwJ32_init_0 ++ dktJ32_init_1
theorem dksJ32_init_0 : cJ32_init.data.toList.drop 0 = dktJ32_init_0 := by decide +kernel
theorem dksJ32_init_1 : cJ32_init.data.toList.drop 24 = dktJ32_init_1 := dk_seg dksJ32_init_0 24 rfl rfl
theorem dJ32_init_0 : decode cJ32_init 0 = .ok (.aload_n 0, 1) := dk_42 (dk_at dksJ32_init_0 0 rfl rfl)
theorem dJ32_init_1 : decode cJ32_init 1 = .ok (.aload_n 1, 1) := dk_43 (dk_at dksJ32_init_0 1 rfl rfl)
theorem dJ32_init_2 : decode cJ32_init 2 = .ok (.putfield 1, 3) := dk_181 0 1 (dk_at dksJ32_init_0 2 rfl rfl)
theorem dJ32_init_5 : decode cJ32_init 5 = .ok (.aload_n 0, 1) := dk_42 (dk_at dksJ32_init_0 5 rfl rfl)
theorem dJ32_init_6 : decode cJ32_init 6 = .ok (.invokespecial 7, 3) := dk_183 0 7 (dk_at dksJ32_init_0 6 rfl rfl)
theorem dJ32_init_9 : decode cJ32_init 9 = .ok (.aload_n 0, 1) := dk_42 (dk_at dksJ32_init_0 9 rfl rfl)
theorem dJ32_init_10 : decode cJ32_init 10 = .ok (.aload_n 1, 1) := dk_43 (dk_at dksJ32_init_0 10 rfl rfl)
theorem dJ32_init_11 : decode cJ32_init 11 = .ok (.getfield 13, 3) := dk_180 0 13 (dk_at dksJ32_init_0 11 rfl rfl)
theorem dJ32_init_14 : decode cJ32_init 14 = .ok (.putfield 19, 3) := dk_181 0 19 (dk_at dksJ32_init_0 14 rfl rfl)
theorem dJ32_init_17 : decode cJ32_init 17 = .ok (.aload_n 0, 1) := dk_42 (dk_at dksJ32_init_0 17 rfl rfl)
theorem dJ32_init_18 : decode cJ32_init 18 = .ok (.aconst_null, 1) := dk_1 (dk_at dksJ32_init_0 18 rfl rfl)
theorem dJ32_init_19 : decode cJ32_init 19 = .ok (.putfield 22, 3) := dk_181 0 22 (dk_at dksJ32_init_0 19 rfl rfl)
theorem dJ32_init_22 : decode cJ32_init 22 = .ok (.aload_n 0, 1) := dk_42 (dk_at dksJ32_init_0 22 rfl rfl)
theorem dJ32_init_23 : decode cJ32_init 23 = .ok (.aload_n 2, 1) := dk_44 (dk_at dksJ32_init_0 23 rfl rfl)
theorem dJ32_init_24 : decode cJ32_init 24 = .ok (.putfield 26, 3) := dk_181 0 26 (dk_at dksJ32_init_1 0 rfl rfl)
theorem dJ32_init_27 : decode cJ32_init 27 = .ok (.return_, 1) := dk_177 (dk_at dksJ32_init_1 3 rfl rfl)
abbrev cJ32_hasNext : ByteArray := prog_74_method_2_code
def yJ32_hasNext : MethodName := ⟨RJ32, "hasNext", "()Z"⟩
def dkwJ32_hasNext_0 : List UInt8 := [42, 180, 0, 26, 198, 0, 7, 4, 167, 0, 4, 3, 172]
abbrev dktJ32_hasNext_0 : List UInt8 := dkwJ32_hasNext_0 ++ []
theorem dksJ32_hasNext_0 : cJ32_hasNext.data.toList.drop 0 = dktJ32_hasNext_0 := by decide +kernel
theorem dJ32_hasNext_0 : decode cJ32_hasNext 0 = .ok (.aload_n 0, 1) := dk_42 (dk_at dksJ32_hasNext_0 0 rfl rfl)
theorem dJ32_hasNext_1 : decode cJ32_hasNext 1 = .ok (.getfield 26, 3) := dk_180 0 26 (dk_at dksJ32_hasNext_0 1 rfl rfl)
theorem dJ32_hasNext_4 : decode cJ32_hasNext 4 = .ok (.ifnull 7, 3) := dk_198 0 7 (dk_at dksJ32_hasNext_0 4 rfl rfl)
theorem dJ32_hasNext_7 : decode cJ32_hasNext 7 = .ok (.iconst 1, 1) := dk_4 (dk_at dksJ32_hasNext_0 7 rfl rfl)
theorem dJ32_hasNext_8 : decode cJ32_hasNext 8 = .ok (.goto 4, 3) := dk_167 0 4 (dk_at dksJ32_hasNext_0 8 rfl rfl)
theorem dJ32_hasNext_11 : decode cJ32_hasNext 11 = .ok (.iconst 0, 1) := dk_3 (dk_at dksJ32_hasNext_0 11 rfl rfl)
theorem dJ32_hasNext_12 : decode cJ32_hasNext 12 = .ok (.ireturn, 1) := dk_172 (dk_at dksJ32_hasNext_0 12 rfl rfl)
abbrev cJ32_nextEntry : ByteArray := prog_74_method_3_code
def yJ32_nextEntry : MethodName := ⟨RJ32, "nextEntry", "()Ljava/util/TreeMap$Entry;"⟩
def dkwJ32_nextEntry_2 : List UInt8 := [43, 181, 0, 22, 43, 176]
abbrev dktJ32_nextEntry_2 : List UInt8 := dkwJ32_nextEntry_2 ++ []
def dkwJ32_nextEntry_1 : List UInt8 := [42, 180, 0, 19, 159, 0, 11, 187, 0, 32, 89, 183, 0, 34, 191, 42, 43, 184, 0, 35, 181, 0, 26, 42]
abbrev dktJ32_nextEntry_1 : List UInt8 := dkwJ32_nextEntry_1 ++ dktJ32_nextEntry_2
def dkwJ32_nextEntry_0 : List UInt8 := [42, 180, 0, 26, 76, 43, 199, 0, 11, 187, 0, 29, 89, 183, 0, 31, 191, 42, 180, 0, 1, 180, 0, 13]
abbrev dktJ32_nextEntry_0 : List UInt8 := dkwJ32_nextEntry_0 ++ dktJ32_nextEntry_1
theorem dksJ32_nextEntry_0 : cJ32_nextEntry.data.toList.drop 0 = dktJ32_nextEntry_0 := by decide +kernel
theorem dksJ32_nextEntry_1 : cJ32_nextEntry.data.toList.drop 24 = dktJ32_nextEntry_1 := dk_seg dksJ32_nextEntry_0 24 rfl rfl
theorem dksJ32_nextEntry_2 : cJ32_nextEntry.data.toList.drop 48 = dktJ32_nextEntry_2 := dk_seg dksJ32_nextEntry_1 24 rfl rfl
theorem dJ32_nextEntry_0 : decode cJ32_nextEntry 0 = .ok (.aload_n 0, 1) := dk_42 (dk_at dksJ32_nextEntry_0 0 rfl rfl)
theorem dJ32_nextEntry_1 : decode cJ32_nextEntry 1 = .ok (.getfield 26, 3) := dk_180 0 26 (dk_at dksJ32_nextEntry_0 1 rfl rfl)
theorem dJ32_nextEntry_4 : decode cJ32_nextEntry 4 = .ok (.astore_n 1, 1) := dk_76 (dk_at dksJ32_nextEntry_0 4 rfl rfl)
theorem dJ32_nextEntry_5 : decode cJ32_nextEntry 5 = .ok (.aload_n 1, 1) := dk_43 (dk_at dksJ32_nextEntry_0 5 rfl rfl)
theorem dJ32_nextEntry_6 : decode cJ32_nextEntry 6 = .ok (.ifnonnull 11, 3) := dk_199 0 11 (dk_at dksJ32_nextEntry_0 6 rfl rfl)
theorem dJ32_nextEntry_9 : decode cJ32_nextEntry 9 = .ok (.new 29, 3) := dk_187 0 29 (dk_at dksJ32_nextEntry_0 9 rfl rfl)
theorem dJ32_nextEntry_12 : decode cJ32_nextEntry 12 = .ok (.dup, 1) := dk_89 (dk_at dksJ32_nextEntry_0 12 rfl rfl)
theorem dJ32_nextEntry_13 : decode cJ32_nextEntry 13 = .ok (.invokespecial 31, 3) := dk_183 0 31 (dk_at dksJ32_nextEntry_0 13 rfl rfl)
theorem dJ32_nextEntry_16 : decode cJ32_nextEntry 16 = .ok (.athrow, 1) := dk_191 (dk_at dksJ32_nextEntry_0 16 rfl rfl)
theorem dJ32_nextEntry_17 : decode cJ32_nextEntry 17 = .ok (.aload_n 0, 1) := dk_42 (dk_at dksJ32_nextEntry_0 17 rfl rfl)
theorem dJ32_nextEntry_18 : decode cJ32_nextEntry 18 = .ok (.getfield 1, 3) := dk_180 0 1 (dk_at dksJ32_nextEntry_0 18 rfl rfl)
theorem dJ32_nextEntry_21 : decode cJ32_nextEntry 21 = .ok (.getfield 13, 3) := dk_180 0 13 (dk_at dksJ32_nextEntry_0 21 rfl rfl)
theorem dJ32_nextEntry_24 : decode cJ32_nextEntry 24 = .ok (.aload_n 0, 1) := dk_42 (dk_at dksJ32_nextEntry_1 0 rfl rfl)
theorem dJ32_nextEntry_25 : decode cJ32_nextEntry 25 = .ok (.getfield 19, 3) := dk_180 0 19 (dk_at dksJ32_nextEntry_1 1 rfl rfl)
theorem dJ32_nextEntry_28 : decode cJ32_nextEntry 28 = .ok (.if_icmp .eq 11, 3) := dk_159 0 11 (dk_at dksJ32_nextEntry_1 4 rfl rfl)
theorem dJ32_nextEntry_31 : decode cJ32_nextEntry 31 = .ok (.new 32, 3) := dk_187 0 32 (dk_at dksJ32_nextEntry_1 7 rfl rfl)
theorem dJ32_nextEntry_34 : decode cJ32_nextEntry 34 = .ok (.dup, 1) := dk_89 (dk_at dksJ32_nextEntry_1 10 rfl rfl)
theorem dJ32_nextEntry_35 : decode cJ32_nextEntry 35 = .ok (.invokespecial 34, 3) := dk_183 0 34 (dk_at dksJ32_nextEntry_1 11 rfl rfl)
theorem dJ32_nextEntry_38 : decode cJ32_nextEntry 38 = .ok (.athrow, 1) := dk_191 (dk_at dksJ32_nextEntry_1 14 rfl rfl)
theorem dJ32_nextEntry_39 : decode cJ32_nextEntry 39 = .ok (.aload_n 0, 1) := dk_42 (dk_at dksJ32_nextEntry_1 15 rfl rfl)
theorem dJ32_nextEntry_40 : decode cJ32_nextEntry 40 = .ok (.aload_n 1, 1) := dk_43 (dk_at dksJ32_nextEntry_1 16 rfl rfl)
theorem dJ32_nextEntry_41 : decode cJ32_nextEntry 41 = .ok (.invokestatic 35, 3) := dk_184 0 35 (dk_at dksJ32_nextEntry_1 17 rfl rfl)
theorem dJ32_nextEntry_44 : decode cJ32_nextEntry 44 = .ok (.putfield 26, 3) := dk_181 0 26 (dk_at dksJ32_nextEntry_1 20 rfl rfl)
theorem dJ32_nextEntry_47 : decode cJ32_nextEntry 47 = .ok (.aload_n 0, 1) := dk_42 (dk_at dksJ32_nextEntry_1 23 rfl rfl)
theorem dJ32_nextEntry_48 : decode cJ32_nextEntry 48 = .ok (.aload_n 1, 1) := dk_43 (dk_at dksJ32_nextEntry_2 0 rfl rfl)
theorem dJ32_nextEntry_49 : decode cJ32_nextEntry 49 = .ok (.putfield 22, 3) := dk_181 0 22 (dk_at dksJ32_nextEntry_2 1 rfl rfl)
theorem dJ32_nextEntry_52 : decode cJ32_nextEntry 52 = .ok (.aload_n 1, 1) := dk_43 (dk_at dksJ32_nextEntry_2 4 rfl rfl)
theorem dJ32_nextEntry_53 : decode cJ32_nextEntry 53 = .ok (.areturn, 1) := dk_176 (dk_at dksJ32_nextEntry_2 5 rfl rfl)
theorem q122 : (Jvm.Cond.initialized "java/util/TreeMap$PrivateEntryIterator") ∈ lw_all := lw_g (lw_at lw_m1 44 rfl) rfl
theorem q546 : (Jvm.Cond.fieldLinkNest "java/util/TreeMap$PrivateEntryIterator" (13 : Nat) "java/util/TreeMap" "modCount" "I" "java/util/TreeMap") ∈ lw_tbl := lw_at lw_m2 228 rfl
theorem q952 : (Jvm.Cond.instanceMethod ({ cls := "java/util/TreeMap$PrivateEntryIterator", name := "<init>", desc := "(Ljava/util/TreeMap;Ljava/util/TreeMap$Entry;)V" } : Jvm.MethodName)) ∈ lw_all := lw_g (lw_at lw_m4 154 rfl) rfl
theorem q953 : (Jvm.Cond.code ({ cls := "java/util/TreeMap$PrivateEntryIterator", name := "<init>", desc := "(Ljava/util/TreeMap;Ljava/util/TreeMap$Entry;)V" } : Jvm.MethodName) prog_74_method_1_code (3 : Nat) (Option.none : Option Jvm.ClassFile.FieldType)) ∈ lw_all := lw_g (lw_at lw_m4 155 rfl) rfl
theorem q954 : (Jvm.Cond.methodLink "java/util/TreeMap$PrivateEntryIterator" (7 : Nat) ({ cls := "java/lang/Object", name := "<init>", desc := "()V" } : Jvm.MethodName)) ∈ lw_all := lw_g (lw_at lw_m4 156 rfl) rfl
theorem q955 : (Jvm.Cond.fieldLink "java/util/TreeMap$PrivateEntryIterator" (26 : Nat) "java/util/TreeMap$PrivateEntryIterator" "next" "Ljava/util/TreeMap$Entry;") ∈ lw_all := lw_g (lw_at lw_m4 157 rfl) rfl
theorem q956 : (Jvm.Cond.fieldLink "java/util/TreeMap$PrivateEntryIterator" (22 : Nat) "java/util/TreeMap$PrivateEntryIterator" "lastReturned" "Ljava/util/TreeMap$Entry;") ∈ lw_all := lw_g (lw_at lw_m4 158 rfl) rfl
theorem q957 : (Jvm.Cond.fieldLink "java/util/TreeMap$PrivateEntryIterator" (19 : Nat) "java/util/TreeMap$PrivateEntryIterator" "expectedModCount" "I") ∈ lw_all := lw_g (lw_at lw_m4 159 rfl) rfl
theorem q958 : (Jvm.Cond.fieldLink "java/util/TreeMap$PrivateEntryIterator" (1 : Nat) "java/util/TreeMap$PrivateEntryIterator" "this$0" "Ljava/util/TreeMap;") ∈ lw_all := lw_g (lw_at lw_m4 160 rfl) rfl
theorem q960 : (Jvm.Cond.soleField "java/util/TreeMap$PrivateEntryIterator" "next") ∈ lw_all := lw_g (lw_at lw_m4 162 rfl) rfl
theorem q962 : (Jvm.Cond.soleField "java/util/TreeMap$PrivateEntryIterator" "lastReturned") ∈ lw_all := lw_g (lw_at lw_m4 164 rfl) rfl
theorem q964 : (Jvm.Cond.soleField "java/util/TreeMap$PrivateEntryIterator" "expectedModCount") ∈ lw_all := lw_g (lw_at lw_m4 166 rfl) rfl
theorem q966 : (Jvm.Cond.soleField "java/util/TreeMap$PrivateEntryIterator" "this$0") ∈ lw_all := lw_g (lw_at lw_m4 168 rfl) rfl
theorem q979 : (Jvm.Cond.instanceMethod ({ cls := "java/util/TreeMap$PrivateEntryIterator", name := "hasNext", desc := "()Z" } : Jvm.MethodName)) ∈ lw_all := lw_g (lw_at lw_m4 181 rfl) rfl
theorem q980 : (Jvm.Cond.publicMethod ({ cls := "java/util/TreeMap$PrivateEntryIterator", name := "hasNext", desc := "()Z" } : Jvm.MethodName)) ∈ lw_tbl := lw_at lw_m4 182 rfl
theorem q981 : (Jvm.Cond.code ({ cls := "java/util/TreeMap$PrivateEntryIterator", name := "hasNext", desc := "()Z" } : Jvm.MethodName) prog_74_method_2_code (1 : Nat) (Option.some Jvm.ClassFile.FieldType.boolean)) ∈ lw_all := lw_g (lw_at lw_m4 183 rfl) rfl
theorem q993 : (Jvm.Cond.declares ({ cls := "java/util/TreeMap$PrivateEntryIterator", name := "nextEntry", desc := "()Ljava/util/TreeMap$Entry;" } : Jvm.MethodName)) ∈ lw_tbl := lw_at lw_m4 195 rfl
theorem q995 : (Jvm.Cond.instanceMethod ({ cls := "java/util/TreeMap$PrivateEntryIterator", name := "nextEntry", desc := "()Ljava/util/TreeMap$Entry;" } : Jvm.MethodName)) ∈ lw_all := lw_g (lw_at lw_m4 197 rfl) rfl
theorem q996 : (Jvm.Cond.code ({ cls := "java/util/TreeMap$PrivateEntryIterator", name := "nextEntry", desc := "()Ljava/util/TreeMap$Entry;" } : Jvm.MethodName) prog_74_method_3_code (2 : Nat) (Option.some (Jvm.ClassFile.FieldType.object "java/util/TreeMap$Entry"))) ∈ lw_all := lw_g (lw_at lw_m4 198 rfl) rfl
theorem q997 : (Jvm.Cond.methodLink "java/util/TreeMap$PrivateEntryIterator" (35 : Nat) ({ cls := "java/util/TreeMap", name := "successor", desc := "(Ljava/util/TreeMap$Entry;)Ljava/util/TreeMap$Entry;" } : Jvm.MethodName)) ∈ lw_all := lw_g (lw_at lw_m4 199 rfl) rfl

/-! java/util/TreeMap$KeyIterator -/
set_option maxRecDepth 100000
def RJ33 : String := "java/util/TreeMap$KeyIterator"
def TJ33 : u_T := fun k => match k with
  | 0 => ("java/util/TreeMap$PrivateEntryIterator", "next", "Ljava/util/TreeMap$Entry;", false)
  | 1 => ("java/util/TreeMap$PrivateEntryIterator", "lastReturned", "Ljava/util/TreeMap$Entry;", false)
  | 2 => ("java/util/TreeMap$PrivateEntryIterator", "expectedModCount", "I", false)
  | _ => ("java/util/TreeMap$PrivateEntryIterator", "this$0", "Ljava/util/TreeMap;", true)
def tyJ33 : Nat → FieldType := fun k => match k with
  | 0 => .object "java/util/TreeMap$Entry"
  | 1 => .object "java/util/TreeMap$Entry"
  | 2 => .int
  | _ => .object "java/util/TreeMap"
abbrev wsJ330 : List Cond := u_ws RJ33 TJ33 4
theorem nmJ33 : ∀ a, a < 4 → ∀ b, b < 4 → a ≠ b → (TJ33 a).2.1 ≠ (TJ33 b).2.1 := by decide +kernel
theorem tyJ33_ok : ∀ k, k < 4 → parseFieldDescriptor (TJ33 k).2.2.1 = some (tyJ33 k) := by decide +kernel
abbrev cJ33_init : ByteArray := prog_71_method_1_code
def yJ33_init : MethodName := ⟨RJ33, "<init>", "(Ljava/util/TreeMap;Ljava/util/TreeMap$Entry;)V"⟩
def dkwJ33_init_0 : List UInt8 := [42, 43, 44, 183, 0, 1, 177]
abbrev dktJ33_init_0 : List UInt8 := dkwJ33_init_0 ++ []
theorem dksJ33_init_0 : cJ33_init.data.toList.drop 0 = dktJ33_init_0 := by decide +kernel
theorem dJ33_init_0 : decode cJ33_init 0 = .ok (.aload_n 0, 1) := dk_42 (dk_at dksJ33_init_0 0 rfl rfl)
theorem dJ33_init_1 : decode cJ33_init 1 = .ok (.aload_n 1, 1) := dk_43 (dk_at dksJ33_init_0 1 rfl rfl)
theorem dJ33_init_2 : decode cJ33_init 2 = .ok (.aload_n 2, 1) := dk_44 (dk_at dksJ33_init_0 2 rfl rfl)
theorem dJ33_init_3 : decode cJ33_init 3 = .ok (.invokespecial 1, 3) := dk_183 0 1 (dk_at dksJ33_init_0 3 rfl rfl)
theorem dJ33_init_6 : decode cJ33_init 6 = .ok (.return_, 1) := dk_177 (dk_at dksJ33_init_0 6 rfl rfl)
abbrev cJ33_next : ByteArray := prog_71_method_2_code
def yJ33_next : MethodName := ⟨RJ33, "next", "()Ljava/lang/Object;"⟩
def dkwJ33_next_0 : List UInt8 := [42, 182, 0, 7, 180, 0, 13, 176]
abbrev dktJ33_next_0 : List UInt8 := dkwJ33_next_0 ++ []
theorem dksJ33_next_0 : cJ33_next.data.toList.drop 0 = dktJ33_next_0 := by decide +kernel
theorem dJ33_next_0 : decode cJ33_next 0 = .ok (.aload_n 0, 1) := dk_42 (dk_at dksJ33_next_0 0 rfl rfl)
theorem dJ33_next_1 : decode cJ33_next 1 = .ok (.invokevirtual 7, 3) := dk_182 0 7 (dk_at dksJ33_next_0 1 rfl rfl)
theorem dJ33_next_4 : decode cJ33_next 4 = .ok (.getfield 13, 3) := dk_180 0 13 (dk_at dksJ33_next_0 4 rfl rfl)
theorem dJ33_next_7 : decode cJ33_next 7 = .ok (.areturn, 1) := dk_176 (dk_at dksJ33_next_0 7 rfl rfl)
theorem q123 : (Jvm.Cond.initialized "java/util/TreeMap$KeyIterator") ∈ lw_all := lw_g (lw_at lw_m1 45 rfl) rfl
theorem q423 : (Jvm.Cond.selects "java/util/TreeMap$KeyIterator" ({ cls := "java/lang/Object", name := "getClass", desc := "()Ljava/lang/Class;" } : Jvm.MethodName) ({ cls := "java/lang/Object", name := "getClass", desc := "()Ljava/lang/Class;" } : Jvm.MethodName)) ∈ lw_all := lw_g (lw_at lw_m2 105 rfl) rfl
theorem q849 : (Jvm.Cond.fieldLink "java/util/TreeMap$KeyIterator" (13 : Nat) "java/util/TreeMap$Entry" "key" "Ljava/lang/Object;") ∈ lw_all := lw_g (lw_at lw_m4 51 rfl) rfl
theorem q943 : (Jvm.Cond.instantiable "java/util/TreeMap$KeyIterator" (4 : Nat)) ∈ lw_all := lw_g (lw_at lw_m4 145 rfl) rfl
theorem q949 : (Jvm.Cond.instanceMethod ({ cls := "java/util/TreeMap$KeyIterator", name := "<init>", desc := "(Ljava/util/TreeMap;Ljava/util/TreeMap$Entry;)V" } : Jvm.MethodName)) ∈ lw_all := lw_g (lw_at lw_m4 151 rfl) rfl
theorem q950 : (Jvm.Cond.code ({ cls := "java/util/TreeMap$KeyIterator", name := "<init>", desc := "(Ljava/util/TreeMap;Ljava/util/TreeMap$Entry;)V" } : Jvm.MethodName) prog_71_method_1_code (3 : Nat) (Option.none : Option Jvm.ClassFile.FieldType)) ∈ lw_all := lw_g (lw_at lw_m4 152 rfl) rfl
theorem q951 : (Jvm.Cond.methodLink "java/util/TreeMap$KeyIterator" (1 : Nat) ({ cls := "java/util/TreeMap$PrivateEntryIterator", name := "<init>", desc := "(Ljava/util/TreeMap;Ljava/util/TreeMap$Entry;)V" } : Jvm.MethodName)) ∈ lw_all := lw_g (lw_at lw_m4 153 rfl) rfl
theorem q959 : (Jvm.Cond.lays "java/util/TreeMap$KeyIterator" "java/util/TreeMap$PrivateEntryIterator" "next" "Ljava/util/TreeMap$Entry;") ∈ lw_all := lw_g (lw_at lw_m4 161 rfl) rfl
theorem q961 : (Jvm.Cond.lays "java/util/TreeMap$KeyIterator" "java/util/TreeMap$PrivateEntryIterator" "lastReturned" "Ljava/util/TreeMap$Entry;") ∈ lw_all := lw_g (lw_at lw_m4 163 rfl) rfl
theorem q963 : (Jvm.Cond.lays "java/util/TreeMap$KeyIterator" "java/util/TreeMap$PrivateEntryIterator" "expectedModCount" "I") ∈ lw_all := lw_g (lw_at lw_m4 165 rfl) rfl
theorem q965 : (Jvm.Cond.laysFinal "java/util/TreeMap$KeyIterator" "java/util/TreeMap$PrivateEntryIterator" "this$0" "Ljava/util/TreeMap;") ∈ lw_all := lw_g (lw_at lw_m4 167 rfl) rfl
theorem q967 : (Jvm.Cond.superclass "java/util/TreeMap$KeyIterator" "java/util/TreeMap$PrivateEntryIterator") ∈ lw_all := lw_g (lw_at lw_m4 169 rfl) rfl
theorem q976 : (Jvm.Cond.castable "java/util/TreeMap$KeyIterator" "java/util/Iterator") ∈ lw_tbl := lw_at lw_m4 178 rfl
theorem q977 : (Jvm.Cond.selects "java/util/TreeMap$KeyIterator" ({ cls := "java/util/Iterator", name := "hasNext", desc := "()Z" } : Jvm.MethodName) ({ cls := "java/util/TreeMap$PrivateEntryIterator", name := "hasNext", desc := "()Z" } : Jvm.MethodName)) ∈ lw_all := lw_g (lw_at lw_m4 179 rfl) rfl
theorem q978 : (Jvm.Cond.unhidden "java/util/TreeMap$KeyIterator" "hasNext" "()Z") ∈ lw_tbl := lw_at lw_m4 180 rfl
theorem q986 : (Jvm.Cond.selects "java/util/TreeMap$KeyIterator" ({ cls := "java/util/Iterator", name := "next", desc := "()Ljava/lang/Object;" } : Jvm.MethodName) ({ cls := "java/util/TreeMap$KeyIterator", name := "next", desc := "()Ljava/lang/Object;" } : Jvm.MethodName)) ∈ lw_all := lw_g (lw_at lw_m4 188 rfl) rfl
theorem q987 : (Jvm.Cond.unhidden "java/util/TreeMap$KeyIterator" "next" "()Ljava/lang/Object;") ∈ lw_tbl := lw_at lw_m4 189 rfl
theorem q988 : (Jvm.Cond.instanceMethod ({ cls := "java/util/TreeMap$KeyIterator", name := "next", desc := "()Ljava/lang/Object;" } : Jvm.MethodName)) ∈ lw_all := lw_g (lw_at lw_m4 190 rfl) rfl
theorem q989 : (Jvm.Cond.publicMethod ({ cls := "java/util/TreeMap$KeyIterator", name := "next", desc := "()Ljava/lang/Object;" } : Jvm.MethodName)) ∈ lw_tbl := lw_at lw_m4 191 rfl
theorem q990 : (Jvm.Cond.code ({ cls := "java/util/TreeMap$KeyIterator", name := "next", desc := "()Ljava/lang/Object;" } : Jvm.MethodName) prog_71_method_2_code (1 : Nat) (Option.some (Jvm.ClassFile.FieldType.object "java/lang/Object"))) ∈ lw_all := lw_g (lw_at lw_m4 192 rfl) rfl
theorem q991 : (Jvm.Cond.methodLink "java/util/TreeMap$KeyIterator" (7 : Nat) ({ cls := "java/util/TreeMap$KeyIterator", name := "nextEntry", desc := "()Ljava/util/TreeMap$Entry;" } : Jvm.MethodName)) ∈ lw_all := lw_g (lw_at lw_m4 193 rfl) rfl
theorem q992 : (Jvm.Cond.sameMethod "java/util/TreeMap$KeyIterator" "java/util/TreeMap$PrivateEntryIterator" "nextEntry" "()Ljava/util/TreeMap$Entry;") ∈ lw_all := lw_g (lw_at lw_m4 194 rfl) rfl
theorem q994 : (Jvm.Cond.selects "java/util/TreeMap$KeyIterator" ({ cls := "java/util/TreeMap$KeyIterator", name := "nextEntry", desc := "()Ljava/util/TreeMap$Entry;" } : Jvm.MethodName) ({ cls := "java/util/TreeMap$PrivateEntryIterator", name := "nextEntry", desc := "()Ljava/util/TreeMap$Entry;" } : Jvm.MethodName)) ∈ lw_all := lw_g (lw_at lw_m4 196 rfl) rfl
theorem q2688 : (Jvm.Cond.castable "java/util/TreeMap$KeyIterator" "java/lang/Object") ∈ lw_tbl := lw_at lw_m11 210 rfl
theorem in_J33 : ∀ w ∈ wsJ330, w ∈ lw_all := lw_in wsJ330 [959, 961, 963, 965] (by decide +kernel) (by decide +kernel)

/-! java/lang/Character -/
set_option maxRecDepth 100000
def RJ35 : String := "java/lang/Character"
abbrev cJ35_isValidCodePoint : ByteArray := prog_19_method_11_code
def yJ35_isValidCodePoint : MethodName := ⟨RJ35, "isValidCodePoint", "(I)Z"⟩
def dkwJ35_isValidCodePoint_0 : List UInt8 := [26, 16, 16, 124, 60, 27, 16, 17, 162, 0, 7, 4, 167, 0, 4, 3, 172]
abbrev dktJ35_isValidCodePoint_0 : List UInt8 := dkwJ35_isValidCodePoint_0 ++ []
theorem dksJ35_isValidCodePoint_0 : cJ35_isValidCodePoint.data.toList.drop 0 = dktJ35_isValidCodePoint_0 := by decide +kernel
theorem dJ35_isValidCodePoint_0 : decode cJ35_isValidCodePoint 0 = .ok (.iload_n 0, 1) := dk_26 (dk_at dksJ35_isValidCodePoint_0 0 rfl rfl)
theorem dJ35_isValidCodePoint_1 : decode cJ35_isValidCodePoint 1 = .ok (.bipush 16, 2) := dk_16 16 (dk_at dksJ35_isValidCodePoint_0 1 rfl rfl)
theorem dJ35_isValidCodePoint_3 : decode cJ35_isValidCodePoint 3 = .ok (.iushr, 1) := dk_124 (dk_at dksJ35_isValidCodePoint_0 3 rfl rfl)
theorem dJ35_isValidCodePoint_4 : decode cJ35_isValidCodePoint 4 = .ok (.istore_n 1, 1) := dk_60 (dk_at dksJ35_isValidCodePoint_0 4 rfl rfl)
theorem dJ35_isValidCodePoint_5 : decode cJ35_isValidCodePoint 5 = .ok (.iload_n 1, 1) := dk_27 (dk_at dksJ35_isValidCodePoint_0 5 rfl rfl)
theorem dJ35_isValidCodePoint_6 : decode cJ35_isValidCodePoint 6 = .ok (.bipush 17, 2) := dk_16 17 (dk_at dksJ35_isValidCodePoint_0 6 rfl rfl)
theorem dJ35_isValidCodePoint_8 : decode cJ35_isValidCodePoint 8 = .ok (.if_icmp .ge 7, 3) := dk_162 0 7 (dk_at dksJ35_isValidCodePoint_0 8 rfl rfl)
theorem dJ35_isValidCodePoint_11 : decode cJ35_isValidCodePoint 11 = .ok (.iconst 1, 1) := dk_4 (dk_at dksJ35_isValidCodePoint_0 11 rfl rfl)
theorem dJ35_isValidCodePoint_12 : decode cJ35_isValidCodePoint 12 = .ok (.goto 4, 3) := dk_167 0 4 (dk_at dksJ35_isValidCodePoint_0 12 rfl rfl)
theorem dJ35_isValidCodePoint_15 : decode cJ35_isValidCodePoint 15 = .ok (.iconst 0, 1) := dk_3 (dk_at dksJ35_isValidCodePoint_0 15 rfl rfl)
theorem dJ35_isValidCodePoint_16 : decode cJ35_isValidCodePoint 16 = .ok (.ireturn, 1) := dk_172 (dk_at dksJ35_isValidCodePoint_0 16 rfl rfl)
abbrev cJ35_highSurrogate : ByteArray := prog_19_method_28_code
def yJ35_highSurrogate : MethodName := ⟨RJ35, "highSurrogate", "(I)C"⟩
def dkwJ35_highSurrogate_0 : List UInt8 := [26, 16, 10, 124, 18, 110, 96, 146, 172]
abbrev dktJ35_highSurrogate_0 : List UInt8 := dkwJ35_highSurrogate_0 ++ []
theorem dksJ35_highSurrogate_0 : cJ35_highSurrogate.data.toList.drop 0 = dktJ35_highSurrogate_0 := by decide +kernel
theorem dJ35_highSurrogate_0 : decode cJ35_highSurrogate 0 = .ok (.iload_n 0, 1) := dk_26 (dk_at dksJ35_highSurrogate_0 0 rfl rfl)
theorem dJ35_highSurrogate_1 : decode cJ35_highSurrogate 1 = .ok (.bipush 10, 2) := dk_16 10 (dk_at dksJ35_highSurrogate_0 1 rfl rfl)
theorem dJ35_highSurrogate_3 : decode cJ35_highSurrogate 3 = .ok (.iushr, 1) := dk_124 (dk_at dksJ35_highSurrogate_0 3 rfl rfl)
theorem dJ35_highSurrogate_4 : decode cJ35_highSurrogate 4 = .ok (.ldc 110, 2) := dk_18 110 (dk_at dksJ35_highSurrogate_0 4 rfl rfl)
theorem dJ35_highSurrogate_6 : decode cJ35_highSurrogate 6 = .ok (.iadd, 1) := dk_96 (dk_at dksJ35_highSurrogate_0 6 rfl rfl)
theorem dJ35_highSurrogate_7 : decode cJ35_highSurrogate 7 = .ok (.i2c, 1) := dk_146 (dk_at dksJ35_highSurrogate_0 7 rfl rfl)
theorem dJ35_highSurrogate_8 : decode cJ35_highSurrogate 8 = .ok (.ireturn, 1) := dk_172 (dk_at dksJ35_highSurrogate_0 8 rfl rfl)
abbrev cJ35_lowSurrogate : ByteArray := prog_19_method_29_code
def yJ35_lowSurrogate : MethodName := ⟨RJ35, "lowSurrogate", "(I)C"⟩
def dkwJ35_lowSurrogate_0 : List UInt8 := [26, 17, 3, 255, 126, 18, 76, 96, 146, 172]
abbrev dktJ35_lowSurrogate_0 : List UInt8 := dkwJ35_lowSurrogate_0 ++ []
theorem dksJ35_lowSurrogate_0 : cJ35_lowSurrogate.data.toList.drop 0 = dktJ35_lowSurrogate_0 := by decide +kernel
theorem dJ35_lowSurrogate_0 : decode cJ35_lowSurrogate 0 = .ok (.iload_n 0, 1) := dk_26 (dk_at dksJ35_lowSurrogate_0 0 rfl rfl)
theorem dJ35_lowSurrogate_1 : decode cJ35_lowSurrogate 1 = .ok (.sipush 1023, 3) := dk_17 3 255 (dk_at dksJ35_lowSurrogate_0 1 rfl rfl)
theorem dJ35_lowSurrogate_4 : decode cJ35_lowSurrogate 4 = .ok (.iand, 1) := dk_126 (dk_at dksJ35_lowSurrogate_0 4 rfl rfl)
theorem dJ35_lowSurrogate_5 : decode cJ35_lowSurrogate 5 = .ok (.ldc 76, 2) := dk_18 76 (dk_at dksJ35_lowSurrogate_0 5 rfl rfl)
theorem dJ35_lowSurrogate_7 : decode cJ35_lowSurrogate 7 = .ok (.iadd, 1) := dk_96 (dk_at dksJ35_lowSurrogate_0 7 rfl rfl)
theorem dJ35_lowSurrogate_8 : decode cJ35_lowSurrogate 8 = .ok (.i2c, 1) := dk_146 (dk_at dksJ35_lowSurrogate_0 8 rfl rfl)
theorem dJ35_lowSurrogate_9 : decode cJ35_lowSurrogate 9 = .ok (.ireturn, 1) := dk_172 (dk_at dksJ35_lowSurrogate_0 9 rfl rfl)
theorem q126 : (Jvm.Cond.initialized "java/lang/Character") ∈ lw_all := lw_g (lw_at lw_m1 48 rfl) rfl
theorem q1623 : (Jvm.Cond.static ({ cls := "java/lang/Character", name := "isValidCodePoint", desc := "(I)Z" } : Jvm.MethodName)) ∈ lw_all := lw_g (lw_at lw_m7 105 rfl) rfl
theorem q1624 : (Jvm.Cond.code ({ cls := "java/lang/Character", name := "isValidCodePoint", desc := "(I)Z" } : Jvm.MethodName) prog_19_method_11_code (2 : Nat) (Option.some Jvm.ClassFile.FieldType.boolean)) ∈ lw_all := lw_g (lw_at lw_m7 106 rfl) rfl
theorem q1626 : (Jvm.Cond.static ({ cls := "java/lang/Character", name := "highSurrogate", desc := "(I)C" } : Jvm.MethodName)) ∈ lw_all := lw_g (lw_at lw_m7 108 rfl) rfl
theorem q1627 : (Jvm.Cond.code ({ cls := "java/lang/Character", name := "highSurrogate", desc := "(I)C" } : Jvm.MethodName) prog_19_method_28_code (1 : Nat) (Option.some Jvm.ClassFile.FieldType.char)) ∈ lw_all := lw_g (lw_at lw_m7 109 rfl) rfl
theorem q1628 : (Jvm.Cond.constant "java/lang/Character" (110 : Nat) (55232 : Int32)) ∈ lw_all := lw_g (lw_at lw_m7 110 rfl) rfl
theorem q1630 : (Jvm.Cond.static ({ cls := "java/lang/Character", name := "lowSurrogate", desc := "(I)C" } : Jvm.MethodName)) ∈ lw_all := lw_g (lw_at lw_m7 112 rfl) rfl
theorem q1631 : (Jvm.Cond.code ({ cls := "java/lang/Character", name := "lowSurrogate", desc := "(I)C" } : Jvm.MethodName) prog_19_method_29_code (1 : Nat) (Option.some Jvm.ClassFile.FieldType.char)) ∈ lw_all := lw_g (lw_at lw_m7 113 rfl) rfl
theorem q1632 : (Jvm.Cond.constant "java/lang/Character" (76 : Nat) (56320 : Int32)) ∈ lw_all := lw_g (lw_at lw_m7 114 rfl) rfl

/-! java/lang/Object -/
set_option maxRecDepth 100000
def RJ36 : String := "java/lang/Object"
abbrev cJ36_init : ByteArray := object_method_1_code
def yJ36_init : MethodName := ⟨RJ36, "<init>", "()V"⟩
theorem dJ36_init_0 : decode cJ36_init 0 = .ok (.return_, 1) := by decide +kernel
theorem q133 : (Jvm.Cond.instanceMethod ({ cls := "java/lang/Object", name := "<init>", desc := "()V" } : Jvm.MethodName)) ∈ lw_all := lw_g (lw_at lw_m1 55 rfl) rfl
theorem q134 : (Jvm.Cond.code ({ cls := "java/lang/Object", name := "<init>", desc := "()V" } : Jvm.MethodName) object_method_1_code (1 : Nat) (Option.none : Option Jvm.ClassFile.FieldType)) ∈ lw_all := lw_g (lw_at lw_m1 56 rfl) rfl
theorem q316 : (Jvm.Cond.native ({ cls := "java/lang/Object", name := "clone", desc := "()Ljava/lang/Object;" } : Jvm.MethodName)) ∈ lw_all := lw_g (lw_at lw_m1 238 rfl) rfl
theorem q317 : (Jvm.Cond.instanceMethod ({ cls := "java/lang/Object", name := "clone", desc := "()Ljava/lang/Object;" } : Jvm.MethodName)) ∈ lw_all := lw_g (lw_at lw_m1 239 rfl) rfl
theorem q399 : (Jvm.Cond.instanceMethod ({ cls := "java/lang/Object", name := "getClass", desc := "()Ljava/lang/Class;" } : Jvm.MethodName)) ∈ lw_all := lw_g (lw_at lw_m2 81 rfl) rfl
theorem q400 : (Jvm.Cond.sameMethod "java/lang/Object" "java/lang/Object" "getClass" "()Ljava/lang/Class;") ∈ lw_all := lw_g (lw_at lw_m2 82 rfl) rfl
theorem q426 : (Jvm.Cond.native ({ cls := "java/lang/Object", name := "getClass", desc := "()Ljava/lang/Class;" } : Jvm.MethodName)) ∈ lw_all := lw_g (lw_at lw_m2 108 rfl) rfl
theorem q2662 : (Jvm.Cond.initialized "java/lang/Object") ∈ lw_all := lw_g (lw_at lw_m11 184 rfl) rfl
theorem q2695 : (Jvm.Cond.declares ({ cls := "java/lang/Object", name := "getClass", desc := "()Ljava/lang/Class;" } : Jvm.MethodName)) ∈ lw_tbl := lw_at lw_m11 217 rfl
theorem q2703 : (Jvm.Cond.instantiable "java/lang/Object" (0 : Nat)) ∈ lw_all := lw_g (lw_at lw_m11 225 rfl) rfl

theorem q1090 : (Jvm.Cond.interfaceMethod "ContourLabels$Ends" "ContourLabels$Ends" "last" "(LContourLabels$Line;)I") ∈ lw_tbl := lw_at lw_m5 52 rfl
set_option maxRecDepth 100000
theorem q1091 : (Jvm.Cond.declares ({ cls := "ContourLabels$Ends", name := "last", desc := "(LContourLabels$Line;)I" } : Jvm.MethodName)) ∈ lw_tbl := lw_at lw_m5 53 rfl
theorem q1116 : (Jvm.Cond.interfaceMethod "ContourLabels$Ends" "ContourLabels$Ends" "bend" "(LContourLabels$Line;)I") ∈ lw_tbl := lw_at lw_m5 78 rfl
theorem q1117 : (Jvm.Cond.declares ({ cls := "ContourLabels$Ends", name := "bend", desc := "(LContourLabels$Line;)I" } : Jvm.MethodName)) ∈ lw_tbl := lw_at lw_m5 79 rfl
theorem q2201 : (Jvm.Cond.interfaceMethod "ContourLabels$Order" "ContourLabels$Order" "carryOut" "(LContourLabels$State;)Z") ∈ lw_tbl := lw_at lw_m9 203 rfl
set_option maxRecDepth 100000
theorem q2202 : (Jvm.Cond.declares ({ cls := "ContourLabels$Order", name := "carryOut", desc := "(LContourLabels$State;)Z" } : Jvm.MethodName)) ∈ lw_tbl := lw_at lw_m9 204 rfl
theorem q2666 : (Jvm.Cond.castable "ContourLabels$Order" "java/lang/Object") ∈ lw_tbl := lw_at lw_m11 188 rfl
theorem q1177 : (Jvm.Cond.interfaceMethod "ContourLabels$Reason" "ContourLabels$Reason" "holds" "()Z") ∈ lw_tbl := lw_at lw_m5 139 rfl
set_option maxRecDepth 100000
theorem q1178 : (Jvm.Cond.declares ({ cls := "ContourLabels$Reason", name := "holds", desc := "()Z" } : Jvm.MethodName)) ∈ lw_tbl := lw_at lw_m5 140 rfl
theorem q2665 : (Jvm.Cond.castable "ContourLabels$Reason" "java/lang/Object") ∈ lw_tbl := lw_at lw_m11 187 rfl
theorem q1339 : (Jvm.Cond.sameMethod "[B" "java/lang/Object" "clone" "()Ljava/lang/Object;") ∈ lw_all := lw_g (lw_at lw_m6 61 rfl) rfl
set_option maxRecDepth 100000
theorem q1340 : (Jvm.Cond.selects "[B" ({ cls := "[B", name := "clone", desc := "()Ljava/lang/Object;" } : Jvm.MethodName) ({ cls := "java/lang/Object", name := "clone", desc := "()Ljava/lang/Object;" } : Jvm.MethodName)) ∈ lw_all := lw_g (lw_at lw_m6 62 rfl) rfl
theorem q1341 : (Jvm.Cond.castable "[B" "java/lang/Cloneable") ∈ lw_tbl := lw_at lw_m6 63 rfl
theorem q2697 : (Jvm.Cond.castable "[B" "java/lang/Object") ∈ lw_tbl := lw_at lw_m11 219 rfl
theorem q2702 : (Jvm.Cond.castable "[D" "java/lang/Object") ∈ lw_tbl := lw_at lw_m11 224 rfl
set_option maxRecDepth 100000
theorem q315 : (Jvm.Cond.sameMethod "[I" "java/lang/Object" "clone" "()Ljava/lang/Object;") ∈ lw_all := lw_g (lw_at lw_m1 237 rfl) rfl
set_option maxRecDepth 100000
theorem q318 : (Jvm.Cond.selects "[I" ({ cls := "[I", name := "clone", desc := "()Ljava/lang/Object;" } : Jvm.MethodName) ({ cls := "java/lang/Object", name := "clone", desc := "()Ljava/lang/Object;" } : Jvm.MethodName)) ∈ lw_all := lw_g (lw_at lw_m2 0 rfl) rfl
theorem q319 : (Jvm.Cond.castable "[I" "java/lang/Cloneable") ∈ lw_tbl := lw_at lw_m2 1 rfl
theorem q2698 : (Jvm.Cond.castable "[I" "java/lang/Object") ∈ lw_tbl := lw_at lw_m11 220 rfl
theorem q2701 : (Jvm.Cond.castable "[J" "java/lang/Object") ∈ lw_tbl := lw_at lw_m11 223 rfl
set_option maxRecDepth 100000
theorem q2700 : (Jvm.Cond.castable "[LContourLabels$Order;" "java/lang/Object") ∈ lw_tbl := lw_at lw_m11 222 rfl
set_option maxRecDepth 100000
theorem q2699 : (Jvm.Cond.castable "[LContourLabels$Reason;" "java/lang/Object") ∈ lw_tbl := lw_at lw_m11 221 rfl
set_option maxRecDepth 100000
theorem q2693 : (Jvm.Cond.sameMethod "[Ljava/lang/Object;" "java/lang/Object" "getClass" "()Ljava/lang/Class;") ∈ lw_all := lw_g (lw_at lw_m11 215 rfl) rfl
set_option maxRecDepth 100000
theorem q2694 : (Jvm.Cond.selects "[Ljava/lang/Object;" ({ cls := "java/lang/Object", name := "getClass", desc := "()Ljava/lang/Class;" } : Jvm.MethodName) ({ cls := "java/lang/Object", name := "getClass", desc := "()Ljava/lang/Class;" } : Jvm.MethodName)) ∈ lw_all := lw_g (lw_at lw_m11 216 rfl) rfl
theorem q2696 : (Jvm.Cond.castable "[Ljava/lang/Object;" "java/lang/Object") ∈ lw_tbl := lw_at lw_m11 218 rfl
theorem q606 : (Jvm.Cond.interfaceMethod "java/lang/Comparable" "java/lang/Comparable" "compareTo" "(Ljava/lang/Object;)I") ∈ lw_tbl := lw_at lw_m3 48 rfl
set_option maxRecDepth 100000
theorem q607 : (Jvm.Cond.declares ({ cls := "java/lang/Comparable", name := "compareTo", desc := "(Ljava/lang/Object;)I" } : Jvm.MethodName)) ∈ lw_tbl := lw_at lw_m3 49 rfl
theorem q118 : (Jvm.Cond.initialized "java/lang/Integer$IntegerCache") ∈ lw_all := lw_g (lw_at lw_m1 40 rfl) rfl
set_option maxRecDepth 100000
theorem q571 : (Jvm.Cond.laysStatic "java/lang/Integer$IntegerCache" "high" "I") ∈ lw_tbl := lw_at lw_m3 13 rfl
theorem q573 : (Jvm.Cond.laysStatic "java/lang/Integer$IntegerCache" "cache" "[Ljava/lang/Integer;") ∈ lw_tbl := lw_at lw_m3 15 rfl
theorem q104 : (Jvm.Cond.initialized "java/lang/System") ∈ lw_all := lw_g (lw_at lw_m1 26 rfl) rfl
set_option maxRecDepth 100000
theorem q436 : (Jvm.Cond.static ({ cls := "java/lang/System", name := "arraycopy", desc := "(Ljava/lang/Object;ILjava/lang/Object;II)V" } : Jvm.MethodName)) ∈ lw_all := lw_g (lw_at lw_m2 118 rfl) rfl
theorem q437 : (Jvm.Cond.native ({ cls := "java/lang/System", name := "arraycopy", desc := "(Ljava/lang/Object;ILjava/lang/Object;II)V" } : Jvm.MethodName)) ∈ lw_all := lw_g (lw_at lw_m2 119 rfl) rfl
theorem q829 : (Jvm.Cond.interfaceMethod "java/util/Comparator" "java/util/Comparator" "compare" "(Ljava/lang/Object;Ljava/lang/Object;)I") ∈ lw_tbl := lw_at lw_m4 31 rfl
set_option maxRecDepth 100000
theorem q830 : (Jvm.Cond.declares ({ cls := "java/util/Comparator", name := "compare", desc := "(Ljava/lang/Object;Ljava/lang/Object;)I" } : Jvm.MethodName)) ∈ lw_tbl := lw_at lw_m4 32 rfl
theorem q974 : (Jvm.Cond.interfaceMethod "java/util/Iterator" "java/util/Iterator" "hasNext" "()Z") ∈ lw_tbl := lw_at lw_m4 176 rfl
set_option maxRecDepth 100000
theorem q975 : (Jvm.Cond.declares ({ cls := "java/util/Iterator", name := "hasNext", desc := "()Z" } : Jvm.MethodName)) ∈ lw_tbl := lw_at lw_m4 177 rfl
theorem q984 : (Jvm.Cond.interfaceMethod "java/util/Iterator" "java/util/Iterator" "next" "()Ljava/lang/Object;") ∈ lw_tbl := lw_at lw_m4 186 rfl
theorem q985 : (Jvm.Cond.declares ({ cls := "java/util/Iterator", name := "next", desc := "()Ljava/lang/Object;" } : Jvm.MethodName)) ∈ lw_tbl := lw_at lw_m4 187 rfl
theorem q280 : (Jvm.Cond.interfaceMethod "java/util/List" "java/util/List" "size" "()I") ∈ lw_tbl := lw_at lw_m1 202 rfl
set_option maxRecDepth 100000
theorem q281 : (Jvm.Cond.declares ({ cls := "java/util/List", name := "size", desc := "()I" } : Jvm.MethodName)) ∈ lw_tbl := lw_at lw_m1 203 rfl
theorem q290 : (Jvm.Cond.interfaceMethod "java/util/List" "java/util/List" "get" "(I)Ljava/lang/Object;") ∈ lw_tbl := lw_at lw_m1 212 rfl
theorem q291 : (Jvm.Cond.declares ({ cls := "java/util/List", name := "get", desc := "(I)Ljava/lang/Object;" } : Jvm.MethodName)) ∈ lw_tbl := lw_at lw_m1 213 rfl
theorem q366 : (Jvm.Cond.interfaceMethod "java/util/List" "java/util/List" "add" "(Ljava/lang/Object;)Z") ∈ lw_tbl := lw_at lw_m2 48 rfl
theorem q367 : (Jvm.Cond.declares ({ cls := "java/util/List", name := "add", desc := "(Ljava/lang/Object;)Z" } : Jvm.MethodName)) ∈ lw_tbl := lw_at lw_m2 49 rfl
theorem q1752 : (Jvm.Cond.interfaceMethod "java/util/List" "java/util/List" "remove" "(I)Ljava/lang/Object;") ∈ lw_tbl := lw_at lw_m7 234 rfl
theorem q1753 : (Jvm.Cond.declares ({ cls := "java/util/List", name := "remove", desc := "(I)Ljava/lang/Object;" } : Jvm.MethodName)) ∈ lw_tbl := lw_at lw_m7 235 rfl
theorem q1246 : (Jvm.Cond.publicMethod ({ cls := "java/util/Map", name := "size", desc := "()I" } : Jvm.MethodName)) ∈ lw_tbl := lw_at lw_m5 208 rfl
set_option maxRecDepth 100000
theorem q1247 : (Jvm.Cond.declares ({ cls := "java/util/Map", name := "size", desc := "()I" } : Jvm.MethodName)) ∈ lw_tbl := lw_at lw_m5 209 rfl
theorem q929 : (Jvm.Cond.interfaceMethod "java/util/Set" "java/util/Set" "iterator" "()Ljava/util/Iterator;") ∈ lw_tbl := lw_at lw_m4 131 rfl
set_option maxRecDepth 100000
theorem q930 : (Jvm.Cond.declares ({ cls := "java/util/Set", name := "iterator", desc := "()Ljava/util/Iterator;" } : Jvm.MethodName)) ∈ lw_tbl := lw_at lw_m4 132 rfl
theorem q970 : (Jvm.Cond.declares ({ cls := "java/util/TreeMap$NavigableSubMap", name := "keyIterator", desc := "()Ljava/util/Iterator;" } : Jvm.MethodName)) ∈ lw_tbl := lw_at lw_m4 172 rfl
set_option maxRecDepth 100000
theorem q971 : (Jvm.Cond.selects "java/util/TreeMap$NavigableSubMap" ({ cls := "java/util/TreeMap$NavigableSubMap", name := "keyIterator", desc := "()Ljava/util/Iterator;" } : Jvm.MethodName) ({ cls := "java/util/TreeMap$NavigableSubMap", name := "keyIterator", desc := "()Ljava/util/Iterator;" } : Jvm.MethodName)) ∈ lw_all := lw_g (lw_at lw_m4 173 rfl) rfl
theorem q114 : (Jvm.Cond.initialized "jdk/internal/misc/UnsafeConstants") ∈ lw_all := lw_g (lw_at lw_m1 36 rfl) rfl
set_option maxRecDepth 100000
theorem q684 : (Jvm.Cond.laysStatic "jdk/internal/misc/UnsafeConstants" "BIG_ENDIAN" "Z") ∈ lw_tbl := lw_at lw_m3 126 rfl
theorem q185 : (Jvm.Cond.arrayOver (Jvm.ClassFile.FieldType.object "java/lang/Object")) ∈ lw_tbl := lw_at lw_m1 107 rfl
set_option maxRecDepth 100000
theorem q228 : (Jvm.Cond.arrayClass Jvm.ClassFile.FieldType.byte) ∈ lw_all := lw_g (lw_at lw_m1 150 rfl) rfl
theorem q332 : (Jvm.Cond.arrayClass Jvm.ClassFile.FieldType.int) ∈ lw_all := lw_g (lw_at lw_m2 14 rfl) rfl
theorem q1073 : (Jvm.Cond.arrayOver (Jvm.ClassFile.FieldType.object "ContourLabels$Reason")) ∈ lw_tbl := lw_at lw_m5 35 rfl
theorem q1540 : (Jvm.Cond.arrayOver (Jvm.ClassFile.FieldType.object "ContourLabels$Order")) ∈ lw_tbl := lw_at lw_m7 22 rfl
theorem q2645 : (Jvm.Cond.arrayClass Jvm.ClassFile.FieldType.long) ∈ lw_all := lw_g (lw_at lw_m11 167 rfl) rfl
theorem q2646 : (Jvm.Cond.arrayClass Jvm.ClassFile.FieldType.double) ∈ lw_all := lw_g (lw_at lw_m11 168 rfl) rfl

/-! ContourLabels$Line -/
set_option maxRecDepth 100000
def RX4 : String := "ContourLabels$Line"
def TX4 : u_T := fun k => match k with
  | 0 => ("ContourLabels$Line", "level", "I", false)
  | 1 => ("ContourLabels$Line", "points", "[I", true)
  | 2 => ("ContourLabels$Line", "steps", "[I", true)
  | 3 => ("ContourLabels$Line", "many", "I", false)
  | 4 => ("ContourLabels$Line", "ends", "LContourLabels$Ends;", false)
  | _ => ("ContourLabels$Line", "label", "I", false)
def tyX4 : Nat → FieldType := fun k => match k with
  | 0 => .int
  | 1 => .array .int
  | 2 => .array .int
  | 3 => .int
  | 4 => .object "ContourLabels$Ends"
  | _ => .int
abbrev wsX40 : List Cond := u_ws RX4 TX4 6
theorem nmX4 : ∀ a, a < 6 → ∀ b, b < 6 → a ≠ b → (TX4 a).2.1 ≠ (TX4 b).2.1 := by decide +kernel
theorem tyX4_ok : ∀ k, k < 6 → parseFieldDescriptor (TX4 k).2.2.1 = some (tyX4 k) := by decide +kernel
abbrev cX4_copy : ByteArray := prog_6_method_3_code
def yX4_copy : MethodName := ⟨RX4, "copy", "()LContourLabels$Line;"⟩
def dkwX4_copy_2 : List UInt8 := [181, 0, 21, 43, 42, 180, 0, 25, 181, 0, 25, 43, 176]
abbrev dktX4_copy_2 : List UInt8 := dkwX4_copy_2 ++ []
def dkwX4_copy_1 : List UInt8 := [182, 0, 35, 192, 0, 36, 183, 0, 3, 76, 43, 42, 180, 0, 40, 181, 0, 40, 43, 42, 180, 0, 21]
abbrev dktX4_copy_1 : List UInt8 := dkwX4_copy_1 ++ dktX4_copy_2
def dkwX4_copy_0 : List UInt8 := [187, 0, 4, 89, 42, 180, 0, 29, 42, 180, 0, 9, 182, 0, 35, 192, 0, 36, 42, 180, 0, 32]
abbrev dktX4_copy_0 : List UInt8 := dkwX4_copy_0 ++ dktX4_copy_1
theorem dksX4_copy_0 : cX4_copy.data.toList.drop 0 = dktX4_copy_0 := by decide +kernel
theorem dksX4_copy_1 : cX4_copy.data.toList.drop 22 = dktX4_copy_1 := dk_seg dksX4_copy_0 22 rfl rfl
theorem dksX4_copy_2 : cX4_copy.data.toList.drop 45 = dktX4_copy_2 := dk_seg dksX4_copy_1 23 rfl rfl
theorem dX4_copy_0 : decode cX4_copy 0 = .ok (.new 4, 3) := dk_187 0 4 (dk_at dksX4_copy_0 0 rfl rfl)
theorem dX4_copy_3 : decode cX4_copy 3 = .ok (.dup, 1) := dk_89 (dk_at dksX4_copy_0 3 rfl rfl)
theorem dX4_copy_4 : decode cX4_copy 4 = .ok (.aload_n 0, 1) := dk_42 (dk_at dksX4_copy_0 4 rfl rfl)
theorem dX4_copy_5 : decode cX4_copy 5 = .ok (.getfield 29, 3) := dk_180 0 29 (dk_at dksX4_copy_0 5 rfl rfl)
theorem dX4_copy_8 : decode cX4_copy 8 = .ok (.aload_n 0, 1) := dk_42 (dk_at dksX4_copy_0 8 rfl rfl)
theorem dX4_copy_9 : decode cX4_copy 9 = .ok (.getfield 9, 3) := dk_180 0 9 (dk_at dksX4_copy_0 9 rfl rfl)
theorem dX4_copy_12 : decode cX4_copy 12 = .ok (.invokevirtual 35, 3) := dk_182 0 35 (dk_at dksX4_copy_0 12 rfl rfl)
theorem dX4_copy_15 : decode cX4_copy 15 = .ok (.checkcast 36, 3) := dk_192 0 36 (dk_at dksX4_copy_0 15 rfl rfl)
theorem dX4_copy_18 : decode cX4_copy 18 = .ok (.aload_n 0, 1) := dk_42 (dk_at dksX4_copy_0 18 rfl rfl)
theorem dX4_copy_19 : decode cX4_copy 19 = .ok (.getfield 32, 3) := dk_180 0 32 (dk_at dksX4_copy_0 19 rfl rfl)
theorem dX4_copy_22 : decode cX4_copy 22 = .ok (.invokevirtual 35, 3) := dk_182 0 35 (dk_at dksX4_copy_1 0 rfl rfl)
theorem dX4_copy_25 : decode cX4_copy 25 = .ok (.checkcast 36, 3) := dk_192 0 36 (dk_at dksX4_copy_1 3 rfl rfl)
theorem dX4_copy_28 : decode cX4_copy 28 = .ok (.invokespecial 3, 3) := dk_183 0 3 (dk_at dksX4_copy_1 6 rfl rfl)
theorem dX4_copy_31 : decode cX4_copy 31 = .ok (.astore_n 1, 1) := dk_76 (dk_at dksX4_copy_1 9 rfl rfl)
theorem dX4_copy_32 : decode cX4_copy 32 = .ok (.aload_n 1, 1) := dk_43 (dk_at dksX4_copy_1 10 rfl rfl)
theorem dX4_copy_33 : decode cX4_copy 33 = .ok (.aload_n 0, 1) := dk_42 (dk_at dksX4_copy_1 11 rfl rfl)
theorem dX4_copy_34 : decode cX4_copy 34 = .ok (.getfield 40, 3) := dk_180 0 40 (dk_at dksX4_copy_1 12 rfl rfl)
theorem dX4_copy_37 : decode cX4_copy 37 = .ok (.putfield 40, 3) := dk_181 0 40 (dk_at dksX4_copy_1 15 rfl rfl)
theorem dX4_copy_40 : decode cX4_copy 40 = .ok (.aload_n 1, 1) := dk_43 (dk_at dksX4_copy_1 18 rfl rfl)
theorem dX4_copy_41 : decode cX4_copy 41 = .ok (.aload_n 0, 1) := dk_42 (dk_at dksX4_copy_1 19 rfl rfl)
theorem dX4_copy_42 : decode cX4_copy 42 = .ok (.getfield 21, 3) := dk_180 0 21 (dk_at dksX4_copy_1 20 rfl rfl)
theorem dX4_copy_45 : decode cX4_copy 45 = .ok (.putfield 21, 3) := dk_181 0 21 (dk_at dksX4_copy_2 0 rfl rfl)
theorem dX4_copy_48 : decode cX4_copy 48 = .ok (.aload_n 1, 1) := dk_43 (dk_at dksX4_copy_2 3 rfl rfl)
theorem dX4_copy_49 : decode cX4_copy 49 = .ok (.aload_n 0, 1) := dk_42 (dk_at dksX4_copy_2 4 rfl rfl)
theorem dX4_copy_50 : decode cX4_copy 50 = .ok (.getfield 25, 3) := dk_180 0 25 (dk_at dksX4_copy_2 5 rfl rfl)
theorem dX4_copy_53 : decode cX4_copy 53 = .ok (.putfield 25, 3) := dk_181 0 25 (dk_at dksX4_copy_2 8 rfl rfl)
theorem dX4_copy_56 : decode cX4_copy 56 = .ok (.aload_n 1, 1) := dk_43 (dk_at dksX4_copy_2 11 rfl rfl)
theorem dX4_copy_57 : decode cX4_copy 57 = .ok (.areturn, 1) := dk_176 (dk_at dksX4_copy_2 12 rfl rfl)
abbrev cX4_init : ByteArray := prog_6_method_2_code
def yX4_init : MethodName := ⟨RX4, "<init>", "(I[I[I)V"⟩
def dkwX4_init_1 : List UInt8 := [181, 0, 29, 42, 44, 181, 0, 9, 42, 45, 181, 0, 32, 177]
abbrev dktX4_init_1 : List UInt8 := dkwX4_init_1 ++ []
def dkwX4_init_0 : List UInt8 := [42, 183, 0, 13, 42, 187, 0, 18, 89, 183, 0, 20, 181, 0, 21, 42, 2, 181, 0, 25, 42, 27]
abbrev dktX4_init_0 : List UInt8 := dkwX4_init_0 ++ dktX4_init_1
theorem dksX4_init_0 : cX4_init.data.toList.drop 0 = dktX4_init_0 := by decide +kernel
theorem dksX4_init_1 : cX4_init.data.toList.drop 22 = dktX4_init_1 := dk_seg dksX4_init_0 22 rfl rfl
theorem dX4_init_0 : decode cX4_init 0 = .ok (.aload_n 0, 1) := dk_42 (dk_at dksX4_init_0 0 rfl rfl)
theorem dX4_init_1 : decode cX4_init 1 = .ok (.invokespecial 13, 3) := dk_183 0 13 (dk_at dksX4_init_0 1 rfl rfl)
theorem dX4_init_4 : decode cX4_init 4 = .ok (.aload_n 0, 1) := dk_42 (dk_at dksX4_init_0 4 rfl rfl)
theorem dX4_init_5 : decode cX4_init 5 = .ok (.new 18, 3) := dk_187 0 18 (dk_at dksX4_init_0 5 rfl rfl)
theorem dX4_init_8 : decode cX4_init 8 = .ok (.dup, 1) := dk_89 (dk_at dksX4_init_0 8 rfl rfl)
theorem dX4_init_9 : decode cX4_init 9 = .ok (.invokespecial 20, 3) := dk_183 0 20 (dk_at dksX4_init_0 9 rfl rfl)
theorem dX4_init_12 : decode cX4_init 12 = .ok (.putfield 21, 3) := dk_181 0 21 (dk_at dksX4_init_0 12 rfl rfl)
theorem dX4_init_15 : decode cX4_init 15 = .ok (.aload_n 0, 1) := dk_42 (dk_at dksX4_init_0 15 rfl rfl)
theorem dX4_init_16 : decode cX4_init 16 = .ok (.iconst (-1), 1) := dk_2 (dk_at dksX4_init_0 16 rfl rfl)
theorem dX4_init_17 : decode cX4_init 17 = .ok (.putfield 25, 3) := dk_181 0 25 (dk_at dksX4_init_0 17 rfl rfl)
theorem dX4_init_20 : decode cX4_init 20 = .ok (.aload_n 0, 1) := dk_42 (dk_at dksX4_init_0 20 rfl rfl)
theorem dX4_init_21 : decode cX4_init 21 = .ok (.iload_n 1, 1) := dk_27 (dk_at dksX4_init_0 21 rfl rfl)
theorem dX4_init_22 : decode cX4_init 22 = .ok (.putfield 29, 3) := dk_181 0 29 (dk_at dksX4_init_1 0 rfl rfl)
theorem dX4_init_25 : decode cX4_init 25 = .ok (.aload_n 0, 1) := dk_42 (dk_at dksX4_init_1 3 rfl rfl)
theorem dX4_init_26 : decode cX4_init 26 = .ok (.aload_n 2, 1) := dk_44 (dk_at dksX4_init_1 4 rfl rfl)
theorem dX4_init_27 : decode cX4_init 27 = .ok (.putfield 9, 3) := dk_181 0 9 (dk_at dksX4_init_1 5 rfl rfl)
theorem dX4_init_30 : decode cX4_init 30 = .ok (.aload_n 0, 1) := dk_42 (dk_at dksX4_init_1 8 rfl rfl)
theorem dX4_init_31 : decode cX4_init 31 = .ok (.aload_n 3, 1) := dk_45 (dk_at dksX4_init_1 9 rfl rfl)
theorem dX4_init_32 : decode cX4_init 32 = .ok (.putfield 32, 3) := dk_181 0 32 (dk_at dksX4_init_1 10 rfl rfl)
theorem dX4_init_35 : decode cX4_init 35 = .ok (.return_, 1) := dk_177 (dk_at dksX4_init_1 13 rfl rfl)
abbrev cX4_hasPlace : ByteArray := prog_6_method_16_code
def yX4_hasPlace : MethodName := ⟨RX4, "hasPlace", "(I)Z"⟩
def dkwX4_hasPlace_0 : List UInt8 := [42, 27, 182, 0, 75, 42, 180, 0, 21, 42, 185, 0, 79, 2, 0, 163, 0, 7, 4, 167, 0, 4, 3, 172]
abbrev dktX4_hasPlace_0 : List UInt8 := dkwX4_hasPlace_0 ++ []
theorem dksX4_hasPlace_0 : cX4_hasPlace.data.toList.drop 0 = dktX4_hasPlace_0 := by decide +kernel
theorem dX4_hasPlace_0 : decode cX4_hasPlace 0 = .ok (.aload_n 0, 1) := dk_42 (dk_at dksX4_hasPlace_0 0 rfl rfl)
theorem dX4_hasPlace_1 : decode cX4_hasPlace 1 = .ok (.iload_n 1, 1) := dk_27 (dk_at dksX4_hasPlace_0 1 rfl rfl)
theorem dX4_hasPlace_2 : decode cX4_hasPlace 2 = .ok (.invokevirtual 75, 3) := dk_182 0 75 (dk_at dksX4_hasPlace_0 2 rfl rfl)
theorem dX4_hasPlace_5 : decode cX4_hasPlace 5 = .ok (.aload_n 0, 1) := dk_42 (dk_at dksX4_hasPlace_0 5 rfl rfl)
theorem dX4_hasPlace_6 : decode cX4_hasPlace 6 = .ok (.getfield 21, 3) := dk_180 0 21 (dk_at dksX4_hasPlace_0 6 rfl rfl)
theorem dX4_hasPlace_9 : decode cX4_hasPlace 9 = .ok (.aload_n 0, 1) := dk_42 (dk_at dksX4_hasPlace_0 9 rfl rfl)
theorem dX4_hasPlace_10 : decode cX4_hasPlace 10 = .ok (.invokeinterface 79 2, 5) := by decide +kernel
theorem dX4_hasPlace_15 : decode cX4_hasPlace 15 = .ok (.if_icmp .gt 7, 3) := dk_163 0 7 (dk_at dksX4_hasPlace_0 15 rfl rfl)
theorem dX4_hasPlace_18 : decode cX4_hasPlace 18 = .ok (.iconst 1, 1) := dk_4 (dk_at dksX4_hasPlace_0 18 rfl rfl)
theorem dX4_hasPlace_19 : decode cX4_hasPlace 19 = .ok (.goto 4, 3) := dk_167 0 4 (dk_at dksX4_hasPlace_0 19 rfl rfl)
theorem dX4_hasPlace_22 : decode cX4_hasPlace 22 = .ok (.iconst 0, 1) := dk_3 (dk_at dksX4_hasPlace_0 22 rfl rfl)
theorem dX4_hasPlace_23 : decode cX4_hasPlace 23 = .ok (.ireturn, 1) := dk_172 (dk_at dksX4_hasPlace_0 23 rfl rfl)
abbrev cX4_lastOf : ByteArray := prog_6_method_15_code
def yX4_lastOf : MethodName := ⟨RX4, "lastOf", "(I)I"⟩
def dkwX4_lastOf_0 : List UInt8 := [27, 42, 182, 0, 72, 96, 4, 100, 172]
abbrev dktX4_lastOf_0 : List UInt8 := dkwX4_lastOf_0 ++ []
theorem dksX4_lastOf_0 : cX4_lastOf.data.toList.drop 0 = dktX4_lastOf_0 := by decide +kernel
theorem dX4_lastOf_0 : decode cX4_lastOf 0 = .ok (.iload_n 1, 1) := dk_27 (dk_at dksX4_lastOf_0 0 rfl rfl)
theorem dX4_lastOf_1 : decode cX4_lastOf 1 = .ok (.aload_n 0, 1) := dk_42 (dk_at dksX4_lastOf_0 1 rfl rfl)
theorem dX4_lastOf_2 : decode cX4_lastOf 2 = .ok (.invokevirtual 72, 3) := dk_182 0 72 (dk_at dksX4_lastOf_0 2 rfl rfl)
theorem dX4_lastOf_5 : decode cX4_lastOf 5 = .ok (.iadd, 1) := dk_96 (dk_at dksX4_lastOf_0 5 rfl rfl)
theorem dX4_lastOf_6 : decode cX4_lastOf 6 = .ok (.iconst 1, 1) := dk_4 (dk_at dksX4_lastOf_0 6 rfl rfl)
theorem dX4_lastOf_7 : decode cX4_lastOf 7 = .ok (.isub, 1) := dk_100 (dk_at dksX4_lastOf_0 7 rfl rfl)
theorem dX4_lastOf_8 : decode cX4_lastOf 8 = .ok (.ireturn, 1) := dk_172 (dk_at dksX4_lastOf_0 8 rfl rfl)
abbrev cX4_labelSize : ByteArray := prog_6_method_14_code
def yX4_labelSize : MethodName := ⟨RX4, "labelSize", "()I"⟩
def dkwX4_labelSize_0 : List UInt8 := [42, 180, 0, 29, 16, 10, 162, 0, 7, 5, 167, 0, 4, 6, 172]
abbrev dktX4_labelSize_0 : List UInt8 := dkwX4_labelSize_0 ++ []
theorem dksX4_labelSize_0 : cX4_labelSize.data.toList.drop 0 = dktX4_labelSize_0 := by decide +kernel
theorem dX4_labelSize_0 : decode cX4_labelSize 0 = .ok (.aload_n 0, 1) := dk_42 (dk_at dksX4_labelSize_0 0 rfl rfl)
theorem dX4_labelSize_1 : decode cX4_labelSize 1 = .ok (.getfield 29, 3) := dk_180 0 29 (dk_at dksX4_labelSize_0 1 rfl rfl)
theorem dX4_labelSize_4 : decode cX4_labelSize 4 = .ok (.bipush 10, 2) := dk_16 10 (dk_at dksX4_labelSize_0 4 rfl rfl)
theorem dX4_labelSize_6 : decode cX4_labelSize 6 = .ok (.if_icmp .ge 7, 3) := dk_162 0 7 (dk_at dksX4_labelSize_0 6 rfl rfl)
theorem dX4_labelSize_9 : decode cX4_labelSize 9 = .ok (.iconst 2, 1) := dk_5 (dk_at dksX4_labelSize_0 9 rfl rfl)
theorem dX4_labelSize_10 : decode cX4_labelSize 10 = .ok (.goto 4, 3) := dk_167 0 4 (dk_at dksX4_labelSize_0 10 rfl rfl)
theorem dX4_labelSize_13 : decode cX4_labelSize 13 = .ok (.iconst 3, 1) := dk_6 (dk_at dksX4_labelSize_0 13 rfl rfl)
theorem dX4_labelSize_14 : decode cX4_labelSize 14 = .ok (.ireturn, 1) := dk_172 (dk_at dksX4_labelSize_0 14 rfl rfl)
abbrev cX4_bendOfPlace : ByteArray := prog_6_method_17_code
def yX4_bendOfPlace : MethodName := ⟨RX4, "bendOfPlace", "(I)I"⟩
def dkwX4_bendOfPlace_2 : List UInt8 := [172]
abbrev dktX4_bendOfPlace_2 : List UInt8 := dkwX4_bendOfPlace_2 ++ []
def dkwX4_bendOfPlace_1 : List UInt8 := [180, 0, 40, 163, 0, 11, 42, 29, 182, 0, 82, 167, 0, 4, 3, 96, 61, 132, 3, 1, 167, 255, 218, 28]
abbrev dktX4_bendOfPlace_1 : List UInt8 := dkwX4_bendOfPlace_1 ++ dktX4_bendOfPlace_2
def dkwX4_bendOfPlace_0 : List UInt8 := [3, 61, 27, 4, 100, 62, 29, 42, 27, 182, 0, 75, 4, 96, 163, 0, 33, 28, 29, 155, 0, 19, 29, 42]
abbrev dktX4_bendOfPlace_0 : List UInt8 := dkwX4_bendOfPlace_0 ++ dktX4_bendOfPlace_1
theorem dksX4_bendOfPlace_0 : cX4_bendOfPlace.data.toList.drop 0 = dktX4_bendOfPlace_0 := by decide +kernel
theorem dksX4_bendOfPlace_1 : cX4_bendOfPlace.data.toList.drop 24 = dktX4_bendOfPlace_1 := dk_seg dksX4_bendOfPlace_0 24 rfl rfl
theorem dksX4_bendOfPlace_2 : cX4_bendOfPlace.data.toList.drop 48 = dktX4_bendOfPlace_2 := dk_seg dksX4_bendOfPlace_1 24 rfl rfl
theorem dX4_bendOfPlace_0 : decode cX4_bendOfPlace 0 = .ok (.iconst 0, 1) := dk_3 (dk_at dksX4_bendOfPlace_0 0 rfl rfl)
theorem dX4_bendOfPlace_1 : decode cX4_bendOfPlace 1 = .ok (.istore_n 2, 1) := dk_61 (dk_at dksX4_bendOfPlace_0 1 rfl rfl)
theorem dX4_bendOfPlace_2 : decode cX4_bendOfPlace 2 = .ok (.iload_n 1, 1) := dk_27 (dk_at dksX4_bendOfPlace_0 2 rfl rfl)
theorem dX4_bendOfPlace_3 : decode cX4_bendOfPlace 3 = .ok (.iconst 1, 1) := dk_4 (dk_at dksX4_bendOfPlace_0 3 rfl rfl)
theorem dX4_bendOfPlace_4 : decode cX4_bendOfPlace 4 = .ok (.isub, 1) := dk_100 (dk_at dksX4_bendOfPlace_0 4 rfl rfl)
theorem dX4_bendOfPlace_5 : decode cX4_bendOfPlace 5 = .ok (.istore_n 3, 1) := dk_62 (dk_at dksX4_bendOfPlace_0 5 rfl rfl)
theorem dX4_bendOfPlace_6 : decode cX4_bendOfPlace 6 = .ok (.iload_n 3, 1) := dk_29 (dk_at dksX4_bendOfPlace_0 6 rfl rfl)
theorem dX4_bendOfPlace_7 : decode cX4_bendOfPlace 7 = .ok (.aload_n 0, 1) := dk_42 (dk_at dksX4_bendOfPlace_0 7 rfl rfl)
theorem dX4_bendOfPlace_8 : decode cX4_bendOfPlace 8 = .ok (.iload_n 1, 1) := dk_27 (dk_at dksX4_bendOfPlace_0 8 rfl rfl)
theorem dX4_bendOfPlace_9 : decode cX4_bendOfPlace 9 = .ok (.invokevirtual 75, 3) := dk_182 0 75 (dk_at dksX4_bendOfPlace_0 9 rfl rfl)
theorem dX4_bendOfPlace_12 : decode cX4_bendOfPlace 12 = .ok (.iconst 1, 1) := dk_4 (dk_at dksX4_bendOfPlace_0 12 rfl rfl)
theorem dX4_bendOfPlace_13 : decode cX4_bendOfPlace 13 = .ok (.iadd, 1) := dk_96 (dk_at dksX4_bendOfPlace_0 13 rfl rfl)
theorem dX4_bendOfPlace_14 : decode cX4_bendOfPlace 14 = .ok (.if_icmp .gt 33, 3) := dk_163 0 33 (dk_at dksX4_bendOfPlace_0 14 rfl rfl)
theorem dX4_bendOfPlace_17 : decode cX4_bendOfPlace 17 = .ok (.iload_n 2, 1) := dk_28 (dk_at dksX4_bendOfPlace_0 17 rfl rfl)
theorem dX4_bendOfPlace_18 : decode cX4_bendOfPlace 18 = .ok (.iload_n 3, 1) := dk_29 (dk_at dksX4_bendOfPlace_0 18 rfl rfl)
theorem dX4_bendOfPlace_19 : decode cX4_bendOfPlace 19 = .ok (.ifCond .lt 19, 3) := dk_155 0 19 (dk_at dksX4_bendOfPlace_0 19 rfl rfl)
theorem dX4_bendOfPlace_22 : decode cX4_bendOfPlace 22 = .ok (.iload_n 3, 1) := dk_29 (dk_at dksX4_bendOfPlace_0 22 rfl rfl)
theorem dX4_bendOfPlace_23 : decode cX4_bendOfPlace 23 = .ok (.aload_n 0, 1) := dk_42 (dk_at dksX4_bendOfPlace_0 23 rfl rfl)
theorem dX4_bendOfPlace_24 : decode cX4_bendOfPlace 24 = .ok (.getfield 40, 3) := dk_180 0 40 (dk_at dksX4_bendOfPlace_1 0 rfl rfl)
theorem dX4_bendOfPlace_27 : decode cX4_bendOfPlace 27 = .ok (.if_icmp .gt 11, 3) := dk_163 0 11 (dk_at dksX4_bendOfPlace_1 3 rfl rfl)
theorem dX4_bendOfPlace_30 : decode cX4_bendOfPlace 30 = .ok (.aload_n 0, 1) := dk_42 (dk_at dksX4_bendOfPlace_1 6 rfl rfl)
theorem dX4_bendOfPlace_31 : decode cX4_bendOfPlace 31 = .ok (.iload_n 3, 1) := dk_29 (dk_at dksX4_bendOfPlace_1 7 rfl rfl)
theorem dX4_bendOfPlace_32 : decode cX4_bendOfPlace 32 = .ok (.invokevirtual 82, 3) := dk_182 0 82 (dk_at dksX4_bendOfPlace_1 8 rfl rfl)
theorem dX4_bendOfPlace_35 : decode cX4_bendOfPlace 35 = .ok (.goto 4, 3) := dk_167 0 4 (dk_at dksX4_bendOfPlace_1 11 rfl rfl)
theorem dX4_bendOfPlace_38 : decode cX4_bendOfPlace 38 = .ok (.iconst 0, 1) := dk_3 (dk_at dksX4_bendOfPlace_1 14 rfl rfl)
theorem dX4_bendOfPlace_39 : decode cX4_bendOfPlace 39 = .ok (.iadd, 1) := dk_96 (dk_at dksX4_bendOfPlace_1 15 rfl rfl)
theorem dX4_bendOfPlace_40 : decode cX4_bendOfPlace 40 = .ok (.istore_n 2, 1) := dk_61 (dk_at dksX4_bendOfPlace_1 16 rfl rfl)
theorem dX4_bendOfPlace_41 : decode cX4_bendOfPlace 41 = .ok (.iinc 3 1, 3) := dk_132 3 1 (dk_at dksX4_bendOfPlace_1 17 rfl rfl)
theorem dX4_bendOfPlace_44 : decode cX4_bendOfPlace 44 = .ok (.goto (-38), 3) := dk_167 255 218 (dk_at dksX4_bendOfPlace_1 20 rfl rfl)
theorem dX4_bendOfPlace_47 : decode cX4_bendOfPlace 47 = .ok (.iload_n 2, 1) := dk_28 (dk_at dksX4_bendOfPlace_1 23 rfl rfl)
theorem dX4_bendOfPlace_48 : decode cX4_bendOfPlace 48 = .ok (.ireturn, 1) := dk_172 (dk_at dksX4_bendOfPlace_2 0 rfl rfl)
abbrev cX4_bend : ByteArray := prog_6_method_11_code
def yX4_bend : MethodName := ⟨RX4, "bend", "(I)I"⟩
def dkwX4_bend_1 : List UInt8 := [167, 0, 20, 42, 180, 0, 32, 27, 4, 100, 46, 42, 180, 0, 32, 27, 46, 184, 0, 64, 172]
abbrev dktX4_bend_1 : List UInt8 := dkwX4_bend_1 ++ []
def dkwX4_bend_0 : List UInt8 := [27, 153, 0, 11, 27, 42, 180, 0, 40, 160, 0, 16, 42, 180, 0, 21, 42, 185, 0, 58, 2, 0]
abbrev dktX4_bend_0 : List UInt8 := dkwX4_bend_0 ++ dktX4_bend_1
theorem dksX4_bend_0 : cX4_bend.data.toList.drop 0 = dktX4_bend_0 := by decide +kernel
theorem dksX4_bend_1 : cX4_bend.data.toList.drop 22 = dktX4_bend_1 := dk_seg dksX4_bend_0 22 rfl rfl
theorem dX4_bend_0 : decode cX4_bend 0 = .ok (.iload_n 1, 1) := dk_27 (dk_at dksX4_bend_0 0 rfl rfl)
theorem dX4_bend_1 : decode cX4_bend 1 = .ok (.ifCond .eq 11, 3) := dk_153 0 11 (dk_at dksX4_bend_0 1 rfl rfl)
theorem dX4_bend_4 : decode cX4_bend 4 = .ok (.iload_n 1, 1) := dk_27 (dk_at dksX4_bend_0 4 rfl rfl)
theorem dX4_bend_5 : decode cX4_bend 5 = .ok (.aload_n 0, 1) := dk_42 (dk_at dksX4_bend_0 5 rfl rfl)
theorem dX4_bend_6 : decode cX4_bend 6 = .ok (.getfield 40, 3) := dk_180 0 40 (dk_at dksX4_bend_0 6 rfl rfl)
theorem dX4_bend_9 : decode cX4_bend 9 = .ok (.if_icmp .ne 16, 3) := dk_160 0 16 (dk_at dksX4_bend_0 9 rfl rfl)
theorem dX4_bend_12 : decode cX4_bend 12 = .ok (.aload_n 0, 1) := dk_42 (dk_at dksX4_bend_0 12 rfl rfl)
theorem dX4_bend_13 : decode cX4_bend 13 = .ok (.getfield 21, 3) := dk_180 0 21 (dk_at dksX4_bend_0 13 rfl rfl)
theorem dX4_bend_16 : decode cX4_bend 16 = .ok (.aload_n 0, 1) := dk_42 (dk_at dksX4_bend_0 16 rfl rfl)
theorem dX4_bend_17 : decode cX4_bend 17 = .ok (.invokeinterface 58 2, 5) := by decide +kernel
theorem dX4_bend_22 : decode cX4_bend 22 = .ok (.goto 20, 3) := dk_167 0 20 (dk_at dksX4_bend_1 0 rfl rfl)
theorem dX4_bend_25 : decode cX4_bend 25 = .ok (.aload_n 0, 1) := dk_42 (dk_at dksX4_bend_1 3 rfl rfl)
theorem dX4_bend_26 : decode cX4_bend 26 = .ok (.getfield 32, 3) := dk_180 0 32 (dk_at dksX4_bend_1 4 rfl rfl)
theorem dX4_bend_29 : decode cX4_bend 29 = .ok (.iload_n 1, 1) := dk_27 (dk_at dksX4_bend_1 7 rfl rfl)
theorem dX4_bend_30 : decode cX4_bend 30 = .ok (.iconst 1, 1) := dk_4 (dk_at dksX4_bend_1 8 rfl rfl)
theorem dX4_bend_31 : decode cX4_bend 31 = .ok (.isub, 1) := dk_100 (dk_at dksX4_bend_1 9 rfl rfl)
theorem dX4_bend_32 : decode cX4_bend 32 = .ok (.iaload, 1) := dk_46 (dk_at dksX4_bend_1 10 rfl rfl)
theorem dX4_bend_33 : decode cX4_bend 33 = .ok (.aload_n 0, 1) := dk_42 (dk_at dksX4_bend_1 11 rfl rfl)
theorem dX4_bend_34 : decode cX4_bend 34 = .ok (.getfield 32, 3) := dk_180 0 32 (dk_at dksX4_bend_1 12 rfl rfl)
theorem dX4_bend_37 : decode cX4_bend 37 = .ok (.iload_n 1, 1) := dk_27 (dk_at dksX4_bend_1 15 rfl rfl)
theorem dX4_bend_38 : decode cX4_bend 38 = .ok (.iaload, 1) := dk_46 (dk_at dksX4_bend_1 16 rfl rfl)
theorem dX4_bend_39 : decode cX4_bend 39 = .ok (.invokestatic 64, 3) := dk_184 0 64 (dk_at dksX4_bend_1 17 rfl rfl)
theorem dX4_bend_42 : decode cX4_bend 42 = .ok (.ireturn, 1) := dk_172 (dk_at dksX4_bend_1 20 rfl rfl)
abbrev cX4_turn : ByteArray := prog_6_method_10_code
def yX4_turn : MethodName := ⟨RX4, "turn", "(II)I"⟩
def dkwX4_turn_0 : List UInt8 := [27, 26, 100, 16, 8, 96, 16, 8, 112, 61, 28, 7, 164, 0, 10, 16, 8, 28, 100, 167, 0, 4, 28, 172]
abbrev dktX4_turn_0 : List UInt8 := dkwX4_turn_0 ++ []
theorem dksX4_turn_0 : cX4_turn.data.toList.drop 0 = dktX4_turn_0 := by decide +kernel
theorem dX4_turn_0 : decode cX4_turn 0 = .ok (.iload_n 1, 1) := dk_27 (dk_at dksX4_turn_0 0 rfl rfl)
theorem dX4_turn_1 : decode cX4_turn 1 = .ok (.iload_n 0, 1) := dk_26 (dk_at dksX4_turn_0 1 rfl rfl)
theorem dX4_turn_2 : decode cX4_turn 2 = .ok (.isub, 1) := dk_100 (dk_at dksX4_turn_0 2 rfl rfl)
theorem dX4_turn_3 : decode cX4_turn 3 = .ok (.bipush 8, 2) := dk_16 8 (dk_at dksX4_turn_0 3 rfl rfl)
theorem dX4_turn_5 : decode cX4_turn 5 = .ok (.iadd, 1) := dk_96 (dk_at dksX4_turn_0 5 rfl rfl)
theorem dX4_turn_6 : decode cX4_turn 6 = .ok (.bipush 8, 2) := dk_16 8 (dk_at dksX4_turn_0 6 rfl rfl)
theorem dX4_turn_8 : decode cX4_turn 8 = .ok (.irem, 1) := dk_112 (dk_at dksX4_turn_0 8 rfl rfl)
theorem dX4_turn_9 : decode cX4_turn 9 = .ok (.istore_n 2, 1) := dk_61 (dk_at dksX4_turn_0 9 rfl rfl)
theorem dX4_turn_10 : decode cX4_turn 10 = .ok (.iload_n 2, 1) := dk_28 (dk_at dksX4_turn_0 10 rfl rfl)
theorem dX4_turn_11 : decode cX4_turn 11 = .ok (.iconst 4, 1) := dk_7 (dk_at dksX4_turn_0 11 rfl rfl)
theorem dX4_turn_12 : decode cX4_turn 12 = .ok (.if_icmp .le 10, 3) := dk_164 0 10 (dk_at dksX4_turn_0 12 rfl rfl)
theorem dX4_turn_15 : decode cX4_turn 15 = .ok (.bipush 8, 2) := dk_16 8 (dk_at dksX4_turn_0 15 rfl rfl)
theorem dX4_turn_17 : decode cX4_turn 17 = .ok (.iload_n 2, 1) := dk_28 (dk_at dksX4_turn_0 17 rfl rfl)
theorem dX4_turn_18 : decode cX4_turn 18 = .ok (.isub, 1) := dk_100 (dk_at dksX4_turn_0 18 rfl rfl)
theorem dX4_turn_19 : decode cX4_turn 19 = .ok (.goto 4, 3) := dk_167 0 4 (dk_at dksX4_turn_0 19 rfl rfl)
theorem dX4_turn_22 : decode cX4_turn 22 = .ok (.iload_n 2, 1) := dk_28 (dk_at dksX4_turn_0 22 rfl rfl)
theorem dX4_turn_23 : decode cX4_turn 23 = .ok (.ireturn, 1) := dk_172 (dk_at dksX4_turn_0 23 rfl rfl)
abbrev cX4_stands : ByteArray := prog_6_method_20_code
def yX4_stands : MethodName := ⟨RX4, "stands", "(I)Z"⟩
def dkwX4_stands_1 : List UInt8 := [172]
abbrev dktX4_stands_1 : List UInt8 := dkwX4_stands_1 ++ []
def dkwX4_stands_0 : List UInt8 := [42, 27, 182, 0, 90, 184, 0, 93, 42, 27, 182, 0, 96, 184, 0, 93, 164, 0, 7, 4, 167, 0, 4, 3]
abbrev dktX4_stands_0 : List UInt8 := dkwX4_stands_0 ++ dktX4_stands_1
theorem dksX4_stands_0 : cX4_stands.data.toList.drop 0 = dktX4_stands_0 := by decide +kernel
theorem dksX4_stands_1 : cX4_stands.data.toList.drop 24 = dktX4_stands_1 := dk_seg dksX4_stands_0 24 rfl rfl
theorem dX4_stands_0 : decode cX4_stands 0 = .ok (.aload_n 0, 1) := dk_42 (dk_at dksX4_stands_0 0 rfl rfl)
theorem dX4_stands_1 : decode cX4_stands 1 = .ok (.iload_n 1, 1) := dk_27 (dk_at dksX4_stands_0 1 rfl rfl)
theorem dX4_stands_2 : decode cX4_stands 2 = .ok (.invokevirtual 90, 3) := dk_182 0 90 (dk_at dksX4_stands_0 2 rfl rfl)
theorem dX4_stands_5 : decode cX4_stands 5 = .ok (.invokestatic 93, 3) := dk_184 0 93 (dk_at dksX4_stands_0 5 rfl rfl)
theorem dX4_stands_8 : decode cX4_stands 8 = .ok (.aload_n 0, 1) := dk_42 (dk_at dksX4_stands_0 8 rfl rfl)
theorem dX4_stands_9 : decode cX4_stands 9 = .ok (.iload_n 1, 1) := dk_27 (dk_at dksX4_stands_0 9 rfl rfl)
theorem dX4_stands_10 : decode cX4_stands 10 = .ok (.invokevirtual 96, 3) := dk_182 0 96 (dk_at dksX4_stands_0 10 rfl rfl)
theorem dX4_stands_13 : decode cX4_stands 13 = .ok (.invokestatic 93, 3) := dk_184 0 93 (dk_at dksX4_stands_0 13 rfl rfl)
theorem dX4_stands_16 : decode cX4_stands 16 = .ok (.if_icmp .le 7, 3) := dk_164 0 7 (dk_at dksX4_stands_0 16 rfl rfl)
theorem dX4_stands_19 : decode cX4_stands 19 = .ok (.iconst 1, 1) := dk_4 (dk_at dksX4_stands_0 19 rfl rfl)
theorem dX4_stands_20 : decode cX4_stands 20 = .ok (.goto 4, 3) := dk_167 0 4 (dk_at dksX4_stands_0 20 rfl rfl)
theorem dX4_stands_23 : decode cX4_stands 23 = .ok (.iconst 0, 1) := dk_3 (dk_at dksX4_stands_0 23 rfl rfl)
theorem dX4_stands_24 : decode cX4_stands 24 = .ok (.ireturn, 1) := dk_172 (dk_at dksX4_stands_1 0 rfl rfl)
abbrev cX4_down : ByteArray := prog_6_method_19_code
def yX4_down : MethodName := ⟨RX4, "down", "(I)I"⟩
def dkwX4_down_0 : List UInt8 := [42, 180, 0, 9, 42, 27, 182, 0, 75, 46, 184, 0, 87, 42, 180, 0, 9, 27, 46, 184, 0, 87, 100, 172]
abbrev dktX4_down_0 : List UInt8 := dkwX4_down_0 ++ []
theorem dksX4_down_0 : cX4_down.data.toList.drop 0 = dktX4_down_0 := by decide +kernel
theorem dX4_down_0 : decode cX4_down 0 = .ok (.aload_n 0, 1) := dk_42 (dk_at dksX4_down_0 0 rfl rfl)
theorem dX4_down_1 : decode cX4_down 1 = .ok (.getfield 9, 3) := dk_180 0 9 (dk_at dksX4_down_0 1 rfl rfl)
theorem dX4_down_4 : decode cX4_down 4 = .ok (.aload_n 0, 1) := dk_42 (dk_at dksX4_down_0 4 rfl rfl)
theorem dX4_down_5 : decode cX4_down 5 = .ok (.iload_n 1, 1) := dk_27 (dk_at dksX4_down_0 5 rfl rfl)
theorem dX4_down_6 : decode cX4_down 6 = .ok (.invokevirtual 75, 3) := dk_182 0 75 (dk_at dksX4_down_0 6 rfl rfl)
theorem dX4_down_9 : decode cX4_down 9 = .ok (.iaload, 1) := dk_46 (dk_at dksX4_down_0 9 rfl rfl)
theorem dX4_down_10 : decode cX4_down 10 = .ok (.invokestatic 87, 3) := dk_184 0 87 (dk_at dksX4_down_0 10 rfl rfl)
theorem dX4_down_13 : decode cX4_down 13 = .ok (.aload_n 0, 1) := dk_42 (dk_at dksX4_down_0 13 rfl rfl)
theorem dX4_down_14 : decode cX4_down 14 = .ok (.getfield 9, 3) := dk_180 0 9 (dk_at dksX4_down_0 14 rfl rfl)
theorem dX4_down_17 : decode cX4_down 17 = .ok (.iload_n 1, 1) := dk_27 (dk_at dksX4_down_0 17 rfl rfl)
theorem dX4_down_18 : decode cX4_down 18 = .ok (.iaload, 1) := dk_46 (dk_at dksX4_down_0 18 rfl rfl)
theorem dX4_down_19 : decode cX4_down 19 = .ok (.invokestatic 87, 3) := dk_184 0 87 (dk_at dksX4_down_0 19 rfl rfl)
theorem dX4_down_22 : decode cX4_down 22 = .ok (.isub, 1) := dk_100 (dk_at dksX4_down_0 22 rfl rfl)
theorem dX4_down_23 : decode cX4_down 23 = .ok (.ireturn, 1) := dk_172 (dk_at dksX4_down_0 23 rfl rfl)
abbrev cX4_across : ByteArray := prog_6_method_18_code
def yX4_across : MethodName := ⟨RX4, "across", "(I)I"⟩
def dkwX4_across_0 : List UInt8 := [42, 180, 0, 9, 42, 27, 182, 0, 75, 46, 184, 0, 84, 42, 180, 0, 9, 27, 46, 184, 0, 84, 100, 172]
abbrev dktX4_across_0 : List UInt8 := dkwX4_across_0 ++ []
theorem dksX4_across_0 : cX4_across.data.toList.drop 0 = dktX4_across_0 := by decide +kernel
theorem dX4_across_0 : decode cX4_across 0 = .ok (.aload_n 0, 1) := dk_42 (dk_at dksX4_across_0 0 rfl rfl)
theorem dX4_across_1 : decode cX4_across 1 = .ok (.getfield 9, 3) := dk_180 0 9 (dk_at dksX4_across_0 1 rfl rfl)
theorem dX4_across_4 : decode cX4_across 4 = .ok (.aload_n 0, 1) := dk_42 (dk_at dksX4_across_0 4 rfl rfl)
theorem dX4_across_5 : decode cX4_across 5 = .ok (.iload_n 1, 1) := dk_27 (dk_at dksX4_across_0 5 rfl rfl)
theorem dX4_across_6 : decode cX4_across 6 = .ok (.invokevirtual 75, 3) := dk_182 0 75 (dk_at dksX4_across_0 6 rfl rfl)
theorem dX4_across_9 : decode cX4_across 9 = .ok (.iaload, 1) := dk_46 (dk_at dksX4_across_0 9 rfl rfl)
theorem dX4_across_10 : decode cX4_across 10 = .ok (.invokestatic 84, 3) := dk_184 0 84 (dk_at dksX4_across_0 10 rfl rfl)
theorem dX4_across_13 : decode cX4_across 13 = .ok (.aload_n 0, 1) := dk_42 (dk_at dksX4_across_0 13 rfl rfl)
theorem dX4_across_14 : decode cX4_across 14 = .ok (.getfield 9, 3) := dk_180 0 9 (dk_at dksX4_across_0 14 rfl rfl)
theorem dX4_across_17 : decode cX4_across 17 = .ok (.iload_n 1, 1) := dk_27 (dk_at dksX4_across_0 17 rfl rfl)
theorem dX4_across_18 : decode cX4_across 18 = .ok (.iaload, 1) := dk_46 (dk_at dksX4_across_0 18 rfl rfl)
theorem dX4_across_19 : decode cX4_across 19 = .ok (.invokestatic 84, 3) := dk_184 0 84 (dk_at dksX4_across_0 19 rfl rfl)
theorem dX4_across_22 : decode cX4_across 22 = .ok (.isub, 1) := dk_100 (dk_at dksX4_across_0 22 rfl rfl)
theorem dX4_across_23 : decode cX4_across 23 = .ok (.ireturn, 1) := dk_172 (dk_at dksX4_across_0 23 rfl rfl)
abbrev cX4_far : ByteArray := prog_6_method_23_code
def yX4_far : MethodName := ⟨RX4, "far", "(ILContourLabels$Line;)I"⟩
def dkwX4_far_3 : List UInt8 := [167, 255, 208, 132, 4, 1, 167, 255, 186, 29, 172]
abbrev dktX4_far_3 : List UInt8 := dkwX4_far_3 ++ []
def dkwX4_far_2 : List UInt8 := [46, 184, 0, 103, 54, 6, 21, 6, 29, 162, 0, 8, 21, 6, 167, 0, 4, 29, 62, 132, 5, 1]
abbrev dktX4_far_2 : List UInt8 := dkwX4_far_2 ++ dktX4_far_3
def dkwX4_far_1 : List UInt8 := [44, 44, 180, 0, 25, 182, 0, 75, 163, 0, 41, 42, 180, 0, 9, 21, 4, 46, 44, 180, 0, 9, 21, 5]
abbrev dktX4_far_1 : List UInt8 := dkwX4_far_1 ++ dktX4_far_2
def dkwX4_far_0 : List UInt8 := [16, 99, 62, 27, 54, 4, 21, 4, 42, 27, 182, 0, 75, 163, 0, 66, 44, 180, 0, 25, 54, 5, 21, 5]
abbrev dktX4_far_0 : List UInt8 := dkwX4_far_0 ++ dktX4_far_1
theorem dksX4_far_0 : cX4_far.data.toList.drop 0 = dktX4_far_0 := by decide +kernel
theorem dksX4_far_1 : cX4_far.data.toList.drop 24 = dktX4_far_1 := dk_seg dksX4_far_0 24 rfl rfl
theorem dksX4_far_2 : cX4_far.data.toList.drop 48 = dktX4_far_2 := dk_seg dksX4_far_1 24 rfl rfl
theorem dksX4_far_3 : cX4_far.data.toList.drop 70 = dktX4_far_3 := dk_seg dksX4_far_2 22 rfl rfl
theorem dX4_far_0 : decode cX4_far 0 = .ok (.bipush 99, 2) := dk_16 99 (dk_at dksX4_far_0 0 rfl rfl)
theorem dX4_far_2 : decode cX4_far 2 = .ok (.istore_n 3, 1) := dk_62 (dk_at dksX4_far_0 2 rfl rfl)
theorem dX4_far_3 : decode cX4_far 3 = .ok (.iload_n 1, 1) := dk_27 (dk_at dksX4_far_0 3 rfl rfl)
theorem dX4_far_4 : decode cX4_far 4 = .ok (.istore 4, 2) := dk_54 4 (dk_at dksX4_far_0 4 rfl rfl)
theorem dX4_far_6 : decode cX4_far 6 = .ok (.iload 4, 2) := dk_21 4 (dk_at dksX4_far_0 6 rfl rfl)
theorem dX4_far_8 : decode cX4_far 8 = .ok (.aload_n 0, 1) := dk_42 (dk_at dksX4_far_0 8 rfl rfl)
theorem dX4_far_9 : decode cX4_far 9 = .ok (.iload_n 1, 1) := dk_27 (dk_at dksX4_far_0 9 rfl rfl)
theorem dX4_far_10 : decode cX4_far 10 = .ok (.invokevirtual 75, 3) := dk_182 0 75 (dk_at dksX4_far_0 10 rfl rfl)
theorem dX4_far_13 : decode cX4_far 13 = .ok (.if_icmp .gt 66, 3) := dk_163 0 66 (dk_at dksX4_far_0 13 rfl rfl)
theorem dX4_far_16 : decode cX4_far 16 = .ok (.aload_n 2, 1) := dk_44 (dk_at dksX4_far_0 16 rfl rfl)
theorem dX4_far_17 : decode cX4_far 17 = .ok (.getfield 25, 3) := dk_180 0 25 (dk_at dksX4_far_0 17 rfl rfl)
theorem dX4_far_20 : decode cX4_far 20 = .ok (.istore 5, 2) := dk_54 5 (dk_at dksX4_far_0 20 rfl rfl)
theorem dX4_far_22 : decode cX4_far 22 = .ok (.iload 5, 2) := dk_21 5 (dk_at dksX4_far_0 22 rfl rfl)
theorem dX4_far_24 : decode cX4_far 24 = .ok (.aload_n 2, 1) := dk_44 (dk_at dksX4_far_1 0 rfl rfl)
theorem dX4_far_25 : decode cX4_far 25 = .ok (.aload_n 2, 1) := dk_44 (dk_at dksX4_far_1 1 rfl rfl)
theorem dX4_far_26 : decode cX4_far 26 = .ok (.getfield 25, 3) := dk_180 0 25 (dk_at dksX4_far_1 2 rfl rfl)
theorem dX4_far_29 : decode cX4_far 29 = .ok (.invokevirtual 75, 3) := dk_182 0 75 (dk_at dksX4_far_1 5 rfl rfl)
theorem dX4_far_32 : decode cX4_far 32 = .ok (.if_icmp .gt 41, 3) := dk_163 0 41 (dk_at dksX4_far_1 8 rfl rfl)
theorem dX4_far_35 : decode cX4_far 35 = .ok (.aload_n 0, 1) := dk_42 (dk_at dksX4_far_1 11 rfl rfl)
theorem dX4_far_36 : decode cX4_far 36 = .ok (.getfield 9, 3) := dk_180 0 9 (dk_at dksX4_far_1 12 rfl rfl)
theorem dX4_far_39 : decode cX4_far 39 = .ok (.iload 4, 2) := dk_21 4 (dk_at dksX4_far_1 15 rfl rfl)
theorem dX4_far_41 : decode cX4_far 41 = .ok (.iaload, 1) := dk_46 (dk_at dksX4_far_1 17 rfl rfl)
theorem dX4_far_42 : decode cX4_far 42 = .ok (.aload_n 2, 1) := dk_44 (dk_at dksX4_far_1 18 rfl rfl)
theorem dX4_far_43 : decode cX4_far 43 = .ok (.getfield 9, 3) := dk_180 0 9 (dk_at dksX4_far_1 19 rfl rfl)
theorem dX4_far_46 : decode cX4_far 46 = .ok (.iload 5, 2) := dk_21 5 (dk_at dksX4_far_1 22 rfl rfl)
theorem dX4_far_48 : decode cX4_far 48 = .ok (.iaload, 1) := dk_46 (dk_at dksX4_far_2 0 rfl rfl)
theorem dX4_far_49 : decode cX4_far 49 = .ok (.invokestatic 103, 3) := dk_184 0 103 (dk_at dksX4_far_2 1 rfl rfl)
theorem dX4_far_52 : decode cX4_far 52 = .ok (.istore 6, 2) := dk_54 6 (dk_at dksX4_far_2 4 rfl rfl)
theorem dX4_far_54 : decode cX4_far 54 = .ok (.iload 6, 2) := dk_21 6 (dk_at dksX4_far_2 6 rfl rfl)
theorem dX4_far_56 : decode cX4_far 56 = .ok (.iload_n 3, 1) := dk_29 (dk_at dksX4_far_2 8 rfl rfl)
theorem dX4_far_57 : decode cX4_far 57 = .ok (.if_icmp .ge 8, 3) := dk_162 0 8 (dk_at dksX4_far_2 9 rfl rfl)
theorem dX4_far_60 : decode cX4_far 60 = .ok (.iload 6, 2) := dk_21 6 (dk_at dksX4_far_2 12 rfl rfl)
theorem dX4_far_62 : decode cX4_far 62 = .ok (.goto 4, 3) := dk_167 0 4 (dk_at dksX4_far_2 14 rfl rfl)
theorem dX4_far_65 : decode cX4_far 65 = .ok (.iload_n 3, 1) := dk_29 (dk_at dksX4_far_2 17 rfl rfl)
theorem dX4_far_66 : decode cX4_far 66 = .ok (.istore_n 3, 1) := dk_62 (dk_at dksX4_far_2 18 rfl rfl)
theorem dX4_far_67 : decode cX4_far 67 = .ok (.iinc 5 1, 3) := dk_132 5 1 (dk_at dksX4_far_2 19 rfl rfl)
theorem dX4_far_70 : decode cX4_far 70 = .ok (.goto (-48), 3) := dk_167 255 208 (dk_at dksX4_far_3 0 rfl rfl)
theorem dX4_far_73 : decode cX4_far 73 = .ok (.iinc 4 1, 3) := dk_132 4 1 (dk_at dksX4_far_3 3 rfl rfl)
theorem dX4_far_76 : decode cX4_far 76 = .ok (.goto (-70), 3) := dk_167 255 186 (dk_at dksX4_far_3 6 rfl rfl)
theorem dX4_far_79 : decode cX4_far 79 = .ok (.iload_n 3, 1) := dk_29 (dk_at dksX4_far_3 9 rfl rfl)
theorem dX4_far_80 : decode cX4_far 80 = .ok (.ireturn, 1) := dk_172 (dk_at dksX4_far_3 10 rfl rfl)
abbrev cX4_has : ByteArray := prog_6_method_6_code
def yX4_has : MethodName := ⟨RX4, "has", "(I)Z"⟩
def dkwX4_has_1 : List UInt8 := [167, 0, 4, 3, 128, 61, 132, 3, 1, 167, 255, 227, 28, 172]
abbrev dktX4_has_1 : List UInt8 := dkwX4_has_1 ++ []
def dkwX4_has_0 : List UInt8 := [3, 61, 3, 62, 29, 42, 180, 0, 40, 163, 0, 27, 28, 42, 180, 0, 9, 29, 46, 27, 160, 0, 7, 4]
abbrev dktX4_has_0 : List UInt8 := dkwX4_has_0 ++ dktX4_has_1
theorem dksX4_has_0 : cX4_has.data.toList.drop 0 = dktX4_has_0 := by decide +kernel
theorem dksX4_has_1 : cX4_has.data.toList.drop 24 = dktX4_has_1 := dk_seg dksX4_has_0 24 rfl rfl
theorem dX4_has_0 : decode cX4_has 0 = .ok (.iconst 0, 1) := dk_3 (dk_at dksX4_has_0 0 rfl rfl)
theorem dX4_has_1 : decode cX4_has 1 = .ok (.istore_n 2, 1) := dk_61 (dk_at dksX4_has_0 1 rfl rfl)
theorem dX4_has_2 : decode cX4_has 2 = .ok (.iconst 0, 1) := dk_3 (dk_at dksX4_has_0 2 rfl rfl)
theorem dX4_has_3 : decode cX4_has 3 = .ok (.istore_n 3, 1) := dk_62 (dk_at dksX4_has_0 3 rfl rfl)
theorem dX4_has_4 : decode cX4_has 4 = .ok (.iload_n 3, 1) := dk_29 (dk_at dksX4_has_0 4 rfl rfl)
theorem dX4_has_5 : decode cX4_has 5 = .ok (.aload_n 0, 1) := dk_42 (dk_at dksX4_has_0 5 rfl rfl)
theorem dX4_has_6 : decode cX4_has 6 = .ok (.getfield 40, 3) := dk_180 0 40 (dk_at dksX4_has_0 6 rfl rfl)
theorem dX4_has_9 : decode cX4_has 9 = .ok (.if_icmp .gt 27, 3) := dk_163 0 27 (dk_at dksX4_has_0 9 rfl rfl)
theorem dX4_has_12 : decode cX4_has 12 = .ok (.iload_n 2, 1) := dk_28 (dk_at dksX4_has_0 12 rfl rfl)
theorem dX4_has_13 : decode cX4_has 13 = .ok (.aload_n 0, 1) := dk_42 (dk_at dksX4_has_0 13 rfl rfl)
theorem dX4_has_14 : decode cX4_has 14 = .ok (.getfield 9, 3) := dk_180 0 9 (dk_at dksX4_has_0 14 rfl rfl)
theorem dX4_has_17 : decode cX4_has 17 = .ok (.iload_n 3, 1) := dk_29 (dk_at dksX4_has_0 17 rfl rfl)
theorem dX4_has_18 : decode cX4_has 18 = .ok (.iaload, 1) := dk_46 (dk_at dksX4_has_0 18 rfl rfl)
theorem dX4_has_19 : decode cX4_has 19 = .ok (.iload_n 1, 1) := dk_27 (dk_at dksX4_has_0 19 rfl rfl)
theorem dX4_has_20 : decode cX4_has 20 = .ok (.if_icmp .ne 7, 3) := dk_160 0 7 (dk_at dksX4_has_0 20 rfl rfl)
theorem dX4_has_23 : decode cX4_has 23 = .ok (.iconst 1, 1) := dk_4 (dk_at dksX4_has_0 23 rfl rfl)
theorem dX4_has_24 : decode cX4_has 24 = .ok (.goto 4, 3) := dk_167 0 4 (dk_at dksX4_has_1 0 rfl rfl)
theorem dX4_has_27 : decode cX4_has 27 = .ok (.iconst 0, 1) := dk_3 (dk_at dksX4_has_1 3 rfl rfl)
theorem dX4_has_28 : decode cX4_has 28 = .ok (.ior, 1) := dk_128 (dk_at dksX4_has_1 4 rfl rfl)
theorem dX4_has_29 : decode cX4_has 29 = .ok (.istore_n 2, 1) := dk_61 (dk_at dksX4_has_1 5 rfl rfl)
theorem dX4_has_30 : decode cX4_has 30 = .ok (.iinc 3 1, 3) := dk_132 3 1 (dk_at dksX4_has_1 6 rfl rfl)
theorem dX4_has_33 : decode cX4_has 33 = .ok (.goto (-29), 3) := dk_167 255 227 (dk_at dksX4_has_1 9 rfl rfl)
theorem dX4_has_36 : decode cX4_has 36 = .ok (.iload_n 2, 1) := dk_28 (dk_at dksX4_has_1 12 rfl rfl)
theorem dX4_has_37 : decode cX4_has 37 = .ok (.ireturn, 1) := dk_172 (dk_at dksX4_has_1 13 rfl rfl)
abbrev cX4_init_2 : ByteArray := prog_6_method_1_code
def yX4_init_2 : MethodName := ⟨RX4, "<init>", "(II)V"⟩
def dkwX4_init_2_0 : List UInt8 := [42, 27, 16, 61, 188, 10, 16, 60, 188, 10, 183, 0, 3, 42, 180, 0, 9, 3, 28, 79, 177]
abbrev dktX4_init_2_0 : List UInt8 := dkwX4_init_2_0 ++ []
theorem dksX4_init_2_0 : cX4_init_2.data.toList.drop 0 = dktX4_init_2_0 := by decide +kernel
theorem dX4_init_2_0 : decode cX4_init_2 0 = .ok (.aload_n 0, 1) := dk_42 (dk_at dksX4_init_2_0 0 rfl rfl)
theorem dX4_init_2_1 : decode cX4_init_2 1 = .ok (.iload_n 1, 1) := dk_27 (dk_at dksX4_init_2_0 1 rfl rfl)
theorem dX4_init_2_2 : decode cX4_init_2 2 = .ok (.bipush 61, 2) := dk_16 61 (dk_at dksX4_init_2_0 2 rfl rfl)
theorem dX4_init_2_4 : decode cX4_init_2 4 = .ok (.newarray .int, 2) := dk_188_10 (dk_at dksX4_init_2_0 4 rfl rfl)
theorem dX4_init_2_6 : decode cX4_init_2 6 = .ok (.bipush 60, 2) := dk_16 60 (dk_at dksX4_init_2_0 6 rfl rfl)
theorem dX4_init_2_8 : decode cX4_init_2 8 = .ok (.newarray .int, 2) := dk_188_10 (dk_at dksX4_init_2_0 8 rfl rfl)
theorem dX4_init_2_10 : decode cX4_init_2 10 = .ok (.invokespecial 3, 3) := dk_183 0 3 (dk_at dksX4_init_2_0 10 rfl rfl)
theorem dX4_init_2_13 : decode cX4_init_2 13 = .ok (.aload_n 0, 1) := dk_42 (dk_at dksX4_init_2_0 13 rfl rfl)
theorem dX4_init_2_14 : decode cX4_init_2 14 = .ok (.getfield 9, 3) := dk_180 0 9 (dk_at dksX4_init_2_0 14 rfl rfl)
theorem dX4_init_2_17 : decode cX4_init_2 17 = .ok (.iconst 0, 1) := dk_3 (dk_at dksX4_init_2_0 17 rfl rfl)
theorem dX4_init_2_18 : decode cX4_init_2 18 = .ok (.iload_n 2, 1) := dk_28 (dk_at dksX4_init_2_0 18 rfl rfl)
theorem dX4_init_2_19 : decode cX4_init_2 19 = .ok (.iastore, 1) := dk_79 (dk_at dksX4_init_2_0 19 rfl rfl)
theorem dX4_init_2_20 : decode cX4_init_2 20 = .ok (.return_, 1) := dk_177 (dk_at dksX4_init_2_0 20 rfl rfl)
abbrev cX4_end : ByteArray := prog_6_method_5_code
def yX4_end : MethodName := ⟨RX4, "end", "()I"⟩
def dkwX4_end_0 : List UInt8 := [42, 180, 0, 9, 42, 180, 0, 40, 46, 172]
abbrev dktX4_end_0 : List UInt8 := dkwX4_end_0 ++ []
theorem dksX4_end_0 : cX4_end.data.toList.drop 0 = dktX4_end_0 := by decide +kernel
theorem dX4_end_0 : decode cX4_end 0 = .ok (.aload_n 0, 1) := dk_42 (dk_at dksX4_end_0 0 rfl rfl)
theorem dX4_end_1 : decode cX4_end 1 = .ok (.getfield 9, 3) := dk_180 0 9 (dk_at dksX4_end_0 1 rfl rfl)
theorem dX4_end_4 : decode cX4_end 4 = .ok (.aload_n 0, 1) := dk_42 (dk_at dksX4_end_0 4 rfl rfl)
theorem dX4_end_5 : decode cX4_end 5 = .ok (.getfield 40, 3) := dk_180 0 40 (dk_at dksX4_end_0 5 rfl rfl)
theorem dX4_end_8 : decode cX4_end 8 = .ok (.iaload, 1) := dk_46 (dk_at dksX4_end_0 8 rfl rfl)
theorem dX4_end_9 : decode cX4_end 9 = .ok (.ireturn, 1) := dk_172 (dk_at dksX4_end_0 9 rfl rfl)
abbrev cX4_isClosed : ByteArray := prog_6_method_4_code
def yX4_isClosed : MethodName := ⟨RX4, "isClosed", "()Z"⟩
def dkwX4_isClosed_0 : List UInt8 := [42, 180, 0, 21, 193, 0, 43, 172]
abbrev dktX4_isClosed_0 : List UInt8 := dkwX4_isClosed_0 ++ []
theorem dksX4_isClosed_0 : cX4_isClosed.data.toList.drop 0 = dktX4_isClosed_0 := by decide +kernel
theorem dX4_isClosed_0 : decode cX4_isClosed 0 = .ok (.aload_n 0, 1) := dk_42 (dk_at dksX4_isClosed_0 0 rfl rfl)
theorem dX4_isClosed_1 : decode cX4_isClosed 1 = .ok (.getfield 21, 3) := dk_180 0 21 (dk_at dksX4_isClosed_0 1 rfl rfl)
theorem dX4_isClosed_4 : decode cX4_isClosed 4 = .ok (.instanceof 43, 3) := dk_193 0 43 (dk_at dksX4_isClosed_0 4 rfl rfl)
theorem dX4_isClosed_7 : decode cX4_isClosed 7 = .ok (.ireturn, 1) := dk_172 (dk_at dksX4_isClosed_0 7 rfl rfl)
abbrev cX4_closesAt : ByteArray := prog_6_method_8_code
def yX4_closesAt : MethodName := ⟨RX4, "closesAt", "(I)Z"⟩
def dkwX4_closesAt_1 : List UInt8 := [3, 172]
abbrev dktX4_closesAt_1 : List UInt8 := dkwX4_closesAt_1 ++ []
def dkwX4_closesAt_0 : List UInt8 := [27, 42, 180, 0, 9, 3, 46, 160, 0, 17, 42, 180, 0, 40, 4, 96, 7, 161, 0, 7, 4, 167, 0, 4]
abbrev dktX4_closesAt_0 : List UInt8 := dkwX4_closesAt_0 ++ dktX4_closesAt_1
theorem dksX4_closesAt_0 : cX4_closesAt.data.toList.drop 0 = dktX4_closesAt_0 := by decide +kernel
theorem dksX4_closesAt_1 : cX4_closesAt.data.toList.drop 24 = dktX4_closesAt_1 := dk_seg dksX4_closesAt_0 24 rfl rfl
theorem dX4_closesAt_0 : decode cX4_closesAt 0 = .ok (.iload_n 1, 1) := dk_27 (dk_at dksX4_closesAt_0 0 rfl rfl)
theorem dX4_closesAt_1 : decode cX4_closesAt 1 = .ok (.aload_n 0, 1) := dk_42 (dk_at dksX4_closesAt_0 1 rfl rfl)
theorem dX4_closesAt_2 : decode cX4_closesAt 2 = .ok (.getfield 9, 3) := dk_180 0 9 (dk_at dksX4_closesAt_0 2 rfl rfl)
theorem dX4_closesAt_5 : decode cX4_closesAt 5 = .ok (.iconst 0, 1) := dk_3 (dk_at dksX4_closesAt_0 5 rfl rfl)
theorem dX4_closesAt_6 : decode cX4_closesAt 6 = .ok (.iaload, 1) := dk_46 (dk_at dksX4_closesAt_0 6 rfl rfl)
theorem dX4_closesAt_7 : decode cX4_closesAt 7 = .ok (.if_icmp .ne 17, 3) := dk_160 0 17 (dk_at dksX4_closesAt_0 7 rfl rfl)
theorem dX4_closesAt_10 : decode cX4_closesAt 10 = .ok (.aload_n 0, 1) := dk_42 (dk_at dksX4_closesAt_0 10 rfl rfl)
theorem dX4_closesAt_11 : decode cX4_closesAt 11 = .ok (.getfield 40, 3) := dk_180 0 40 (dk_at dksX4_closesAt_0 11 rfl rfl)
theorem dX4_closesAt_14 : decode cX4_closesAt 14 = .ok (.iconst 1, 1) := dk_4 (dk_at dksX4_closesAt_0 14 rfl rfl)
theorem dX4_closesAt_15 : decode cX4_closesAt 15 = .ok (.iadd, 1) := dk_96 (dk_at dksX4_closesAt_0 15 rfl rfl)
theorem dX4_closesAt_16 : decode cX4_closesAt 16 = .ok (.iconst 4, 1) := dk_7 (dk_at dksX4_closesAt_0 16 rfl rfl)
theorem dX4_closesAt_17 : decode cX4_closesAt 17 = .ok (.if_icmp .lt 7, 3) := dk_161 0 7 (dk_at dksX4_closesAt_0 17 rfl rfl)
theorem dX4_closesAt_20 : decode cX4_closesAt 20 = .ok (.iconst 1, 1) := dk_4 (dk_at dksX4_closesAt_0 20 rfl rfl)
theorem dX4_closesAt_21 : decode cX4_closesAt 21 = .ok (.goto 4, 3) := dk_167 0 4 (dk_at dksX4_closesAt_0 21 rfl rfl)
theorem dX4_closesAt_24 : decode cX4_closesAt 24 = .ok (.iconst 0, 1) := dk_3 (dk_at dksX4_closesAt_1 0 rfl rfl)
theorem dX4_closesAt_25 : decode cX4_closesAt 25 = .ok (.ireturn, 1) := dk_172 (dk_at dksX4_closesAt_1 1 rfl rfl)
abbrev cX4_hasStep : ByteArray := prog_6_method_7_code
def yX4_hasStep : MethodName := ⟨RX4, "hasStep", "(II)Z"⟩
def dkwX4_hasStep_3 : List UInt8 := [132, 4, 1, 167, 255, 188, 29, 172]
abbrev dktX4_hasStep_3 : List UInt8 := dkwX4_hasStep_3 ++ []
def dkwX4_hasStep_2 : List UInt8 := [160, 0, 20, 42, 180, 0, 9, 21, 4, 4, 96, 46, 27, 160, 0, 7, 4, 167, 0, 4, 3, 128, 62]
abbrev dktX4_hasStep_2 : List UInt8 := dkwX4_hasStep_2 ++ dktX4_hasStep_3
def dkwX4_hasStep_1 : List UInt8 := [160, 0, 16, 42, 180, 0, 9, 21, 4, 4, 96, 46, 28, 159, 0, 27, 42, 180, 0, 9, 21, 4, 46, 28]
abbrev dktX4_hasStep_1 : List UInt8 := dkwX4_hasStep_1 ++ dktX4_hasStep_2
def dkwX4_hasStep_0 : List UInt8 := [3, 62, 3, 54, 4, 21, 4, 42, 180, 0, 40, 162, 0, 65, 29, 42, 180, 0, 9, 21, 4, 46, 27]
abbrev dktX4_hasStep_0 : List UInt8 := dkwX4_hasStep_0 ++ dktX4_hasStep_1
theorem dksX4_hasStep_0 : cX4_hasStep.data.toList.drop 0 = dktX4_hasStep_0 := by decide +kernel
theorem dksX4_hasStep_1 : cX4_hasStep.data.toList.drop 23 = dktX4_hasStep_1 := dk_seg dksX4_hasStep_0 23 rfl rfl
theorem dksX4_hasStep_2 : cX4_hasStep.data.toList.drop 47 = dktX4_hasStep_2 := dk_seg dksX4_hasStep_1 24 rfl rfl
theorem dksX4_hasStep_3 : cX4_hasStep.data.toList.drop 70 = dktX4_hasStep_3 := dk_seg dksX4_hasStep_2 23 rfl rfl
theorem dX4_hasStep_0 : decode cX4_hasStep 0 = .ok (.iconst 0, 1) := dk_3 (dk_at dksX4_hasStep_0 0 rfl rfl)
theorem dX4_hasStep_1 : decode cX4_hasStep 1 = .ok (.istore_n 3, 1) := dk_62 (dk_at dksX4_hasStep_0 1 rfl rfl)
theorem dX4_hasStep_2 : decode cX4_hasStep 2 = .ok (.iconst 0, 1) := dk_3 (dk_at dksX4_hasStep_0 2 rfl rfl)
theorem dX4_hasStep_3 : decode cX4_hasStep 3 = .ok (.istore 4, 2) := dk_54 4 (dk_at dksX4_hasStep_0 3 rfl rfl)
theorem dX4_hasStep_5 : decode cX4_hasStep 5 = .ok (.iload 4, 2) := dk_21 4 (dk_at dksX4_hasStep_0 5 rfl rfl)
theorem dX4_hasStep_7 : decode cX4_hasStep 7 = .ok (.aload_n 0, 1) := dk_42 (dk_at dksX4_hasStep_0 7 rfl rfl)
theorem dX4_hasStep_8 : decode cX4_hasStep 8 = .ok (.getfield 40, 3) := dk_180 0 40 (dk_at dksX4_hasStep_0 8 rfl rfl)
theorem dX4_hasStep_11 : decode cX4_hasStep 11 = .ok (.if_icmp .ge 65, 3) := dk_162 0 65 (dk_at dksX4_hasStep_0 11 rfl rfl)
theorem dX4_hasStep_14 : decode cX4_hasStep 14 = .ok (.iload_n 3, 1) := dk_29 (dk_at dksX4_hasStep_0 14 rfl rfl)
theorem dX4_hasStep_15 : decode cX4_hasStep 15 = .ok (.aload_n 0, 1) := dk_42 (dk_at dksX4_hasStep_0 15 rfl rfl)
theorem dX4_hasStep_16 : decode cX4_hasStep 16 = .ok (.getfield 9, 3) := dk_180 0 9 (dk_at dksX4_hasStep_0 16 rfl rfl)
theorem dX4_hasStep_19 : decode cX4_hasStep 19 = .ok (.iload 4, 2) := dk_21 4 (dk_at dksX4_hasStep_0 19 rfl rfl)
theorem dX4_hasStep_21 : decode cX4_hasStep 21 = .ok (.iaload, 1) := dk_46 (dk_at dksX4_hasStep_0 21 rfl rfl)
theorem dX4_hasStep_22 : decode cX4_hasStep 22 = .ok (.iload_n 1, 1) := dk_27 (dk_at dksX4_hasStep_0 22 rfl rfl)
theorem dX4_hasStep_23 : decode cX4_hasStep 23 = .ok (.if_icmp .ne 16, 3) := dk_160 0 16 (dk_at dksX4_hasStep_1 0 rfl rfl)
theorem dX4_hasStep_26 : decode cX4_hasStep 26 = .ok (.aload_n 0, 1) := dk_42 (dk_at dksX4_hasStep_1 3 rfl rfl)
theorem dX4_hasStep_27 : decode cX4_hasStep 27 = .ok (.getfield 9, 3) := dk_180 0 9 (dk_at dksX4_hasStep_1 4 rfl rfl)
theorem dX4_hasStep_30 : decode cX4_hasStep 30 = .ok (.iload 4, 2) := dk_21 4 (dk_at dksX4_hasStep_1 7 rfl rfl)
theorem dX4_hasStep_32 : decode cX4_hasStep 32 = .ok (.iconst 1, 1) := dk_4 (dk_at dksX4_hasStep_1 9 rfl rfl)
theorem dX4_hasStep_33 : decode cX4_hasStep 33 = .ok (.iadd, 1) := dk_96 (dk_at dksX4_hasStep_1 10 rfl rfl)
theorem dX4_hasStep_34 : decode cX4_hasStep 34 = .ok (.iaload, 1) := dk_46 (dk_at dksX4_hasStep_1 11 rfl rfl)
theorem dX4_hasStep_35 : decode cX4_hasStep 35 = .ok (.iload_n 2, 1) := dk_28 (dk_at dksX4_hasStep_1 12 rfl rfl)
theorem dX4_hasStep_36 : decode cX4_hasStep 36 = .ok (.if_icmp .eq 27, 3) := dk_159 0 27 (dk_at dksX4_hasStep_1 13 rfl rfl)
theorem dX4_hasStep_39 : decode cX4_hasStep 39 = .ok (.aload_n 0, 1) := dk_42 (dk_at dksX4_hasStep_1 16 rfl rfl)
theorem dX4_hasStep_40 : decode cX4_hasStep 40 = .ok (.getfield 9, 3) := dk_180 0 9 (dk_at dksX4_hasStep_1 17 rfl rfl)
theorem dX4_hasStep_43 : decode cX4_hasStep 43 = .ok (.iload 4, 2) := dk_21 4 (dk_at dksX4_hasStep_1 20 rfl rfl)
theorem dX4_hasStep_45 : decode cX4_hasStep 45 = .ok (.iaload, 1) := dk_46 (dk_at dksX4_hasStep_1 22 rfl rfl)
theorem dX4_hasStep_46 : decode cX4_hasStep 46 = .ok (.iload_n 2, 1) := dk_28 (dk_at dksX4_hasStep_1 23 rfl rfl)
theorem dX4_hasStep_47 : decode cX4_hasStep 47 = .ok (.if_icmp .ne 20, 3) := dk_160 0 20 (dk_at dksX4_hasStep_2 0 rfl rfl)
theorem dX4_hasStep_50 : decode cX4_hasStep 50 = .ok (.aload_n 0, 1) := dk_42 (dk_at dksX4_hasStep_2 3 rfl rfl)
theorem dX4_hasStep_51 : decode cX4_hasStep 51 = .ok (.getfield 9, 3) := dk_180 0 9 (dk_at dksX4_hasStep_2 4 rfl rfl)
theorem dX4_hasStep_54 : decode cX4_hasStep 54 = .ok (.iload 4, 2) := dk_21 4 (dk_at dksX4_hasStep_2 7 rfl rfl)
theorem dX4_hasStep_56 : decode cX4_hasStep 56 = .ok (.iconst 1, 1) := dk_4 (dk_at dksX4_hasStep_2 9 rfl rfl)
theorem dX4_hasStep_57 : decode cX4_hasStep 57 = .ok (.iadd, 1) := dk_96 (dk_at dksX4_hasStep_2 10 rfl rfl)
theorem dX4_hasStep_58 : decode cX4_hasStep 58 = .ok (.iaload, 1) := dk_46 (dk_at dksX4_hasStep_2 11 rfl rfl)
theorem dX4_hasStep_59 : decode cX4_hasStep 59 = .ok (.iload_n 1, 1) := dk_27 (dk_at dksX4_hasStep_2 12 rfl rfl)
theorem dX4_hasStep_60 : decode cX4_hasStep 60 = .ok (.if_icmp .ne 7, 3) := dk_160 0 7 (dk_at dksX4_hasStep_2 13 rfl rfl)
theorem dX4_hasStep_63 : decode cX4_hasStep 63 = .ok (.iconst 1, 1) := dk_4 (dk_at dksX4_hasStep_2 16 rfl rfl)
theorem dX4_hasStep_64 : decode cX4_hasStep 64 = .ok (.goto 4, 3) := dk_167 0 4 (dk_at dksX4_hasStep_2 17 rfl rfl)
theorem dX4_hasStep_67 : decode cX4_hasStep 67 = .ok (.iconst 0, 1) := dk_3 (dk_at dksX4_hasStep_2 20 rfl rfl)
theorem dX4_hasStep_68 : decode cX4_hasStep 68 = .ok (.ior, 1) := dk_128 (dk_at dksX4_hasStep_2 21 rfl rfl)
theorem dX4_hasStep_69 : decode cX4_hasStep 69 = .ok (.istore_n 3, 1) := dk_62 (dk_at dksX4_hasStep_2 22 rfl rfl)
theorem dX4_hasStep_70 : decode cX4_hasStep 70 = .ok (.iinc 4 1, 3) := dk_132 4 1 (dk_at dksX4_hasStep_3 0 rfl rfl)
theorem dX4_hasStep_73 : decode cX4_hasStep 73 = .ok (.goto (-68), 3) := dk_167 255 188 (dk_at dksX4_hasStep_3 3 rfl rfl)
theorem dX4_hasStep_76 : decode cX4_hasStep 76 = .ok (.iload_n 3, 1) := dk_29 (dk_at dksX4_hasStep_3 6 rfl rfl)
theorem dX4_hasStep_77 : decode cX4_hasStep 77 = .ok (.ireturn, 1) := dk_172 (dk_at dksX4_hasStep_3 7 rfl rfl)
abbrev cX4_step : ByteArray := prog_6_method_9_code
def yX4_step : MethodName := ⟨RX4, "step", "(I)V"⟩
def dkwX4_step_2 : List UInt8 := [153, 0, 13, 187, 0, 43, 89, 183, 0, 57, 167, 0, 7, 42, 180, 0, 21, 181, 0, 21, 177]
abbrev dktX4_step_2 : List UInt8 := dkwX4_step_2 ++ []
def dkwX4_step_1 : List UInt8 := [79, 42, 89, 180, 0, 40, 4, 96, 181, 0, 40, 42, 180, 0, 9, 42, 180, 0, 40, 28, 79, 42, 29]
abbrev dktX4_step_1 : List UInt8 := dkwX4_step_1 ++ dktX4_step_2
def dkwX4_step_0 : List UInt8 := [42, 182, 0, 45, 27, 184, 0, 49, 61, 42, 28, 182, 0, 53, 62, 42, 180, 0, 32, 42, 180, 0, 40, 27]
abbrev dktX4_step_0 : List UInt8 := dkwX4_step_0 ++ dktX4_step_1
theorem dksX4_step_0 : cX4_step.data.toList.drop 0 = dktX4_step_0 := by decide +kernel
theorem dksX4_step_1 : cX4_step.data.toList.drop 24 = dktX4_step_1 := dk_seg dksX4_step_0 24 rfl rfl
theorem dksX4_step_2 : cX4_step.data.toList.drop 47 = dktX4_step_2 := dk_seg dksX4_step_1 23 rfl rfl
theorem dX4_step_0 : decode cX4_step 0 = .ok (.aload_n 0, 1) := dk_42 (dk_at dksX4_step_0 0 rfl rfl)
theorem dX4_step_1 : decode cX4_step 1 = .ok (.invokevirtual 45, 3) := dk_182 0 45 (dk_at dksX4_step_0 1 rfl rfl)
theorem dX4_step_4 : decode cX4_step 4 = .ok (.iload_n 1, 1) := dk_27 (dk_at dksX4_step_0 4 rfl rfl)
theorem dX4_step_5 : decode cX4_step 5 = .ok (.invokestatic 49, 3) := dk_184 0 49 (dk_at dksX4_step_0 5 rfl rfl)
theorem dX4_step_8 : decode cX4_step 8 = .ok (.istore_n 2, 1) := dk_61 (dk_at dksX4_step_0 8 rfl rfl)
theorem dX4_step_9 : decode cX4_step 9 = .ok (.aload_n 0, 1) := dk_42 (dk_at dksX4_step_0 9 rfl rfl)
theorem dX4_step_10 : decode cX4_step 10 = .ok (.iload_n 2, 1) := dk_28 (dk_at dksX4_step_0 10 rfl rfl)
theorem dX4_step_11 : decode cX4_step 11 = .ok (.invokevirtual 53, 3) := dk_182 0 53 (dk_at dksX4_step_0 11 rfl rfl)
theorem dX4_step_14 : decode cX4_step 14 = .ok (.istore_n 3, 1) := dk_62 (dk_at dksX4_step_0 14 rfl rfl)
theorem dX4_step_15 : decode cX4_step 15 = .ok (.aload_n 0, 1) := dk_42 (dk_at dksX4_step_0 15 rfl rfl)
theorem dX4_step_16 : decode cX4_step 16 = .ok (.getfield 32, 3) := dk_180 0 32 (dk_at dksX4_step_0 16 rfl rfl)
theorem dX4_step_19 : decode cX4_step 19 = .ok (.aload_n 0, 1) := dk_42 (dk_at dksX4_step_0 19 rfl rfl)
theorem dX4_step_20 : decode cX4_step 20 = .ok (.getfield 40, 3) := dk_180 0 40 (dk_at dksX4_step_0 20 rfl rfl)
theorem dX4_step_23 : decode cX4_step 23 = .ok (.iload_n 1, 1) := dk_27 (dk_at dksX4_step_0 23 rfl rfl)
theorem dX4_step_24 : decode cX4_step 24 = .ok (.iastore, 1) := dk_79 (dk_at dksX4_step_1 0 rfl rfl)
theorem dX4_step_25 : decode cX4_step 25 = .ok (.aload_n 0, 1) := dk_42 (dk_at dksX4_step_1 1 rfl rfl)
theorem dX4_step_26 : decode cX4_step 26 = .ok (.dup, 1) := dk_89 (dk_at dksX4_step_1 2 rfl rfl)
theorem dX4_step_27 : decode cX4_step 27 = .ok (.getfield 40, 3) := dk_180 0 40 (dk_at dksX4_step_1 3 rfl rfl)
theorem dX4_step_30 : decode cX4_step 30 = .ok (.iconst 1, 1) := dk_4 (dk_at dksX4_step_1 6 rfl rfl)
theorem dX4_step_31 : decode cX4_step 31 = .ok (.iadd, 1) := dk_96 (dk_at dksX4_step_1 7 rfl rfl)
theorem dX4_step_32 : decode cX4_step 32 = .ok (.putfield 40, 3) := dk_181 0 40 (dk_at dksX4_step_1 8 rfl rfl)
theorem dX4_step_35 : decode cX4_step 35 = .ok (.aload_n 0, 1) := dk_42 (dk_at dksX4_step_1 11 rfl rfl)
theorem dX4_step_36 : decode cX4_step 36 = .ok (.getfield 9, 3) := dk_180 0 9 (dk_at dksX4_step_1 12 rfl rfl)
theorem dX4_step_39 : decode cX4_step 39 = .ok (.aload_n 0, 1) := dk_42 (dk_at dksX4_step_1 15 rfl rfl)
theorem dX4_step_40 : decode cX4_step 40 = .ok (.getfield 40, 3) := dk_180 0 40 (dk_at dksX4_step_1 16 rfl rfl)
theorem dX4_step_43 : decode cX4_step 43 = .ok (.iload_n 2, 1) := dk_28 (dk_at dksX4_step_1 19 rfl rfl)
theorem dX4_step_44 : decode cX4_step 44 = .ok (.iastore, 1) := dk_79 (dk_at dksX4_step_1 20 rfl rfl)
theorem dX4_step_45 : decode cX4_step 45 = .ok (.aload_n 0, 1) := dk_42 (dk_at dksX4_step_1 21 rfl rfl)
theorem dX4_step_46 : decode cX4_step 46 = .ok (.iload_n 3, 1) := dk_29 (dk_at dksX4_step_1 22 rfl rfl)
theorem dX4_step_47 : decode cX4_step 47 = .ok (.ifCond .eq 13, 3) := dk_153 0 13 (dk_at dksX4_step_2 0 rfl rfl)
theorem dX4_step_50 : decode cX4_step 50 = .ok (.new 43, 3) := dk_187 0 43 (dk_at dksX4_step_2 3 rfl rfl)
theorem dX4_step_53 : decode cX4_step 53 = .ok (.dup, 1) := dk_89 (dk_at dksX4_step_2 6 rfl rfl)
theorem dX4_step_54 : decode cX4_step 54 = .ok (.invokespecial 57, 3) := dk_183 0 57 (dk_at dksX4_step_2 7 rfl rfl)
theorem dX4_step_57 : decode cX4_step 57 = .ok (.goto 7, 3) := dk_167 0 7 (dk_at dksX4_step_2 10 rfl rfl)
theorem dX4_step_60 : decode cX4_step 60 = .ok (.aload_n 0, 1) := dk_42 (dk_at dksX4_step_2 13 rfl rfl)
theorem dX4_step_61 : decode cX4_step 61 = .ok (.getfield 21, 3) := dk_180 0 21 (dk_at dksX4_step_2 14 rfl rfl)
theorem dX4_step_64 : decode cX4_step 64 = .ok (.putfield 21, 3) := dk_181 0 21 (dk_at dksX4_step_2 17 rfl rfl)
theorem dX4_step_67 : decode cX4_step 67 = .ok (.return_, 1) := dk_177 (dk_at dksX4_step_2 20 rfl rfl)
abbrev cX4_slanting : ByteArray := prog_6_method_12_code
def yX4_slanting : MethodName := ⟨RX4, "slanting", "()I"⟩
def dkwX4_slanting_1 : List UInt8 := [153, 0, 7, 4, 167, 0, 4, 3, 96, 60, 132, 2, 1, 167, 255, 225, 27, 172]
abbrev dktX4_slanting_1 : List UInt8 := dkwX4_slanting_1 ++ []
def dkwX4_slanting_0 : List UInt8 := [3, 60, 3, 61, 28, 42, 180, 0, 40, 162, 0, 29, 27, 42, 180, 0, 32, 28, 46, 184, 0, 67]
abbrev dktX4_slanting_0 : List UInt8 := dkwX4_slanting_0 ++ dktX4_slanting_1
theorem dksX4_slanting_0 : cX4_slanting.data.toList.drop 0 = dktX4_slanting_0 := by decide +kernel
theorem dksX4_slanting_1 : cX4_slanting.data.toList.drop 22 = dktX4_slanting_1 := dk_seg dksX4_slanting_0 22 rfl rfl
theorem dX4_slanting_0 : decode cX4_slanting 0 = .ok (.iconst 0, 1) := dk_3 (dk_at dksX4_slanting_0 0 rfl rfl)
theorem dX4_slanting_1 : decode cX4_slanting 1 = .ok (.istore_n 1, 1) := dk_60 (dk_at dksX4_slanting_0 1 rfl rfl)
theorem dX4_slanting_2 : decode cX4_slanting 2 = .ok (.iconst 0, 1) := dk_3 (dk_at dksX4_slanting_0 2 rfl rfl)
theorem dX4_slanting_3 : decode cX4_slanting 3 = .ok (.istore_n 2, 1) := dk_61 (dk_at dksX4_slanting_0 3 rfl rfl)
theorem dX4_slanting_4 : decode cX4_slanting 4 = .ok (.iload_n 2, 1) := dk_28 (dk_at dksX4_slanting_0 4 rfl rfl)
theorem dX4_slanting_5 : decode cX4_slanting 5 = .ok (.aload_n 0, 1) := dk_42 (dk_at dksX4_slanting_0 5 rfl rfl)
theorem dX4_slanting_6 : decode cX4_slanting 6 = .ok (.getfield 40, 3) := dk_180 0 40 (dk_at dksX4_slanting_0 6 rfl rfl)
theorem dX4_slanting_9 : decode cX4_slanting 9 = .ok (.if_icmp .ge 29, 3) := dk_162 0 29 (dk_at dksX4_slanting_0 9 rfl rfl)
theorem dX4_slanting_12 : decode cX4_slanting 12 = .ok (.iload_n 1, 1) := dk_27 (dk_at dksX4_slanting_0 12 rfl rfl)
theorem dX4_slanting_13 : decode cX4_slanting 13 = .ok (.aload_n 0, 1) := dk_42 (dk_at dksX4_slanting_0 13 rfl rfl)
theorem dX4_slanting_14 : decode cX4_slanting 14 = .ok (.getfield 32, 3) := dk_180 0 32 (dk_at dksX4_slanting_0 14 rfl rfl)
theorem dX4_slanting_17 : decode cX4_slanting 17 = .ok (.iload_n 2, 1) := dk_28 (dk_at dksX4_slanting_0 17 rfl rfl)
theorem dX4_slanting_18 : decode cX4_slanting 18 = .ok (.iaload, 1) := dk_46 (dk_at dksX4_slanting_0 18 rfl rfl)
theorem dX4_slanting_19 : decode cX4_slanting 19 = .ok (.invokestatic 67, 3) := dk_184 0 67 (dk_at dksX4_slanting_0 19 rfl rfl)
theorem dX4_slanting_22 : decode cX4_slanting 22 = .ok (.ifCond .eq 7, 3) := dk_153 0 7 (dk_at dksX4_slanting_1 0 rfl rfl)
theorem dX4_slanting_25 : decode cX4_slanting 25 = .ok (.iconst 1, 1) := dk_4 (dk_at dksX4_slanting_1 3 rfl rfl)
theorem dX4_slanting_26 : decode cX4_slanting 26 = .ok (.goto 4, 3) := dk_167 0 4 (dk_at dksX4_slanting_1 4 rfl rfl)
theorem dX4_slanting_29 : decode cX4_slanting 29 = .ok (.iconst 0, 1) := dk_3 (dk_at dksX4_slanting_1 7 rfl rfl)
theorem dX4_slanting_30 : decode cX4_slanting 30 = .ok (.iadd, 1) := dk_96 (dk_at dksX4_slanting_1 8 rfl rfl)
theorem dX4_slanting_31 : decode cX4_slanting 31 = .ok (.istore_n 1, 1) := dk_60 (dk_at dksX4_slanting_1 9 rfl rfl)
theorem dX4_slanting_32 : decode cX4_slanting 32 = .ok (.iinc 2 1, 3) := dk_132 2 1 (dk_at dksX4_slanting_1 10 rfl rfl)
theorem dX4_slanting_35 : decode cX4_slanting 35 = .ok (.goto (-31), 3) := dk_167 255 225 (dk_at dksX4_slanting_1 13 rfl rfl)
theorem dX4_slanting_38 : decode cX4_slanting 38 = .ok (.iload_n 1, 1) := dk_27 (dk_at dksX4_slanting_1 16 rfl rfl)
theorem dX4_slanting_39 : decode cX4_slanting 39 = .ok (.ireturn, 1) := dk_172 (dk_at dksX4_slanting_1 17 rfl rfl)
abbrev cX4_lengthBySteps : ByteArray := prog_6_method_13_code
def yX4_lengthBySteps : MethodName := ⟨RX4, "lengthBySteps", "()D"⟩
def dkwX4_lengthBySteps_1 : List UInt8 := [153, 0, 9, 20, 0, 70, 167, 0, 4, 15, 99, 72, 132, 3, 1, 167, 255, 223, 39, 175]
abbrev dktX4_lengthBySteps_1 : List UInt8 := dkwX4_lengthBySteps_1 ++ []
def dkwX4_lengthBySteps_0 : List UInt8 := [14, 72, 3, 62, 29, 42, 180, 0, 40, 162, 0, 31, 39, 42, 180, 0, 32, 29, 46, 184, 0, 67]
abbrev dktX4_lengthBySteps_0 : List UInt8 := dkwX4_lengthBySteps_0 ++ dktX4_lengthBySteps_1
theorem dksX4_lengthBySteps_0 : cX4_lengthBySteps.data.toList.drop 0 = dktX4_lengthBySteps_0 := by decide +kernel
theorem dksX4_lengthBySteps_1 : cX4_lengthBySteps.data.toList.drop 22 = dktX4_lengthBySteps_1 := dk_seg dksX4_lengthBySteps_0 22 rfl rfl
theorem dX4_lengthBySteps_0 : decode cX4_lengthBySteps 0 = .ok (.dconst 0, 1) := dk_14 (dk_at dksX4_lengthBySteps_0 0 rfl rfl)
theorem dX4_lengthBySteps_1 : decode cX4_lengthBySteps 1 = .ok (.dstore_n 1, 1) := dk_72 (dk_at dksX4_lengthBySteps_0 1 rfl rfl)
theorem dX4_lengthBySteps_2 : decode cX4_lengthBySteps 2 = .ok (.iconst 0, 1) := dk_3 (dk_at dksX4_lengthBySteps_0 2 rfl rfl)
theorem dX4_lengthBySteps_3 : decode cX4_lengthBySteps 3 = .ok (.istore_n 3, 1) := dk_62 (dk_at dksX4_lengthBySteps_0 3 rfl rfl)
theorem dX4_lengthBySteps_4 : decode cX4_lengthBySteps 4 = .ok (.iload_n 3, 1) := dk_29 (dk_at dksX4_lengthBySteps_0 4 rfl rfl)
theorem dX4_lengthBySteps_5 : decode cX4_lengthBySteps 5 = .ok (.aload_n 0, 1) := dk_42 (dk_at dksX4_lengthBySteps_0 5 rfl rfl)
theorem dX4_lengthBySteps_6 : decode cX4_lengthBySteps 6 = .ok (.getfield 40, 3) := dk_180 0 40 (dk_at dksX4_lengthBySteps_0 6 rfl rfl)
theorem dX4_lengthBySteps_9 : decode cX4_lengthBySteps 9 = .ok (.if_icmp .ge 31, 3) := dk_162 0 31 (dk_at dksX4_lengthBySteps_0 9 rfl rfl)
theorem dX4_lengthBySteps_12 : decode cX4_lengthBySteps 12 = .ok (.dload_n 1, 1) := dk_39 (dk_at dksX4_lengthBySteps_0 12 rfl rfl)
theorem dX4_lengthBySteps_13 : decode cX4_lengthBySteps 13 = .ok (.aload_n 0, 1) := dk_42 (dk_at dksX4_lengthBySteps_0 13 rfl rfl)
theorem dX4_lengthBySteps_14 : decode cX4_lengthBySteps 14 = .ok (.getfield 32, 3) := dk_180 0 32 (dk_at dksX4_lengthBySteps_0 14 rfl rfl)
theorem dX4_lengthBySteps_17 : decode cX4_lengthBySteps 17 = .ok (.iload_n 3, 1) := dk_29 (dk_at dksX4_lengthBySteps_0 17 rfl rfl)
theorem dX4_lengthBySteps_18 : decode cX4_lengthBySteps 18 = .ok (.iaload, 1) := dk_46 (dk_at dksX4_lengthBySteps_0 18 rfl rfl)
theorem dX4_lengthBySteps_19 : decode cX4_lengthBySteps 19 = .ok (.invokestatic 67, 3) := dk_184 0 67 (dk_at dksX4_lengthBySteps_0 19 rfl rfl)
theorem dX4_lengthBySteps_22 : decode cX4_lengthBySteps 22 = .ok (.ifCond .eq 9, 3) := dk_153 0 9 (dk_at dksX4_lengthBySteps_1 0 rfl rfl)
theorem dX4_lengthBySteps_25 : decode cX4_lengthBySteps 25 = .ok (.ldc2_w 70, 3) := dk_20 0 70 (dk_at dksX4_lengthBySteps_1 3 rfl rfl)
theorem dX4_lengthBySteps_28 : decode cX4_lengthBySteps 28 = .ok (.goto 4, 3) := dk_167 0 4 (dk_at dksX4_lengthBySteps_1 6 rfl rfl)
theorem dX4_lengthBySteps_31 : decode cX4_lengthBySteps 31 = .ok (.dconst 1, 1) := dk_15 (dk_at dksX4_lengthBySteps_1 9 rfl rfl)
theorem dX4_lengthBySteps_32 : decode cX4_lengthBySteps 32 = .ok (.dadd, 1) := dk_99 (dk_at dksX4_lengthBySteps_1 10 rfl rfl)
theorem dX4_lengthBySteps_33 : decode cX4_lengthBySteps 33 = .ok (.dstore_n 1, 1) := dk_72 (dk_at dksX4_lengthBySteps_1 11 rfl rfl)
theorem dX4_lengthBySteps_34 : decode cX4_lengthBySteps 34 = .ok (.iinc 3 1, 3) := dk_132 3 1 (dk_at dksX4_lengthBySteps_1 12 rfl rfl)
theorem dX4_lengthBySteps_37 : decode cX4_lengthBySteps 37 = .ok (.goto (-33), 3) := dk_167 255 223 (dk_at dksX4_lengthBySteps_1 15 rfl rfl)
theorem dX4_lengthBySteps_40 : decode cX4_lengthBySteps 40 = .ok (.dload_n 1, 1) := dk_39 (dk_at dksX4_lengthBySteps_1 18 rfl rfl)
theorem dX4_lengthBySteps_41 : decode cX4_lengthBySteps 41 = .ok (.dreturn, 1) := dk_175 (dk_at dksX4_lengthBySteps_1 19 rfl rfl)
abbrev cX4_isTurned : ByteArray := prog_6_method_21_code
def yX4_isTurned : MethodName := ⟨RX4, "isTurned", "()Z"⟩
def dkwX4_isTurned_1 : List UInt8 := [172]
abbrev dktX4_isTurned_1 : List UInt8 := dkwX4_isTurned_1 ++ []
def dkwX4_isTurned_0 : List UInt8 := [42, 180, 0, 25, 2, 159, 0, 18, 42, 42, 180, 0, 25, 182, 0, 96, 156, 0, 7, 4, 167, 0, 4, 3]
abbrev dktX4_isTurned_0 : List UInt8 := dkwX4_isTurned_0 ++ dktX4_isTurned_1
theorem dksX4_isTurned_0 : cX4_isTurned.data.toList.drop 0 = dktX4_isTurned_0 := by decide +kernel
theorem dksX4_isTurned_1 : cX4_isTurned.data.toList.drop 24 = dktX4_isTurned_1 := dk_seg dksX4_isTurned_0 24 rfl rfl
theorem dX4_isTurned_0 : decode cX4_isTurned 0 = .ok (.aload_n 0, 1) := dk_42 (dk_at dksX4_isTurned_0 0 rfl rfl)
theorem dX4_isTurned_1 : decode cX4_isTurned 1 = .ok (.getfield 25, 3) := dk_180 0 25 (dk_at dksX4_isTurned_0 1 rfl rfl)
theorem dX4_isTurned_4 : decode cX4_isTurned 4 = .ok (.iconst (-1), 1) := dk_2 (dk_at dksX4_isTurned_0 4 rfl rfl)
theorem dX4_isTurned_5 : decode cX4_isTurned 5 = .ok (.if_icmp .eq 18, 3) := dk_159 0 18 (dk_at dksX4_isTurned_0 5 rfl rfl)
theorem dX4_isTurned_8 : decode cX4_isTurned 8 = .ok (.aload_n 0, 1) := dk_42 (dk_at dksX4_isTurned_0 8 rfl rfl)
theorem dX4_isTurned_9 : decode cX4_isTurned 9 = .ok (.aload_n 0, 1) := dk_42 (dk_at dksX4_isTurned_0 9 rfl rfl)
theorem dX4_isTurned_10 : decode cX4_isTurned 10 = .ok (.getfield 25, 3) := dk_180 0 25 (dk_at dksX4_isTurned_0 10 rfl rfl)
theorem dX4_isTurned_13 : decode cX4_isTurned 13 = .ok (.invokevirtual 96, 3) := dk_182 0 96 (dk_at dksX4_isTurned_0 13 rfl rfl)
theorem dX4_isTurned_16 : decode cX4_isTurned 16 = .ok (.ifCond .ge 7, 3) := dk_156 0 7 (dk_at dksX4_isTurned_0 16 rfl rfl)
theorem dX4_isTurned_19 : decode cX4_isTurned 19 = .ok (.iconst 1, 1) := dk_4 (dk_at dksX4_isTurned_0 19 rfl rfl)
theorem dX4_isTurned_20 : decode cX4_isTurned 20 = .ok (.goto 4, 3) := dk_167 0 4 (dk_at dksX4_isTurned_0 20 rfl rfl)
theorem dX4_isTurned_23 : decode cX4_isTurned 23 = .ok (.iconst 0, 1) := dk_3 (dk_at dksX4_isTurned_0 23 rfl rfl)
theorem dX4_isTurned_24 : decode cX4_isTurned 24 = .ok (.ireturn, 1) := dk_172 (dk_at dksX4_isTurned_1 0 rfl rfl)
abbrev cX4_readFrom : ByteArray := prog_6_method_22_code
def yX4_readFrom : MethodName := ⟨RX4, "readFrom", "()I"⟩
def dkwX4_readFrom_1 : List UInt8 := [42, 180, 0, 25, 182, 0, 75, 167, 0, 7, 42, 180, 0, 25, 46, 172]
abbrev dktX4_readFrom_1 : List UInt8 := dkwX4_readFrom_1 ++ []
def dkwX4_readFrom_0 : List UInt8 := [42, 180, 0, 25, 2, 160, 0, 7, 2, 167, 0, 30, 42, 180, 0, 9, 42, 182, 0, 99, 153, 0, 14, 42]
abbrev dktX4_readFrom_0 : List UInt8 := dkwX4_readFrom_0 ++ dktX4_readFrom_1
theorem dksX4_readFrom_0 : cX4_readFrom.data.toList.drop 0 = dktX4_readFrom_0 := by decide +kernel
theorem dksX4_readFrom_1 : cX4_readFrom.data.toList.drop 24 = dktX4_readFrom_1 := dk_seg dksX4_readFrom_0 24 rfl rfl
theorem dX4_readFrom_0 : decode cX4_readFrom 0 = .ok (.aload_n 0, 1) := dk_42 (dk_at dksX4_readFrom_0 0 rfl rfl)
theorem dX4_readFrom_1 : decode cX4_readFrom 1 = .ok (.getfield 25, 3) := dk_180 0 25 (dk_at dksX4_readFrom_0 1 rfl rfl)
theorem dX4_readFrom_4 : decode cX4_readFrom 4 = .ok (.iconst (-1), 1) := dk_2 (dk_at dksX4_readFrom_0 4 rfl rfl)
theorem dX4_readFrom_5 : decode cX4_readFrom 5 = .ok (.if_icmp .ne 7, 3) := dk_160 0 7 (dk_at dksX4_readFrom_0 5 rfl rfl)
theorem dX4_readFrom_8 : decode cX4_readFrom 8 = .ok (.iconst (-1), 1) := dk_2 (dk_at dksX4_readFrom_0 8 rfl rfl)
theorem dX4_readFrom_9 : decode cX4_readFrom 9 = .ok (.goto 30, 3) := dk_167 0 30 (dk_at dksX4_readFrom_0 9 rfl rfl)
theorem dX4_readFrom_12 : decode cX4_readFrom 12 = .ok (.aload_n 0, 1) := dk_42 (dk_at dksX4_readFrom_0 12 rfl rfl)
theorem dX4_readFrom_13 : decode cX4_readFrom 13 = .ok (.getfield 9, 3) := dk_180 0 9 (dk_at dksX4_readFrom_0 13 rfl rfl)
theorem dX4_readFrom_16 : decode cX4_readFrom 16 = .ok (.aload_n 0, 1) := dk_42 (dk_at dksX4_readFrom_0 16 rfl rfl)
theorem dX4_readFrom_17 : decode cX4_readFrom 17 = .ok (.invokevirtual 99, 3) := dk_182 0 99 (dk_at dksX4_readFrom_0 17 rfl rfl)
theorem dX4_readFrom_20 : decode cX4_readFrom 20 = .ok (.ifCond .eq 14, 3) := dk_153 0 14 (dk_at dksX4_readFrom_0 20 rfl rfl)
theorem dX4_readFrom_23 : decode cX4_readFrom 23 = .ok (.aload_n 0, 1) := dk_42 (dk_at dksX4_readFrom_0 23 rfl rfl)
theorem dX4_readFrom_24 : decode cX4_readFrom 24 = .ok (.aload_n 0, 1) := dk_42 (dk_at dksX4_readFrom_1 0 rfl rfl)
theorem dX4_readFrom_25 : decode cX4_readFrom 25 = .ok (.getfield 25, 3) := dk_180 0 25 (dk_at dksX4_readFrom_1 1 rfl rfl)
theorem dX4_readFrom_28 : decode cX4_readFrom 28 = .ok (.invokevirtual 75, 3) := dk_182 0 75 (dk_at dksX4_readFrom_1 4 rfl rfl)
theorem dX4_readFrom_31 : decode cX4_readFrom 31 = .ok (.goto 7, 3) := dk_167 0 7 (dk_at dksX4_readFrom_1 7 rfl rfl)
theorem dX4_readFrom_34 : decode cX4_readFrom 34 = .ok (.aload_n 0, 1) := dk_42 (dk_at dksX4_readFrom_1 10 rfl rfl)
theorem dX4_readFrom_35 : decode cX4_readFrom 35 = .ok (.getfield 25, 3) := dk_180 0 25 (dk_at dksX4_readFrom_1 11 rfl rfl)
theorem dX4_readFrom_38 : decode cX4_readFrom 38 = .ok (.iaload, 1) := dk_46 (dk_at dksX4_readFrom_1 14 rfl rfl)
theorem dX4_readFrom_39 : decode cX4_readFrom 39 = .ok (.ireturn, 1) := dk_172 (dk_at dksX4_readFrom_1 15 rfl rfl)
abbrev cX4_isRound : ByteArray := prog_6_method_24_code
def yX4_isRound : MethodName := ⟨RX4, "isRound", "(I)Z"⟩
def dkwX4_isRound_5 : List UInt8 := [167, 0, 4, 3, 130, 61, 132, 3, 1, 167, 255, 136, 28, 172]
abbrev dktX4_isRound_5 : List UInt8 := dkwX4_isRound_5 ++ []
def dkwX4_isRound_4 : List UInt8 := [21, 5, 153, 0, 24, 42, 180, 0, 9, 21, 4, 46, 184, 0, 84, 27, 184, 0, 84, 164, 0, 7, 4]
abbrev dktX4_isRound_4 : List UInt8 := dkwX4_isRound_4 ++ dktX4_isRound_5
def dkwX4_isRound_3 : List UInt8 := [180, 0, 9, 21, 4, 46, 184, 0, 87, 27, 184, 0, 87, 160, 0, 7, 4, 167, 0, 4, 3, 54, 5, 28]
abbrev dktX4_isRound_3 : List UInt8 := dkwX4_isRound_3 ++ dktX4_isRound_4
def dkwX4_isRound_2 : List UInt8 := [180, 0, 9, 29, 46, 184, 0, 87, 42, 180, 0, 9, 29, 4, 96, 46, 184, 0, 87, 159, 0, 24, 42]
abbrev dktX4_isRound_2 : List UInt8 := dkwX4_isRound_2 ++ dktX4_isRound_3
def dkwX4_isRound_1 : List UInt8 := [180, 0, 9, 29, 4, 96, 46, 184, 0, 87, 162, 0, 7, 29, 167, 0, 6, 29, 4, 96, 54, 4, 42]
abbrev dktX4_isRound_1 : List UInt8 := dkwX4_isRound_1 ++ dktX4_isRound_2
def dkwX4_isRound_0 : List UInt8 := [3, 61, 3, 62, 29, 42, 180, 0, 40, 162, 0, 118, 42, 180, 0, 9, 29, 46, 184, 0, 87, 42]
abbrev dktX4_isRound_0 : List UInt8 := dkwX4_isRound_0 ++ dktX4_isRound_1
theorem dksX4_isRound_0 : cX4_isRound.data.toList.drop 0 = dktX4_isRound_0 := by decide +kernel
theorem dksX4_isRound_1 : cX4_isRound.data.toList.drop 22 = dktX4_isRound_1 := dk_seg dksX4_isRound_0 22 rfl rfl
theorem dksX4_isRound_2 : cX4_isRound.data.toList.drop 45 = dktX4_isRound_2 := dk_seg dksX4_isRound_1 23 rfl rfl
theorem dksX4_isRound_3 : cX4_isRound.data.toList.drop 68 = dktX4_isRound_3 := dk_seg dksX4_isRound_2 23 rfl rfl
theorem dksX4_isRound_4 : cX4_isRound.data.toList.drop 92 = dktX4_isRound_4 := dk_seg dksX4_isRound_3 24 rfl rfl
theorem dksX4_isRound_5 : cX4_isRound.data.toList.drop 115 = dktX4_isRound_5 := dk_seg dksX4_isRound_4 23 rfl rfl
theorem dX4_isRound_0 : decode cX4_isRound 0 = .ok (.iconst 0, 1) := dk_3 (dk_at dksX4_isRound_0 0 rfl rfl)
theorem dX4_isRound_1 : decode cX4_isRound 1 = .ok (.istore_n 2, 1) := dk_61 (dk_at dksX4_isRound_0 1 rfl rfl)
theorem dX4_isRound_2 : decode cX4_isRound 2 = .ok (.iconst 0, 1) := dk_3 (dk_at dksX4_isRound_0 2 rfl rfl)
theorem dX4_isRound_3 : decode cX4_isRound 3 = .ok (.istore_n 3, 1) := dk_62 (dk_at dksX4_isRound_0 3 rfl rfl)
theorem dX4_isRound_4 : decode cX4_isRound 4 = .ok (.iload_n 3, 1) := dk_29 (dk_at dksX4_isRound_0 4 rfl rfl)
theorem dX4_isRound_5 : decode cX4_isRound 5 = .ok (.aload_n 0, 1) := dk_42 (dk_at dksX4_isRound_0 5 rfl rfl)
theorem dX4_isRound_6 : decode cX4_isRound 6 = .ok (.getfield 40, 3) := dk_180 0 40 (dk_at dksX4_isRound_0 6 rfl rfl)
theorem dX4_isRound_9 : decode cX4_isRound 9 = .ok (.if_icmp .ge 118, 3) := dk_162 0 118 (dk_at dksX4_isRound_0 9 rfl rfl)
theorem dX4_isRound_12 : decode cX4_isRound 12 = .ok (.aload_n 0, 1) := dk_42 (dk_at dksX4_isRound_0 12 rfl rfl)
theorem dX4_isRound_13 : decode cX4_isRound 13 = .ok (.getfield 9, 3) := dk_180 0 9 (dk_at dksX4_isRound_0 13 rfl rfl)
theorem dX4_isRound_16 : decode cX4_isRound 16 = .ok (.iload_n 3, 1) := dk_29 (dk_at dksX4_isRound_0 16 rfl rfl)
theorem dX4_isRound_17 : decode cX4_isRound 17 = .ok (.iaload, 1) := dk_46 (dk_at dksX4_isRound_0 17 rfl rfl)
theorem dX4_isRound_18 : decode cX4_isRound 18 = .ok (.invokestatic 87, 3) := dk_184 0 87 (dk_at dksX4_isRound_0 18 rfl rfl)
theorem dX4_isRound_21 : decode cX4_isRound 21 = .ok (.aload_n 0, 1) := dk_42 (dk_at dksX4_isRound_0 21 rfl rfl)
theorem dX4_isRound_22 : decode cX4_isRound 22 = .ok (.getfield 9, 3) := dk_180 0 9 (dk_at dksX4_isRound_1 0 rfl rfl)
theorem dX4_isRound_25 : decode cX4_isRound 25 = .ok (.iload_n 3, 1) := dk_29 (dk_at dksX4_isRound_1 3 rfl rfl)
theorem dX4_isRound_26 : decode cX4_isRound 26 = .ok (.iconst 1, 1) := dk_4 (dk_at dksX4_isRound_1 4 rfl rfl)
theorem dX4_isRound_27 : decode cX4_isRound 27 = .ok (.iadd, 1) := dk_96 (dk_at dksX4_isRound_1 5 rfl rfl)
theorem dX4_isRound_28 : decode cX4_isRound 28 = .ok (.iaload, 1) := dk_46 (dk_at dksX4_isRound_1 6 rfl rfl)
theorem dX4_isRound_29 : decode cX4_isRound 29 = .ok (.invokestatic 87, 3) := dk_184 0 87 (dk_at dksX4_isRound_1 7 rfl rfl)
theorem dX4_isRound_32 : decode cX4_isRound 32 = .ok (.if_icmp .ge 7, 3) := dk_162 0 7 (dk_at dksX4_isRound_1 10 rfl rfl)
theorem dX4_isRound_35 : decode cX4_isRound 35 = .ok (.iload_n 3, 1) := dk_29 (dk_at dksX4_isRound_1 13 rfl rfl)
theorem dX4_isRound_36 : decode cX4_isRound 36 = .ok (.goto 6, 3) := dk_167 0 6 (dk_at dksX4_isRound_1 14 rfl rfl)
theorem dX4_isRound_39 : decode cX4_isRound 39 = .ok (.iload_n 3, 1) := dk_29 (dk_at dksX4_isRound_1 17 rfl rfl)
theorem dX4_isRound_40 : decode cX4_isRound 40 = .ok (.iconst 1, 1) := dk_4 (dk_at dksX4_isRound_1 18 rfl rfl)
theorem dX4_isRound_41 : decode cX4_isRound 41 = .ok (.iadd, 1) := dk_96 (dk_at dksX4_isRound_1 19 rfl rfl)
theorem dX4_isRound_42 : decode cX4_isRound 42 = .ok (.istore 4, 2) := dk_54 4 (dk_at dksX4_isRound_1 20 rfl rfl)
theorem dX4_isRound_44 : decode cX4_isRound 44 = .ok (.aload_n 0, 1) := dk_42 (dk_at dksX4_isRound_1 22 rfl rfl)
theorem dX4_isRound_45 : decode cX4_isRound 45 = .ok (.getfield 9, 3) := dk_180 0 9 (dk_at dksX4_isRound_2 0 rfl rfl)
theorem dX4_isRound_48 : decode cX4_isRound 48 = .ok (.iload_n 3, 1) := dk_29 (dk_at dksX4_isRound_2 3 rfl rfl)
theorem dX4_isRound_49 : decode cX4_isRound 49 = .ok (.iaload, 1) := dk_46 (dk_at dksX4_isRound_2 4 rfl rfl)
theorem dX4_isRound_50 : decode cX4_isRound 50 = .ok (.invokestatic 87, 3) := dk_184 0 87 (dk_at dksX4_isRound_2 5 rfl rfl)
theorem dX4_isRound_53 : decode cX4_isRound 53 = .ok (.aload_n 0, 1) := dk_42 (dk_at dksX4_isRound_2 8 rfl rfl)
theorem dX4_isRound_54 : decode cX4_isRound 54 = .ok (.getfield 9, 3) := dk_180 0 9 (dk_at dksX4_isRound_2 9 rfl rfl)
theorem dX4_isRound_57 : decode cX4_isRound 57 = .ok (.iload_n 3, 1) := dk_29 (dk_at dksX4_isRound_2 12 rfl rfl)
theorem dX4_isRound_58 : decode cX4_isRound 58 = .ok (.iconst 1, 1) := dk_4 (dk_at dksX4_isRound_2 13 rfl rfl)
theorem dX4_isRound_59 : decode cX4_isRound 59 = .ok (.iadd, 1) := dk_96 (dk_at dksX4_isRound_2 14 rfl rfl)
theorem dX4_isRound_60 : decode cX4_isRound 60 = .ok (.iaload, 1) := dk_46 (dk_at dksX4_isRound_2 15 rfl rfl)
theorem dX4_isRound_61 : decode cX4_isRound 61 = .ok (.invokestatic 87, 3) := dk_184 0 87 (dk_at dksX4_isRound_2 16 rfl rfl)
theorem dX4_isRound_64 : decode cX4_isRound 64 = .ok (.if_icmp .eq 24, 3) := dk_159 0 24 (dk_at dksX4_isRound_2 19 rfl rfl)
theorem dX4_isRound_67 : decode cX4_isRound 67 = .ok (.aload_n 0, 1) := dk_42 (dk_at dksX4_isRound_2 22 rfl rfl)
theorem dX4_isRound_68 : decode cX4_isRound 68 = .ok (.getfield 9, 3) := dk_180 0 9 (dk_at dksX4_isRound_3 0 rfl rfl)
theorem dX4_isRound_71 : decode cX4_isRound 71 = .ok (.iload 4, 2) := dk_21 4 (dk_at dksX4_isRound_3 3 rfl rfl)
theorem dX4_isRound_73 : decode cX4_isRound 73 = .ok (.iaload, 1) := dk_46 (dk_at dksX4_isRound_3 5 rfl rfl)
theorem dX4_isRound_74 : decode cX4_isRound 74 = .ok (.invokestatic 87, 3) := dk_184 0 87 (dk_at dksX4_isRound_3 6 rfl rfl)
theorem dX4_isRound_77 : decode cX4_isRound 77 = .ok (.iload_n 1, 1) := dk_27 (dk_at dksX4_isRound_3 9 rfl rfl)
theorem dX4_isRound_78 : decode cX4_isRound 78 = .ok (.invokestatic 87, 3) := dk_184 0 87 (dk_at dksX4_isRound_3 10 rfl rfl)
theorem dX4_isRound_81 : decode cX4_isRound 81 = .ok (.if_icmp .ne 7, 3) := dk_160 0 7 (dk_at dksX4_isRound_3 13 rfl rfl)
theorem dX4_isRound_84 : decode cX4_isRound 84 = .ok (.iconst 1, 1) := dk_4 (dk_at dksX4_isRound_3 16 rfl rfl)
theorem dX4_isRound_85 : decode cX4_isRound 85 = .ok (.goto 4, 3) := dk_167 0 4 (dk_at dksX4_isRound_3 17 rfl rfl)
theorem dX4_isRound_88 : decode cX4_isRound 88 = .ok (.iconst 0, 1) := dk_3 (dk_at dksX4_isRound_3 20 rfl rfl)
theorem dX4_isRound_89 : decode cX4_isRound 89 = .ok (.istore 5, 2) := dk_54 5 (dk_at dksX4_isRound_3 21 rfl rfl)
theorem dX4_isRound_91 : decode cX4_isRound 91 = .ok (.iload_n 2, 1) := dk_28 (dk_at dksX4_isRound_3 23 rfl rfl)
theorem dX4_isRound_92 : decode cX4_isRound 92 = .ok (.iload 5, 2) := dk_21 5 (dk_at dksX4_isRound_4 0 rfl rfl)
theorem dX4_isRound_94 : decode cX4_isRound 94 = .ok (.ifCond .eq 24, 3) := dk_153 0 24 (dk_at dksX4_isRound_4 2 rfl rfl)
theorem dX4_isRound_97 : decode cX4_isRound 97 = .ok (.aload_n 0, 1) := dk_42 (dk_at dksX4_isRound_4 5 rfl rfl)
theorem dX4_isRound_98 : decode cX4_isRound 98 = .ok (.getfield 9, 3) := dk_180 0 9 (dk_at dksX4_isRound_4 6 rfl rfl)
theorem dX4_isRound_101 : decode cX4_isRound 101 = .ok (.iload 4, 2) := dk_21 4 (dk_at dksX4_isRound_4 9 rfl rfl)
theorem dX4_isRound_103 : decode cX4_isRound 103 = .ok (.iaload, 1) := dk_46 (dk_at dksX4_isRound_4 11 rfl rfl)
theorem dX4_isRound_104 : decode cX4_isRound 104 = .ok (.invokestatic 84, 3) := dk_184 0 84 (dk_at dksX4_isRound_4 12 rfl rfl)
theorem dX4_isRound_107 : decode cX4_isRound 107 = .ok (.iload_n 1, 1) := dk_27 (dk_at dksX4_isRound_4 15 rfl rfl)
theorem dX4_isRound_108 : decode cX4_isRound 108 = .ok (.invokestatic 84, 3) := dk_184 0 84 (dk_at dksX4_isRound_4 16 rfl rfl)
theorem dX4_isRound_111 : decode cX4_isRound 111 = .ok (.if_icmp .le 7, 3) := dk_164 0 7 (dk_at dksX4_isRound_4 19 rfl rfl)
theorem dX4_isRound_114 : decode cX4_isRound 114 = .ok (.iconst 1, 1) := dk_4 (dk_at dksX4_isRound_4 22 rfl rfl)
theorem dX4_isRound_115 : decode cX4_isRound 115 = .ok (.goto 4, 3) := dk_167 0 4 (dk_at dksX4_isRound_5 0 rfl rfl)
theorem dX4_isRound_118 : decode cX4_isRound 118 = .ok (.iconst 0, 1) := dk_3 (dk_at dksX4_isRound_5 3 rfl rfl)
theorem dX4_isRound_119 : decode cX4_isRound 119 = .ok (.ixor, 1) := dk_130 (dk_at dksX4_isRound_5 4 rfl rfl)
theorem dX4_isRound_120 : decode cX4_isRound 120 = .ok (.istore_n 2, 1) := dk_61 (dk_at dksX4_isRound_5 5 rfl rfl)
theorem dX4_isRound_121 : decode cX4_isRound 121 = .ok (.iinc 3 1, 3) := dk_132 3 1 (dk_at dksX4_isRound_5 6 rfl rfl)
theorem dX4_isRound_124 : decode cX4_isRound 124 = .ok (.goto (-120), 3) := dk_167 255 136 (dk_at dksX4_isRound_5 9 rfl rfl)
theorem dX4_isRound_127 : decode cX4_isRound 127 = .ok (.iload_n 2, 1) := dk_28 (dk_at dksX4_isRound_5 12 rfl rfl)
theorem dX4_isRound_128 : decode cX4_isRound 128 = .ok (.ireturn, 1) := dk_172 (dk_at dksX4_isRound_5 13 rfl rfl)
theorem q99 : (Jvm.Cond.initialized "ContourLabels$Line") ∈ lw_all := lw_g (lw_at lw_m1 21 rfl) rfl
theorem q309 : (Jvm.Cond.instanceMethod ({ cls := "ContourLabels$Line", name := "copy", desc := "()LContourLabels$Line;" } : Jvm.MethodName)) ∈ lw_all := lw_g (lw_at lw_m1 231 rfl) rfl
theorem q310 : (Jvm.Cond.selects "ContourLabels$Line" ({ cls := "ContourLabels$Line", name := "copy", desc := "()LContourLabels$Line;" } : Jvm.MethodName) ({ cls := "ContourLabels$Line", name := "copy", desc := "()LContourLabels$Line;" } : Jvm.MethodName)) ∈ lw_all := lw_g (lw_at lw_m1 232 rfl) rfl
theorem q311 : (Jvm.Cond.code ({ cls := "ContourLabels$Line", name := "copy", desc := "()LContourLabels$Line;" } : Jvm.MethodName) prog_6_method_3_code (2 : Nat) (Option.some (Jvm.ClassFile.FieldType.object "ContourLabels$Line"))) ∈ lw_all := lw_g (lw_at lw_m1 233 rfl) rfl
theorem q312 : (Jvm.Cond.classLink "ContourLabels$Line" (4 : Nat) "ContourLabels$Line") ∈ lw_all := lw_g (lw_at lw_m1 234 rfl) rfl
theorem q313 : (Jvm.Cond.instantiable "ContourLabels$Line" (6 : Nat)) ∈ lw_all := lw_g (lw_at lw_m1 235 rfl) rfl
theorem q314 : (Jvm.Cond.methodLink "ContourLabels$Line" (35 : Nat) ({ cls := "[I", name := "clone", desc := "()Ljava/lang/Object;" } : Jvm.MethodName)) ∈ lw_all := lw_g (lw_at lw_m1 236 rfl) rfl
theorem q320 : (Jvm.Cond.classLink "ContourLabels$Line" (36 : Nat) "[I") ∈ lw_all := lw_g (lw_at lw_m2 2 rfl) rfl
theorem q321 : (Jvm.Cond.methodLink "ContourLabels$Line" (3 : Nat) ({ cls := "ContourLabels$Line", name := "<init>", desc := "(I[I[I)V" } : Jvm.MethodName)) ∈ lw_all := lw_g (lw_at lw_m2 3 rfl) rfl
theorem q322 : (Jvm.Cond.instanceMethod ({ cls := "ContourLabels$Line", name := "<init>", desc := "(I[I[I)V" } : Jvm.MethodName)) ∈ lw_all := lw_g (lw_at lw_m2 4 rfl) rfl
theorem q323 : (Jvm.Cond.code ({ cls := "ContourLabels$Line", name := "<init>", desc := "(I[I[I)V" } : Jvm.MethodName) prog_6_method_2_code (4 : Nat) (Option.none : Option Jvm.ClassFile.FieldType)) ∈ lw_all := lw_g (lw_at lw_m2 5 rfl) rfl
theorem q324 : (Jvm.Cond.methodLink "ContourLabels$Line" (13 : Nat) ({ cls := "java/lang/Object", name := "<init>", desc := "()V" } : Jvm.MethodName)) ∈ lw_all := lw_g (lw_at lw_m2 6 rfl) rfl
theorem q325 : (Jvm.Cond.classLink "ContourLabels$Line" (18 : Nat) "ContourLabels$Open") ∈ lw_all := lw_g (lw_at lw_m2 7 rfl) rfl
theorem q327 : (Jvm.Cond.methodLinkNest "ContourLabels$Line" (20 : Nat) ({ cls := "ContourLabels$Open", name := "<init>", desc := "()V" } : Jvm.MethodName) "ContourLabels") ∈ lw_tbl := lw_at lw_m2 9 rfl
theorem q333 : (Jvm.Cond.fieldLink "ContourLabels$Line" (29 : Nat) "ContourLabels$Line" "level" "I") ∈ lw_all := lw_g (lw_at lw_m2 15 rfl) rfl
theorem q336 : (Jvm.Cond.fieldLink "ContourLabels$Line" (9 : Nat) "ContourLabels$Line" "points" "[I") ∈ lw_all := lw_g (lw_at lw_m2 18 rfl) rfl
theorem q339 : (Jvm.Cond.fieldLink "ContourLabels$Line" (32 : Nat) "ContourLabels$Line" "steps" "[I") ∈ lw_all := lw_g (lw_at lw_m2 21 rfl) rfl
theorem q344 : (Jvm.Cond.fieldLink "ContourLabels$Line" (40 : Nat) "ContourLabels$Line" "many" "I") ∈ lw_all := lw_g (lw_at lw_m2 26 rfl) rfl
theorem q347 : (Jvm.Cond.fieldLink "ContourLabels$Line" (21 : Nat) "ContourLabels$Line" "ends" "LContourLabels$Ends;") ∈ lw_all := lw_g (lw_at lw_m2 29 rfl) rfl
theorem q348 : (Jvm.Cond.fieldLink "ContourLabels$Line" (25 : Nat) "ContourLabels$Line" "label" "I") ∈ lw_all := lw_g (lw_at lw_m2 30 rfl) rfl
theorem q351 : (Jvm.Cond.lays "ContourLabels$Line" "ContourLabels$Line" "level" "I") ∈ lw_all := lw_g (lw_at lw_m2 33 rfl) rfl
theorem q352 : (Jvm.Cond.soleField "ContourLabels$Line" "level") ∈ lw_all := lw_g (lw_at lw_m2 34 rfl) rfl
theorem q353 : (Jvm.Cond.laysFinal "ContourLabels$Line" "ContourLabels$Line" "points" "[I") ∈ lw_all := lw_g (lw_at lw_m2 35 rfl) rfl
theorem q354 : (Jvm.Cond.soleField "ContourLabels$Line" "points") ∈ lw_all := lw_g (lw_at lw_m2 36 rfl) rfl
theorem q355 : (Jvm.Cond.laysFinal "ContourLabels$Line" "ContourLabels$Line" "steps" "[I") ∈ lw_all := lw_g (lw_at lw_m2 37 rfl) rfl
theorem q356 : (Jvm.Cond.soleField "ContourLabels$Line" "steps") ∈ lw_all := lw_g (lw_at lw_m2 38 rfl) rfl
theorem q357 : (Jvm.Cond.lays "ContourLabels$Line" "ContourLabels$Line" "many" "I") ∈ lw_all := lw_g (lw_at lw_m2 39 rfl) rfl
theorem q358 : (Jvm.Cond.soleField "ContourLabels$Line" "many") ∈ lw_all := lw_g (lw_at lw_m2 40 rfl) rfl
theorem q359 : (Jvm.Cond.lays "ContourLabels$Line" "ContourLabels$Line" "ends" "LContourLabels$Ends;") ∈ lw_all := lw_g (lw_at lw_m2 41 rfl) rfl
theorem q360 : (Jvm.Cond.soleField "ContourLabels$Line" "ends") ∈ lw_all := lw_g (lw_at lw_m2 42 rfl) rfl
theorem q361 : (Jvm.Cond.lays "ContourLabels$Line" "ContourLabels$Line" "label" "I") ∈ lw_all := lw_g (lw_at lw_m2 43 rfl) rfl
theorem q362 : (Jvm.Cond.soleField "ContourLabels$Line" "label") ∈ lw_all := lw_g (lw_at lw_m2 44 rfl) rfl
theorem q363 : (Jvm.Cond.superclass "ContourLabels$Line" "java/lang/Object") ∈ lw_all := lw_g (lw_at lw_m2 45 rfl) rfl
theorem q405 : (Jvm.Cond.selects "ContourLabels$Line" ({ cls := "java/lang/Object", name := "getClass", desc := "()Ljava/lang/Class;" } : Jvm.MethodName) ({ cls := "java/lang/Object", name := "getClass", desc := "()Ljava/lang/Class;" } : Jvm.MethodName)) ∈ lw_all := lw_g (lw_at lw_m2 87 rfl) rfl
theorem q1077 : (Jvm.Cond.instanceMethod ({ cls := "ContourLabels$Line", name := "hasPlace", desc := "(I)Z" } : Jvm.MethodName)) ∈ lw_all := lw_g (lw_at lw_m5 39 rfl) rfl
theorem q1078 : (Jvm.Cond.selects "ContourLabels$Line" ({ cls := "ContourLabels$Line", name := "hasPlace", desc := "(I)Z" } : Jvm.MethodName) ({ cls := "ContourLabels$Line", name := "hasPlace", desc := "(I)Z" } : Jvm.MethodName)) ∈ lw_all := lw_g (lw_at lw_m5 40 rfl) rfl
theorem q1079 : (Jvm.Cond.code ({ cls := "ContourLabels$Line", name := "hasPlace", desc := "(I)Z" } : Jvm.MethodName) prog_6_method_16_code (2 : Nat) (Option.some Jvm.ClassFile.FieldType.boolean)) ∈ lw_all := lw_g (lw_at lw_m5 41 rfl) rfl
theorem q1080 : (Jvm.Cond.methodLink "ContourLabels$Line" (75 : Nat) ({ cls := "ContourLabels$Line", name := "lastOf", desc := "(I)I" } : Jvm.MethodName)) ∈ lw_all := lw_g (lw_at lw_m5 42 rfl) rfl
theorem q1081 : (Jvm.Cond.instanceMethod ({ cls := "ContourLabels$Line", name := "lastOf", desc := "(I)I" } : Jvm.MethodName)) ∈ lw_all := lw_g (lw_at lw_m5 43 rfl) rfl
theorem q1082 : (Jvm.Cond.selects "ContourLabels$Line" ({ cls := "ContourLabels$Line", name := "lastOf", desc := "(I)I" } : Jvm.MethodName) ({ cls := "ContourLabels$Line", name := "lastOf", desc := "(I)I" } : Jvm.MethodName)) ∈ lw_all := lw_g (lw_at lw_m5 44 rfl) rfl
theorem q1083 : (Jvm.Cond.code ({ cls := "ContourLabels$Line", name := "lastOf", desc := "(I)I" } : Jvm.MethodName) prog_6_method_15_code (2 : Nat) (Option.some Jvm.ClassFile.FieldType.int)) ∈ lw_all := lw_g (lw_at lw_m5 45 rfl) rfl
theorem q1084 : (Jvm.Cond.methodLink "ContourLabels$Line" (72 : Nat) ({ cls := "ContourLabels$Line", name := "labelSize", desc := "()I" } : Jvm.MethodName)) ∈ lw_all := lw_g (lw_at lw_m5 46 rfl) rfl
theorem q1085 : (Jvm.Cond.instanceMethod ({ cls := "ContourLabels$Line", name := "labelSize", desc := "()I" } : Jvm.MethodName)) ∈ lw_all := lw_g (lw_at lw_m5 47 rfl) rfl
theorem q1086 : (Jvm.Cond.selects "ContourLabels$Line" ({ cls := "ContourLabels$Line", name := "labelSize", desc := "()I" } : Jvm.MethodName) ({ cls := "ContourLabels$Line", name := "labelSize", desc := "()I" } : Jvm.MethodName)) ∈ lw_all := lw_g (lw_at lw_m5 48 rfl) rfl
theorem q1087 : (Jvm.Cond.code ({ cls := "ContourLabels$Line", name := "labelSize", desc := "()I" } : Jvm.MethodName) prog_6_method_14_code (1 : Nat) (Option.some Jvm.ClassFile.FieldType.int)) ∈ lw_all := lw_g (lw_at lw_m5 49 rfl) rfl
theorem q1088 : (Jvm.Cond.interfaceEntry "ContourLabels$Line" (79 : Nat)) ∈ lw_tbl := lw_at lw_m5 50 rfl
theorem q1089 : (Jvm.Cond.methodLink "ContourLabels$Line" (79 : Nat) ({ cls := "ContourLabels$Ends", name := "last", desc := "(LContourLabels$Line;)I" } : Jvm.MethodName)) ∈ lw_all := lw_g (lw_at lw_m5 51 rfl) rfl
theorem q1107 : (Jvm.Cond.instanceMethod ({ cls := "ContourLabels$Line", name := "bendOfPlace", desc := "(I)I" } : Jvm.MethodName)) ∈ lw_all := lw_g (lw_at lw_m5 69 rfl) rfl
theorem q1108 : (Jvm.Cond.selects "ContourLabels$Line" ({ cls := "ContourLabels$Line", name := "bendOfPlace", desc := "(I)I" } : Jvm.MethodName) ({ cls := "ContourLabels$Line", name := "bendOfPlace", desc := "(I)I" } : Jvm.MethodName)) ∈ lw_all := lw_g (lw_at lw_m5 70 rfl) rfl
theorem q1109 : (Jvm.Cond.code ({ cls := "ContourLabels$Line", name := "bendOfPlace", desc := "(I)I" } : Jvm.MethodName) prog_6_method_17_code (4 : Nat) (Option.some Jvm.ClassFile.FieldType.int)) ∈ lw_all := lw_g (lw_at lw_m5 71 rfl) rfl
theorem q1110 : (Jvm.Cond.methodLink "ContourLabels$Line" (82 : Nat) ({ cls := "ContourLabels$Line", name := "bend", desc := "(I)I" } : Jvm.MethodName)) ∈ lw_all := lw_g (lw_at lw_m5 72 rfl) rfl
theorem q1111 : (Jvm.Cond.instanceMethod ({ cls := "ContourLabels$Line", name := "bend", desc := "(I)I" } : Jvm.MethodName)) ∈ lw_all := lw_g (lw_at lw_m5 73 rfl) rfl
theorem q1112 : (Jvm.Cond.selects "ContourLabels$Line" ({ cls := "ContourLabels$Line", name := "bend", desc := "(I)I" } : Jvm.MethodName) ({ cls := "ContourLabels$Line", name := "bend", desc := "(I)I" } : Jvm.MethodName)) ∈ lw_all := lw_g (lw_at lw_m5 74 rfl) rfl
theorem q1113 : (Jvm.Cond.code ({ cls := "ContourLabels$Line", name := "bend", desc := "(I)I" } : Jvm.MethodName) prog_6_method_11_code (2 : Nat) (Option.some Jvm.ClassFile.FieldType.int)) ∈ lw_all := lw_g (lw_at lw_m5 75 rfl) rfl
theorem q1114 : (Jvm.Cond.interfaceEntry "ContourLabels$Line" (58 : Nat)) ∈ lw_tbl := lw_at lw_m5 76 rfl
theorem q1115 : (Jvm.Cond.methodLink "ContourLabels$Line" (58 : Nat) ({ cls := "ContourLabels$Ends", name := "bend", desc := "(LContourLabels$Line;)I" } : Jvm.MethodName)) ∈ lw_all := lw_g (lw_at lw_m5 77 rfl) rfl
theorem q1124 : (Jvm.Cond.static ({ cls := "ContourLabels$Line", name := "turn", desc := "(II)I" } : Jvm.MethodName)) ∈ lw_all := lw_g (lw_at lw_m5 86 rfl) rfl
theorem q1125 : (Jvm.Cond.code ({ cls := "ContourLabels$Line", name := "turn", desc := "(II)I" } : Jvm.MethodName) prog_6_method_10_code (3 : Nat) (Option.some Jvm.ClassFile.FieldType.int)) ∈ lw_all := lw_g (lw_at lw_m5 87 rfl) rfl
theorem q1131 : (Jvm.Cond.methodLink "ContourLabels$Line" (64 : Nat) ({ cls := "ContourLabels$Line", name := "turn", desc := "(II)I" } : Jvm.MethodName)) ∈ lw_all := lw_g (lw_at lw_m5 93 rfl) rfl
theorem q1135 : (Jvm.Cond.instanceMethod ({ cls := "ContourLabels$Line", name := "stands", desc := "(I)Z" } : Jvm.MethodName)) ∈ lw_all := lw_g (lw_at lw_m5 97 rfl) rfl
theorem q1136 : (Jvm.Cond.selects "ContourLabels$Line" ({ cls := "ContourLabels$Line", name := "stands", desc := "(I)Z" } : Jvm.MethodName) ({ cls := "ContourLabels$Line", name := "stands", desc := "(I)Z" } : Jvm.MethodName)) ∈ lw_all := lw_g (lw_at lw_m5 98 rfl) rfl
theorem q1137 : (Jvm.Cond.code ({ cls := "ContourLabels$Line", name := "stands", desc := "(I)Z" } : Jvm.MethodName) prog_6_method_20_code (2 : Nat) (Option.some Jvm.ClassFile.FieldType.boolean)) ∈ lw_all := lw_g (lw_at lw_m5 99 rfl) rfl
theorem q1138 : (Jvm.Cond.methodLink "ContourLabels$Line" (90 : Nat) ({ cls := "ContourLabels$Line", name := "down", desc := "(I)I" } : Jvm.MethodName)) ∈ lw_all := lw_g (lw_at lw_m5 100 rfl) rfl
theorem q1139 : (Jvm.Cond.privateMethod ({ cls := "ContourLabels$Line", name := "down", desc := "(I)I" } : Jvm.MethodName)) ∈ lw_tbl := lw_at lw_m5 101 rfl
theorem q1140 : (Jvm.Cond.instanceMethod ({ cls := "ContourLabels$Line", name := "down", desc := "(I)I" } : Jvm.MethodName)) ∈ lw_all := lw_g (lw_at lw_m5 102 rfl) rfl
theorem q1141 : (Jvm.Cond.code ({ cls := "ContourLabels$Line", name := "down", desc := "(I)I" } : Jvm.MethodName) prog_6_method_19_code (2 : Nat) (Option.some Jvm.ClassFile.FieldType.int)) ∈ lw_all := lw_g (lw_at lw_m5 103 rfl) rfl
theorem q1142 : (Jvm.Cond.methodLinkNest "ContourLabels$Line" (87 : Nat) ({ cls := "ContourLabels", name := "row", desc := "(I)I" } : Jvm.MethodName) "ContourLabels") ∈ lw_tbl := lw_at lw_m5 104 rfl
theorem q1145 : (Jvm.Cond.methodLinkNest "ContourLabels$Line" (93 : Nat) ({ cls := "ContourLabels", name := "size", desc := "(I)I" } : Jvm.MethodName) "ContourLabels") ∈ lw_tbl := lw_at lw_m5 107 rfl
theorem q1148 : (Jvm.Cond.methodLink "ContourLabels$Line" (96 : Nat) ({ cls := "ContourLabels$Line", name := "across", desc := "(I)I" } : Jvm.MethodName)) ∈ lw_all := lw_g (lw_at lw_m5 110 rfl) rfl
theorem q1149 : (Jvm.Cond.instanceMethod ({ cls := "ContourLabels$Line", name := "across", desc := "(I)I" } : Jvm.MethodName)) ∈ lw_all := lw_g (lw_at lw_m5 111 rfl) rfl
theorem q1150 : (Jvm.Cond.selects "ContourLabels$Line" ({ cls := "ContourLabels$Line", name := "across", desc := "(I)I" } : Jvm.MethodName) ({ cls := "ContourLabels$Line", name := "across", desc := "(I)I" } : Jvm.MethodName)) ∈ lw_all := lw_g (lw_at lw_m5 112 rfl) rfl
theorem q1151 : (Jvm.Cond.code ({ cls := "ContourLabels$Line", name := "across", desc := "(I)I" } : Jvm.MethodName) prog_6_method_18_code (2 : Nat) (Option.some Jvm.ClassFile.FieldType.int)) ∈ lw_all := lw_g (lw_at lw_m5 113 rfl) rfl
theorem q1152 : (Jvm.Cond.methodLinkNest "ContourLabels$Line" (84 : Nat) ({ cls := "ContourLabels", name := "column", desc := "(I)I" } : Jvm.MethodName) "ContourLabels") ∈ lw_tbl := lw_at lw_m5 114 rfl
theorem q1163 : (Jvm.Cond.instanceMethod ({ cls := "ContourLabels$Line", name := "far", desc := "(ILContourLabels$Line;)I" } : Jvm.MethodName)) ∈ lw_all := lw_g (lw_at lw_m5 125 rfl) rfl
theorem q1164 : (Jvm.Cond.selects "ContourLabels$Line" ({ cls := "ContourLabels$Line", name := "far", desc := "(ILContourLabels$Line;)I" } : Jvm.MethodName) ({ cls := "ContourLabels$Line", name := "far", desc := "(ILContourLabels$Line;)I" } : Jvm.MethodName)) ∈ lw_all := lw_g (lw_at lw_m5 126 rfl) rfl
theorem q1165 : (Jvm.Cond.code ({ cls := "ContourLabels$Line", name := "far", desc := "(ILContourLabels$Line;)I" } : Jvm.MethodName) prog_6_method_23_code (7 : Nat) (Option.some Jvm.ClassFile.FieldType.int)) ∈ lw_all := lw_g (lw_at lw_m5 127 rfl) rfl
theorem q1166 : (Jvm.Cond.methodLinkNest "ContourLabels$Line" (103 : Nat) ({ cls := "ContourLabels", name := "far", desc := "(II)I" } : Jvm.MethodName) "ContourLabels") ∈ lw_tbl := lw_at lw_m5 128 rfl
theorem q1660 : (Jvm.Cond.instanceMethod ({ cls := "ContourLabels$Line", name := "has", desc := "(I)Z" } : Jvm.MethodName)) ∈ lw_all := lw_g (lw_at lw_m7 142 rfl) rfl
theorem q1661 : (Jvm.Cond.selects "ContourLabels$Line" ({ cls := "ContourLabels$Line", name := "has", desc := "(I)Z" } : Jvm.MethodName) ({ cls := "ContourLabels$Line", name := "has", desc := "(I)Z" } : Jvm.MethodName)) ∈ lw_all := lw_g (lw_at lw_m7 143 rfl) rfl
theorem q1662 : (Jvm.Cond.code ({ cls := "ContourLabels$Line", name := "has", desc := "(I)Z" } : Jvm.MethodName) prog_6_method_6_code (4 : Nat) (Option.some Jvm.ClassFile.FieldType.boolean)) ∈ lw_all := lw_g (lw_at lw_m7 144 rfl) rfl
theorem q1664 : (Jvm.Cond.instanceMethod ({ cls := "ContourLabels$Line", name := "<init>", desc := "(II)V" } : Jvm.MethodName)) ∈ lw_all := lw_g (lw_at lw_m7 146 rfl) rfl
theorem q1665 : (Jvm.Cond.code ({ cls := "ContourLabels$Line", name := "<init>", desc := "(II)V" } : Jvm.MethodName) prog_6_method_1_code (3 : Nat) (Option.none : Option Jvm.ClassFile.FieldType)) ∈ lw_all := lw_g (lw_at lw_m7 147 rfl) rfl
theorem q1683 : (Jvm.Cond.instanceMethod ({ cls := "ContourLabels$Line", name := "end", desc := "()I" } : Jvm.MethodName)) ∈ lw_all := lw_g (lw_at lw_m7 165 rfl) rfl
theorem q1684 : (Jvm.Cond.selects "ContourLabels$Line" ({ cls := "ContourLabels$Line", name := "end", desc := "()I" } : Jvm.MethodName) ({ cls := "ContourLabels$Line", name := "end", desc := "()I" } : Jvm.MethodName)) ∈ lw_all := lw_g (lw_at lw_m7 166 rfl) rfl
theorem q1685 : (Jvm.Cond.code ({ cls := "ContourLabels$Line", name := "end", desc := "()I" } : Jvm.MethodName) prog_6_method_5_code (1 : Nat) (Option.some Jvm.ClassFile.FieldType.int)) ∈ lw_all := lw_g (lw_at lw_m7 167 rfl) rfl
theorem q1696 : (Jvm.Cond.instanceMethod ({ cls := "ContourLabels$Line", name := "isClosed", desc := "()Z" } : Jvm.MethodName)) ∈ lw_all := lw_g (lw_at lw_m7 178 rfl) rfl
theorem q1697 : (Jvm.Cond.selects "ContourLabels$Line" ({ cls := "ContourLabels$Line", name := "isClosed", desc := "()Z" } : Jvm.MethodName) ({ cls := "ContourLabels$Line", name := "isClosed", desc := "()Z" } : Jvm.MethodName)) ∈ lw_all := lw_g (lw_at lw_m7 179 rfl) rfl
theorem q1698 : (Jvm.Cond.code ({ cls := "ContourLabels$Line", name := "isClosed", desc := "()Z" } : Jvm.MethodName) prog_6_method_4_code (1 : Nat) (Option.some Jvm.ClassFile.FieldType.boolean)) ∈ lw_all := lw_g (lw_at lw_m7 180 rfl) rfl
theorem q1699 : (Jvm.Cond.classLink "ContourLabels$Line" (43 : Nat) "ContourLabels$Closed") ∈ lw_all := lw_g (lw_at lw_m7 181 rfl) rfl
theorem q1708 : (Jvm.Cond.instanceMethod ({ cls := "ContourLabels$Line", name := "closesAt", desc := "(I)Z" } : Jvm.MethodName)) ∈ lw_all := lw_g (lw_at lw_m7 190 rfl) rfl
theorem q1709 : (Jvm.Cond.selects "ContourLabels$Line" ({ cls := "ContourLabels$Line", name := "closesAt", desc := "(I)Z" } : Jvm.MethodName) ({ cls := "ContourLabels$Line", name := "closesAt", desc := "(I)Z" } : Jvm.MethodName)) ∈ lw_all := lw_g (lw_at lw_m7 191 rfl) rfl
theorem q1710 : (Jvm.Cond.code ({ cls := "ContourLabels$Line", name := "closesAt", desc := "(I)Z" } : Jvm.MethodName) prog_6_method_8_code (2 : Nat) (Option.some Jvm.ClassFile.FieldType.boolean)) ∈ lw_all := lw_g (lw_at lw_m7 192 rfl) rfl
theorem q1724 : (Jvm.Cond.instanceMethod ({ cls := "ContourLabels$Line", name := "hasStep", desc := "(II)Z" } : Jvm.MethodName)) ∈ lw_all := lw_g (lw_at lw_m7 206 rfl) rfl
theorem q1725 : (Jvm.Cond.selects "ContourLabels$Line" ({ cls := "ContourLabels$Line", name := "hasStep", desc := "(II)Z" } : Jvm.MethodName) ({ cls := "ContourLabels$Line", name := "hasStep", desc := "(II)Z" } : Jvm.MethodName)) ∈ lw_all := lw_g (lw_at lw_m7 207 rfl) rfl
theorem q1726 : (Jvm.Cond.code ({ cls := "ContourLabels$Line", name := "hasStep", desc := "(II)Z" } : Jvm.MethodName) prog_6_method_7_code (5 : Nat) (Option.some Jvm.ClassFile.FieldType.boolean)) ∈ lw_all := lw_g (lw_at lw_m7 208 rfl) rfl
theorem q1728 : (Jvm.Cond.instanceMethod ({ cls := "ContourLabels$Line", name := "step", desc := "(I)V" } : Jvm.MethodName)) ∈ lw_all := lw_g (lw_at lw_m7 210 rfl) rfl
theorem q1729 : (Jvm.Cond.selects "ContourLabels$Line" ({ cls := "ContourLabels$Line", name := "step", desc := "(I)V" } : Jvm.MethodName) ({ cls := "ContourLabels$Line", name := "step", desc := "(I)V" } : Jvm.MethodName)) ∈ lw_all := lw_g (lw_at lw_m7 211 rfl) rfl
theorem q1730 : (Jvm.Cond.code ({ cls := "ContourLabels$Line", name := "step", desc := "(I)V" } : Jvm.MethodName) prog_6_method_9_code (4 : Nat) (Option.none : Option Jvm.ClassFile.FieldType)) ∈ lw_all := lw_g (lw_at lw_m7 212 rfl) rfl
theorem q1731 : (Jvm.Cond.methodLink "ContourLabels$Line" (45 : Nat) ({ cls := "ContourLabels$Line", name := "end", desc := "()I" } : Jvm.MethodName)) ∈ lw_all := lw_g (lw_at lw_m7 213 rfl) rfl
theorem q1732 : (Jvm.Cond.methodLinkNest "ContourLabels$Line" (49 : Nat) ({ cls := "ContourLabels", name := "next", desc := "(II)I" } : Jvm.MethodName) "ContourLabels") ∈ lw_tbl := lw_at lw_m7 214 rfl
theorem q1733 : (Jvm.Cond.methodLink "ContourLabels$Line" (53 : Nat) ({ cls := "ContourLabels$Line", name := "closesAt", desc := "(I)Z" } : Jvm.MethodName)) ∈ lw_all := lw_g (lw_at lw_m7 215 rfl) rfl
theorem q1735 : (Jvm.Cond.methodLinkNest "ContourLabels$Line" (57 : Nat) ({ cls := "ContourLabels$Closed", name := "<init>", desc := "()V" } : Jvm.MethodName) "ContourLabels") ∈ lw_tbl := lw_at lw_m7 217 rfl
theorem q1986 : (Jvm.Cond.instanceMethod ({ cls := "ContourLabels$Line", name := "slanting", desc := "()I" } : Jvm.MethodName)) ∈ lw_all := lw_g (lw_at lw_m8 228 rfl) rfl
theorem q1987 : (Jvm.Cond.selects "ContourLabels$Line" ({ cls := "ContourLabels$Line", name := "slanting", desc := "()I" } : Jvm.MethodName) ({ cls := "ContourLabels$Line", name := "slanting", desc := "()I" } : Jvm.MethodName)) ∈ lw_all := lw_g (lw_at lw_m8 229 rfl) rfl
theorem q1988 : (Jvm.Cond.code ({ cls := "ContourLabels$Line", name := "slanting", desc := "()I" } : Jvm.MethodName) prog_6_method_12_code (3 : Nat) (Option.some Jvm.ClassFile.FieldType.int)) ∈ lw_all := lw_g (lw_at lw_m8 230 rfl) rfl
theorem q1989 : (Jvm.Cond.methodLinkNest "ContourLabels$Line" (67 : Nat) ({ cls := "ContourLabels", name := "isSlanting", desc := "(I)Z" } : Jvm.MethodName) "ContourLabels") ∈ lw_tbl := lw_at lw_m8 231 rfl
theorem q1999 : (Jvm.Cond.instanceMethod ({ cls := "ContourLabels$Line", name := "lengthBySteps", desc := "()D" } : Jvm.MethodName)) ∈ lw_all := lw_g (lw_at lw_m9 1 rfl) rfl
theorem q2000 : (Jvm.Cond.selects "ContourLabels$Line" ({ cls := "ContourLabels$Line", name := "lengthBySteps", desc := "()D" } : Jvm.MethodName) ({ cls := "ContourLabels$Line", name := "lengthBySteps", desc := "()D" } : Jvm.MethodName)) ∈ lw_all := lw_g (lw_at lw_m9 2 rfl) rfl
theorem q2001 : (Jvm.Cond.code ({ cls := "ContourLabels$Line", name := "lengthBySteps", desc := "()D" } : Jvm.MethodName) prog_6_method_13_code (4 : Nat) (Option.some Jvm.ClassFile.FieldType.double)) ∈ lw_all := lw_g (lw_at lw_m9 3 rfl) rfl
theorem q2002 : (Jvm.Cond.constantDouble "ContourLabels$Line" (70 : Nat) (4609047870845172685 : UInt64)) ∈ lw_all := lw_g (lw_at lw_m9 4 rfl) rfl
theorem q2018 : (Jvm.Cond.instanceMethod ({ cls := "ContourLabels$Line", name := "isTurned", desc := "()Z" } : Jvm.MethodName)) ∈ lw_all := lw_g (lw_at lw_m9 20 rfl) rfl
theorem q2019 : (Jvm.Cond.selects "ContourLabels$Line" ({ cls := "ContourLabels$Line", name := "isTurned", desc := "()Z" } : Jvm.MethodName) ({ cls := "ContourLabels$Line", name := "isTurned", desc := "()Z" } : Jvm.MethodName)) ∈ lw_all := lw_g (lw_at lw_m9 21 rfl) rfl
theorem q2020 : (Jvm.Cond.code ({ cls := "ContourLabels$Line", name := "isTurned", desc := "()Z" } : Jvm.MethodName) prog_6_method_21_code (1 : Nat) (Option.some Jvm.ClassFile.FieldType.boolean)) ∈ lw_all := lw_g (lw_at lw_m9 22 rfl) rfl
theorem q2029 : (Jvm.Cond.instanceMethod ({ cls := "ContourLabels$Line", name := "readFrom", desc := "()I" } : Jvm.MethodName)) ∈ lw_all := lw_g (lw_at lw_m9 31 rfl) rfl
theorem q2030 : (Jvm.Cond.selects "ContourLabels$Line" ({ cls := "ContourLabels$Line", name := "readFrom", desc := "()I" } : Jvm.MethodName) ({ cls := "ContourLabels$Line", name := "readFrom", desc := "()I" } : Jvm.MethodName)) ∈ lw_all := lw_g (lw_at lw_m9 32 rfl) rfl
theorem q2031 : (Jvm.Cond.code ({ cls := "ContourLabels$Line", name := "readFrom", desc := "()I" } : Jvm.MethodName) prog_6_method_22_code (1 : Nat) (Option.some Jvm.ClassFile.FieldType.int)) ∈ lw_all := lw_g (lw_at lw_m9 33 rfl) rfl
theorem q2032 : (Jvm.Cond.methodLink "ContourLabels$Line" (99 : Nat) ({ cls := "ContourLabels$Line", name := "isTurned", desc := "()Z" } : Jvm.MethodName)) ∈ lw_all := lw_g (lw_at lw_m9 34 rfl) rfl
theorem q2083 : (Jvm.Cond.instanceMethod ({ cls := "ContourLabels$Line", name := "isRound", desc := "(I)Z" } : Jvm.MethodName)) ∈ lw_all := lw_g (lw_at lw_m9 85 rfl) rfl
theorem q2084 : (Jvm.Cond.selects "ContourLabels$Line" ({ cls := "ContourLabels$Line", name := "isRound", desc := "(I)Z" } : Jvm.MethodName) ({ cls := "ContourLabels$Line", name := "isRound", desc := "(I)Z" } : Jvm.MethodName)) ∈ lw_all := lw_g (lw_at lw_m9 86 rfl) rfl
theorem q2085 : (Jvm.Cond.code ({ cls := "ContourLabels$Line", name := "isRound", desc := "(I)Z" } : Jvm.MethodName) prog_6_method_24_code (6 : Nat) (Option.some Jvm.ClassFile.FieldType.boolean)) ∈ lw_all := lw_g (lw_at lw_m9 87 rfl) rfl
theorem q2677 : (Jvm.Cond.castable "ContourLabels$Line" "java/lang/Object") ∈ lw_tbl := lw_at lw_m11 199 rfl
theorem in_X4 : ∀ w ∈ wsX40, w ∈ lw_all := lw_in wsX40 [351, 353, 355, 357, 359, 361] (by decide +kernel) (by decide +kernel)

/-! ContourLabels$Open -/
set_option maxRecDepth 100000
def RX5 : String := "ContourLabels$Open"
abbrev cX5_init : ByteArray := prog_7_method_1_code
def yX5_init : MethodName := ⟨RX5, "<init>", "()V"⟩
theorem dX5_init_0 : decode cX5_init 0 = .ok (.aload_n 0, 1) := by decide +kernel
theorem dX5_init_1 : decode cX5_init 1 = .ok (.invokespecial 1, 3) := by decide +kernel
theorem dX5_init_4 : decode cX5_init 4 = .ok (.return_, 1) := by decide +kernel
abbrev cX5_last : ByteArray := prog_7_method_2_code
def yX5_last : MethodName := ⟨RX5, "last", "(LContourLabels$Line;)I"⟩
theorem dX5_last_0 : decode cX5_last 0 = .ok (.aload_n 1, 1) := by decide +kernel
theorem dX5_last_1 : decode cX5_last 1 = .ok (.getfield 7, 3) := by decide +kernel
theorem dX5_last_4 : decode cX5_last 4 = .ok (.ireturn, 1) := by decide +kernel
abbrev cX5_bend : ByteArray := prog_7_method_3_code
def yX5_bend : MethodName := ⟨RX5, "bend", "(LContourLabels$Line;)I"⟩
theorem dX5_bend_0 : decode cX5_bend 0 = .ok (.iconst 0, 1) := by decide +kernel
theorem dX5_bend_1 : decode cX5_bend 1 = .ok (.ireturn, 1) := by decide +kernel
theorem q100 : (Jvm.Cond.initialized "ContourLabels$Open") ∈ lw_all := lw_g (lw_at lw_m1 22 rfl) rfl
theorem q326 : (Jvm.Cond.instantiable "ContourLabels$Open" (0 : Nat)) ∈ lw_all := lw_g (lw_at lw_m2 8 rfl) rfl
theorem q328 : (Jvm.Cond.instanceMethod ({ cls := "ContourLabels$Open", name := "<init>", desc := "()V" } : Jvm.MethodName)) ∈ lw_all := lw_g (lw_at lw_m2 10 rfl) rfl
theorem q329 : (Jvm.Cond.code ({ cls := "ContourLabels$Open", name := "<init>", desc := "()V" } : Jvm.MethodName) prog_7_method_1_code (1 : Nat) (Option.none : Option Jvm.ClassFile.FieldType)) ∈ lw_all := lw_g (lw_at lw_m2 11 rfl) rfl
theorem q330 : (Jvm.Cond.methodLink "ContourLabels$Open" (1 : Nat) ({ cls := "java/lang/Object", name := "<init>", desc := "()V" } : Jvm.MethodName)) ∈ lw_all := lw_g (lw_at lw_m2 12 rfl) rfl
theorem q331 : (Jvm.Cond.superclass "ContourLabels$Open" "java/lang/Object") ∈ lw_all := lw_g (lw_at lw_m2 13 rfl) rfl
theorem q343 : (Jvm.Cond.fieldLinkNest "ContourLabels$Open" (7 : Nat) "ContourLabels$Line" "many" "I" "ContourLabels") ∈ lw_tbl := lw_at lw_m2 25 rfl
theorem q406 : (Jvm.Cond.selects "ContourLabels$Open" ({ cls := "java/lang/Object", name := "getClass", desc := "()Ljava/lang/Class;" } : Jvm.MethodName) ({ cls := "java/lang/Object", name := "getClass", desc := "()Ljava/lang/Class;" } : Jvm.MethodName)) ∈ lw_all := lw_g (lw_at lw_m2 88 rfl) rfl
theorem q1098 : (Jvm.Cond.castable "ContourLabels$Open" "ContourLabels$Ends") ∈ lw_tbl := lw_at lw_m5 60 rfl
theorem q1099 : (Jvm.Cond.selects "ContourLabels$Open" ({ cls := "ContourLabels$Ends", name := "last", desc := "(LContourLabels$Line;)I" } : Jvm.MethodName) ({ cls := "ContourLabels$Open", name := "last", desc := "(LContourLabels$Line;)I" } : Jvm.MethodName)) ∈ lw_all := lw_g (lw_at lw_m5 61 rfl) rfl
theorem q1100 : (Jvm.Cond.unhidden "ContourLabels$Open" "last" "(LContourLabels$Line;)I") ∈ lw_tbl := lw_at lw_m5 62 rfl
theorem q1101 : (Jvm.Cond.instanceMethod ({ cls := "ContourLabels$Open", name := "last", desc := "(LContourLabels$Line;)I" } : Jvm.MethodName)) ∈ lw_all := lw_g (lw_at lw_m5 63 rfl) rfl
theorem q1102 : (Jvm.Cond.publicMethod ({ cls := "ContourLabels$Open", name := "last", desc := "(LContourLabels$Line;)I" } : Jvm.MethodName)) ∈ lw_tbl := lw_at lw_m5 64 rfl
theorem q1103 : (Jvm.Cond.code ({ cls := "ContourLabels$Open", name := "last", desc := "(LContourLabels$Line;)I" } : Jvm.MethodName) prog_7_method_2_code (2 : Nat) (Option.some Jvm.ClassFile.FieldType.int)) ∈ lw_all := lw_g (lw_at lw_m5 65 rfl) rfl
theorem q1126 : (Jvm.Cond.selects "ContourLabels$Open" ({ cls := "ContourLabels$Ends", name := "bend", desc := "(LContourLabels$Line;)I" } : Jvm.MethodName) ({ cls := "ContourLabels$Open", name := "bend", desc := "(LContourLabels$Line;)I" } : Jvm.MethodName)) ∈ lw_all := lw_g (lw_at lw_m5 88 rfl) rfl
theorem q1127 : (Jvm.Cond.unhidden "ContourLabels$Open" "bend" "(LContourLabels$Line;)I") ∈ lw_tbl := lw_at lw_m5 89 rfl
theorem q1128 : (Jvm.Cond.instanceMethod ({ cls := "ContourLabels$Open", name := "bend", desc := "(LContourLabels$Line;)I" } : Jvm.MethodName)) ∈ lw_all := lw_g (lw_at lw_m5 90 rfl) rfl
theorem q1129 : (Jvm.Cond.publicMethod ({ cls := "ContourLabels$Open", name := "bend", desc := "(LContourLabels$Line;)I" } : Jvm.MethodName)) ∈ lw_tbl := lw_at lw_m5 91 rfl
theorem q1130 : (Jvm.Cond.code ({ cls := "ContourLabels$Open", name := "bend", desc := "(LContourLabels$Line;)I" } : Jvm.MethodName) prog_7_method_3_code (2 : Nat) (Option.some Jvm.ClassFile.FieldType.int)) ∈ lw_all := lw_g (lw_at lw_m5 92 rfl) rfl
theorem q2678 : (Jvm.Cond.castable "ContourLabels$Open" "java/lang/Object") ∈ lw_tbl := lw_at lw_m11 200 rfl

/-! ContourLabels$Closed -/
set_option maxRecDepth 100000
def RX6 : String := "ContourLabels$Closed"
abbrev cX6_last : ByteArray := prog_4_method_2_code
def yX6_last : MethodName := ⟨RX6, "last", "(LContourLabels$Line;)I"⟩
def dkwX6_last_0 : List UInt8 := [43, 180, 0, 7, 4, 100, 172]
abbrev dktX6_last_0 : List UInt8 := dkwX6_last_0 ++ []
theorem dksX6_last_0 : cX6_last.data.toList.drop 0 = dktX6_last_0 := by decide +kernel
theorem dX6_last_0 : decode cX6_last 0 = .ok (.aload_n 1, 1) := dk_43 (dk_at dksX6_last_0 0 rfl rfl)
theorem dX6_last_1 : decode cX6_last 1 = .ok (.getfield 7, 3) := dk_180 0 7 (dk_at dksX6_last_0 1 rfl rfl)
theorem dX6_last_4 : decode cX6_last 4 = .ok (.iconst 1, 1) := dk_4 (dk_at dksX6_last_0 4 rfl rfl)
theorem dX6_last_5 : decode cX6_last 5 = .ok (.isub, 1) := dk_100 (dk_at dksX6_last_0 5 rfl rfl)
theorem dX6_last_6 : decode cX6_last 6 = .ok (.ireturn, 1) := dk_172 (dk_at dksX6_last_0 6 rfl rfl)
abbrev cX6_bend : ByteArray := prog_4_method_3_code
def yX6_bend : MethodName := ⟨RX6, "bend", "(LContourLabels$Line;)I"⟩
def dkwX6_bend_0 : List UInt8 := [43, 180, 0, 13, 43, 180, 0, 7, 4, 100, 46, 43, 180, 0, 13, 3, 46, 184, 0, 17, 172]
abbrev dktX6_bend_0 : List UInt8 := dkwX6_bend_0 ++ []
theorem dksX6_bend_0 : cX6_bend.data.toList.drop 0 = dktX6_bend_0 := by decide +kernel
theorem dX6_bend_0 : decode cX6_bend 0 = .ok (.aload_n 1, 1) := dk_43 (dk_at dksX6_bend_0 0 rfl rfl)
theorem dX6_bend_1 : decode cX6_bend 1 = .ok (.getfield 13, 3) := dk_180 0 13 (dk_at dksX6_bend_0 1 rfl rfl)
theorem dX6_bend_4 : decode cX6_bend 4 = .ok (.aload_n 1, 1) := dk_43 (dk_at dksX6_bend_0 4 rfl rfl)
theorem dX6_bend_5 : decode cX6_bend 5 = .ok (.getfield 7, 3) := dk_180 0 7 (dk_at dksX6_bend_0 5 rfl rfl)
theorem dX6_bend_8 : decode cX6_bend 8 = .ok (.iconst 1, 1) := dk_4 (dk_at dksX6_bend_0 8 rfl rfl)
theorem dX6_bend_9 : decode cX6_bend 9 = .ok (.isub, 1) := dk_100 (dk_at dksX6_bend_0 9 rfl rfl)
theorem dX6_bend_10 : decode cX6_bend 10 = .ok (.iaload, 1) := dk_46 (dk_at dksX6_bend_0 10 rfl rfl)
theorem dX6_bend_11 : decode cX6_bend 11 = .ok (.aload_n 1, 1) := dk_43 (dk_at dksX6_bend_0 11 rfl rfl)
theorem dX6_bend_12 : decode cX6_bend 12 = .ok (.getfield 13, 3) := dk_180 0 13 (dk_at dksX6_bend_0 12 rfl rfl)
theorem dX6_bend_15 : decode cX6_bend 15 = .ok (.iconst 0, 1) := dk_3 (dk_at dksX6_bend_0 15 rfl rfl)
theorem dX6_bend_16 : decode cX6_bend 16 = .ok (.iaload, 1) := dk_46 (dk_at dksX6_bend_0 16 rfl rfl)
theorem dX6_bend_17 : decode cX6_bend 17 = .ok (.invokestatic 17, 3) := dk_184 0 17 (dk_at dksX6_bend_0 17 rfl rfl)
theorem dX6_bend_20 : decode cX6_bend 20 = .ok (.ireturn, 1) := dk_172 (dk_at dksX6_bend_0 20 rfl rfl)
abbrev cX6_init : ByteArray := prog_4_method_1_code
def yX6_init : MethodName := ⟨RX6, "<init>", "()V"⟩
theorem dX6_init_0 : decode cX6_init 0 = .ok (.aload_n 0, 1) := by decide +kernel
theorem dX6_init_1 : decode cX6_init 1 = .ok (.invokespecial 1, 3) := by decide +kernel
theorem dX6_init_4 : decode cX6_init 4 = .ok (.return_, 1) := by decide +kernel
theorem q105 : (Jvm.Cond.initialized "ContourLabels$Closed") ∈ lw_all := lw_g (lw_at lw_m1 27 rfl) rfl
theorem q340 : (Jvm.Cond.fieldLinkNest "ContourLabels$Closed" (13 : Nat) "ContourLabels$Line" "steps" "[I" "ContourLabels") ∈ lw_tbl := lw_at lw_m2 22 rfl
theorem q342 : (Jvm.Cond.fieldLinkNest "ContourLabels$Closed" (7 : Nat) "ContourLabels$Line" "many" "I" "ContourLabels") ∈ lw_tbl := lw_at lw_m2 24 rfl
theorem q404 : (Jvm.Cond.selects "ContourLabels$Closed" ({ cls := "java/lang/Object", name := "getClass", desc := "()Ljava/lang/Class;" } : Jvm.MethodName) ({ cls := "java/lang/Object", name := "getClass", desc := "()Ljava/lang/Class;" } : Jvm.MethodName)) ∈ lw_all := lw_g (lw_at lw_m2 86 rfl) rfl
theorem q1092 : (Jvm.Cond.castable "ContourLabels$Closed" "ContourLabels$Ends") ∈ lw_tbl := lw_at lw_m5 54 rfl
theorem q1093 : (Jvm.Cond.selects "ContourLabels$Closed" ({ cls := "ContourLabels$Ends", name := "last", desc := "(LContourLabels$Line;)I" } : Jvm.MethodName) ({ cls := "ContourLabels$Closed", name := "last", desc := "(LContourLabels$Line;)I" } : Jvm.MethodName)) ∈ lw_all := lw_g (lw_at lw_m5 55 rfl) rfl
theorem q1094 : (Jvm.Cond.unhidden "ContourLabels$Closed" "last" "(LContourLabels$Line;)I") ∈ lw_tbl := lw_at lw_m5 56 rfl
theorem q1095 : (Jvm.Cond.instanceMethod ({ cls := "ContourLabels$Closed", name := "last", desc := "(LContourLabels$Line;)I" } : Jvm.MethodName)) ∈ lw_all := lw_g (lw_at lw_m5 57 rfl) rfl
theorem q1096 : (Jvm.Cond.publicMethod ({ cls := "ContourLabels$Closed", name := "last", desc := "(LContourLabels$Line;)I" } : Jvm.MethodName)) ∈ lw_tbl := lw_at lw_m5 58 rfl
theorem q1097 : (Jvm.Cond.code ({ cls := "ContourLabels$Closed", name := "last", desc := "(LContourLabels$Line;)I" } : Jvm.MethodName) prog_4_method_2_code (2 : Nat) (Option.some Jvm.ClassFile.FieldType.int)) ∈ lw_all := lw_g (lw_at lw_m5 59 rfl) rfl
theorem q1118 : (Jvm.Cond.selects "ContourLabels$Closed" ({ cls := "ContourLabels$Ends", name := "bend", desc := "(LContourLabels$Line;)I" } : Jvm.MethodName) ({ cls := "ContourLabels$Closed", name := "bend", desc := "(LContourLabels$Line;)I" } : Jvm.MethodName)) ∈ lw_all := lw_g (lw_at lw_m5 80 rfl) rfl
theorem q1119 : (Jvm.Cond.unhidden "ContourLabels$Closed" "bend" "(LContourLabels$Line;)I") ∈ lw_tbl := lw_at lw_m5 81 rfl
theorem q1120 : (Jvm.Cond.instanceMethod ({ cls := "ContourLabels$Closed", name := "bend", desc := "(LContourLabels$Line;)I" } : Jvm.MethodName)) ∈ lw_all := lw_g (lw_at lw_m5 82 rfl) rfl
theorem q1121 : (Jvm.Cond.publicMethod ({ cls := "ContourLabels$Closed", name := "bend", desc := "(LContourLabels$Line;)I" } : Jvm.MethodName)) ∈ lw_tbl := lw_at lw_m5 83 rfl
theorem q1122 : (Jvm.Cond.code ({ cls := "ContourLabels$Closed", name := "bend", desc := "(LContourLabels$Line;)I" } : Jvm.MethodName) prog_4_method_3_code (2 : Nat) (Option.some Jvm.ClassFile.FieldType.int)) ∈ lw_all := lw_g (lw_at lw_m5 84 rfl) rfl
theorem q1123 : (Jvm.Cond.methodLink "ContourLabels$Closed" (17 : Nat) ({ cls := "ContourLabels$Line", name := "turn", desc := "(II)I" } : Jvm.MethodName)) ∈ lw_all := lw_g (lw_at lw_m5 85 rfl) rfl
theorem q1734 : (Jvm.Cond.instantiable "ContourLabels$Closed" (0 : Nat)) ∈ lw_all := lw_g (lw_at lw_m7 216 rfl) rfl
theorem q1736 : (Jvm.Cond.instanceMethod ({ cls := "ContourLabels$Closed", name := "<init>", desc := "()V" } : Jvm.MethodName)) ∈ lw_all := lw_g (lw_at lw_m7 218 rfl) rfl
theorem q1737 : (Jvm.Cond.code ({ cls := "ContourLabels$Closed", name := "<init>", desc := "()V" } : Jvm.MethodName) prog_4_method_1_code (1 : Nat) (Option.none : Option Jvm.ClassFile.FieldType)) ∈ lw_all := lw_g (lw_at lw_m7 219 rfl) rfl
theorem q1738 : (Jvm.Cond.methodLink "ContourLabels$Closed" (1 : Nat) ({ cls := "java/lang/Object", name := "<init>", desc := "()V" } : Jvm.MethodName)) ∈ lw_all := lw_g (lw_at lw_m7 220 rfl) rfl
theorem q1739 : (Jvm.Cond.superclass "ContourLabels$Closed" "java/lang/Object") ∈ lw_all := lw_g (lw_at lw_m7 221 rfl) rfl
theorem q2679 : (Jvm.Cond.castable "ContourLabels$Closed" "java/lang/Object") ∈ lw_tbl := lw_at lw_m11 201 rfl

/-! ContourLabels$BestFirst -/
set_option maxRecDepth 100000
def RX7 : String := "ContourLabels$BestFirst"
abbrev cX7_compare : ByteArray := prog_2_method_3_code
def yX7_compare : MethodName := ⟨RX7, "compare", "(Ljava/lang/Object;Ljava/lang/Object;)I"⟩
def dkwX7_compare_0 : List UInt8 := [42, 43, 192, 0, 8, 44, 192, 0, 8, 182, 0, 19, 172]
abbrev dktX7_compare_0 : List UInt8 := dkwX7_compare_0 ++ []
theorem dksX7_compare_0 : cX7_compare.data.toList.drop 0 = dktX7_compare_0 := by decide +kernel
theorem dX7_compare_0 : decode cX7_compare 0 = .ok (.aload_n 0, 1) := dk_42 (dk_at dksX7_compare_0 0 rfl rfl)
theorem dX7_compare_1 : decode cX7_compare 1 = .ok (.aload_n 1, 1) := dk_43 (dk_at dksX7_compare_0 1 rfl rfl)
theorem dX7_compare_2 : decode cX7_compare 2 = .ok (.checkcast 8, 3) := dk_192 0 8 (dk_at dksX7_compare_0 2 rfl rfl)
theorem dX7_compare_5 : decode cX7_compare 5 = .ok (.aload_n 2, 1) := dk_44 (dk_at dksX7_compare_0 5 rfl rfl)
theorem dX7_compare_6 : decode cX7_compare 6 = .ok (.checkcast 8, 3) := dk_192 0 8 (dk_at dksX7_compare_0 6 rfl rfl)
theorem dX7_compare_9 : decode cX7_compare 9 = .ok (.invokevirtual 19, 3) := dk_182 0 19 (dk_at dksX7_compare_0 9 rfl rfl)
theorem dX7_compare_12 : decode cX7_compare 12 = .ok (.ireturn, 1) := dk_172 (dk_at dksX7_compare_0 12 rfl rfl)
abbrev cX7_compare_2 : ByteArray := prog_2_method_2_code
def yX7_compare_2 : MethodName := ⟨RX7, "compare", "(LContourLabels$Candidate;LContourLabels$Candidate;)I"⟩
def dkwX7_compare_2_2 : List UInt8 := [180, 0, 16, 44, 180, 0, 16, 100, 172]
abbrev dktX7_compare_2_2 : List UInt8 := dkwX7_compare_2_2 ++ []
def dkwX7_compare_2_1 : List UInt8 := [180, 0, 13, 44, 180, 0, 13, 159, 0, 15, 44, 180, 0, 13, 43, 180, 0, 13, 100, 167, 0, 12, 43]
abbrev dktX7_compare_2_1 : List UInt8 := dkwX7_compare_2_1 ++ dktX7_compare_2_2
def dkwX7_compare_2_0 : List UInt8 := [43, 180, 0, 7, 44, 180, 0, 7, 159, 0, 13, 43, 180, 0, 7, 44, 180, 0, 7, 100, 172, 43]
abbrev dktX7_compare_2_0 : List UInt8 := dkwX7_compare_2_0 ++ dktX7_compare_2_1
theorem dksX7_compare_2_0 : cX7_compare_2.data.toList.drop 0 = dktX7_compare_2_0 := by decide +kernel
theorem dksX7_compare_2_1 : cX7_compare_2.data.toList.drop 22 = dktX7_compare_2_1 := dk_seg dksX7_compare_2_0 22 rfl rfl
theorem dksX7_compare_2_2 : cX7_compare_2.data.toList.drop 45 = dktX7_compare_2_2 := dk_seg dksX7_compare_2_1 23 rfl rfl
theorem dX7_compare_2_0 : decode cX7_compare_2 0 = .ok (.aload_n 1, 1) := dk_43 (dk_at dksX7_compare_2_0 0 rfl rfl)
theorem dX7_compare_2_1 : decode cX7_compare_2 1 = .ok (.getfield 7, 3) := dk_180 0 7 (dk_at dksX7_compare_2_0 1 rfl rfl)
theorem dX7_compare_2_4 : decode cX7_compare_2 4 = .ok (.aload_n 2, 1) := dk_44 (dk_at dksX7_compare_2_0 4 rfl rfl)
theorem dX7_compare_2_5 : decode cX7_compare_2 5 = .ok (.getfield 7, 3) := dk_180 0 7 (dk_at dksX7_compare_2_0 5 rfl rfl)
theorem dX7_compare_2_8 : decode cX7_compare_2 8 = .ok (.if_icmp .eq 13, 3) := dk_159 0 13 (dk_at dksX7_compare_2_0 8 rfl rfl)
theorem dX7_compare_2_11 : decode cX7_compare_2 11 = .ok (.aload_n 1, 1) := dk_43 (dk_at dksX7_compare_2_0 11 rfl rfl)
theorem dX7_compare_2_12 : decode cX7_compare_2 12 = .ok (.getfield 7, 3) := dk_180 0 7 (dk_at dksX7_compare_2_0 12 rfl rfl)
theorem dX7_compare_2_15 : decode cX7_compare_2 15 = .ok (.aload_n 2, 1) := dk_44 (dk_at dksX7_compare_2_0 15 rfl rfl)
theorem dX7_compare_2_16 : decode cX7_compare_2 16 = .ok (.getfield 7, 3) := dk_180 0 7 (dk_at dksX7_compare_2_0 16 rfl rfl)
theorem dX7_compare_2_19 : decode cX7_compare_2 19 = .ok (.isub, 1) := dk_100 (dk_at dksX7_compare_2_0 19 rfl rfl)
theorem dX7_compare_2_20 : decode cX7_compare_2 20 = .ok (.ireturn, 1) := dk_172 (dk_at dksX7_compare_2_0 20 rfl rfl)
theorem dX7_compare_2_21 : decode cX7_compare_2 21 = .ok (.aload_n 1, 1) := dk_43 (dk_at dksX7_compare_2_0 21 rfl rfl)
theorem dX7_compare_2_22 : decode cX7_compare_2 22 = .ok (.getfield 13, 3) := dk_180 0 13 (dk_at dksX7_compare_2_1 0 rfl rfl)
theorem dX7_compare_2_25 : decode cX7_compare_2 25 = .ok (.aload_n 2, 1) := dk_44 (dk_at dksX7_compare_2_1 3 rfl rfl)
theorem dX7_compare_2_26 : decode cX7_compare_2 26 = .ok (.getfield 13, 3) := dk_180 0 13 (dk_at dksX7_compare_2_1 4 rfl rfl)
theorem dX7_compare_2_29 : decode cX7_compare_2 29 = .ok (.if_icmp .eq 15, 3) := dk_159 0 15 (dk_at dksX7_compare_2_1 7 rfl rfl)
theorem dX7_compare_2_32 : decode cX7_compare_2 32 = .ok (.aload_n 2, 1) := dk_44 (dk_at dksX7_compare_2_1 10 rfl rfl)
theorem dX7_compare_2_33 : decode cX7_compare_2 33 = .ok (.getfield 13, 3) := dk_180 0 13 (dk_at dksX7_compare_2_1 11 rfl rfl)
theorem dX7_compare_2_36 : decode cX7_compare_2 36 = .ok (.aload_n 1, 1) := dk_43 (dk_at dksX7_compare_2_1 14 rfl rfl)
theorem dX7_compare_2_37 : decode cX7_compare_2 37 = .ok (.getfield 13, 3) := dk_180 0 13 (dk_at dksX7_compare_2_1 15 rfl rfl)
theorem dX7_compare_2_40 : decode cX7_compare_2 40 = .ok (.isub, 1) := dk_100 (dk_at dksX7_compare_2_1 18 rfl rfl)
theorem dX7_compare_2_41 : decode cX7_compare_2 41 = .ok (.goto 12, 3) := dk_167 0 12 (dk_at dksX7_compare_2_1 19 rfl rfl)
theorem dX7_compare_2_44 : decode cX7_compare_2 44 = .ok (.aload_n 1, 1) := dk_43 (dk_at dksX7_compare_2_1 22 rfl rfl)
theorem dX7_compare_2_45 : decode cX7_compare_2 45 = .ok (.getfield 16, 3) := dk_180 0 16 (dk_at dksX7_compare_2_2 0 rfl rfl)
theorem dX7_compare_2_48 : decode cX7_compare_2 48 = .ok (.aload_n 2, 1) := dk_44 (dk_at dksX7_compare_2_2 3 rfl rfl)
theorem dX7_compare_2_49 : decode cX7_compare_2 49 = .ok (.getfield 16, 3) := dk_180 0 16 (dk_at dksX7_compare_2_2 4 rfl rfl)
theorem dX7_compare_2_52 : decode cX7_compare_2 52 = .ok (.isub, 1) := dk_100 (dk_at dksX7_compare_2_2 7 rfl rfl)
theorem dX7_compare_2_53 : decode cX7_compare_2 53 = .ok (.ireturn, 1) := dk_172 (dk_at dksX7_compare_2_2 8 rfl rfl)
abbrev cX7_init : ByteArray := prog_2_method_1_code
def yX7_init : MethodName := ⟨RX7, "<init>", "()V"⟩
theorem dX7_init_0 : decode cX7_init 0 = .ok (.aload_n 0, 1) := by decide +kernel
theorem dX7_init_1 : decode cX7_init 1 = .ok (.invokespecial 1, 3) := by decide +kernel
theorem dX7_init_4 : decode cX7_init 4 = .ok (.return_, 1) := by decide +kernel
theorem q108 : (Jvm.Cond.initialized "ContourLabels$BestFirst") ∈ lw_all := lw_g (lw_at lw_m1 30 rfl) rfl
theorem q402 : (Jvm.Cond.selects "ContourLabels$BestFirst" ({ cls := "java/lang/Object", name := "getClass", desc := "()Ljava/lang/Class;" } : Jvm.MethodName) ({ cls := "java/lang/Object", name := "getClass", desc := "()Ljava/lang/Class;" } : Jvm.MethodName)) ∈ lw_all := lw_g (lw_at lw_m2 84 rfl) rfl
theorem q831 : (Jvm.Cond.castable "ContourLabels$BestFirst" "java/util/Comparator") ∈ lw_tbl := lw_at lw_m4 33 rfl
theorem q832 : (Jvm.Cond.selects "ContourLabels$BestFirst" ({ cls := "java/util/Comparator", name := "compare", desc := "(Ljava/lang/Object;Ljava/lang/Object;)I" } : Jvm.MethodName) ({ cls := "ContourLabels$BestFirst", name := "compare", desc := "(Ljava/lang/Object;Ljava/lang/Object;)I" } : Jvm.MethodName)) ∈ lw_all := lw_g (lw_at lw_m4 34 rfl) rfl
theorem q833 : (Jvm.Cond.unhidden "ContourLabels$BestFirst" "compare" "(Ljava/lang/Object;Ljava/lang/Object;)I") ∈ lw_tbl := lw_at lw_m4 35 rfl
theorem q834 : (Jvm.Cond.instanceMethod ({ cls := "ContourLabels$BestFirst", name := "compare", desc := "(Ljava/lang/Object;Ljava/lang/Object;)I" } : Jvm.MethodName)) ∈ lw_all := lw_g (lw_at lw_m4 36 rfl) rfl
theorem q835 : (Jvm.Cond.publicMethod ({ cls := "ContourLabels$BestFirst", name := "compare", desc := "(Ljava/lang/Object;Ljava/lang/Object;)I" } : Jvm.MethodName)) ∈ lw_tbl := lw_at lw_m4 37 rfl
theorem q836 : (Jvm.Cond.code ({ cls := "ContourLabels$BestFirst", name := "compare", desc := "(Ljava/lang/Object;Ljava/lang/Object;)I" } : Jvm.MethodName) prog_2_method_3_code (3 : Nat) (Option.some Jvm.ClassFile.FieldType.int)) ∈ lw_all := lw_g (lw_at lw_m4 38 rfl) rfl
theorem q837 : (Jvm.Cond.classLink "ContourLabels$BestFirst" (8 : Nat) "ContourLabels$Candidate") ∈ lw_all := lw_g (lw_at lw_m4 39 rfl) rfl
theorem q838 : (Jvm.Cond.methodLink "ContourLabels$BestFirst" (19 : Nat) ({ cls := "ContourLabels$BestFirst", name := "compare", desc := "(LContourLabels$Candidate;LContourLabels$Candidate;)I" } : Jvm.MethodName)) ∈ lw_all := lw_g (lw_at lw_m4 40 rfl) rfl
theorem q839 : (Jvm.Cond.instanceMethod ({ cls := "ContourLabels$BestFirst", name := "compare", desc := "(LContourLabels$Candidate;LContourLabels$Candidate;)I" } : Jvm.MethodName)) ∈ lw_all := lw_g (lw_at lw_m4 41 rfl) rfl
theorem q840 : (Jvm.Cond.selects "ContourLabels$BestFirst" ({ cls := "ContourLabels$BestFirst", name := "compare", desc := "(LContourLabels$Candidate;LContourLabels$Candidate;)I" } : Jvm.MethodName) ({ cls := "ContourLabels$BestFirst", name := "compare", desc := "(LContourLabels$Candidate;LContourLabels$Candidate;)I" } : Jvm.MethodName)) ∈ lw_all := lw_g (lw_at lw_m4 42 rfl) rfl
theorem q841 : (Jvm.Cond.code ({ cls := "ContourLabels$BestFirst", name := "compare", desc := "(LContourLabels$Candidate;LContourLabels$Candidate;)I" } : Jvm.MethodName) prog_2_method_2_code (3 : Nat) (Option.some Jvm.ClassFile.FieldType.int)) ∈ lw_all := lw_g (lw_at lw_m4 43 rfl) rfl
theorem q1020 : (Jvm.Cond.instantiable "ContourLabels$BestFirst" (0 : Nat)) ∈ lw_all := lw_g (lw_at lw_m4 222 rfl) rfl
theorem q1022 : (Jvm.Cond.instanceMethod ({ cls := "ContourLabels$BestFirst", name := "<init>", desc := "()V" } : Jvm.MethodName)) ∈ lw_all := lw_g (lw_at lw_m4 224 rfl) rfl
theorem q1023 : (Jvm.Cond.code ({ cls := "ContourLabels$BestFirst", name := "<init>", desc := "()V" } : Jvm.MethodName) prog_2_method_1_code (1 : Nat) (Option.none : Option Jvm.ClassFile.FieldType)) ∈ lw_all := lw_g (lw_at lw_m4 225 rfl) rfl
theorem q1024 : (Jvm.Cond.methodLink "ContourLabels$BestFirst" (1 : Nat) ({ cls := "java/lang/Object", name := "<init>", desc := "()V" } : Jvm.MethodName)) ∈ lw_all := lw_g (lw_at lw_m4 226 rfl) rfl
theorem q1025 : (Jvm.Cond.superclass "ContourLabels$BestFirst" "java/lang/Object") ∈ lw_all := lw_g (lw_at lw_m4 227 rfl) rfl
theorem q1186 : (Jvm.Cond.fieldLink "ContourLabels$BestFirst" (16 : Nat) "ContourLabels$Candidate" "place" "I") ∈ lw_all := lw_g (lw_at lw_m5 148 rfl) rfl
theorem q1189 : (Jvm.Cond.fieldLink "ContourLabels$BestFirst" (7 : Nat) "ContourLabels$Candidate" "bend" "I") ∈ lw_all := lw_g (lw_at lw_m5 151 rfl) rfl
theorem q1191 : (Jvm.Cond.fieldLink "ContourLabels$BestFirst" (13 : Nat) "ContourLabels$Candidate" "far" "I") ∈ lw_all := lw_g (lw_at lw_m5 153 rfl) rfl
theorem q2681 : (Jvm.Cond.castable "ContourLabels$BestFirst" "java/lang/Object") ∈ lw_tbl := lw_at lw_m11 203 rfl

/-! ContourLabels$Candidate -/
set_option maxRecDepth 100000
def RX8 : String := "ContourLabels$Candidate"
def TX8 : u_T := fun k => match k with
  | 0 => ("ContourLabels$Candidate", "place", "I", true)
  | 1 => ("ContourLabels$Candidate", "bend", "I", true)
  | _ => ("ContourLabels$Candidate", "far", "I", true)
def tyX8 : Nat → FieldType := fun k => match k with
  | 0 => .int
  | 1 => .int
  | _ => .int
abbrev wsX80 : List Cond := u_ws RX8 TX8 3
theorem nmX8 : ∀ a, a < 3 → ∀ b, b < 3 → a ≠ b → (TX8 a).2.1 ≠ (TX8 b).2.1 := by decide +kernel
theorem tyX8_ok : ∀ k, k < 3 → parseFieldDescriptor (TX8 k).2.2.1 = some (tyX8 k) := by decide +kernel
abbrev cX8_init : ByteArray := prog_3_method_1_code
def yX8_init : MethodName := ⟨RX8, "<init>", "(III)V"⟩
def dkwX8_init_0 : List UInt8 := [42, 183, 0, 1, 42, 27, 181, 0, 7, 42, 28, 181, 0, 13, 42, 29, 181, 0, 16, 177]
abbrev dktX8_init_0 : List UInt8 := dkwX8_init_0 ++ []
theorem dksX8_init_0 : cX8_init.data.toList.drop 0 = dktX8_init_0 := by decide +kernel
theorem dX8_init_0 : decode cX8_init 0 = .ok (.aload_n 0, 1) := dk_42 (dk_at dksX8_init_0 0 rfl rfl)
theorem dX8_init_1 : decode cX8_init 1 = .ok (.invokespecial 1, 3) := dk_183 0 1 (dk_at dksX8_init_0 1 rfl rfl)
theorem dX8_init_4 : decode cX8_init 4 = .ok (.aload_n 0, 1) := dk_42 (dk_at dksX8_init_0 4 rfl rfl)
theorem dX8_init_5 : decode cX8_init 5 = .ok (.iload_n 1, 1) := dk_27 (dk_at dksX8_init_0 5 rfl rfl)
theorem dX8_init_6 : decode cX8_init 6 = .ok (.putfield 7, 3) := dk_181 0 7 (dk_at dksX8_init_0 6 rfl rfl)
theorem dX8_init_9 : decode cX8_init 9 = .ok (.aload_n 0, 1) := dk_42 (dk_at dksX8_init_0 9 rfl rfl)
theorem dX8_init_10 : decode cX8_init 10 = .ok (.iload_n 2, 1) := dk_28 (dk_at dksX8_init_0 10 rfl rfl)
theorem dX8_init_11 : decode cX8_init 11 = .ok (.putfield 13, 3) := dk_181 0 13 (dk_at dksX8_init_0 11 rfl rfl)
theorem dX8_init_14 : decode cX8_init 14 = .ok (.aload_n 0, 1) := dk_42 (dk_at dksX8_init_0 14 rfl rfl)
theorem dX8_init_15 : decode cX8_init 15 = .ok (.iload_n 3, 1) := dk_29 (dk_at dksX8_init_0 15 rfl rfl)
theorem dX8_init_16 : decode cX8_init 16 = .ok (.putfield 16, 3) := dk_181 0 16 (dk_at dksX8_init_0 16 rfl rfl)
theorem dX8_init_19 : decode cX8_init 19 = .ok (.return_, 1) := dk_177 (dk_at dksX8_init_0 19 rfl rfl)
theorem q109 : (Jvm.Cond.initialized "ContourLabels$Candidate") ∈ lw_all := lw_g (lw_at lw_m1 31 rfl) rfl
theorem q403 : (Jvm.Cond.selects "ContourLabels$Candidate" ({ cls := "java/lang/Object", name := "getClass", desc := "()Ljava/lang/Class;" } : Jvm.MethodName) ({ cls := "java/lang/Object", name := "getClass", desc := "()Ljava/lang/Class;" } : Jvm.MethodName)) ∈ lw_all := lw_g (lw_at lw_m2 85 rfl) rfl
theorem q1180 : (Jvm.Cond.instantiable "ContourLabels$Candidate" (3 : Nat)) ∈ lw_all := lw_g (lw_at lw_m5 142 rfl) rfl
theorem q1182 : (Jvm.Cond.instanceMethod ({ cls := "ContourLabels$Candidate", name := "<init>", desc := "(III)V" } : Jvm.MethodName)) ∈ lw_all := lw_g (lw_at lw_m5 144 rfl) rfl
theorem q1183 : (Jvm.Cond.code ({ cls := "ContourLabels$Candidate", name := "<init>", desc := "(III)V" } : Jvm.MethodName) prog_3_method_1_code (4 : Nat) (Option.none : Option Jvm.ClassFile.FieldType)) ∈ lw_all := lw_g (lw_at lw_m5 145 rfl) rfl
theorem q1184 : (Jvm.Cond.methodLink "ContourLabels$Candidate" (1 : Nat) ({ cls := "java/lang/Object", name := "<init>", desc := "()V" } : Jvm.MethodName)) ∈ lw_all := lw_g (lw_at lw_m5 146 rfl) rfl
theorem q1185 : (Jvm.Cond.fieldLink "ContourLabels$Candidate" (7 : Nat) "ContourLabels$Candidate" "place" "I") ∈ lw_all := lw_g (lw_at lw_m5 147 rfl) rfl
theorem q1188 : (Jvm.Cond.fieldLink "ContourLabels$Candidate" (13 : Nat) "ContourLabels$Candidate" "bend" "I") ∈ lw_all := lw_g (lw_at lw_m5 150 rfl) rfl
theorem q1190 : (Jvm.Cond.fieldLink "ContourLabels$Candidate" (16 : Nat) "ContourLabels$Candidate" "far" "I") ∈ lw_all := lw_g (lw_at lw_m5 152 rfl) rfl
theorem q1192 : (Jvm.Cond.laysFinal "ContourLabels$Candidate" "ContourLabels$Candidate" "place" "I") ∈ lw_all := lw_g (lw_at lw_m5 154 rfl) rfl
theorem q1193 : (Jvm.Cond.soleField "ContourLabels$Candidate" "place") ∈ lw_all := lw_g (lw_at lw_m5 155 rfl) rfl
theorem q1194 : (Jvm.Cond.laysFinal "ContourLabels$Candidate" "ContourLabels$Candidate" "bend" "I") ∈ lw_all := lw_g (lw_at lw_m5 156 rfl) rfl
theorem q1195 : (Jvm.Cond.soleField "ContourLabels$Candidate" "bend") ∈ lw_all := lw_g (lw_at lw_m5 157 rfl) rfl
theorem q1196 : (Jvm.Cond.laysFinal "ContourLabels$Candidate" "ContourLabels$Candidate" "far" "I") ∈ lw_all := lw_g (lw_at lw_m5 158 rfl) rfl
theorem q1197 : (Jvm.Cond.soleField "ContourLabels$Candidate" "far") ∈ lw_all := lw_g (lw_at lw_m5 159 rfl) rfl
theorem q1198 : (Jvm.Cond.superclass "ContourLabels$Candidate" "java/lang/Object") ∈ lw_all := lw_g (lw_at lw_m5 160 rfl) rfl
theorem q2682 : (Jvm.Cond.castable "ContourLabels$Candidate" "java/lang/Object") ∈ lw_tbl := lw_at lw_m11 204 rfl
theorem in_X8 : ∀ w ∈ wsX80, w ∈ lw_all := lw_in wsX80 [1192, 1194, 1196] (by decide +kernel) (by decide +kernel)

/-! ContourLabels -/
set_option maxRecDepth 100000
def RX1 : String := "ContourLabels"
def TX1 : u_T := fun k => match k with
  | 0 => ("ContourLabels", "state", "LContourLabels$State;", false)
  | 1 => ("ContourLabels", "snapshot", "LContourLabels$State;", false)
  | 2 => ("ContourLabels", "history", "Ljava/util/ArrayDeque;", true)
  | _ => ("ContourLabels", "buffer", "Ljava/lang/StringBuilder;", true)
def tyX1 : Nat → FieldType := fun k => match k with
  | 0 => .object "ContourLabels$State"
  | 1 => .object "ContourLabels$State"
  | 2 => .object "java/util/ArrayDeque"
  | _ => .object "java/lang/StringBuilder"
abbrev wsX10 : List Cond := u_ws RX1 TX1 4
theorem nmX1 : ∀ a, a < 4 → ∀ b, b < 4 → a ≠ b → (TX1 a).2.1 ≠ (TX1 b).2.1 := by decide +kernel
theorem tyX1_ok : ∀ k, k < 4 → parseFieldDescriptor (TX1 k).2.2.1 = some (tyX1 k) := by decide +kernel
abbrev cX1_init : ByteArray := prog_1_method_8_code
def yX1_init : MethodName := ⟨RX1, "<init>", "()V"⟩
def dkwX1_init_1 : List UInt8 := [181, 0, 42, 42, 187, 0, 46, 89, 183, 0, 48, 181, 0, 49, 177]
abbrev dktX1_init_1 : List UInt8 := dkwX1_init_1 ++ []
def dkwX1_init_0 : List UInt8 := [42, 183, 0, 26, 42, 187, 0, 32, 89, 183, 0, 34, 181, 0, 35, 42, 187, 0, 39, 89, 183, 0, 41]
abbrev dktX1_init_0 : List UInt8 := dkwX1_init_0 ++ dktX1_init_1
theorem dksX1_init_0 : cX1_init.data.toList.drop 0 = dktX1_init_0 := by decide +kernel
theorem dksX1_init_1 : cX1_init.data.toList.drop 23 = dktX1_init_1 := dk_seg dksX1_init_0 23 rfl rfl
theorem dX1_init_0 : decode cX1_init 0 = .ok (.aload_n 0, 1) := dk_42 (dk_at dksX1_init_0 0 rfl rfl)
theorem dX1_init_1 : decode cX1_init 1 = .ok (.invokespecial 26, 3) := dk_183 0 26 (dk_at dksX1_init_0 1 rfl rfl)
theorem dX1_init_4 : decode cX1_init 4 = .ok (.aload_n 0, 1) := dk_42 (dk_at dksX1_init_0 4 rfl rfl)
theorem dX1_init_5 : decode cX1_init 5 = .ok (.new 32, 3) := dk_187 0 32 (dk_at dksX1_init_0 5 rfl rfl)
theorem dX1_init_8 : decode cX1_init 8 = .ok (.dup, 1) := dk_89 (dk_at dksX1_init_0 8 rfl rfl)
theorem dX1_init_9 : decode cX1_init 9 = .ok (.invokespecial 34, 3) := dk_183 0 34 (dk_at dksX1_init_0 9 rfl rfl)
theorem dX1_init_12 : decode cX1_init 12 = .ok (.putfield 35, 3) := dk_181 0 35 (dk_at dksX1_init_0 12 rfl rfl)
theorem dX1_init_15 : decode cX1_init 15 = .ok (.aload_n 0, 1) := dk_42 (dk_at dksX1_init_0 15 rfl rfl)
theorem dX1_init_16 : decode cX1_init 16 = .ok (.new 39, 3) := dk_187 0 39 (dk_at dksX1_init_0 16 rfl rfl)
theorem dX1_init_19 : decode cX1_init 19 = .ok (.dup, 1) := dk_89 (dk_at dksX1_init_0 19 rfl rfl)
theorem dX1_init_20 : decode cX1_init 20 = .ok (.invokespecial 41, 3) := dk_183 0 41 (dk_at dksX1_init_0 20 rfl rfl)
theorem dX1_init_23 : decode cX1_init 23 = .ok (.putfield 42, 3) := dk_181 0 42 (dk_at dksX1_init_1 0 rfl rfl)
theorem dX1_init_26 : decode cX1_init 26 = .ok (.aload_n 0, 1) := dk_42 (dk_at dksX1_init_1 3 rfl rfl)
theorem dX1_init_27 : decode cX1_init 27 = .ok (.new 46, 3) := dk_187 0 46 (dk_at dksX1_init_1 4 rfl rfl)
theorem dX1_init_30 : decode cX1_init 30 = .ok (.dup, 1) := dk_89 (dk_at dksX1_init_1 7 rfl rfl)
theorem dX1_init_31 : decode cX1_init 31 = .ok (.invokespecial 48, 3) := dk_183 0 48 (dk_at dksX1_init_1 8 rfl rfl)
theorem dX1_init_34 : decode cX1_init 34 = .ok (.putfield 49, 3) := dk_181 0 49 (dk_at dksX1_init_1 11 rfl rfl)
theorem dX1_init_37 : decode cX1_init 37 = .ok (.return_, 1) := dk_177 (dk_at dksX1_init_1 14 rfl rfl)
abbrev cX1_labelAll : ByteArray := prog_1_method_23_code
def yX1_labelAll : MethodName := ⟨RX1, "labelAll", "()I"⟩
def dkwX1_labelAll_0 : List UInt8 := [42, 182, 0, 117, 42, 180, 0, 35, 182, 0, 161, 172]
abbrev dktX1_labelAll_0 : List UInt8 := dkwX1_labelAll_0 ++ []
theorem dksX1_labelAll_0 : cX1_labelAll.data.toList.drop 0 = dktX1_labelAll_0 := by decide +kernel
theorem dX1_labelAll_0 : decode cX1_labelAll 0 = .ok (.aload_n 0, 1) := dk_42 (dk_at dksX1_labelAll_0 0 rfl rfl)
theorem dX1_labelAll_1 : decode cX1_labelAll 1 = .ok (.invokevirtual 117, 3) := dk_182 0 117 (dk_at dksX1_labelAll_0 1 rfl rfl)
theorem dX1_labelAll_4 : decode cX1_labelAll 4 = .ok (.aload_n 0, 1) := dk_42 (dk_at dksX1_labelAll_0 4 rfl rfl)
theorem dX1_labelAll_5 : decode cX1_labelAll 5 = .ok (.getfield 35, 3) := dk_180 0 35 (dk_at dksX1_labelAll_0 5 rfl rfl)
theorem dX1_labelAll_8 : decode cX1_labelAll 8 = .ok (.invokevirtual 161, 3) := dk_182 0 161 (dk_at dksX1_labelAll_0 8 rfl rfl)
theorem dX1_labelAll_11 : decode cX1_labelAll 11 = .ok (.ireturn, 1) := dk_172 (dk_at dksX1_labelAll_0 11 rfl rfl)
abbrev cX1_save : ByteArray := prog_1_method_9_code
def yX1_save : MethodName := ⟨RX1, "save", "()V"⟩
def dkwX1_save_1 : List UInt8 := [180, 0, 35, 182, 0, 60, 182, 0, 64, 177]
abbrev dktX1_save_1 : List UInt8 := dkwX1_save_1 ++ []
def dkwX1_save_0 : List UInt8 := [42, 180, 0, 42, 182, 0, 53, 8, 160, 0, 11, 42, 180, 0, 42, 182, 0, 56, 87, 42, 180, 0, 42, 42]
abbrev dktX1_save_0 : List UInt8 := dkwX1_save_0 ++ dktX1_save_1
theorem dksX1_save_0 : cX1_save.data.toList.drop 0 = dktX1_save_0 := by decide +kernel
theorem dksX1_save_1 : cX1_save.data.toList.drop 24 = dktX1_save_1 := dk_seg dksX1_save_0 24 rfl rfl
theorem dX1_save_0 : decode cX1_save 0 = .ok (.aload_n 0, 1) := dk_42 (dk_at dksX1_save_0 0 rfl rfl)
theorem dX1_save_1 : decode cX1_save 1 = .ok (.getfield 42, 3) := dk_180 0 42 (dk_at dksX1_save_0 1 rfl rfl)
theorem dX1_save_4 : decode cX1_save 4 = .ok (.invokevirtual 53, 3) := dk_182 0 53 (dk_at dksX1_save_0 4 rfl rfl)
theorem dX1_save_7 : decode cX1_save 7 = .ok (.iconst 5, 1) := dk_8 (dk_at dksX1_save_0 7 rfl rfl)
theorem dX1_save_8 : decode cX1_save 8 = .ok (.if_icmp .ne 11, 3) := dk_160 0 11 (dk_at dksX1_save_0 8 rfl rfl)
theorem dX1_save_11 : decode cX1_save 11 = .ok (.aload_n 0, 1) := dk_42 (dk_at dksX1_save_0 11 rfl rfl)
theorem dX1_save_12 : decode cX1_save 12 = .ok (.getfield 42, 3) := dk_180 0 42 (dk_at dksX1_save_0 12 rfl rfl)
theorem dX1_save_15 : decode cX1_save 15 = .ok (.invokevirtual 56, 3) := dk_182 0 56 (dk_at dksX1_save_0 15 rfl rfl)
theorem dX1_save_18 : decode cX1_save 18 = .ok (.pop, 1) := dk_87 (dk_at dksX1_save_0 18 rfl rfl)
theorem dX1_save_19 : decode cX1_save 19 = .ok (.aload_n 0, 1) := dk_42 (dk_at dksX1_save_0 19 rfl rfl)
theorem dX1_save_20 : decode cX1_save 20 = .ok (.getfield 42, 3) := dk_180 0 42 (dk_at dksX1_save_0 20 rfl rfl)
theorem dX1_save_23 : decode cX1_save 23 = .ok (.aload_n 0, 1) := dk_42 (dk_at dksX1_save_0 23 rfl rfl)
theorem dX1_save_24 : decode cX1_save 24 = .ok (.getfield 35, 3) := dk_180 0 35 (dk_at dksX1_save_1 0 rfl rfl)
theorem dX1_save_27 : decode cX1_save 27 = .ok (.invokevirtual 60, 3) := dk_182 0 60 (dk_at dksX1_save_1 3 rfl rfl)
theorem dX1_save_30 : decode cX1_save 30 = .ok (.invokevirtual 64, 3) := dk_182 0 64 (dk_at dksX1_save_1 6 rfl rfl)
theorem dX1_save_33 : decode cX1_save 33 = .ok (.return_, 1) := dk_177 (dk_at dksX1_save_1 9 rfl rfl)
abbrev cX1_row : ByteArray := prog_1_method_3_code
def yX1_row : MethodName := ⟨RX1, "row", "(I)I"⟩
def dkwX1_row_0 : List UInt8 := [26, 16, 24, 108, 172]
abbrev dktX1_row_0 : List UInt8 := dkwX1_row_0 ++ []
theorem dksX1_row_0 : cX1_row.data.toList.drop 0 = dktX1_row_0 := by decide +kernel
theorem dX1_row_0 : decode cX1_row 0 = .ok (.iload_n 0, 1) := dk_26 (dk_at dksX1_row_0 0 rfl rfl)
theorem dX1_row_1 : decode cX1_row 1 = .ok (.bipush 24, 2) := dk_16 24 (dk_at dksX1_row_0 1 rfl rfl)
theorem dX1_row_3 : decode cX1_row 3 = .ok (.idiv, 1) := dk_108 (dk_at dksX1_row_0 3 rfl rfl)
theorem dX1_row_4 : decode cX1_row 4 = .ok (.ireturn, 1) := dk_172 (dk_at dksX1_row_0 4 rfl rfl)
abbrev cX1_size : ByteArray := prog_1_method_1_code
def yX1_size : MethodName := ⟨RX1, "size", "(I)I"⟩
def dkwX1_size_0 : List UInt8 := [26, 156, 0, 8, 26, 116, 167, 0, 4, 26, 172]
abbrev dktX1_size_0 : List UInt8 := dkwX1_size_0 ++ []
theorem dksX1_size_0 : cX1_size.data.toList.drop 0 = dktX1_size_0 := by decide +kernel
theorem dX1_size_0 : decode cX1_size 0 = .ok (.iload_n 0, 1) := dk_26 (dk_at dksX1_size_0 0 rfl rfl)
theorem dX1_size_1 : decode cX1_size 1 = .ok (.ifCond .ge 8, 3) := dk_156 0 8 (dk_at dksX1_size_0 1 rfl rfl)
theorem dX1_size_4 : decode cX1_size 4 = .ok (.iload_n 0, 1) := dk_26 (dk_at dksX1_size_0 4 rfl rfl)
theorem dX1_size_5 : decode cX1_size 5 = .ok (.ineg, 1) := dk_116 (dk_at dksX1_size_0 5 rfl rfl)
theorem dX1_size_6 : decode cX1_size 6 = .ok (.goto 4, 3) := dk_167 0 4 (dk_at dksX1_size_0 6 rfl rfl)
theorem dX1_size_9 : decode cX1_size 9 = .ok (.iload_n 0, 1) := dk_26 (dk_at dksX1_size_0 9 rfl rfl)
theorem dX1_size_10 : decode cX1_size 10 = .ok (.ireturn, 1) := dk_172 (dk_at dksX1_size_0 10 rfl rfl)
abbrev cX1_column : ByteArray := prog_1_method_2_code
def yX1_column : MethodName := ⟨RX1, "column", "(I)I"⟩
def dkwX1_column_0 : List UInt8 := [26, 16, 24, 112, 172]
abbrev dktX1_column_0 : List UInt8 := dkwX1_column_0 ++ []
theorem dksX1_column_0 : cX1_column.data.toList.drop 0 = dktX1_column_0 := by decide +kernel
theorem dX1_column_0 : decode cX1_column 0 = .ok (.iload_n 0, 1) := dk_26 (dk_at dksX1_column_0 0 rfl rfl)
theorem dX1_column_1 : decode cX1_column 1 = .ok (.bipush 24, 2) := dk_16 24 (dk_at dksX1_column_0 1 rfl rfl)
theorem dX1_column_3 : decode cX1_column 3 = .ok (.irem, 1) := dk_112 (dk_at dksX1_column_0 3 rfl rfl)
theorem dX1_column_4 : decode cX1_column 4 = .ok (.ireturn, 1) := dk_172 (dk_at dksX1_column_0 4 rfl rfl)
abbrev cX1_far : ByteArray := prog_1_method_6_code
def yX1_far : MethodName := ⟨RX1, "far", "(II)I"⟩
def dkwX1_far_1 : List UInt8 := [184, 0, 17, 62, 28, 29, 164, 0, 7, 28, 167, 0, 4, 29, 172]
abbrev dktX1_far_1 : List UInt8 := dkwX1_far_1 ++ []
def dkwX1_far_0 : List UInt8 := [26, 184, 0, 3, 27, 184, 0, 3, 100, 184, 0, 17, 61, 26, 184, 0, 11, 27, 184, 0, 11, 100]
abbrev dktX1_far_0 : List UInt8 := dkwX1_far_0 ++ dktX1_far_1
theorem dksX1_far_0 : cX1_far.data.toList.drop 0 = dktX1_far_0 := by decide +kernel
theorem dksX1_far_1 : cX1_far.data.toList.drop 22 = dktX1_far_1 := dk_seg dksX1_far_0 22 rfl rfl
theorem dX1_far_0 : decode cX1_far 0 = .ok (.iload_n 0, 1) := dk_26 (dk_at dksX1_far_0 0 rfl rfl)
theorem dX1_far_1 : decode cX1_far 1 = .ok (.invokestatic 3, 3) := dk_184 0 3 (dk_at dksX1_far_0 1 rfl rfl)
theorem dX1_far_4 : decode cX1_far 4 = .ok (.iload_n 1, 1) := dk_27 (dk_at dksX1_far_0 4 rfl rfl)
theorem dX1_far_5 : decode cX1_far 5 = .ok (.invokestatic 3, 3) := dk_184 0 3 (dk_at dksX1_far_0 5 rfl rfl)
theorem dX1_far_8 : decode cX1_far 8 = .ok (.isub, 1) := dk_100 (dk_at dksX1_far_0 8 rfl rfl)
theorem dX1_far_9 : decode cX1_far 9 = .ok (.invokestatic 17, 3) := dk_184 0 17 (dk_at dksX1_far_0 9 rfl rfl)
theorem dX1_far_12 : decode cX1_far 12 = .ok (.istore_n 2, 1) := dk_61 (dk_at dksX1_far_0 12 rfl rfl)
theorem dX1_far_13 : decode cX1_far 13 = .ok (.iload_n 0, 1) := dk_26 (dk_at dksX1_far_0 13 rfl rfl)
theorem dX1_far_14 : decode cX1_far 14 = .ok (.invokestatic 11, 3) := dk_184 0 11 (dk_at dksX1_far_0 14 rfl rfl)
theorem dX1_far_17 : decode cX1_far 17 = .ok (.iload_n 1, 1) := dk_27 (dk_at dksX1_far_0 17 rfl rfl)
theorem dX1_far_18 : decode cX1_far 18 = .ok (.invokestatic 11, 3) := dk_184 0 11 (dk_at dksX1_far_0 18 rfl rfl)
theorem dX1_far_21 : decode cX1_far 21 = .ok (.isub, 1) := dk_100 (dk_at dksX1_far_0 21 rfl rfl)
theorem dX1_far_22 : decode cX1_far 22 = .ok (.invokestatic 17, 3) := dk_184 0 17 (dk_at dksX1_far_1 0 rfl rfl)
theorem dX1_far_25 : decode cX1_far 25 = .ok (.istore_n 3, 1) := dk_62 (dk_at dksX1_far_1 3 rfl rfl)
theorem dX1_far_26 : decode cX1_far 26 = .ok (.iload_n 2, 1) := dk_28 (dk_at dksX1_far_1 4 rfl rfl)
theorem dX1_far_27 : decode cX1_far 27 = .ok (.iload_n 3, 1) := dk_29 (dk_at dksX1_far_1 5 rfl rfl)
theorem dX1_far_28 : decode cX1_far 28 = .ok (.if_icmp .le 7, 3) := dk_164 0 7 (dk_at dksX1_far_1 6 rfl rfl)
theorem dX1_far_31 : decode cX1_far 31 = .ok (.iload_n 2, 1) := dk_28 (dk_at dksX1_far_1 9 rfl rfl)
theorem dX1_far_32 : decode cX1_far 32 = .ok (.goto 4, 3) := dk_167 0 4 (dk_at dksX1_far_1 10 rfl rfl)
theorem dX1_far_35 : decode cX1_far 35 = .ok (.iload_n 3, 1) := dk_29 (dk_at dksX1_far_1 13 rfl rfl)
theorem dX1_far_36 : decode cX1_far 36 = .ok (.ireturn, 1) := dk_172 (dk_at dksX1_far_1 14 rfl rfl)
abbrev cX1_first : ByteArray := prog_1_method_7_code
def yX1_first : MethodName := ⟨RX1, "first", "([LContourLabels$Reason;)I"⟩
def dkwX1_first_1 : List UInt8 := [132, 1, 1, 167, 255, 232, 3, 172]
abbrev dktX1_first_1 : List UInt8 := dkwX1_first_1 ++ []
def dkwX1_first_0 : List UInt8 := [3, 60, 27, 42, 190, 162, 0, 24, 42, 27, 50, 185, 0, 20, 1, 0, 153, 0, 7, 27, 4, 96, 172]
abbrev dktX1_first_0 : List UInt8 := dkwX1_first_0 ++ dktX1_first_1
theorem dksX1_first_0 : cX1_first.data.toList.drop 0 = dktX1_first_0 := by decide +kernel
theorem dksX1_first_1 : cX1_first.data.toList.drop 23 = dktX1_first_1 := dk_seg dksX1_first_0 23 rfl rfl
theorem dX1_first_0 : decode cX1_first 0 = .ok (.iconst 0, 1) := dk_3 (dk_at dksX1_first_0 0 rfl rfl)
theorem dX1_first_1 : decode cX1_first 1 = .ok (.istore_n 1, 1) := dk_60 (dk_at dksX1_first_0 1 rfl rfl)
theorem dX1_first_2 : decode cX1_first 2 = .ok (.iload_n 1, 1) := dk_27 (dk_at dksX1_first_0 2 rfl rfl)
theorem dX1_first_3 : decode cX1_first 3 = .ok (.aload_n 0, 1) := dk_42 (dk_at dksX1_first_0 3 rfl rfl)
theorem dX1_first_4 : decode cX1_first 4 = .ok (.arraylength, 1) := dk_190 (dk_at dksX1_first_0 4 rfl rfl)
theorem dX1_first_5 : decode cX1_first 5 = .ok (.if_icmp .ge 24, 3) := dk_162 0 24 (dk_at dksX1_first_0 5 rfl rfl)
theorem dX1_first_8 : decode cX1_first 8 = .ok (.aload_n 0, 1) := dk_42 (dk_at dksX1_first_0 8 rfl rfl)
theorem dX1_first_9 : decode cX1_first 9 = .ok (.iload_n 1, 1) := dk_27 (dk_at dksX1_first_0 9 rfl rfl)
theorem dX1_first_10 : decode cX1_first 10 = .ok (.aaload, 1) := dk_50 (dk_at dksX1_first_0 10 rfl rfl)
theorem dX1_first_11 : decode cX1_first 11 = .ok (.invokeinterface 20 1, 5) := by decide +kernel
theorem dX1_first_16 : decode cX1_first 16 = .ok (.ifCond .eq 7, 3) := dk_153 0 7 (dk_at dksX1_first_0 16 rfl rfl)
theorem dX1_first_19 : decode cX1_first 19 = .ok (.iload_n 1, 1) := dk_27 (dk_at dksX1_first_0 19 rfl rfl)
theorem dX1_first_20 : decode cX1_first 20 = .ok (.iconst 1, 1) := dk_4 (dk_at dksX1_first_0 20 rfl rfl)
theorem dX1_first_21 : decode cX1_first 21 = .ok (.iadd, 1) := dk_96 (dk_at dksX1_first_0 21 rfl rfl)
theorem dX1_first_22 : decode cX1_first 22 = .ok (.ireturn, 1) := dk_172 (dk_at dksX1_first_0 22 rfl rfl)
theorem dX1_first_23 : decode cX1_first 23 = .ok (.iinc 1 1, 3) := dk_132 1 1 (dk_at dksX1_first_1 0 rfl rfl)
theorem dX1_first_26 : decode cX1_first 26 = .ok (.goto (-24), 3) := dk_167 255 232 (dk_at dksX1_first_1 3 rfl rfl)
theorem dX1_first_29 : decode cX1_first 29 = .ok (.iconst 0, 1) := dk_3 (dk_at dksX1_first_1 6 rfl rfl)
theorem dX1_first_30 : decode cX1_first 30 = .ok (.ireturn, 1) := dk_172 (dk_at dksX1_first_1 7 rfl rfl)
abbrev cX1_lines : ByteArray := prog_1_method_25_code
def yX1_lines : MethodName := ⟨RX1, "lines", "()I"⟩
def dkwX1_lines_0 : List UInt8 := [42, 180, 0, 35, 180, 0, 81, 185, 0, 85, 1, 0, 172]
abbrev dktX1_lines_0 : List UInt8 := dkwX1_lines_0 ++ []
theorem dksX1_lines_0 : cX1_lines.data.toList.drop 0 = dktX1_lines_0 := by decide +kernel
theorem dX1_lines_0 : decode cX1_lines 0 = .ok (.aload_n 0, 1) := dk_42 (dk_at dksX1_lines_0 0 rfl rfl)
theorem dX1_lines_1 : decode cX1_lines 1 = .ok (.getfield 35, 3) := dk_180 0 35 (dk_at dksX1_lines_0 1 rfl rfl)
theorem dX1_lines_4 : decode cX1_lines 4 = .ok (.getfield 81, 3) := dk_180 0 81 (dk_at dksX1_lines_0 4 rfl rfl)
theorem dX1_lines_7 : decode cX1_lines 7 = .ok (.invokeinterface 85 1, 5) := by decide +kernel
theorem dX1_lines_12 : decode cX1_lines 12 = .ok (.ireturn, 1) := dk_172 (dk_at dksX1_lines_0 12 rfl rfl)
abbrev cX1_gap : ByteArray := prog_1_method_35_code
def yX1_gap : MethodName := ⟨RX1, "gap", "()I"⟩
def dkwX1_gap_0 : List UInt8 := [42, 180, 0, 35, 180, 0, 164, 172]
abbrev dktX1_gap_0 : List UInt8 := dkwX1_gap_0 ++ []
theorem dksX1_gap_0 : cX1_gap.data.toList.drop 0 = dktX1_gap_0 := by decide +kernel
theorem dX1_gap_0 : decode cX1_gap 0 = .ok (.aload_n 0, 1) := dk_42 (dk_at dksX1_gap_0 0 rfl rfl)
theorem dX1_gap_1 : decode cX1_gap 1 = .ok (.getfield 35, 3) := dk_180 0 35 (dk_at dksX1_gap_0 1 rfl rfl)
theorem dX1_gap_4 : decode cX1_gap 4 = .ok (.getfield 164, 3) := dk_180 0 164 (dk_at dksX1_gap_0 4 rfl rfl)
theorem dX1_gap_7 : decode cX1_gap 7 = .ok (.ireturn, 1) := dk_172 (dk_at dksX1_gap_0 7 rfl rfl)
abbrev cX1_labels : ByteArray := prog_1_method_36_code
def yX1_labels : MethodName := ⟨RX1, "labels", "()I"⟩
def dkwX1_labels_0 : List UInt8 := [42, 180, 0, 35, 182, 0, 187, 172]
abbrev dktX1_labels_0 : List UInt8 := dkwX1_labels_0 ++ []
theorem dksX1_labels_0 : cX1_labels.data.toList.drop 0 = dktX1_labels_0 := by decide +kernel
theorem dX1_labels_0 : decode cX1_labels 0 = .ok (.aload_n 0, 1) := dk_42 (dk_at dksX1_labels_0 0 rfl rfl)
theorem dX1_labels_1 : decode cX1_labels 1 = .ok (.getfield 35, 3) := dk_180 0 35 (dk_at dksX1_labels_0 1 rfl rfl)
theorem dX1_labels_4 : decode cX1_labels 4 = .ok (.invokevirtual 187, 3) := dk_182 0 187 (dk_at dksX1_labels_0 4 rfl rfl)
theorem dX1_labels_7 : decode cX1_labels 7 = .ok (.ireturn, 1) := dk_172 (dk_at dksX1_labels_0 7 rfl rfl)
abbrev cX1_tooNear : ByteArray := prog_1_method_45_code
def yX1_tooNear : MethodName := ⟨RX1, "tooNear", "()I"⟩
def dkwX1_tooNear_0 : List UInt8 := [42, 180, 0, 35, 182, 0, 206, 172]
abbrev dktX1_tooNear_0 : List UInt8 := dkwX1_tooNear_0 ++ []
theorem dksX1_tooNear_0 : cX1_tooNear.data.toList.drop 0 = dktX1_tooNear_0 := by decide +kernel
theorem dX1_tooNear_0 : decode cX1_tooNear 0 = .ok (.aload_n 0, 1) := dk_42 (dk_at dksX1_tooNear_0 0 rfl rfl)
theorem dX1_tooNear_1 : decode cX1_tooNear 1 = .ok (.getfield 35, 3) := dk_180 0 35 (dk_at dksX1_tooNear_0 1 rfl rfl)
theorem dX1_tooNear_4 : decode cX1_tooNear 4 = .ok (.invokevirtual 206, 3) := dk_182 0 206 (dk_at dksX1_tooNear_0 4 rfl rfl)
theorem dX1_tooNear_7 : decode cX1_tooNear 7 = .ok (.ireturn, 1) := dk_172 (dk_at dksX1_tooNear_0 7 rfl rfl)
abbrev cX1_clearText : ByteArray := prog_1_method_53_code
def yX1_clearText : MethodName := ⟨RX1, "clearText", "()I"⟩
def dkwX1_clearText_0 : List UInt8 := [42, 180, 0, 49, 182, 0, 227, 60, 42, 180, 0, 49, 3, 182, 0, 234, 27, 172]
abbrev dktX1_clearText_0 : List UInt8 := dkwX1_clearText_0 ++ []
theorem dksX1_clearText_0 : cX1_clearText.data.toList.drop 0 = dktX1_clearText_0 := by decide +kernel
theorem dX1_clearText_0 : decode cX1_clearText 0 = .ok (.aload_n 0, 1) := dk_42 (dk_at dksX1_clearText_0 0 rfl rfl)
theorem dX1_clearText_1 : decode cX1_clearText 1 = .ok (.getfield 49, 3) := dk_180 0 49 (dk_at dksX1_clearText_0 1 rfl rfl)
theorem dX1_clearText_4 : decode cX1_clearText 4 = .ok (.invokevirtual 227, 3) := dk_182 0 227 (dk_at dksX1_clearText_0 4 rfl rfl)
theorem dX1_clearText_7 : decode cX1_clearText 7 = .ok (.istore_n 1, 1) := dk_60 (dk_at dksX1_clearText_0 7 rfl rfl)
theorem dX1_clearText_8 : decode cX1_clearText 8 = .ok (.aload_n 0, 1) := dk_42 (dk_at dksX1_clearText_0 8 rfl rfl)
theorem dX1_clearText_9 : decode cX1_clearText 9 = .ok (.getfield 49, 3) := dk_180 0 49 (dk_at dksX1_clearText_0 9 rfl rfl)
theorem dX1_clearText_12 : decode cX1_clearText 12 = .ok (.iconst 0, 1) := dk_3 (dk_at dksX1_clearText_0 12 rfl rfl)
theorem dX1_clearText_13 : decode cX1_clearText 13 = .ok (.invokevirtual 234, 3) := dk_182 0 234 (dk_at dksX1_clearText_0 13 rfl rfl)
theorem dX1_clearText_16 : decode cX1_clearText 16 = .ok (.iload_n 1, 1) := dk_27 (dk_at dksX1_clearText_0 16 rfl rfl)
theorem dX1_clearText_17 : decode cX1_clearText 17 = .ok (.ireturn, 1) := dk_172 (dk_at dksX1_clearText_0 17 rfl rfl)
abbrev cX1_errorPosition : ByteArray := prog_1_method_54_code
def yX1_errorPosition : MethodName := ⟨RX1, "errorPosition", "()I"⟩
def dkwX1_errorPosition_0 : List UInt8 := [187, 0, 237, 89, 42, 183, 0, 239, 76, 43, 182, 0, 242, 87, 43, 180, 0, 245, 172]
abbrev dktX1_errorPosition_0 : List UInt8 := dkwX1_errorPosition_0 ++ []
theorem dksX1_errorPosition_0 : cX1_errorPosition.data.toList.drop 0 = dktX1_errorPosition_0 := by decide +kernel
theorem dX1_errorPosition_0 : decode cX1_errorPosition 0 = .ok (.new 237, 3) := dk_187 0 237 (dk_at dksX1_errorPosition_0 0 rfl rfl)
theorem dX1_errorPosition_3 : decode cX1_errorPosition 3 = .ok (.dup, 1) := dk_89 (dk_at dksX1_errorPosition_0 3 rfl rfl)
theorem dX1_errorPosition_4 : decode cX1_errorPosition 4 = .ok (.aload_n 0, 1) := dk_42 (dk_at dksX1_errorPosition_0 4 rfl rfl)
theorem dX1_errorPosition_5 : decode cX1_errorPosition 5 = .ok (.invokespecial 239, 3) := dk_183 0 239 (dk_at dksX1_errorPosition_0 5 rfl rfl)
theorem dX1_errorPosition_8 : decode cX1_errorPosition 8 = .ok (.astore_n 1, 1) := dk_76 (dk_at dksX1_errorPosition_0 8 rfl rfl)
theorem dX1_errorPosition_9 : decode cX1_errorPosition 9 = .ok (.aload_n 1, 1) := dk_43 (dk_at dksX1_errorPosition_0 9 rfl rfl)
theorem dX1_errorPosition_10 : decode cX1_errorPosition 10 = .ok (.invokevirtual 242, 3) := dk_182 0 242 (dk_at dksX1_errorPosition_0 10 rfl rfl)
theorem dX1_errorPosition_13 : decode cX1_errorPosition 13 = .ok (.pop, 1) := dk_87 (dk_at dksX1_errorPosition_0 13 rfl rfl)
theorem dX1_errorPosition_14 : decode cX1_errorPosition 14 = .ok (.aload_n 1, 1) := dk_43 (dk_at dksX1_errorPosition_0 14 rfl rfl)
theorem dX1_errorPosition_15 : decode cX1_errorPosition 15 = .ok (.getfield 245, 3) := dk_180 0 245 (dk_at dksX1_errorPosition_0 15 rfl rfl)
theorem dX1_errorPosition_18 : decode cX1_errorPosition 18 = .ok (.ireturn, 1) := dk_172 (dk_at dksX1_errorPosition_0 18 rfl rfl)
abbrev cX1_next : ByteArray := prog_1_method_5_code
def yX1_next : MethodName := ⟨RX1, "next", "(II)I"⟩
def dkwX1_next_2 : List UInt8 := [96, 167, 0, 4, 2, 172]
abbrev dktX1_next_2 : List UInt8 := dkwX1_next_2 ++ []
def dkwX1_next_1 : List UInt8 := [155, 0, 28, 28, 16, 24, 162, 0, 22, 29, 155, 0, 18, 29, 16, 16, 162, 0, 12, 16, 24, 29, 104, 28]
abbrev dktX1_next_1 : List UInt8 := dkwX1_next_1 ++ dktX1_next_2
def dkwX1_next_0 : List UInt8 := [26, 184, 0, 3, 178, 0, 7, 27, 46, 96, 61, 26, 184, 0, 11, 178, 0, 14, 27, 46, 96, 62, 28]
abbrev dktX1_next_0 : List UInt8 := dkwX1_next_0 ++ dktX1_next_1
theorem dksX1_next_0 : cX1_next.data.toList.drop 0 = dktX1_next_0 := by decide +kernel
theorem dksX1_next_1 : cX1_next.data.toList.drop 23 = dktX1_next_1 := dk_seg dksX1_next_0 23 rfl rfl
theorem dksX1_next_2 : cX1_next.data.toList.drop 47 = dktX1_next_2 := dk_seg dksX1_next_1 24 rfl rfl
theorem dX1_next_0 : decode cX1_next 0 = .ok (.iload_n 0, 1) := dk_26 (dk_at dksX1_next_0 0 rfl rfl)
theorem dX1_next_1 : decode cX1_next 1 = .ok (.invokestatic 3, 3) := dk_184 0 3 (dk_at dksX1_next_0 1 rfl rfl)
theorem dX1_next_4 : decode cX1_next 4 = .ok (.getstatic 7, 3) := dk_178 0 7 (dk_at dksX1_next_0 4 rfl rfl)
theorem dX1_next_7 : decode cX1_next 7 = .ok (.iload_n 1, 1) := dk_27 (dk_at dksX1_next_0 7 rfl rfl)
theorem dX1_next_8 : decode cX1_next 8 = .ok (.iaload, 1) := dk_46 (dk_at dksX1_next_0 8 rfl rfl)
theorem dX1_next_9 : decode cX1_next 9 = .ok (.iadd, 1) := dk_96 (dk_at dksX1_next_0 9 rfl rfl)
theorem dX1_next_10 : decode cX1_next 10 = .ok (.istore_n 2, 1) := dk_61 (dk_at dksX1_next_0 10 rfl rfl)
theorem dX1_next_11 : decode cX1_next 11 = .ok (.iload_n 0, 1) := dk_26 (dk_at dksX1_next_0 11 rfl rfl)
theorem dX1_next_12 : decode cX1_next 12 = .ok (.invokestatic 11, 3) := dk_184 0 11 (dk_at dksX1_next_0 12 rfl rfl)
theorem dX1_next_15 : decode cX1_next 15 = .ok (.getstatic 14, 3) := dk_178 0 14 (dk_at dksX1_next_0 15 rfl rfl)
theorem dX1_next_18 : decode cX1_next 18 = .ok (.iload_n 1, 1) := dk_27 (dk_at dksX1_next_0 18 rfl rfl)
theorem dX1_next_19 : decode cX1_next 19 = .ok (.iaload, 1) := dk_46 (dk_at dksX1_next_0 19 rfl rfl)
theorem dX1_next_20 : decode cX1_next 20 = .ok (.iadd, 1) := dk_96 (dk_at dksX1_next_0 20 rfl rfl)
theorem dX1_next_21 : decode cX1_next 21 = .ok (.istore_n 3, 1) := dk_62 (dk_at dksX1_next_0 21 rfl rfl)
theorem dX1_next_22 : decode cX1_next 22 = .ok (.iload_n 2, 1) := dk_28 (dk_at dksX1_next_0 22 rfl rfl)
theorem dX1_next_23 : decode cX1_next 23 = .ok (.ifCond .lt 28, 3) := dk_155 0 28 (dk_at dksX1_next_1 0 rfl rfl)
theorem dX1_next_26 : decode cX1_next 26 = .ok (.iload_n 2, 1) := dk_28 (dk_at dksX1_next_1 3 rfl rfl)
theorem dX1_next_27 : decode cX1_next 27 = .ok (.bipush 24, 2) := dk_16 24 (dk_at dksX1_next_1 4 rfl rfl)
theorem dX1_next_29 : decode cX1_next 29 = .ok (.if_icmp .ge 22, 3) := dk_162 0 22 (dk_at dksX1_next_1 6 rfl rfl)
theorem dX1_next_32 : decode cX1_next 32 = .ok (.iload_n 3, 1) := dk_29 (dk_at dksX1_next_1 9 rfl rfl)
theorem dX1_next_33 : decode cX1_next 33 = .ok (.ifCond .lt 18, 3) := dk_155 0 18 (dk_at dksX1_next_1 10 rfl rfl)
theorem dX1_next_36 : decode cX1_next 36 = .ok (.iload_n 3, 1) := dk_29 (dk_at dksX1_next_1 13 rfl rfl)
theorem dX1_next_37 : decode cX1_next 37 = .ok (.bipush 16, 2) := dk_16 16 (dk_at dksX1_next_1 14 rfl rfl)
theorem dX1_next_39 : decode cX1_next 39 = .ok (.if_icmp .ge 12, 3) := dk_162 0 12 (dk_at dksX1_next_1 16 rfl rfl)
theorem dX1_next_42 : decode cX1_next 42 = .ok (.bipush 24, 2) := dk_16 24 (dk_at dksX1_next_1 19 rfl rfl)
theorem dX1_next_44 : decode cX1_next 44 = .ok (.iload_n 3, 1) := dk_29 (dk_at dksX1_next_1 21 rfl rfl)
theorem dX1_next_45 : decode cX1_next 45 = .ok (.imul, 1) := dk_104 (dk_at dksX1_next_1 22 rfl rfl)
theorem dX1_next_46 : decode cX1_next 46 = .ok (.iload_n 2, 1) := dk_28 (dk_at dksX1_next_1 23 rfl rfl)
theorem dX1_next_47 : decode cX1_next 47 = .ok (.iadd, 1) := dk_96 (dk_at dksX1_next_2 0 rfl rfl)
theorem dX1_next_48 : decode cX1_next 48 = .ok (.goto 4, 3) := dk_167 0 4 (dk_at dksX1_next_2 1 rfl rfl)
theorem dX1_next_51 : decode cX1_next 51 = .ok (.iconst (-1), 1) := dk_2 (dk_at dksX1_next_2 4 rfl rfl)
theorem dX1_next_52 : decode cX1_next 52 = .ok (.ireturn, 1) := dk_172 (dk_at dksX1_next_2 5 rfl rfl)
abbrev cX1_isSlanting : ByteArray := prog_1_method_4_code
def yX1_isSlanting : MethodName := ⟨RX1, "isSlanting", "(I)Z"⟩
def dkwX1_isSlanting_0 : List UInt8 := [26, 5, 112, 4, 160, 0, 7, 4, 167, 0, 4, 3, 172]
abbrev dktX1_isSlanting_0 : List UInt8 := dkwX1_isSlanting_0 ++ []
theorem dksX1_isSlanting_0 : cX1_isSlanting.data.toList.drop 0 = dktX1_isSlanting_0 := by decide +kernel
theorem dX1_isSlanting_0 : decode cX1_isSlanting 0 = .ok (.iload_n 0, 1) := dk_26 (dk_at dksX1_isSlanting_0 0 rfl rfl)
theorem dX1_isSlanting_1 : decode cX1_isSlanting 1 = .ok (.iconst 2, 1) := dk_5 (dk_at dksX1_isSlanting_0 1 rfl rfl)
theorem dX1_isSlanting_2 : decode cX1_isSlanting 2 = .ok (.irem, 1) := dk_112 (dk_at dksX1_isSlanting_0 2 rfl rfl)
theorem dX1_isSlanting_3 : decode cX1_isSlanting 3 = .ok (.iconst 1, 1) := dk_4 (dk_at dksX1_isSlanting_0 3 rfl rfl)
theorem dX1_isSlanting_4 : decode cX1_isSlanting 4 = .ok (.if_icmp .ne 7, 3) := dk_160 0 7 (dk_at dksX1_isSlanting_0 4 rfl rfl)
theorem dX1_isSlanting_7 : decode cX1_isSlanting 7 = .ok (.iconst 1, 1) := dk_4 (dk_at dksX1_isSlanting_0 7 rfl rfl)
theorem dX1_isSlanting_8 : decode cX1_isSlanting 8 = .ok (.goto 4, 3) := dk_167 0 4 (dk_at dksX1_isSlanting_0 8 rfl rfl)
theorem dX1_isSlanting_11 : decode cX1_isSlanting 11 = .ok (.iconst 0, 1) := dk_3 (dk_at dksX1_isSlanting_0 11 rfl rfl)
theorem dX1_isSlanting_12 : decode cX1_isSlanting 12 = .ok (.ireturn, 1) := dk_172 (dk_at dksX1_isSlanting_0 12 rfl rfl)
abbrev cX1_savedStates : ByteArray := prog_1_method_57_code
def yX1_savedStates : MethodName := ⟨RX1, "savedStates", "()I"⟩
def dkwX1_savedStates_0 : List UInt8 := [42, 180, 0, 42, 182, 0, 53, 172]
abbrev dktX1_savedStates_0 : List UInt8 := dkwX1_savedStates_0 ++ []
theorem dksX1_savedStates_0 : cX1_savedStates.data.toList.drop 0 = dktX1_savedStates_0 := by decide +kernel
theorem dX1_savedStates_0 : decode cX1_savedStates 0 = .ok (.aload_n 0, 1) := dk_42 (dk_at dksX1_savedStates_0 0 rfl rfl)
theorem dX1_savedStates_1 : decode cX1_savedStates 1 = .ok (.getfield 42, 3) := dk_180 0 42 (dk_at dksX1_savedStates_0 1 rfl rfl)
theorem dX1_savedStates_4 : decode cX1_savedStates 4 = .ok (.invokevirtual 53, 3) := dk_182 0 53 (dk_at dksX1_savedStates_0 4 rfl rfl)
theorem dX1_savedStates_7 : decode cX1_savedStates 7 = .ok (.ireturn, 1) := dk_172 (dk_at dksX1_savedStates_0 7 rfl rfl)
abbrev cX1_takeSnapshot : ByteArray := prog_1_method_58_code
def yX1_takeSnapshot : MethodName := ⟨RX1, "takeSnapshot", "()I"⟩
def dkwX1_takeSnapshot_0 : List UInt8 := [42, 42, 180, 0, 35, 182, 0, 60, 181, 1, 2, 42, 180, 0, 35, 180, 0, 81, 185, 0, 85, 1, 0, 172]
abbrev dktX1_takeSnapshot_0 : List UInt8 := dkwX1_takeSnapshot_0 ++ []
theorem dksX1_takeSnapshot_0 : cX1_takeSnapshot.data.toList.drop 0 = dktX1_takeSnapshot_0 := by decide +kernel
theorem dX1_takeSnapshot_0 : decode cX1_takeSnapshot 0 = .ok (.aload_n 0, 1) := dk_42 (dk_at dksX1_takeSnapshot_0 0 rfl rfl)
theorem dX1_takeSnapshot_1 : decode cX1_takeSnapshot 1 = .ok (.aload_n 0, 1) := dk_42 (dk_at dksX1_takeSnapshot_0 1 rfl rfl)
theorem dX1_takeSnapshot_2 : decode cX1_takeSnapshot 2 = .ok (.getfield 35, 3) := dk_180 0 35 (dk_at dksX1_takeSnapshot_0 2 rfl rfl)
theorem dX1_takeSnapshot_5 : decode cX1_takeSnapshot 5 = .ok (.invokevirtual 60, 3) := dk_182 0 60 (dk_at dksX1_takeSnapshot_0 5 rfl rfl)
theorem dX1_takeSnapshot_8 : decode cX1_takeSnapshot 8 = .ok (.putfield 258, 3) := dk_181 1 2 (dk_at dksX1_takeSnapshot_0 8 rfl rfl)
theorem dX1_takeSnapshot_11 : decode cX1_takeSnapshot 11 = .ok (.aload_n 0, 1) := dk_42 (dk_at dksX1_takeSnapshot_0 11 rfl rfl)
theorem dX1_takeSnapshot_12 : decode cX1_takeSnapshot 12 = .ok (.getfield 35, 3) := dk_180 0 35 (dk_at dksX1_takeSnapshot_0 12 rfl rfl)
theorem dX1_takeSnapshot_15 : decode cX1_takeSnapshot 15 = .ok (.getfield 81, 3) := dk_180 0 81 (dk_at dksX1_takeSnapshot_0 15 rfl rfl)
theorem dX1_takeSnapshot_18 : decode cX1_takeSnapshot 18 = .ok (.invokeinterface 85 1, 5) := by decide +kernel
theorem dX1_takeSnapshot_23 : decode cX1_takeSnapshot 23 = .ok (.ireturn, 1) := dk_172 (dk_at dksX1_takeSnapshot_0 23 rfl rfl)
abbrev cX1_begin : ByteArray := prog_1_method_16_code
def yX1_begin : MethodName := ⟨RX1, "begin", "(II)I"⟩
def dkwX1_begin_3 : List UInt8 := [185, 0, 85, 1, 0, 4, 100, 172]
abbrev dktX1_begin_3 : List UInt8 := dkwX1_begin_3 ++ []
def dkwX1_begin_2 : List UInt8 := [184, 0, 113, 42, 182, 0, 117, 42, 180, 0, 35, 27, 28, 182, 0, 120, 87, 42, 180, 0, 35, 180, 0, 81]
abbrev dktX1_begin_2 : List UInt8 := dkwX1_begin_2 ++ dktX1_begin_3
def dkwX1_begin_1 : List UInt8 := [16, 8, 162, 0, 19, 42, 180, 0, 35, 28, 182, 0, 110, 2, 160, 0, 7, 4, 167, 0, 4, 3]
abbrev dktX1_begin_1 : List UInt8 := dkwX1_begin_1 ++ dktX1_begin_2
def dkwX1_begin_0 : List UInt8 := [28, 184, 0, 102, 27, 3, 16, 99, 184, 0, 106, 42, 180, 0, 35, 180, 0, 81, 185, 0, 85, 1, 0]
abbrev dktX1_begin_0 : List UInt8 := dkwX1_begin_0 ++ dktX1_begin_1
theorem dksX1_begin_0 : cX1_begin.data.toList.drop 0 = dktX1_begin_0 := by decide +kernel
theorem dksX1_begin_1 : cX1_begin.data.toList.drop 23 = dktX1_begin_1 := dk_seg dksX1_begin_0 23 rfl rfl
theorem dksX1_begin_2 : cX1_begin.data.toList.drop 45 = dktX1_begin_2 := dk_seg dksX1_begin_1 22 rfl rfl
theorem dksX1_begin_3 : cX1_begin.data.toList.drop 69 = dktX1_begin_3 := dk_seg dksX1_begin_2 24 rfl rfl
theorem dX1_begin_0 : decode cX1_begin 0 = .ok (.iload_n 2, 1) := dk_28 (dk_at dksX1_begin_0 0 rfl rfl)
theorem dX1_begin_1 : decode cX1_begin 1 = .ok (.invokestatic 102, 3) := dk_184 0 102 (dk_at dksX1_begin_0 1 rfl rfl)
theorem dX1_begin_4 : decode cX1_begin 4 = .ok (.iload_n 1, 1) := dk_27 (dk_at dksX1_begin_0 4 rfl rfl)
theorem dX1_begin_5 : decode cX1_begin 5 = .ok (.iconst 0, 1) := dk_3 (dk_at dksX1_begin_0 5 rfl rfl)
theorem dX1_begin_6 : decode cX1_begin 6 = .ok (.bipush 99, 2) := dk_16 99 (dk_at dksX1_begin_0 6 rfl rfl)
theorem dX1_begin_8 : decode cX1_begin 8 = .ok (.invokestatic 106, 3) := dk_184 0 106 (dk_at dksX1_begin_0 8 rfl rfl)
theorem dX1_begin_11 : decode cX1_begin 11 = .ok (.aload_n 0, 1) := dk_42 (dk_at dksX1_begin_0 11 rfl rfl)
theorem dX1_begin_12 : decode cX1_begin 12 = .ok (.getfield 35, 3) := dk_180 0 35 (dk_at dksX1_begin_0 12 rfl rfl)
theorem dX1_begin_15 : decode cX1_begin 15 = .ok (.getfield 81, 3) := dk_180 0 81 (dk_at dksX1_begin_0 15 rfl rfl)
theorem dX1_begin_18 : decode cX1_begin 18 = .ok (.invokeinterface 85 1, 5) := by decide +kernel
theorem dX1_begin_23 : decode cX1_begin 23 = .ok (.bipush 8, 2) := dk_16 8 (dk_at dksX1_begin_1 0 rfl rfl)
theorem dX1_begin_25 : decode cX1_begin 25 = .ok (.if_icmp .ge 19, 3) := dk_162 0 19 (dk_at dksX1_begin_1 2 rfl rfl)
theorem dX1_begin_28 : decode cX1_begin 28 = .ok (.aload_n 0, 1) := dk_42 (dk_at dksX1_begin_1 5 rfl rfl)
theorem dX1_begin_29 : decode cX1_begin 29 = .ok (.getfield 35, 3) := dk_180 0 35 (dk_at dksX1_begin_1 6 rfl rfl)
theorem dX1_begin_32 : decode cX1_begin 32 = .ok (.iload_n 2, 1) := dk_28 (dk_at dksX1_begin_1 9 rfl rfl)
theorem dX1_begin_33 : decode cX1_begin 33 = .ok (.invokevirtual 110, 3) := dk_182 0 110 (dk_at dksX1_begin_1 10 rfl rfl)
theorem dX1_begin_36 : decode cX1_begin 36 = .ok (.iconst (-1), 1) := dk_2 (dk_at dksX1_begin_1 13 rfl rfl)
theorem dX1_begin_37 : decode cX1_begin 37 = .ok (.if_icmp .ne 7, 3) := dk_160 0 7 (dk_at dksX1_begin_1 14 rfl rfl)
theorem dX1_begin_40 : decode cX1_begin 40 = .ok (.iconst 1, 1) := dk_4 (dk_at dksX1_begin_1 17 rfl rfl)
theorem dX1_begin_41 : decode cX1_begin 41 = .ok (.goto 4, 3) := dk_167 0 4 (dk_at dksX1_begin_1 18 rfl rfl)
theorem dX1_begin_44 : decode cX1_begin 44 = .ok (.iconst 0, 1) := dk_3 (dk_at dksX1_begin_1 21 rfl rfl)
theorem dX1_begin_45 : decode cX1_begin 45 = .ok (.invokestatic 113, 3) := dk_184 0 113 (dk_at dksX1_begin_2 0 rfl rfl)
theorem dX1_begin_48 : decode cX1_begin 48 = .ok (.aload_n 0, 1) := dk_42 (dk_at dksX1_begin_2 3 rfl rfl)
theorem dX1_begin_49 : decode cX1_begin 49 = .ok (.invokevirtual 117, 3) := dk_182 0 117 (dk_at dksX1_begin_2 4 rfl rfl)
theorem dX1_begin_52 : decode cX1_begin 52 = .ok (.aload_n 0, 1) := dk_42 (dk_at dksX1_begin_2 7 rfl rfl)
theorem dX1_begin_53 : decode cX1_begin 53 = .ok (.getfield 35, 3) := dk_180 0 35 (dk_at dksX1_begin_2 8 rfl rfl)
theorem dX1_begin_56 : decode cX1_begin 56 = .ok (.iload_n 1, 1) := dk_27 (dk_at dksX1_begin_2 11 rfl rfl)
theorem dX1_begin_57 : decode cX1_begin 57 = .ok (.iload_n 2, 1) := dk_28 (dk_at dksX1_begin_2 12 rfl rfl)
theorem dX1_begin_58 : decode cX1_begin 58 = .ok (.invokevirtual 120, 3) := dk_182 0 120 (dk_at dksX1_begin_2 13 rfl rfl)
theorem dX1_begin_61 : decode cX1_begin 61 = .ok (.pop, 1) := dk_87 (dk_at dksX1_begin_2 16 rfl rfl)
theorem dX1_begin_62 : decode cX1_begin 62 = .ok (.aload_n 0, 1) := dk_42 (dk_at dksX1_begin_2 17 rfl rfl)
theorem dX1_begin_63 : decode cX1_begin 63 = .ok (.getfield 35, 3) := dk_180 0 35 (dk_at dksX1_begin_2 18 rfl rfl)
theorem dX1_begin_66 : decode cX1_begin 66 = .ok (.getfield 81, 3) := dk_180 0 81 (dk_at dksX1_begin_2 21 rfl rfl)
theorem dX1_begin_69 : decode cX1_begin 69 = .ok (.invokeinterface 85 1, 5) := by decide +kernel
theorem dX1_begin_74 : decode cX1_begin 74 = .ok (.iconst 1, 1) := dk_4 (dk_at dksX1_begin_3 5 rfl rfl)
theorem dX1_begin_75 : decode cX1_begin 75 = .ok (.isub, 1) := dk_100 (dk_at dksX1_begin_3 6 rfl rfl)
theorem dX1_begin_76 : decode cX1_begin 76 = .ok (.ireturn, 1) := dk_172 (dk_at dksX1_begin_3 7 rfl rfl)
abbrev cX1_checkPoint : ByteArray := prog_1_method_13_code
def yX1_checkPoint : MethodName := ⟨RX1, "checkPoint", "(I)V"⟩
def dkwX1_checkPoint_0 : List UInt8 := [26, 17, 1, 128, 184, 0, 77, 177]
abbrev dktX1_checkPoint_0 : List UInt8 := dkwX1_checkPoint_0 ++ []
theorem dksX1_checkPoint_0 : cX1_checkPoint.data.toList.drop 0 = dktX1_checkPoint_0 := by decide +kernel
theorem dX1_checkPoint_0 : decode cX1_checkPoint 0 = .ok (.iload_n 0, 1) := dk_26 (dk_at dksX1_checkPoint_0 0 rfl rfl)
theorem dX1_checkPoint_1 : decode cX1_checkPoint 1 = .ok (.sipush 384, 3) := dk_17 1 128 (dk_at dksX1_checkPoint_0 1 rfl rfl)
theorem dX1_checkPoint_4 : decode cX1_checkPoint 4 = .ok (.invokestatic 77, 3) := dk_184 0 77 (dk_at dksX1_checkPoint_0 4 rfl rfl)
theorem dX1_checkPoint_7 : decode cX1_checkPoint 7 = .ok (.return_, 1) := dk_177 (dk_at dksX1_checkPoint_0 7 rfl rfl)
abbrev cX1_checkNumber : ByteArray := prog_1_method_10_code
def yX1_checkNumber : MethodName := ⟨RX1, "checkNumber", "(II)V"⟩
def dkwX1_checkNumber_0 : List UInt8 := [26, 155, 0, 8, 26, 27, 161, 0, 11, 187, 0, 68, 89, 183, 0, 70, 191, 177]
abbrev dktX1_checkNumber_0 : List UInt8 := dkwX1_checkNumber_0 ++ []
theorem dksX1_checkNumber_0 : cX1_checkNumber.data.toList.drop 0 = dktX1_checkNumber_0 := by decide +kernel
theorem dX1_checkNumber_0 : decode cX1_checkNumber 0 = .ok (.iload_n 0, 1) := dk_26 (dk_at dksX1_checkNumber_0 0 rfl rfl)
theorem dX1_checkNumber_1 : decode cX1_checkNumber 1 = .ok (.ifCond .lt 8, 3) := dk_155 0 8 (dk_at dksX1_checkNumber_0 1 rfl rfl)
theorem dX1_checkNumber_4 : decode cX1_checkNumber 4 = .ok (.iload_n 0, 1) := dk_26 (dk_at dksX1_checkNumber_0 4 rfl rfl)
theorem dX1_checkNumber_5 : decode cX1_checkNumber 5 = .ok (.iload_n 1, 1) := dk_27 (dk_at dksX1_checkNumber_0 5 rfl rfl)
theorem dX1_checkNumber_6 : decode cX1_checkNumber 6 = .ok (.if_icmp .lt 11, 3) := dk_161 0 11 (dk_at dksX1_checkNumber_0 6 rfl rfl)
theorem dX1_checkNumber_9 : decode cX1_checkNumber 9 = .ok (.new 68, 3) := dk_187 0 68 (dk_at dksX1_checkNumber_0 9 rfl rfl)
theorem dX1_checkNumber_12 : decode cX1_checkNumber 12 = .ok (.dup, 1) := dk_89 (dk_at dksX1_checkNumber_0 12 rfl rfl)
theorem dX1_checkNumber_13 : decode cX1_checkNumber 13 = .ok (.invokespecial 70, 3) := dk_183 0 70 (dk_at dksX1_checkNumber_0 13 rfl rfl)
theorem dX1_checkNumber_16 : decode cX1_checkNumber 16 = .ok (.athrow, 1) := dk_191 (dk_at dksX1_checkNumber_0 16 rfl rfl)
theorem dX1_checkNumber_17 : decode cX1_checkNumber 17 = .ok (.return_, 1) := dk_177 (dk_at dksX1_checkNumber_0 17 rfl rfl)
abbrev cX1_checkRange : ByteArray := prog_1_method_11_code
def yX1_checkRange : MethodName := ⟨RX1, "checkRange", "(III)V"⟩
def dkwX1_checkRange_0 : List UInt8 := [26, 27, 161, 0, 8, 26, 28, 164, 0, 11, 187, 0, 71, 89, 183, 0, 73, 191, 177]
abbrev dktX1_checkRange_0 : List UInt8 := dkwX1_checkRange_0 ++ []
theorem dksX1_checkRange_0 : cX1_checkRange.data.toList.drop 0 = dktX1_checkRange_0 := by decide +kernel
theorem dX1_checkRange_0 : decode cX1_checkRange 0 = .ok (.iload_n 0, 1) := dk_26 (dk_at dksX1_checkRange_0 0 rfl rfl)
theorem dX1_checkRange_1 : decode cX1_checkRange 1 = .ok (.iload_n 1, 1) := dk_27 (dk_at dksX1_checkRange_0 1 rfl rfl)
theorem dX1_checkRange_2 : decode cX1_checkRange 2 = .ok (.if_icmp .lt 8, 3) := dk_161 0 8 (dk_at dksX1_checkRange_0 2 rfl rfl)
theorem dX1_checkRange_5 : decode cX1_checkRange 5 = .ok (.iload_n 0, 1) := dk_26 (dk_at dksX1_checkRange_0 5 rfl rfl)
theorem dX1_checkRange_6 : decode cX1_checkRange 6 = .ok (.iload_n 2, 1) := dk_28 (dk_at dksX1_checkRange_0 6 rfl rfl)
theorem dX1_checkRange_7 : decode cX1_checkRange 7 = .ok (.if_icmp .le 11, 3) := dk_164 0 11 (dk_at dksX1_checkRange_0 7 rfl rfl)
theorem dX1_checkRange_10 : decode cX1_checkRange 10 = .ok (.new 71, 3) := dk_187 0 71 (dk_at dksX1_checkRange_0 10 rfl rfl)
theorem dX1_checkRange_13 : decode cX1_checkRange 13 = .ok (.dup, 1) := dk_89 (dk_at dksX1_checkRange_0 13 rfl rfl)
theorem dX1_checkRange_14 : decode cX1_checkRange 14 = .ok (.invokespecial 73, 3) := dk_183 0 73 (dk_at dksX1_checkRange_0 14 rfl rfl)
theorem dX1_checkRange_17 : decode cX1_checkRange 17 = .ok (.athrow, 1) := dk_191 (dk_at dksX1_checkRange_0 17 rfl rfl)
theorem dX1_checkRange_18 : decode cX1_checkRange 18 = .ok (.return_, 1) := dk_177 (dk_at dksX1_checkRange_0 18 rfl rfl)
abbrev cX1_checkState : ByteArray := prog_1_method_12_code
def yX1_checkState : MethodName := ⟨RX1, "checkState", "(Z)V"⟩
def dkwX1_checkState_0 : List UInt8 := [26, 154, 0, 11, 187, 0, 74, 89, 183, 0, 76, 191, 177]
abbrev dktX1_checkState_0 : List UInt8 := dkwX1_checkState_0 ++ []
theorem dksX1_checkState_0 : cX1_checkState.data.toList.drop 0 = dktX1_checkState_0 := by decide +kernel
theorem dX1_checkState_0 : decode cX1_checkState 0 = .ok (.iload_n 0, 1) := dk_26 (dk_at dksX1_checkState_0 0 rfl rfl)
theorem dX1_checkState_1 : decode cX1_checkState 1 = .ok (.ifCond .ne 11, 3) := dk_154 0 11 (dk_at dksX1_checkState_0 1 rfl rfl)
theorem dX1_checkState_4 : decode cX1_checkState 4 = .ok (.new 74, 3) := dk_187 0 74 (dk_at dksX1_checkState_0 4 rfl rfl)
theorem dX1_checkState_7 : decode cX1_checkState 7 = .ok (.dup, 1) := dk_89 (dk_at dksX1_checkState_0 7 rfl rfl)
theorem dX1_checkState_8 : decode cX1_checkState 8 = .ok (.invokespecial 76, 3) := dk_183 0 76 (dk_at dksX1_checkState_0 8 rfl rfl)
theorem dX1_checkState_11 : decode cX1_checkState 11 = .ok (.athrow, 1) := dk_191 (dk_at dksX1_checkState_0 11 rfl rfl)
theorem dX1_checkState_12 : decode cX1_checkState 12 = .ok (.return_, 1) := dk_177 (dk_at dksX1_checkState_0 12 rfl rfl)
abbrev cX1_step : ByteArray := prog_1_method_17_code
def yX1_step : MethodName := ⟨RX1, "step", "(II)Z"⟩
def dkwX1_step_1 : List UInt8 := [180, 0, 35, 27, 28, 182, 0, 128, 87, 42, 27, 182, 0, 94, 182, 0, 131, 172]
abbrev dktX1_step_1 : List UInt8 := dkwX1_step_1 ++ []
def dkwX1_step_0 : List UInt8 := [42, 27, 28, 182, 0, 124, 154, 0, 7, 4, 167, 0, 4, 3, 184, 0, 113, 42, 182, 0, 117, 42]
abbrev dktX1_step_0 : List UInt8 := dkwX1_step_0 ++ dktX1_step_1
theorem dksX1_step_0 : cX1_step.data.toList.drop 0 = dktX1_step_0 := by decide +kernel
theorem dksX1_step_1 : cX1_step.data.toList.drop 22 = dktX1_step_1 := dk_seg dksX1_step_0 22 rfl rfl
theorem dX1_step_0 : decode cX1_step 0 = .ok (.aload_n 0, 1) := dk_42 (dk_at dksX1_step_0 0 rfl rfl)
theorem dX1_step_1 : decode cX1_step 1 = .ok (.iload_n 1, 1) := dk_27 (dk_at dksX1_step_0 1 rfl rfl)
theorem dX1_step_2 : decode cX1_step 2 = .ok (.iload_n 2, 1) := dk_28 (dk_at dksX1_step_0 2 rfl rfl)
theorem dX1_step_3 : decode cX1_step 3 = .ok (.invokevirtual 124, 3) := dk_182 0 124 (dk_at dksX1_step_0 3 rfl rfl)
theorem dX1_step_6 : decode cX1_step 6 = .ok (.ifCond .ne 7, 3) := dk_154 0 7 (dk_at dksX1_step_0 6 rfl rfl)
theorem dX1_step_9 : decode cX1_step 9 = .ok (.iconst 1, 1) := dk_4 (dk_at dksX1_step_0 9 rfl rfl)
theorem dX1_step_10 : decode cX1_step 10 = .ok (.goto 4, 3) := dk_167 0 4 (dk_at dksX1_step_0 10 rfl rfl)
theorem dX1_step_13 : decode cX1_step 13 = .ok (.iconst 0, 1) := dk_3 (dk_at dksX1_step_0 13 rfl rfl)
theorem dX1_step_14 : decode cX1_step 14 = .ok (.invokestatic 113, 3) := dk_184 0 113 (dk_at dksX1_step_0 14 rfl rfl)
theorem dX1_step_17 : decode cX1_step 17 = .ok (.aload_n 0, 1) := dk_42 (dk_at dksX1_step_0 17 rfl rfl)
theorem dX1_step_18 : decode cX1_step 18 = .ok (.invokevirtual 117, 3) := dk_182 0 117 (dk_at dksX1_step_0 18 rfl rfl)
theorem dX1_step_21 : decode cX1_step 21 = .ok (.aload_n 0, 1) := dk_42 (dk_at dksX1_step_0 21 rfl rfl)
theorem dX1_step_22 : decode cX1_step 22 = .ok (.getfield 35, 3) := dk_180 0 35 (dk_at dksX1_step_1 0 rfl rfl)
theorem dX1_step_25 : decode cX1_step 25 = .ok (.iload_n 1, 1) := dk_27 (dk_at dksX1_step_1 3 rfl rfl)
theorem dX1_step_26 : decode cX1_step 26 = .ok (.iload_n 2, 1) := dk_28 (dk_at dksX1_step_1 4 rfl rfl)
theorem dX1_step_27 : decode cX1_step 27 = .ok (.invokevirtual 128, 3) := dk_182 0 128 (dk_at dksX1_step_1 5 rfl rfl)
theorem dX1_step_30 : decode cX1_step 30 = .ok (.pop, 1) := dk_87 (dk_at dksX1_step_1 8 rfl rfl)
theorem dX1_step_31 : decode cX1_step 31 = .ok (.aload_n 0, 1) := dk_42 (dk_at dksX1_step_1 9 rfl rfl)
theorem dX1_step_32 : decode cX1_step 32 = .ok (.iload_n 1, 1) := dk_27 (dk_at dksX1_step_1 10 rfl rfl)
theorem dX1_step_33 : decode cX1_step 33 = .ok (.invokevirtual 94, 3) := dk_182 0 94 (dk_at dksX1_step_1 11 rfl rfl)
theorem dX1_step_36 : decode cX1_step 36 = .ok (.invokevirtual 131, 3) := dk_182 0 131 (dk_at dksX1_step_1 14 rfl rfl)
theorem dX1_step_39 : decode cX1_step 39 = .ok (.ireturn, 1) := dk_172 (dk_at dksX1_step_1 17 rfl rfl)
abbrev cX1_whyNotStepped : ByteArray := prog_1_method_31_code
def yX1_whyNotStepped : MethodName := ⟨RX1, "whyNotStepped", "(II)I"⟩
def dkwX1_whyNotStepped_0 : List UInt8 := [42, 27, 182, 0, 94, 87, 28, 3, 16, 7, 184, 0, 106, 42, 180, 0, 35, 27, 28, 182, 0, 174, 172]
abbrev dktX1_whyNotStepped_0 : List UInt8 := dkwX1_whyNotStepped_0 ++ []
theorem dksX1_whyNotStepped_0 : cX1_whyNotStepped.data.toList.drop 0 = dktX1_whyNotStepped_0 := by decide +kernel
theorem dX1_whyNotStepped_0 : decode cX1_whyNotStepped 0 = .ok (.aload_n 0, 1) := dk_42 (dk_at dksX1_whyNotStepped_0 0 rfl rfl)
theorem dX1_whyNotStepped_1 : decode cX1_whyNotStepped 1 = .ok (.iload_n 1, 1) := dk_27 (dk_at dksX1_whyNotStepped_0 1 rfl rfl)
theorem dX1_whyNotStepped_2 : decode cX1_whyNotStepped 2 = .ok (.invokevirtual 94, 3) := dk_182 0 94 (dk_at dksX1_whyNotStepped_0 2 rfl rfl)
theorem dX1_whyNotStepped_5 : decode cX1_whyNotStepped 5 = .ok (.pop, 1) := dk_87 (dk_at dksX1_whyNotStepped_0 5 rfl rfl)
theorem dX1_whyNotStepped_6 : decode cX1_whyNotStepped 6 = .ok (.iload_n 2, 1) := dk_28 (dk_at dksX1_whyNotStepped_0 6 rfl rfl)
theorem dX1_whyNotStepped_7 : decode cX1_whyNotStepped 7 = .ok (.iconst 0, 1) := dk_3 (dk_at dksX1_whyNotStepped_0 7 rfl rfl)
theorem dX1_whyNotStepped_8 : decode cX1_whyNotStepped 8 = .ok (.bipush 7, 2) := dk_16 7 (dk_at dksX1_whyNotStepped_0 8 rfl rfl)
theorem dX1_whyNotStepped_10 : decode cX1_whyNotStepped 10 = .ok (.invokestatic 106, 3) := dk_184 0 106 (dk_at dksX1_whyNotStepped_0 10 rfl rfl)
theorem dX1_whyNotStepped_13 : decode cX1_whyNotStepped 13 = .ok (.aload_n 0, 1) := dk_42 (dk_at dksX1_whyNotStepped_0 13 rfl rfl)
theorem dX1_whyNotStepped_14 : decode cX1_whyNotStepped 14 = .ok (.getfield 35, 3) := dk_180 0 35 (dk_at dksX1_whyNotStepped_0 14 rfl rfl)
theorem dX1_whyNotStepped_17 : decode cX1_whyNotStepped 17 = .ok (.iload_n 1, 1) := dk_27 (dk_at dksX1_whyNotStepped_0 17 rfl rfl)
theorem dX1_whyNotStepped_18 : decode cX1_whyNotStepped 18 = .ok (.iload_n 2, 1) := dk_28 (dk_at dksX1_whyNotStepped_0 18 rfl rfl)
theorem dX1_whyNotStepped_19 : decode cX1_whyNotStepped 19 = .ok (.invokevirtual 174, 3) := dk_182 0 174 (dk_at dksX1_whyNotStepped_0 19 rfl rfl)
theorem dX1_whyNotStepped_22 : decode cX1_whyNotStepped 22 = .ok (.ireturn, 1) := dk_172 (dk_at dksX1_whyNotStepped_0 22 rfl rfl)
abbrev cX1_line : ByteArray := prog_1_method_14_code
def yX1_line : MethodName := ⟨RX1, "line", "(I)LContourLabels$Line;"⟩
def dkwX1_line_1 : List UInt8 := [185, 0, 88, 2, 0, 192, 0, 92, 176]
abbrev dktX1_line_1 : List UInt8 := dkwX1_line_1 ++ []
def dkwX1_line_0 : List UInt8 := [27, 42, 180, 0, 35, 180, 0, 81, 185, 0, 85, 1, 0, 184, 0, 77, 42, 180, 0, 35, 180, 0, 81, 27]
abbrev dktX1_line_0 : List UInt8 := dkwX1_line_0 ++ dktX1_line_1
theorem dksX1_line_0 : cX1_line.data.toList.drop 0 = dktX1_line_0 := by decide +kernel
theorem dksX1_line_1 : cX1_line.data.toList.drop 24 = dktX1_line_1 := dk_seg dksX1_line_0 24 rfl rfl
theorem dX1_line_0 : decode cX1_line 0 = .ok (.iload_n 1, 1) := dk_27 (dk_at dksX1_line_0 0 rfl rfl)
theorem dX1_line_1 : decode cX1_line 1 = .ok (.aload_n 0, 1) := dk_42 (dk_at dksX1_line_0 1 rfl rfl)
theorem dX1_line_2 : decode cX1_line 2 = .ok (.getfield 35, 3) := dk_180 0 35 (dk_at dksX1_line_0 2 rfl rfl)
theorem dX1_line_5 : decode cX1_line 5 = .ok (.getfield 81, 3) := dk_180 0 81 (dk_at dksX1_line_0 5 rfl rfl)
theorem dX1_line_8 : decode cX1_line 8 = .ok (.invokeinterface 85 1, 5) := by decide +kernel
theorem dX1_line_13 : decode cX1_line 13 = .ok (.invokestatic 77, 3) := dk_184 0 77 (dk_at dksX1_line_0 13 rfl rfl)
theorem dX1_line_16 : decode cX1_line 16 = .ok (.aload_n 0, 1) := dk_42 (dk_at dksX1_line_0 16 rfl rfl)
theorem dX1_line_17 : decode cX1_line 17 = .ok (.getfield 35, 3) := dk_180 0 35 (dk_at dksX1_line_0 17 rfl rfl)
theorem dX1_line_20 : decode cX1_line 20 = .ok (.getfield 81, 3) := dk_180 0 81 (dk_at dksX1_line_0 20 rfl rfl)
theorem dX1_line_23 : decode cX1_line 23 = .ok (.iload_n 1, 1) := dk_27 (dk_at dksX1_line_0 23 rfl rfl)
theorem dX1_line_24 : decode cX1_line 24 = .ok (.invokeinterface 88 2, 5) := by decide +kernel
theorem dX1_line_29 : decode cX1_line 29 = .ok (.checkcast 92, 3) := dk_192 0 92 (dk_at dksX1_line_1 5 rfl rfl)
theorem dX1_line_32 : decode cX1_line 32 = .ok (.areturn, 1) := dk_176 (dk_at dksX1_line_1 8 rfl rfl)
abbrev cX1_wipe : ByteArray := prog_1_method_18_code
def yX1_wipe : MethodName := ⟨RX1, "wipe", "(I)I"⟩
def dkwX1_wipe_1 : List UInt8 := [180, 0, 81, 185, 0, 85, 1, 0, 172]
abbrev dktX1_wipe_1 : List UInt8 := dkwX1_wipe_1 ++ []
def dkwX1_wipe_0 : List UInt8 := [42, 27, 182, 0, 94, 87, 42, 182, 0, 117, 42, 180, 0, 35, 27, 182, 0, 134, 87, 42, 180, 0, 35]
abbrev dktX1_wipe_0 : List UInt8 := dkwX1_wipe_0 ++ dktX1_wipe_1
theorem dksX1_wipe_0 : cX1_wipe.data.toList.drop 0 = dktX1_wipe_0 := by decide +kernel
theorem dksX1_wipe_1 : cX1_wipe.data.toList.drop 23 = dktX1_wipe_1 := dk_seg dksX1_wipe_0 23 rfl rfl
theorem dX1_wipe_0 : decode cX1_wipe 0 = .ok (.aload_n 0, 1) := dk_42 (dk_at dksX1_wipe_0 0 rfl rfl)
theorem dX1_wipe_1 : decode cX1_wipe 1 = .ok (.iload_n 1, 1) := dk_27 (dk_at dksX1_wipe_0 1 rfl rfl)
theorem dX1_wipe_2 : decode cX1_wipe 2 = .ok (.invokevirtual 94, 3) := dk_182 0 94 (dk_at dksX1_wipe_0 2 rfl rfl)
theorem dX1_wipe_5 : decode cX1_wipe 5 = .ok (.pop, 1) := dk_87 (dk_at dksX1_wipe_0 5 rfl rfl)
theorem dX1_wipe_6 : decode cX1_wipe 6 = .ok (.aload_n 0, 1) := dk_42 (dk_at dksX1_wipe_0 6 rfl rfl)
theorem dX1_wipe_7 : decode cX1_wipe 7 = .ok (.invokevirtual 117, 3) := dk_182 0 117 (dk_at dksX1_wipe_0 7 rfl rfl)
theorem dX1_wipe_10 : decode cX1_wipe 10 = .ok (.aload_n 0, 1) := dk_42 (dk_at dksX1_wipe_0 10 rfl rfl)
theorem dX1_wipe_11 : decode cX1_wipe 11 = .ok (.getfield 35, 3) := dk_180 0 35 (dk_at dksX1_wipe_0 11 rfl rfl)
theorem dX1_wipe_14 : decode cX1_wipe 14 = .ok (.iload_n 1, 1) := dk_27 (dk_at dksX1_wipe_0 14 rfl rfl)
theorem dX1_wipe_15 : decode cX1_wipe 15 = .ok (.invokevirtual 134, 3) := dk_182 0 134 (dk_at dksX1_wipe_0 15 rfl rfl)
theorem dX1_wipe_18 : decode cX1_wipe 18 = .ok (.pop, 1) := dk_87 (dk_at dksX1_wipe_0 18 rfl rfl)
theorem dX1_wipe_19 : decode cX1_wipe 19 = .ok (.aload_n 0, 1) := dk_42 (dk_at dksX1_wipe_0 19 rfl rfl)
theorem dX1_wipe_20 : decode cX1_wipe 20 = .ok (.getfield 35, 3) := dk_180 0 35 (dk_at dksX1_wipe_0 20 rfl rfl)
theorem dX1_wipe_23 : decode cX1_wipe 23 = .ok (.getfield 81, 3) := dk_180 0 81 (dk_at dksX1_wipe_1 0 rfl rfl)
theorem dX1_wipe_26 : decode cX1_wipe 26 = .ok (.invokeinterface 85 1, 5) := by decide +kernel
theorem dX1_wipe_31 : decode cX1_wipe 31 = .ok (.ireturn, 1) := dk_172 (dk_at dksX1_wipe_1 8 rfl rfl)
abbrev cX1_setLevel : ByteArray := prog_1_method_19_code
def yX1_setLevel : MethodName := ⟨RX1, "setLevel", "(II)I"⟩
def dkwX1_setLevel_1 : List UInt8 := [182, 0, 94, 28, 181, 0, 138, 42, 27, 182, 0, 94, 2, 181, 0, 141, 29, 172]
abbrev dktX1_setLevel_1 : List UInt8 := dkwX1_setLevel_1 ++ []
def dkwX1_setLevel_0 : List UInt8 := [42, 27, 182, 0, 94, 180, 0, 138, 62, 28, 3, 16, 99, 184, 0, 106, 42, 182, 0, 117, 42, 27]
abbrev dktX1_setLevel_0 : List UInt8 := dkwX1_setLevel_0 ++ dktX1_setLevel_1
theorem dksX1_setLevel_0 : cX1_setLevel.data.toList.drop 0 = dktX1_setLevel_0 := by decide +kernel
theorem dksX1_setLevel_1 : cX1_setLevel.data.toList.drop 22 = dktX1_setLevel_1 := dk_seg dksX1_setLevel_0 22 rfl rfl
theorem dX1_setLevel_0 : decode cX1_setLevel 0 = .ok (.aload_n 0, 1) := dk_42 (dk_at dksX1_setLevel_0 0 rfl rfl)
theorem dX1_setLevel_1 : decode cX1_setLevel 1 = .ok (.iload_n 1, 1) := dk_27 (dk_at dksX1_setLevel_0 1 rfl rfl)
theorem dX1_setLevel_2 : decode cX1_setLevel 2 = .ok (.invokevirtual 94, 3) := dk_182 0 94 (dk_at dksX1_setLevel_0 2 rfl rfl)
theorem dX1_setLevel_5 : decode cX1_setLevel 5 = .ok (.getfield 138, 3) := dk_180 0 138 (dk_at dksX1_setLevel_0 5 rfl rfl)
theorem dX1_setLevel_8 : decode cX1_setLevel 8 = .ok (.istore_n 3, 1) := dk_62 (dk_at dksX1_setLevel_0 8 rfl rfl)
theorem dX1_setLevel_9 : decode cX1_setLevel 9 = .ok (.iload_n 2, 1) := dk_28 (dk_at dksX1_setLevel_0 9 rfl rfl)
theorem dX1_setLevel_10 : decode cX1_setLevel 10 = .ok (.iconst 0, 1) := dk_3 (dk_at dksX1_setLevel_0 10 rfl rfl)
theorem dX1_setLevel_11 : decode cX1_setLevel 11 = .ok (.bipush 99, 2) := dk_16 99 (dk_at dksX1_setLevel_0 11 rfl rfl)
theorem dX1_setLevel_13 : decode cX1_setLevel 13 = .ok (.invokestatic 106, 3) := dk_184 0 106 (dk_at dksX1_setLevel_0 13 rfl rfl)
theorem dX1_setLevel_16 : decode cX1_setLevel 16 = .ok (.aload_n 0, 1) := dk_42 (dk_at dksX1_setLevel_0 16 rfl rfl)
theorem dX1_setLevel_17 : decode cX1_setLevel 17 = .ok (.invokevirtual 117, 3) := dk_182 0 117 (dk_at dksX1_setLevel_0 17 rfl rfl)
theorem dX1_setLevel_20 : decode cX1_setLevel 20 = .ok (.aload_n 0, 1) := dk_42 (dk_at dksX1_setLevel_0 20 rfl rfl)
theorem dX1_setLevel_21 : decode cX1_setLevel 21 = .ok (.iload_n 1, 1) := dk_27 (dk_at dksX1_setLevel_0 21 rfl rfl)
theorem dX1_setLevel_22 : decode cX1_setLevel 22 = .ok (.invokevirtual 94, 3) := dk_182 0 94 (dk_at dksX1_setLevel_1 0 rfl rfl)
theorem dX1_setLevel_25 : decode cX1_setLevel 25 = .ok (.iload_n 2, 1) := dk_28 (dk_at dksX1_setLevel_1 3 rfl rfl)
theorem dX1_setLevel_26 : decode cX1_setLevel 26 = .ok (.putfield 138, 3) := dk_181 0 138 (dk_at dksX1_setLevel_1 4 rfl rfl)
theorem dX1_setLevel_29 : decode cX1_setLevel 29 = .ok (.aload_n 0, 1) := dk_42 (dk_at dksX1_setLevel_1 7 rfl rfl)
theorem dX1_setLevel_30 : decode cX1_setLevel 30 = .ok (.iload_n 1, 1) := dk_27 (dk_at dksX1_setLevel_1 8 rfl rfl)
theorem dX1_setLevel_31 : decode cX1_setLevel 31 = .ok (.invokevirtual 94, 3) := dk_182 0 94 (dk_at dksX1_setLevel_1 9 rfl rfl)
theorem dX1_setLevel_34 : decode cX1_setLevel 34 = .ok (.iconst (-1), 1) := dk_2 (dk_at dksX1_setLevel_1 12 rfl rfl)
theorem dX1_setLevel_35 : decode cX1_setLevel 35 = .ok (.putfield 141, 3) := dk_181 0 141 (dk_at dksX1_setLevel_1 13 rfl rfl)
theorem dX1_setLevel_38 : decode cX1_setLevel 38 = .ok (.iload_n 3, 1) := dk_29 (dk_at dksX1_setLevel_1 16 rfl rfl)
theorem dX1_setLevel_39 : decode cX1_setLevel 39 = .ok (.ireturn, 1) := dk_172 (dk_at dksX1_setLevel_1 17 rfl rfl)
abbrev cX1_label : ByteArray := prog_1_method_20_code
def yX1_label : MethodName := ⟨RX1, "label", "(II)I"⟩
def dkwX1_label_1 : List UInt8 := [180, 0, 35, 27, 28, 182, 0, 147, 87, 42, 27, 182, 0, 94, 28, 182, 0, 149, 172]
abbrev dktX1_label_1 : List UInt8 := dkwX1_label_1 ++ []
def dkwX1_label_0 : List UInt8 := [42, 27, 28, 182, 0, 144, 154, 0, 7, 4, 167, 0, 4, 3, 184, 0, 113, 42, 182, 0, 117, 42]
abbrev dktX1_label_0 : List UInt8 := dkwX1_label_0 ++ dktX1_label_1
theorem dksX1_label_0 : cX1_label.data.toList.drop 0 = dktX1_label_0 := by decide +kernel
theorem dksX1_label_1 : cX1_label.data.toList.drop 22 = dktX1_label_1 := dk_seg dksX1_label_0 22 rfl rfl
theorem dX1_label_0 : decode cX1_label 0 = .ok (.aload_n 0, 1) := dk_42 (dk_at dksX1_label_0 0 rfl rfl)
theorem dX1_label_1 : decode cX1_label 1 = .ok (.iload_n 1, 1) := dk_27 (dk_at dksX1_label_0 1 rfl rfl)
theorem dX1_label_2 : decode cX1_label 2 = .ok (.iload_n 2, 1) := dk_28 (dk_at dksX1_label_0 2 rfl rfl)
theorem dX1_label_3 : decode cX1_label 3 = .ok (.invokevirtual 144, 3) := dk_182 0 144 (dk_at dksX1_label_0 3 rfl rfl)
theorem dX1_label_6 : decode cX1_label 6 = .ok (.ifCond .ne 7, 3) := dk_154 0 7 (dk_at dksX1_label_0 6 rfl rfl)
theorem dX1_label_9 : decode cX1_label 9 = .ok (.iconst 1, 1) := dk_4 (dk_at dksX1_label_0 9 rfl rfl)
theorem dX1_label_10 : decode cX1_label 10 = .ok (.goto 4, 3) := dk_167 0 4 (dk_at dksX1_label_0 10 rfl rfl)
theorem dX1_label_13 : decode cX1_label 13 = .ok (.iconst 0, 1) := dk_3 (dk_at dksX1_label_0 13 rfl rfl)
theorem dX1_label_14 : decode cX1_label 14 = .ok (.invokestatic 113, 3) := dk_184 0 113 (dk_at dksX1_label_0 14 rfl rfl)
theorem dX1_label_17 : decode cX1_label 17 = .ok (.aload_n 0, 1) := dk_42 (dk_at dksX1_label_0 17 rfl rfl)
theorem dX1_label_18 : decode cX1_label 18 = .ok (.invokevirtual 117, 3) := dk_182 0 117 (dk_at dksX1_label_0 18 rfl rfl)
theorem dX1_label_21 : decode cX1_label 21 = .ok (.aload_n 0, 1) := dk_42 (dk_at dksX1_label_0 21 rfl rfl)
theorem dX1_label_22 : decode cX1_label 22 = .ok (.getfield 35, 3) := dk_180 0 35 (dk_at dksX1_label_1 0 rfl rfl)
theorem dX1_label_25 : decode cX1_label 25 = .ok (.iload_n 1, 1) := dk_27 (dk_at dksX1_label_1 3 rfl rfl)
theorem dX1_label_26 : decode cX1_label 26 = .ok (.iload_n 2, 1) := dk_28 (dk_at dksX1_label_1 4 rfl rfl)
theorem dX1_label_27 : decode cX1_label 27 = .ok (.invokevirtual 147, 3) := dk_182 0 147 (dk_at dksX1_label_1 5 rfl rfl)
theorem dX1_label_30 : decode cX1_label 30 = .ok (.pop, 1) := dk_87 (dk_at dksX1_label_1 8 rfl rfl)
theorem dX1_label_31 : decode cX1_label 31 = .ok (.aload_n 0, 1) := dk_42 (dk_at dksX1_label_1 9 rfl rfl)
theorem dX1_label_32 : decode cX1_label 32 = .ok (.iload_n 1, 1) := dk_27 (dk_at dksX1_label_1 10 rfl rfl)
theorem dX1_label_33 : decode cX1_label 33 = .ok (.invokevirtual 94, 3) := dk_182 0 94 (dk_at dksX1_label_1 11 rfl rfl)
theorem dX1_label_36 : decode cX1_label 36 = .ok (.iload_n 2, 1) := dk_28 (dk_at dksX1_label_1 14 rfl rfl)
theorem dX1_label_37 : decode cX1_label 37 = .ok (.invokevirtual 149, 3) := dk_182 0 149 (dk_at dksX1_label_1 15 rfl rfl)
theorem dX1_label_40 : decode cX1_label 40 = .ok (.ireturn, 1) := dk_172 (dk_at dksX1_label_1 18 rfl rfl)
abbrev cX1_whyNotLabelled : ByteArray := prog_1_method_42_code
def yX1_whyNotLabelled : MethodName := ⟨RX1, "whyNotLabelled", "(II)I"⟩
def dkwX1_whyNotLabelled_0 : List UInt8 := [42, 27, 28, 182, 0, 167, 87, 42, 180, 0, 35, 27, 28, 182, 0, 202, 172]
abbrev dktX1_whyNotLabelled_0 : List UInt8 := dkwX1_whyNotLabelled_0 ++ []
theorem dksX1_whyNotLabelled_0 : cX1_whyNotLabelled.data.toList.drop 0 = dktX1_whyNotLabelled_0 := by decide +kernel
theorem dX1_whyNotLabelled_0 : decode cX1_whyNotLabelled 0 = .ok (.aload_n 0, 1) := dk_42 (dk_at dksX1_whyNotLabelled_0 0 rfl rfl)
theorem dX1_whyNotLabelled_1 : decode cX1_whyNotLabelled 1 = .ok (.iload_n 1, 1) := dk_27 (dk_at dksX1_whyNotLabelled_0 1 rfl rfl)
theorem dX1_whyNotLabelled_2 : decode cX1_whyNotLabelled 2 = .ok (.iload_n 2, 1) := dk_28 (dk_at dksX1_whyNotLabelled_0 2 rfl rfl)
theorem dX1_whyNotLabelled_3 : decode cX1_whyNotLabelled 3 = .ok (.invokevirtual 167, 3) := dk_182 0 167 (dk_at dksX1_whyNotLabelled_0 3 rfl rfl)
theorem dX1_whyNotLabelled_6 : decode cX1_whyNotLabelled 6 = .ok (.pop, 1) := dk_87 (dk_at dksX1_whyNotLabelled_0 6 rfl rfl)
theorem dX1_whyNotLabelled_7 : decode cX1_whyNotLabelled 7 = .ok (.aload_n 0, 1) := dk_42 (dk_at dksX1_whyNotLabelled_0 7 rfl rfl)
theorem dX1_whyNotLabelled_8 : decode cX1_whyNotLabelled 8 = .ok (.getfield 35, 3) := dk_180 0 35 (dk_at dksX1_whyNotLabelled_0 8 rfl rfl)
theorem dX1_whyNotLabelled_11 : decode cX1_whyNotLabelled 11 = .ok (.iload_n 1, 1) := dk_27 (dk_at dksX1_whyNotLabelled_0 11 rfl rfl)
theorem dX1_whyNotLabelled_12 : decode cX1_whyNotLabelled 12 = .ok (.iload_n 2, 1) := dk_28 (dk_at dksX1_whyNotLabelled_0 12 rfl rfl)
theorem dX1_whyNotLabelled_13 : decode cX1_whyNotLabelled 13 = .ok (.invokevirtual 202, 3) := dk_182 0 202 (dk_at dksX1_whyNotLabelled_0 13 rfl rfl)
theorem dX1_whyNotLabelled_16 : decode cX1_whyNotLabelled 16 = .ok (.ireturn, 1) := dk_172 (dk_at dksX1_whyNotLabelled_0 16 rfl rfl)
abbrev cX1_lineWith : ByteArray := prog_1_method_15_code
def yX1_lineWith : MethodName := ⟨RX1, "lineWith", "(II)LContourLabels$Line;"⟩
def dkwX1_lineWith_0 : List UInt8 := [42, 27, 182, 0, 94, 78, 28, 45, 180, 0, 98, 4, 96, 184, 0, 77, 45, 176]
abbrev dktX1_lineWith_0 : List UInt8 := dkwX1_lineWith_0 ++ []
theorem dksX1_lineWith_0 : cX1_lineWith.data.toList.drop 0 = dktX1_lineWith_0 := by decide +kernel
theorem dX1_lineWith_0 : decode cX1_lineWith 0 = .ok (.aload_n 0, 1) := dk_42 (dk_at dksX1_lineWith_0 0 rfl rfl)
theorem dX1_lineWith_1 : decode cX1_lineWith 1 = .ok (.iload_n 1, 1) := dk_27 (dk_at dksX1_lineWith_0 1 rfl rfl)
theorem dX1_lineWith_2 : decode cX1_lineWith 2 = .ok (.invokevirtual 94, 3) := dk_182 0 94 (dk_at dksX1_lineWith_0 2 rfl rfl)
theorem dX1_lineWith_5 : decode cX1_lineWith 5 = .ok (.astore_n 3, 1) := dk_78 (dk_at dksX1_lineWith_0 5 rfl rfl)
theorem dX1_lineWith_6 : decode cX1_lineWith 6 = .ok (.iload_n 2, 1) := dk_28 (dk_at dksX1_lineWith_0 6 rfl rfl)
theorem dX1_lineWith_7 : decode cX1_lineWith 7 = .ok (.aload_n 3, 1) := dk_45 (dk_at dksX1_lineWith_0 7 rfl rfl)
theorem dX1_lineWith_8 : decode cX1_lineWith 8 = .ok (.getfield 98, 3) := dk_180 0 98 (dk_at dksX1_lineWith_0 8 rfl rfl)
theorem dX1_lineWith_11 : decode cX1_lineWith 11 = .ok (.iconst 1, 1) := dk_4 (dk_at dksX1_lineWith_0 11 rfl rfl)
theorem dX1_lineWith_12 : decode cX1_lineWith 12 = .ok (.iadd, 1) := dk_96 (dk_at dksX1_lineWith_0 12 rfl rfl)
theorem dX1_lineWith_13 : decode cX1_lineWith 13 = .ok (.invokestatic 77, 3) := dk_184 0 77 (dk_at dksX1_lineWith_0 13 rfl rfl)
theorem dX1_lineWith_16 : decode cX1_lineWith 16 = .ok (.aload_n 3, 1) := dk_45 (dk_at dksX1_lineWith_0 16 rfl rfl)
theorem dX1_lineWith_17 : decode cX1_lineWith 17 = .ok (.areturn, 1) := dk_176 (dk_at dksX1_lineWith_0 17 rfl rfl)
abbrev cX1_unlabel : ByteArray := prog_1_method_21_code
def yX1_unlabel : MethodName := ⟨RX1, "unlabel", "(I)I"⟩
def dkwX1_unlabel_1 : List UInt8 := [182, 0, 117, 42, 180, 0, 35, 27, 182, 0, 152, 87, 28, 172]
abbrev dktX1_unlabel_1 : List UInt8 := dkwX1_unlabel_1 ++ []
def dkwX1_unlabel_0 : List UInt8 := [42, 27, 182, 0, 94, 180, 0, 141, 61, 28, 2, 159, 0, 7, 4, 167, 0, 4, 3, 184, 0, 113, 42]
abbrev dktX1_unlabel_0 : List UInt8 := dkwX1_unlabel_0 ++ dktX1_unlabel_1
theorem dksX1_unlabel_0 : cX1_unlabel.data.toList.drop 0 = dktX1_unlabel_0 := by decide +kernel
theorem dksX1_unlabel_1 : cX1_unlabel.data.toList.drop 23 = dktX1_unlabel_1 := dk_seg dksX1_unlabel_0 23 rfl rfl
theorem dX1_unlabel_0 : decode cX1_unlabel 0 = .ok (.aload_n 0, 1) := dk_42 (dk_at dksX1_unlabel_0 0 rfl rfl)
theorem dX1_unlabel_1 : decode cX1_unlabel 1 = .ok (.iload_n 1, 1) := dk_27 (dk_at dksX1_unlabel_0 1 rfl rfl)
theorem dX1_unlabel_2 : decode cX1_unlabel 2 = .ok (.invokevirtual 94, 3) := dk_182 0 94 (dk_at dksX1_unlabel_0 2 rfl rfl)
theorem dX1_unlabel_5 : decode cX1_unlabel 5 = .ok (.getfield 141, 3) := dk_180 0 141 (dk_at dksX1_unlabel_0 5 rfl rfl)
theorem dX1_unlabel_8 : decode cX1_unlabel 8 = .ok (.istore_n 2, 1) := dk_61 (dk_at dksX1_unlabel_0 8 rfl rfl)
theorem dX1_unlabel_9 : decode cX1_unlabel 9 = .ok (.iload_n 2, 1) := dk_28 (dk_at dksX1_unlabel_0 9 rfl rfl)
theorem dX1_unlabel_10 : decode cX1_unlabel 10 = .ok (.iconst (-1), 1) := dk_2 (dk_at dksX1_unlabel_0 10 rfl rfl)
theorem dX1_unlabel_11 : decode cX1_unlabel 11 = .ok (.if_icmp .eq 7, 3) := dk_159 0 7 (dk_at dksX1_unlabel_0 11 rfl rfl)
theorem dX1_unlabel_14 : decode cX1_unlabel 14 = .ok (.iconst 1, 1) := dk_4 (dk_at dksX1_unlabel_0 14 rfl rfl)
theorem dX1_unlabel_15 : decode cX1_unlabel 15 = .ok (.goto 4, 3) := dk_167 0 4 (dk_at dksX1_unlabel_0 15 rfl rfl)
theorem dX1_unlabel_18 : decode cX1_unlabel 18 = .ok (.iconst 0, 1) := dk_3 (dk_at dksX1_unlabel_0 18 rfl rfl)
theorem dX1_unlabel_19 : decode cX1_unlabel 19 = .ok (.invokestatic 113, 3) := dk_184 0 113 (dk_at dksX1_unlabel_0 19 rfl rfl)
theorem dX1_unlabel_22 : decode cX1_unlabel 22 = .ok (.aload_n 0, 1) := dk_42 (dk_at dksX1_unlabel_0 22 rfl rfl)
theorem dX1_unlabel_23 : decode cX1_unlabel 23 = .ok (.invokevirtual 117, 3) := dk_182 0 117 (dk_at dksX1_unlabel_1 0 rfl rfl)
theorem dX1_unlabel_26 : decode cX1_unlabel 26 = .ok (.aload_n 0, 1) := dk_42 (dk_at dksX1_unlabel_1 3 rfl rfl)
theorem dX1_unlabel_27 : decode cX1_unlabel 27 = .ok (.getfield 35, 3) := dk_180 0 35 (dk_at dksX1_unlabel_1 4 rfl rfl)
theorem dX1_unlabel_30 : decode cX1_unlabel 30 = .ok (.iload_n 1, 1) := dk_27 (dk_at dksX1_unlabel_1 7 rfl rfl)
theorem dX1_unlabel_31 : decode cX1_unlabel 31 = .ok (.invokevirtual 152, 3) := dk_182 0 152 (dk_at dksX1_unlabel_1 8 rfl rfl)
theorem dX1_unlabel_34 : decode cX1_unlabel 34 = .ok (.pop, 1) := dk_87 (dk_at dksX1_unlabel_1 11 rfl rfl)
theorem dX1_unlabel_35 : decode cX1_unlabel 35 = .ok (.iload_n 2, 1) := dk_28 (dk_at dksX1_unlabel_1 12 rfl rfl)
theorem dX1_unlabel_36 : decode cX1_unlabel 36 = .ok (.ireturn, 1) := dk_172 (dk_at dksX1_unlabel_1 13 rfl rfl)
abbrev cX1_labelBest : ByteArray := prog_1_method_22_code
def yX1_labelBest : MethodName := ⟨RX1, "labelBest", "(I)I"⟩
def dkwX1_labelBest_2 : List UInt8 := [172]
abbrev dktX1_labelBest_2 : List UInt8 := dkwX1_labelBest_2 ++ []
def dkwX1_labelBest_1 : List UInt8 := [184, 0, 113, 42, 182, 0, 117, 42, 180, 0, 35, 27, 182, 0, 158, 87, 42, 27, 182, 0, 94, 180, 0, 141]
abbrev dktX1_labelBest_1 : List UInt8 := dkwX1_labelBest_1 ++ dktX1_labelBest_2
def dkwX1_labelBest_0 : List UInt8 := [42, 27, 182, 0, 94, 87, 42, 180, 0, 35, 27, 182, 0, 155, 2, 159, 0, 7, 4, 167, 0, 4, 3]
abbrev dktX1_labelBest_0 : List UInt8 := dkwX1_labelBest_0 ++ dktX1_labelBest_1
theorem dksX1_labelBest_0 : cX1_labelBest.data.toList.drop 0 = dktX1_labelBest_0 := by decide +kernel
theorem dksX1_labelBest_1 : cX1_labelBest.data.toList.drop 23 = dktX1_labelBest_1 := dk_seg dksX1_labelBest_0 23 rfl rfl
theorem dksX1_labelBest_2 : cX1_labelBest.data.toList.drop 47 = dktX1_labelBest_2 := dk_seg dksX1_labelBest_1 24 rfl rfl
theorem dX1_labelBest_0 : decode cX1_labelBest 0 = .ok (.aload_n 0, 1) := dk_42 (dk_at dksX1_labelBest_0 0 rfl rfl)
theorem dX1_labelBest_1 : decode cX1_labelBest 1 = .ok (.iload_n 1, 1) := dk_27 (dk_at dksX1_labelBest_0 1 rfl rfl)
theorem dX1_labelBest_2 : decode cX1_labelBest 2 = .ok (.invokevirtual 94, 3) := dk_182 0 94 (dk_at dksX1_labelBest_0 2 rfl rfl)
theorem dX1_labelBest_5 : decode cX1_labelBest 5 = .ok (.pop, 1) := dk_87 (dk_at dksX1_labelBest_0 5 rfl rfl)
theorem dX1_labelBest_6 : decode cX1_labelBest 6 = .ok (.aload_n 0, 1) := dk_42 (dk_at dksX1_labelBest_0 6 rfl rfl)
theorem dX1_labelBest_7 : decode cX1_labelBest 7 = .ok (.getfield 35, 3) := dk_180 0 35 (dk_at dksX1_labelBest_0 7 rfl rfl)
theorem dX1_labelBest_10 : decode cX1_labelBest 10 = .ok (.iload_n 1, 1) := dk_27 (dk_at dksX1_labelBest_0 10 rfl rfl)
theorem dX1_labelBest_11 : decode cX1_labelBest 11 = .ok (.invokevirtual 155, 3) := dk_182 0 155 (dk_at dksX1_labelBest_0 11 rfl rfl)
theorem dX1_labelBest_14 : decode cX1_labelBest 14 = .ok (.iconst (-1), 1) := dk_2 (dk_at dksX1_labelBest_0 14 rfl rfl)
theorem dX1_labelBest_15 : decode cX1_labelBest 15 = .ok (.if_icmp .eq 7, 3) := dk_159 0 7 (dk_at dksX1_labelBest_0 15 rfl rfl)
theorem dX1_labelBest_18 : decode cX1_labelBest 18 = .ok (.iconst 1, 1) := dk_4 (dk_at dksX1_labelBest_0 18 rfl rfl)
theorem dX1_labelBest_19 : decode cX1_labelBest 19 = .ok (.goto 4, 3) := dk_167 0 4 (dk_at dksX1_labelBest_0 19 rfl rfl)
theorem dX1_labelBest_22 : decode cX1_labelBest 22 = .ok (.iconst 0, 1) := dk_3 (dk_at dksX1_labelBest_0 22 rfl rfl)
theorem dX1_labelBest_23 : decode cX1_labelBest 23 = .ok (.invokestatic 113, 3) := dk_184 0 113 (dk_at dksX1_labelBest_1 0 rfl rfl)
theorem dX1_labelBest_26 : decode cX1_labelBest 26 = .ok (.aload_n 0, 1) := dk_42 (dk_at dksX1_labelBest_1 3 rfl rfl)
theorem dX1_labelBest_27 : decode cX1_labelBest 27 = .ok (.invokevirtual 117, 3) := dk_182 0 117 (dk_at dksX1_labelBest_1 4 rfl rfl)
theorem dX1_labelBest_30 : decode cX1_labelBest 30 = .ok (.aload_n 0, 1) := dk_42 (dk_at dksX1_labelBest_1 7 rfl rfl)
theorem dX1_labelBest_31 : decode cX1_labelBest 31 = .ok (.getfield 35, 3) := dk_180 0 35 (dk_at dksX1_labelBest_1 8 rfl rfl)
theorem dX1_labelBest_34 : decode cX1_labelBest 34 = .ok (.iload_n 1, 1) := dk_27 (dk_at dksX1_labelBest_1 11 rfl rfl)
theorem dX1_labelBest_35 : decode cX1_labelBest 35 = .ok (.invokevirtual 158, 3) := dk_182 0 158 (dk_at dksX1_labelBest_1 12 rfl rfl)
theorem dX1_labelBest_38 : decode cX1_labelBest 38 = .ok (.pop, 1) := dk_87 (dk_at dksX1_labelBest_1 15 rfl rfl)
theorem dX1_labelBest_39 : decode cX1_labelBest 39 = .ok (.aload_n 0, 1) := dk_42 (dk_at dksX1_labelBest_1 16 rfl rfl)
theorem dX1_labelBest_40 : decode cX1_labelBest 40 = .ok (.iload_n 1, 1) := dk_27 (dk_at dksX1_labelBest_1 17 rfl rfl)
theorem dX1_labelBest_41 : decode cX1_labelBest 41 = .ok (.invokevirtual 94, 3) := dk_182 0 94 (dk_at dksX1_labelBest_1 18 rfl rfl)
theorem dX1_labelBest_44 : decode cX1_labelBest 44 = .ok (.getfield 141, 3) := dk_180 0 141 (dk_at dksX1_labelBest_1 21 rfl rfl)
theorem dX1_labelBest_47 : decode cX1_labelBest 47 = .ok (.ireturn, 1) := dk_172 (dk_at dksX1_labelBest_2 0 rfl rfl)
abbrev cX1_setGap : ByteArray := prog_1_method_24_code
def yX1_setGap : MethodName := ⟨RX1, "setGap", "(I)I"⟩
def dkwX1_setGap_1 : List UInt8 := [181, 0, 164, 28, 172]
abbrev dktX1_setGap_1 : List UInt8 := dkwX1_setGap_1 ++ []
def dkwX1_setGap_0 : List UInt8 := [27, 4, 16, 6, 184, 0, 106, 42, 182, 0, 117, 42, 180, 0, 35, 180, 0, 164, 61, 42, 180, 0, 35, 27]
abbrev dktX1_setGap_0 : List UInt8 := dkwX1_setGap_0 ++ dktX1_setGap_1
theorem dksX1_setGap_0 : cX1_setGap.data.toList.drop 0 = dktX1_setGap_0 := by decide +kernel
theorem dksX1_setGap_1 : cX1_setGap.data.toList.drop 24 = dktX1_setGap_1 := dk_seg dksX1_setGap_0 24 rfl rfl
theorem dX1_setGap_0 : decode cX1_setGap 0 = .ok (.iload_n 1, 1) := dk_27 (dk_at dksX1_setGap_0 0 rfl rfl)
theorem dX1_setGap_1 : decode cX1_setGap 1 = .ok (.iconst 1, 1) := dk_4 (dk_at dksX1_setGap_0 1 rfl rfl)
theorem dX1_setGap_2 : decode cX1_setGap 2 = .ok (.bipush 6, 2) := dk_16 6 (dk_at dksX1_setGap_0 2 rfl rfl)
theorem dX1_setGap_4 : decode cX1_setGap 4 = .ok (.invokestatic 106, 3) := dk_184 0 106 (dk_at dksX1_setGap_0 4 rfl rfl)
theorem dX1_setGap_7 : decode cX1_setGap 7 = .ok (.aload_n 0, 1) := dk_42 (dk_at dksX1_setGap_0 7 rfl rfl)
theorem dX1_setGap_8 : decode cX1_setGap 8 = .ok (.invokevirtual 117, 3) := dk_182 0 117 (dk_at dksX1_setGap_0 8 rfl rfl)
theorem dX1_setGap_11 : decode cX1_setGap 11 = .ok (.aload_n 0, 1) := dk_42 (dk_at dksX1_setGap_0 11 rfl rfl)
theorem dX1_setGap_12 : decode cX1_setGap 12 = .ok (.getfield 35, 3) := dk_180 0 35 (dk_at dksX1_setGap_0 12 rfl rfl)
theorem dX1_setGap_15 : decode cX1_setGap 15 = .ok (.getfield 164, 3) := dk_180 0 164 (dk_at dksX1_setGap_0 15 rfl rfl)
theorem dX1_setGap_18 : decode cX1_setGap 18 = .ok (.istore_n 2, 1) := dk_61 (dk_at dksX1_setGap_0 18 rfl rfl)
theorem dX1_setGap_19 : decode cX1_setGap 19 = .ok (.aload_n 0, 1) := dk_42 (dk_at dksX1_setGap_0 19 rfl rfl)
theorem dX1_setGap_20 : decode cX1_setGap 20 = .ok (.getfield 35, 3) := dk_180 0 35 (dk_at dksX1_setGap_0 20 rfl rfl)
theorem dX1_setGap_23 : decode cX1_setGap 23 = .ok (.iload_n 1, 1) := dk_27 (dk_at dksX1_setGap_0 23 rfl rfl)
theorem dX1_setGap_24 : decode cX1_setGap 24 = .ok (.putfield 164, 3) := dk_181 0 164 (dk_at dksX1_setGap_1 0 rfl rfl)
theorem dX1_setGap_27 : decode cX1_setGap 27 = .ok (.iload_n 2, 1) := dk_28 (dk_at dksX1_setGap_1 3 rfl rfl)
theorem dX1_setGap_28 : decode cX1_setGap 28 = .ok (.ireturn, 1) := dk_172 (dk_at dksX1_setGap_1 4 rfl rfl)
abbrev cX1_levelOf : ByteArray := prog_1_method_26_code
def yX1_levelOf : MethodName := ⟨RX1, "levelOf", "(I)I"⟩
def dkwX1_levelOf_0 : List UInt8 := [42, 27, 182, 0, 94, 180, 0, 138, 172]
abbrev dktX1_levelOf_0 : List UInt8 := dkwX1_levelOf_0 ++ []
theorem dksX1_levelOf_0 : cX1_levelOf.data.toList.drop 0 = dktX1_levelOf_0 := by decide +kernel
theorem dX1_levelOf_0 : decode cX1_levelOf 0 = .ok (.aload_n 0, 1) := dk_42 (dk_at dksX1_levelOf_0 0 rfl rfl)
theorem dX1_levelOf_1 : decode cX1_levelOf 1 = .ok (.iload_n 1, 1) := dk_27 (dk_at dksX1_levelOf_0 1 rfl rfl)
theorem dX1_levelOf_2 : decode cX1_levelOf 2 = .ok (.invokevirtual 94, 3) := dk_182 0 94 (dk_at dksX1_levelOf_0 2 rfl rfl)
theorem dX1_levelOf_5 : decode cX1_levelOf 5 = .ok (.getfield 138, 3) := dk_180 0 138 (dk_at dksX1_levelOf_0 5 rfl rfl)
theorem dX1_levelOf_8 : decode cX1_levelOf 8 = .ok (.ireturn, 1) := dk_172 (dk_at dksX1_levelOf_0 8 rfl rfl)
abbrev cX1_stepsOf : ByteArray := prog_1_method_27_code
def yX1_stepsOf : MethodName := ⟨RX1, "stepsOf", "(I)I"⟩
def dkwX1_stepsOf_0 : List UInt8 := [42, 27, 182, 0, 94, 180, 0, 98, 172]
abbrev dktX1_stepsOf_0 : List UInt8 := dkwX1_stepsOf_0 ++ []
theorem dksX1_stepsOf_0 : cX1_stepsOf.data.toList.drop 0 = dktX1_stepsOf_0 := by decide +kernel
theorem dX1_stepsOf_0 : decode cX1_stepsOf 0 = .ok (.aload_n 0, 1) := dk_42 (dk_at dksX1_stepsOf_0 0 rfl rfl)
theorem dX1_stepsOf_1 : decode cX1_stepsOf 1 = .ok (.iload_n 1, 1) := dk_27 (dk_at dksX1_stepsOf_0 1 rfl rfl)
theorem dX1_stepsOf_2 : decode cX1_stepsOf 2 = .ok (.invokevirtual 94, 3) := dk_182 0 94 (dk_at dksX1_stepsOf_0 2 rfl rfl)
theorem dX1_stepsOf_5 : decode cX1_stepsOf 5 = .ok (.getfield 98, 3) := dk_180 0 98 (dk_at dksX1_stepsOf_0 5 rfl rfl)
theorem dX1_stepsOf_8 : decode cX1_stepsOf 8 = .ok (.ireturn, 1) := dk_172 (dk_at dksX1_stepsOf_0 8 rfl rfl)
abbrev cX1_pointOf : ByteArray := prog_1_method_28_code
def yX1_pointOf : MethodName := ⟨RX1, "pointOf", "(II)I"⟩
def dkwX1_pointOf_0 : List UInt8 := [42, 27, 28, 182, 0, 167, 180, 0, 171, 28, 46, 172]
abbrev dktX1_pointOf_0 : List UInt8 := dkwX1_pointOf_0 ++ []
theorem dksX1_pointOf_0 : cX1_pointOf.data.toList.drop 0 = dktX1_pointOf_0 := by decide +kernel
theorem dX1_pointOf_0 : decode cX1_pointOf 0 = .ok (.aload_n 0, 1) := dk_42 (dk_at dksX1_pointOf_0 0 rfl rfl)
theorem dX1_pointOf_1 : decode cX1_pointOf 1 = .ok (.iload_n 1, 1) := dk_27 (dk_at dksX1_pointOf_0 1 rfl rfl)
theorem dX1_pointOf_2 : decode cX1_pointOf 2 = .ok (.iload_n 2, 1) := dk_28 (dk_at dksX1_pointOf_0 2 rfl rfl)
theorem dX1_pointOf_3 : decode cX1_pointOf 3 = .ok (.invokevirtual 167, 3) := dk_182 0 167 (dk_at dksX1_pointOf_0 3 rfl rfl)
theorem dX1_pointOf_6 : decode cX1_pointOf 6 = .ok (.getfield 171, 3) := dk_180 0 171 (dk_at dksX1_pointOf_0 6 rfl rfl)
theorem dX1_pointOf_9 : decode cX1_pointOf 9 = .ok (.iload_n 2, 1) := dk_28 (dk_at dksX1_pointOf_0 9 rfl rfl)
theorem dX1_pointOf_10 : decode cX1_pointOf 10 = .ok (.iaload, 1) := dk_46 (dk_at dksX1_pointOf_0 10 rfl rfl)
theorem dX1_pointOf_11 : decode cX1_pointOf 11 = .ok (.ireturn, 1) := dk_172 (dk_at dksX1_pointOf_0 11 rfl rfl)
abbrev cX1_lineAt : ByteArray := prog_1_method_29_code
def yX1_lineAt : MethodName := ⟨RX1, "lineAt", "(I)I"⟩
def dkwX1_lineAt_0 : List UInt8 := [27, 184, 0, 102, 42, 180, 0, 35, 27, 182, 0, 110, 172]
abbrev dktX1_lineAt_0 : List UInt8 := dkwX1_lineAt_0 ++ []
theorem dksX1_lineAt_0 : cX1_lineAt.data.toList.drop 0 = dktX1_lineAt_0 := by decide +kernel
theorem dX1_lineAt_0 : decode cX1_lineAt 0 = .ok (.iload_n 1, 1) := dk_27 (dk_at dksX1_lineAt_0 0 rfl rfl)
theorem dX1_lineAt_1 : decode cX1_lineAt 1 = .ok (.invokestatic 102, 3) := dk_184 0 102 (dk_at dksX1_lineAt_0 1 rfl rfl)
theorem dX1_lineAt_4 : decode cX1_lineAt 4 = .ok (.aload_n 0, 1) := dk_42 (dk_at dksX1_lineAt_0 4 rfl rfl)
theorem dX1_lineAt_5 : decode cX1_lineAt 5 = .ok (.getfield 35, 3) := dk_180 0 35 (dk_at dksX1_lineAt_0 5 rfl rfl)
theorem dX1_lineAt_8 : decode cX1_lineAt 8 = .ok (.iload_n 1, 1) := dk_27 (dk_at dksX1_lineAt_0 8 rfl rfl)
theorem dX1_lineAt_9 : decode cX1_lineAt 9 = .ok (.invokevirtual 110, 3) := dk_182 0 110 (dk_at dksX1_lineAt_0 9 rfl rfl)
theorem dX1_lineAt_12 : decode cX1_lineAt 12 = .ok (.ireturn, 1) := dk_172 (dk_at dksX1_lineAt_0 12 rfl rfl)
abbrev cX1_isClosed : ByteArray := prog_1_method_30_code
def yX1_isClosed : MethodName := ⟨RX1, "isClosed", "(I)Z"⟩
def dkwX1_isClosed_0 : List UInt8 := [42, 27, 182, 0, 94, 182, 0, 131, 172]
abbrev dktX1_isClosed_0 : List UInt8 := dkwX1_isClosed_0 ++ []
theorem dksX1_isClosed_0 : cX1_isClosed.data.toList.drop 0 = dktX1_isClosed_0 := by decide +kernel
theorem dX1_isClosed_0 : decode cX1_isClosed 0 = .ok (.aload_n 0, 1) := dk_42 (dk_at dksX1_isClosed_0 0 rfl rfl)
theorem dX1_isClosed_1 : decode cX1_isClosed 1 = .ok (.iload_n 1, 1) := dk_27 (dk_at dksX1_isClosed_0 1 rfl rfl)
theorem dX1_isClosed_2 : decode cX1_isClosed 2 = .ok (.invokevirtual 94, 3) := dk_182 0 94 (dk_at dksX1_isClosed_0 2 rfl rfl)
theorem dX1_isClosed_5 : decode cX1_isClosed 5 = .ok (.invokevirtual 131, 3) := dk_182 0 131 (dk_at dksX1_isClosed_0 5 rfl rfl)
theorem dX1_isClosed_8 : decode cX1_isClosed 8 = .ok (.ireturn, 1) := dk_172 (dk_at dksX1_isClosed_0 8 rfl rfl)
abbrev cX1_bendAt : ByteArray := prog_1_method_32_code
def yX1_bendAt : MethodName := ⟨RX1, "bendAt", "(II)I"⟩
def dkwX1_bendAt_0 : List UInt8 := [42, 27, 28, 182, 0, 167, 28, 182, 0, 175, 172]
abbrev dktX1_bendAt_0 : List UInt8 := dkwX1_bendAt_0 ++ []
theorem dksX1_bendAt_0 : cX1_bendAt.data.toList.drop 0 = dktX1_bendAt_0 := by decide +kernel
theorem dX1_bendAt_0 : decode cX1_bendAt 0 = .ok (.aload_n 0, 1) := dk_42 (dk_at dksX1_bendAt_0 0 rfl rfl)
theorem dX1_bendAt_1 : decode cX1_bendAt 1 = .ok (.iload_n 1, 1) := dk_27 (dk_at dksX1_bendAt_0 1 rfl rfl)
theorem dX1_bendAt_2 : decode cX1_bendAt 2 = .ok (.iload_n 2, 1) := dk_28 (dk_at dksX1_bendAt_0 2 rfl rfl)
theorem dX1_bendAt_3 : decode cX1_bendAt 3 = .ok (.invokevirtual 167, 3) := dk_182 0 167 (dk_at dksX1_bendAt_0 3 rfl rfl)
theorem dX1_bendAt_6 : decode cX1_bendAt 6 = .ok (.iload_n 2, 1) := dk_28 (dk_at dksX1_bendAt_0 6 rfl rfl)
theorem dX1_bendAt_7 : decode cX1_bendAt 7 = .ok (.invokevirtual 175, 3) := dk_182 0 175 (dk_at dksX1_bendAt_0 7 rfl rfl)
theorem dX1_bendAt_10 : decode cX1_bendAt 10 = .ok (.ireturn, 1) := dk_172 (dk_at dksX1_bendAt_0 10 rfl rfl)
abbrev cX1_lengthByKinds : ByteArray := prog_1_method_33_code
def yX1_lengthByKinds : MethodName := ⟨RX1, "lengthByKinds", "(I)D"⟩
def dkwX1_lengthByKinds_1 : List UInt8 := [99, 175]
abbrev dktX1_lengthByKinds_1 : List UInt8 := dkwX1_lengthByKinds_1 ++ []
def dkwX1_lengthByKinds_0 : List UInt8 := [42, 27, 182, 0, 94, 77, 44, 182, 0, 178, 62, 44, 180, 0, 98, 29, 100, 135, 29, 135, 20, 0, 181, 107]
abbrev dktX1_lengthByKinds_0 : List UInt8 := dkwX1_lengthByKinds_0 ++ dktX1_lengthByKinds_1
theorem dksX1_lengthByKinds_0 : cX1_lengthByKinds.data.toList.drop 0 = dktX1_lengthByKinds_0 := by decide +kernel
theorem dksX1_lengthByKinds_1 : cX1_lengthByKinds.data.toList.drop 24 = dktX1_lengthByKinds_1 := dk_seg dksX1_lengthByKinds_0 24 rfl rfl
theorem dX1_lengthByKinds_0 : decode cX1_lengthByKinds 0 = .ok (.aload_n 0, 1) := dk_42 (dk_at dksX1_lengthByKinds_0 0 rfl rfl)
theorem dX1_lengthByKinds_1 : decode cX1_lengthByKinds 1 = .ok (.iload_n 1, 1) := dk_27 (dk_at dksX1_lengthByKinds_0 1 rfl rfl)
theorem dX1_lengthByKinds_2 : decode cX1_lengthByKinds 2 = .ok (.invokevirtual 94, 3) := dk_182 0 94 (dk_at dksX1_lengthByKinds_0 2 rfl rfl)
theorem dX1_lengthByKinds_5 : decode cX1_lengthByKinds 5 = .ok (.astore_n 2, 1) := dk_77 (dk_at dksX1_lengthByKinds_0 5 rfl rfl)
theorem dX1_lengthByKinds_6 : decode cX1_lengthByKinds 6 = .ok (.aload_n 2, 1) := dk_44 (dk_at dksX1_lengthByKinds_0 6 rfl rfl)
theorem dX1_lengthByKinds_7 : decode cX1_lengthByKinds 7 = .ok (.invokevirtual 178, 3) := dk_182 0 178 (dk_at dksX1_lengthByKinds_0 7 rfl rfl)
theorem dX1_lengthByKinds_10 : decode cX1_lengthByKinds 10 = .ok (.istore_n 3, 1) := dk_62 (dk_at dksX1_lengthByKinds_0 10 rfl rfl)
theorem dX1_lengthByKinds_11 : decode cX1_lengthByKinds 11 = .ok (.aload_n 2, 1) := dk_44 (dk_at dksX1_lengthByKinds_0 11 rfl rfl)
theorem dX1_lengthByKinds_12 : decode cX1_lengthByKinds 12 = .ok (.getfield 98, 3) := dk_180 0 98 (dk_at dksX1_lengthByKinds_0 12 rfl rfl)
theorem dX1_lengthByKinds_15 : decode cX1_lengthByKinds 15 = .ok (.iload_n 3, 1) := dk_29 (dk_at dksX1_lengthByKinds_0 15 rfl rfl)
theorem dX1_lengthByKinds_16 : decode cX1_lengthByKinds 16 = .ok (.isub, 1) := dk_100 (dk_at dksX1_lengthByKinds_0 16 rfl rfl)
theorem dX1_lengthByKinds_17 : decode cX1_lengthByKinds 17 = .ok (.i2d, 1) := dk_135 (dk_at dksX1_lengthByKinds_0 17 rfl rfl)
theorem dX1_lengthByKinds_18 : decode cX1_lengthByKinds 18 = .ok (.iload_n 3, 1) := dk_29 (dk_at dksX1_lengthByKinds_0 18 rfl rfl)
theorem dX1_lengthByKinds_19 : decode cX1_lengthByKinds 19 = .ok (.i2d, 1) := dk_135 (dk_at dksX1_lengthByKinds_0 19 rfl rfl)
theorem dX1_lengthByKinds_20 : decode cX1_lengthByKinds 20 = .ok (.ldc2_w 181, 3) := dk_20 0 181 (dk_at dksX1_lengthByKinds_0 20 rfl rfl)
theorem dX1_lengthByKinds_23 : decode cX1_lengthByKinds 23 = .ok (.dmul, 1) := dk_107 (dk_at dksX1_lengthByKinds_0 23 rfl rfl)
theorem dX1_lengthByKinds_24 : decode cX1_lengthByKinds 24 = .ok (.dadd, 1) := dk_99 (dk_at dksX1_lengthByKinds_1 0 rfl rfl)
theorem dX1_lengthByKinds_25 : decode cX1_lengthByKinds 25 = .ok (.dreturn, 1) := dk_175 (dk_at dksX1_lengthByKinds_1 1 rfl rfl)
abbrev cX1_lengthBySteps : ByteArray := prog_1_method_34_code
def yX1_lengthBySteps : MethodName := ⟨RX1, "lengthBySteps", "(I)D"⟩
def dkwX1_lengthBySteps_0 : List UInt8 := [42, 27, 182, 0, 94, 182, 0, 183, 175]
abbrev dktX1_lengthBySteps_0 : List UInt8 := dkwX1_lengthBySteps_0 ++ []
theorem dksX1_lengthBySteps_0 : cX1_lengthBySteps.data.toList.drop 0 = dktX1_lengthBySteps_0 := by decide +kernel
theorem dX1_lengthBySteps_0 : decode cX1_lengthBySteps 0 = .ok (.aload_n 0, 1) := dk_42 (dk_at dksX1_lengthBySteps_0 0 rfl rfl)
theorem dX1_lengthBySteps_1 : decode cX1_lengthBySteps 1 = .ok (.iload_n 1, 1) := dk_27 (dk_at dksX1_lengthBySteps_0 1 rfl rfl)
theorem dX1_lengthBySteps_2 : decode cX1_lengthBySteps 2 = .ok (.invokevirtual 94, 3) := dk_182 0 94 (dk_at dksX1_lengthBySteps_0 2 rfl rfl)
theorem dX1_lengthBySteps_5 : decode cX1_lengthBySteps 5 = .ok (.invokevirtual 183, 3) := dk_182 0 183 (dk_at dksX1_lengthBySteps_0 5 rfl rfl)
theorem dX1_lengthBySteps_8 : decode cX1_lengthBySteps 8 = .ok (.dreturn, 1) := dk_175 (dk_at dksX1_lengthBySteps_0 8 rfl rfl)
abbrev cX1_labelOf : ByteArray := prog_1_method_37_code
def yX1_labelOf : MethodName := ⟨RX1, "labelOf", "(I)I"⟩
def dkwX1_labelOf_0 : List UInt8 := [42, 27, 182, 0, 94, 180, 0, 141, 172]
abbrev dktX1_labelOf_0 : List UInt8 := dkwX1_labelOf_0 ++ []
theorem dksX1_labelOf_0 : cX1_labelOf.data.toList.drop 0 = dktX1_labelOf_0 := by decide +kernel
theorem dX1_labelOf_0 : decode cX1_labelOf 0 = .ok (.aload_n 0, 1) := dk_42 (dk_at dksX1_labelOf_0 0 rfl rfl)
theorem dX1_labelOf_1 : decode cX1_labelOf 1 = .ok (.iload_n 1, 1) := dk_27 (dk_at dksX1_labelOf_0 1 rfl rfl)
theorem dX1_labelOf_2 : decode cX1_labelOf 2 = .ok (.invokevirtual 94, 3) := dk_182 0 94 (dk_at dksX1_labelOf_0 2 rfl rfl)
theorem dX1_labelOf_5 : decode cX1_labelOf 5 = .ok (.getfield 141, 3) := dk_180 0 141 (dk_at dksX1_labelOf_0 5 rfl rfl)
theorem dX1_labelOf_8 : decode cX1_labelOf 8 = .ok (.ireturn, 1) := dk_172 (dk_at dksX1_labelOf_0 8 rfl rfl)
abbrev cX1_isTurned : ByteArray := prog_1_method_38_code
def yX1_isTurned : MethodName := ⟨RX1, "isTurned", "(I)Z"⟩
def dkwX1_isTurned_0 : List UInt8 := [42, 27, 182, 0, 94, 182, 0, 190, 172]
abbrev dktX1_isTurned_0 : List UInt8 := dkwX1_isTurned_0 ++ []
theorem dksX1_isTurned_0 : cX1_isTurned.data.toList.drop 0 = dktX1_isTurned_0 := by decide +kernel
theorem dX1_isTurned_0 : decode cX1_isTurned 0 = .ok (.aload_n 0, 1) := dk_42 (dk_at dksX1_isTurned_0 0 rfl rfl)
theorem dX1_isTurned_1 : decode cX1_isTurned 1 = .ok (.iload_n 1, 1) := dk_27 (dk_at dksX1_isTurned_0 1 rfl rfl)
theorem dX1_isTurned_2 : decode cX1_isTurned 2 = .ok (.invokevirtual 94, 3) := dk_182 0 94 (dk_at dksX1_isTurned_0 2 rfl rfl)
theorem dX1_isTurned_5 : decode cX1_isTurned 5 = .ok (.invokevirtual 190, 3) := dk_182 0 190 (dk_at dksX1_isTurned_0 5 rfl rfl)
theorem dX1_isTurned_8 : decode cX1_isTurned 8 = .ok (.ireturn, 1) := dk_172 (dk_at dksX1_isTurned_0 8 rfl rfl)
abbrev cX1_readFrom : ByteArray := prog_1_method_39_code
def yX1_readFrom : MethodName := ⟨RX1, "readFrom", "(I)I"⟩
def dkwX1_readFrom_0 : List UInt8 := [42, 27, 182, 0, 94, 182, 0, 193, 172]
abbrev dktX1_readFrom_0 : List UInt8 := dkwX1_readFrom_0 ++ []
theorem dksX1_readFrom_0 : cX1_readFrom.data.toList.drop 0 = dktX1_readFrom_0 := by decide +kernel
theorem dX1_readFrom_0 : decode cX1_readFrom 0 = .ok (.aload_n 0, 1) := dk_42 (dk_at dksX1_readFrom_0 0 rfl rfl)
theorem dX1_readFrom_1 : decode cX1_readFrom 1 = .ok (.iload_n 1, 1) := dk_27 (dk_at dksX1_readFrom_0 1 rfl rfl)
theorem dX1_readFrom_2 : decode cX1_readFrom 2 = .ok (.invokevirtual 94, 3) := dk_182 0 94 (dk_at dksX1_readFrom_0 2 rfl rfl)
theorem dX1_readFrom_5 : decode cX1_readFrom 5 = .ok (.invokevirtual 193, 3) := dk_182 0 193 (dk_at dksX1_readFrom_0 5 rfl rfl)
theorem dX1_readFrom_8 : decode cX1_readFrom 8 = .ok (.ireturn, 1) := dk_172 (dk_at dksX1_readFrom_0 8 rfl rfl)
abbrev cX1_sizeOf : ByteArray := prog_1_method_40_code
def yX1_sizeOf : MethodName := ⟨RX1, "sizeOf", "(I)I"⟩
def dkwX1_sizeOf_0 : List UInt8 := [42, 27, 182, 0, 94, 182, 0, 196, 172]
abbrev dktX1_sizeOf_0 : List UInt8 := dkwX1_sizeOf_0 ++ []
theorem dksX1_sizeOf_0 : cX1_sizeOf.data.toList.drop 0 = dktX1_sizeOf_0 := by decide +kernel
theorem dX1_sizeOf_0 : decode cX1_sizeOf 0 = .ok (.aload_n 0, 1) := dk_42 (dk_at dksX1_sizeOf_0 0 rfl rfl)
theorem dX1_sizeOf_1 : decode cX1_sizeOf 1 = .ok (.iload_n 1, 1) := dk_27 (dk_at dksX1_sizeOf_0 1 rfl rfl)
theorem dX1_sizeOf_2 : decode cX1_sizeOf 2 = .ok (.invokevirtual 94, 3) := dk_182 0 94 (dk_at dksX1_sizeOf_0 2 rfl rfl)
theorem dX1_sizeOf_5 : decode cX1_sizeOf 5 = .ok (.invokevirtual 196, 3) := dk_182 0 196 (dk_at dksX1_sizeOf_0 5 rfl rfl)
theorem dX1_sizeOf_8 : decode cX1_sizeOf 8 = .ok (.ireturn, 1) := dk_172 (dk_at dksX1_sizeOf_0 8 rfl rfl)
abbrev cX1_bendOf : ByteArray := prog_1_method_41_code
def yX1_bendOf : MethodName := ⟨RX1, "bendOf", "(II)I"⟩
def dkwX1_bendOf_1 : List UInt8 := [172]
abbrev dktX1_bendOf_1 : List UInt8 := dkwX1_bendOf_1 ++ []
def dkwX1_bendOf_0 : List UInt8 := [42, 27, 28, 182, 0, 167, 78, 45, 28, 182, 0, 199, 153, 0, 11, 45, 28, 182, 0, 149, 167, 0, 4, 2]
abbrev dktX1_bendOf_0 : List UInt8 := dkwX1_bendOf_0 ++ dktX1_bendOf_1
theorem dksX1_bendOf_0 : cX1_bendOf.data.toList.drop 0 = dktX1_bendOf_0 := by decide +kernel
theorem dksX1_bendOf_1 : cX1_bendOf.data.toList.drop 24 = dktX1_bendOf_1 := dk_seg dksX1_bendOf_0 24 rfl rfl
theorem dX1_bendOf_0 : decode cX1_bendOf 0 = .ok (.aload_n 0, 1) := dk_42 (dk_at dksX1_bendOf_0 0 rfl rfl)
theorem dX1_bendOf_1 : decode cX1_bendOf 1 = .ok (.iload_n 1, 1) := dk_27 (dk_at dksX1_bendOf_0 1 rfl rfl)
theorem dX1_bendOf_2 : decode cX1_bendOf 2 = .ok (.iload_n 2, 1) := dk_28 (dk_at dksX1_bendOf_0 2 rfl rfl)
theorem dX1_bendOf_3 : decode cX1_bendOf 3 = .ok (.invokevirtual 167, 3) := dk_182 0 167 (dk_at dksX1_bendOf_0 3 rfl rfl)
theorem dX1_bendOf_6 : decode cX1_bendOf 6 = .ok (.astore_n 3, 1) := dk_78 (dk_at dksX1_bendOf_0 6 rfl rfl)
theorem dX1_bendOf_7 : decode cX1_bendOf 7 = .ok (.aload_n 3, 1) := dk_45 (dk_at dksX1_bendOf_0 7 rfl rfl)
theorem dX1_bendOf_8 : decode cX1_bendOf 8 = .ok (.iload_n 2, 1) := dk_28 (dk_at dksX1_bendOf_0 8 rfl rfl)
theorem dX1_bendOf_9 : decode cX1_bendOf 9 = .ok (.invokevirtual 199, 3) := dk_182 0 199 (dk_at dksX1_bendOf_0 9 rfl rfl)
theorem dX1_bendOf_12 : decode cX1_bendOf 12 = .ok (.ifCond .eq 11, 3) := dk_153 0 11 (dk_at dksX1_bendOf_0 12 rfl rfl)
theorem dX1_bendOf_15 : decode cX1_bendOf 15 = .ok (.aload_n 3, 1) := dk_45 (dk_at dksX1_bendOf_0 15 rfl rfl)
theorem dX1_bendOf_16 : decode cX1_bendOf 16 = .ok (.iload_n 2, 1) := dk_28 (dk_at dksX1_bendOf_0 16 rfl rfl)
theorem dX1_bendOf_17 : decode cX1_bendOf 17 = .ok (.invokevirtual 149, 3) := dk_182 0 149 (dk_at dksX1_bendOf_0 17 rfl rfl)
theorem dX1_bendOf_20 : decode cX1_bendOf 20 = .ok (.goto 4, 3) := dk_167 0 4 (dk_at dksX1_bendOf_0 20 rfl rfl)
theorem dX1_bendOf_23 : decode cX1_bendOf 23 = .ok (.iconst (-1), 1) := dk_2 (dk_at dksX1_bendOf_0 23 rfl rfl)
theorem dX1_bendOf_24 : decode cX1_bendOf 24 = .ok (.ireturn, 1) := dk_172 (dk_at dksX1_bendOf_1 0 rfl rfl)
abbrev cX1_placesOf : ByteArray := prog_1_method_43_code
def yX1_placesOf : MethodName := ⟨RX1, "placesOf", "(I)I"⟩
def dkwX1_placesOf_0 : List UInt8 := [42, 27, 182, 0, 94, 87, 42, 180, 0, 35, 27, 182, 0, 203, 172]
abbrev dktX1_placesOf_0 : List UInt8 := dkwX1_placesOf_0 ++ []
theorem dksX1_placesOf_0 : cX1_placesOf.data.toList.drop 0 = dktX1_placesOf_0 := by decide +kernel
theorem dX1_placesOf_0 : decode cX1_placesOf 0 = .ok (.aload_n 0, 1) := dk_42 (dk_at dksX1_placesOf_0 0 rfl rfl)
theorem dX1_placesOf_1 : decode cX1_placesOf 1 = .ok (.iload_n 1, 1) := dk_27 (dk_at dksX1_placesOf_0 1 rfl rfl)
theorem dX1_placesOf_2 : decode cX1_placesOf 2 = .ok (.invokevirtual 94, 3) := dk_182 0 94 (dk_at dksX1_placesOf_0 2 rfl rfl)
theorem dX1_placesOf_5 : decode cX1_placesOf 5 = .ok (.pop, 1) := dk_87 (dk_at dksX1_placesOf_0 5 rfl rfl)
theorem dX1_placesOf_6 : decode cX1_placesOf 6 = .ok (.aload_n 0, 1) := dk_42 (dk_at dksX1_placesOf_0 6 rfl rfl)
theorem dX1_placesOf_7 : decode cX1_placesOf 7 = .ok (.getfield 35, 3) := dk_180 0 35 (dk_at dksX1_placesOf_0 7 rfl rfl)
theorem dX1_placesOf_10 : decode cX1_placesOf 10 = .ok (.iload_n 1, 1) := dk_27 (dk_at dksX1_placesOf_0 10 rfl rfl)
theorem dX1_placesOf_11 : decode cX1_placesOf 11 = .ok (.invokevirtual 203, 3) := dk_182 0 203 (dk_at dksX1_placesOf_0 11 rfl rfl)
theorem dX1_placesOf_14 : decode cX1_placesOf 14 = .ok (.ireturn, 1) := dk_172 (dk_at dksX1_placesOf_0 14 rfl rfl)
abbrev cX1_bestPlace : ByteArray := prog_1_method_44_code
def yX1_bestPlace : MethodName := ⟨RX1, "bestPlace", "(I)I"⟩
def dkwX1_bestPlace_0 : List UInt8 := [42, 27, 182, 0, 94, 87, 42, 180, 0, 35, 27, 182, 0, 155, 172]
abbrev dktX1_bestPlace_0 : List UInt8 := dkwX1_bestPlace_0 ++ []
theorem dksX1_bestPlace_0 : cX1_bestPlace.data.toList.drop 0 = dktX1_bestPlace_0 := by decide +kernel
theorem dX1_bestPlace_0 : decode cX1_bestPlace 0 = .ok (.aload_n 0, 1) := dk_42 (dk_at dksX1_bestPlace_0 0 rfl rfl)
theorem dX1_bestPlace_1 : decode cX1_bestPlace 1 = .ok (.iload_n 1, 1) := dk_27 (dk_at dksX1_bestPlace_0 1 rfl rfl)
theorem dX1_bestPlace_2 : decode cX1_bestPlace 2 = .ok (.invokevirtual 94, 3) := dk_182 0 94 (dk_at dksX1_bestPlace_0 2 rfl rfl)
theorem dX1_bestPlace_5 : decode cX1_bestPlace 5 = .ok (.pop, 1) := dk_87 (dk_at dksX1_bestPlace_0 5 rfl rfl)
theorem dX1_bestPlace_6 : decode cX1_bestPlace 6 = .ok (.aload_n 0, 1) := dk_42 (dk_at dksX1_bestPlace_0 6 rfl rfl)
theorem dX1_bestPlace_7 : decode cX1_bestPlace 7 = .ok (.getfield 35, 3) := dk_180 0 35 (dk_at dksX1_bestPlace_0 7 rfl rfl)
theorem dX1_bestPlace_10 : decode cX1_bestPlace 10 = .ok (.iload_n 1, 1) := dk_27 (dk_at dksX1_bestPlace_0 10 rfl rfl)
theorem dX1_bestPlace_11 : decode cX1_bestPlace 11 = .ok (.invokevirtual 155, 3) := dk_182 0 155 (dk_at dksX1_bestPlace_0 11 rfl rfl)
theorem dX1_bestPlace_14 : decode cX1_bestPlace 14 = .ok (.ireturn, 1) := dk_172 (dk_at dksX1_bestPlace_0 14 rfl rfl)
abbrev cX1_isWithinByRays : ByteArray := prog_1_method_46_code
def yX1_isWithinByRays : MethodName := ⟨RX1, "isWithinByRays", "(II)Z"⟩
def dkwX1_isWithinByRays_0 : List UInt8 := [42, 27, 182, 0, 94, 87, 28, 184, 0, 102, 42, 180, 0, 35, 27, 28, 182, 0, 209, 172]
abbrev dktX1_isWithinByRays_0 : List UInt8 := dkwX1_isWithinByRays_0 ++ []
theorem dksX1_isWithinByRays_0 : cX1_isWithinByRays.data.toList.drop 0 = dktX1_isWithinByRays_0 := by decide +kernel
theorem dX1_isWithinByRays_0 : decode cX1_isWithinByRays 0 = .ok (.aload_n 0, 1) := dk_42 (dk_at dksX1_isWithinByRays_0 0 rfl rfl)
theorem dX1_isWithinByRays_1 : decode cX1_isWithinByRays 1 = .ok (.iload_n 1, 1) := dk_27 (dk_at dksX1_isWithinByRays_0 1 rfl rfl)
theorem dX1_isWithinByRays_2 : decode cX1_isWithinByRays 2 = .ok (.invokevirtual 94, 3) := dk_182 0 94 (dk_at dksX1_isWithinByRays_0 2 rfl rfl)
theorem dX1_isWithinByRays_5 : decode cX1_isWithinByRays 5 = .ok (.pop, 1) := dk_87 (dk_at dksX1_isWithinByRays_0 5 rfl rfl)
theorem dX1_isWithinByRays_6 : decode cX1_isWithinByRays 6 = .ok (.iload_n 2, 1) := dk_28 (dk_at dksX1_isWithinByRays_0 6 rfl rfl)
theorem dX1_isWithinByRays_7 : decode cX1_isWithinByRays 7 = .ok (.invokestatic 102, 3) := dk_184 0 102 (dk_at dksX1_isWithinByRays_0 7 rfl rfl)
theorem dX1_isWithinByRays_10 : decode cX1_isWithinByRays 10 = .ok (.aload_n 0, 1) := dk_42 (dk_at dksX1_isWithinByRays_0 10 rfl rfl)
theorem dX1_isWithinByRays_11 : decode cX1_isWithinByRays 11 = .ok (.getfield 35, 3) := dk_180 0 35 (dk_at dksX1_isWithinByRays_0 11 rfl rfl)
theorem dX1_isWithinByRays_14 : decode cX1_isWithinByRays 14 = .ok (.iload_n 1, 1) := dk_27 (dk_at dksX1_isWithinByRays_0 14 rfl rfl)
theorem dX1_isWithinByRays_15 : decode cX1_isWithinByRays 15 = .ok (.iload_n 2, 1) := dk_28 (dk_at dksX1_isWithinByRays_0 15 rfl rfl)
theorem dX1_isWithinByRays_16 : decode cX1_isWithinByRays 16 = .ok (.invokevirtual 209, 3) := dk_182 0 209 (dk_at dksX1_isWithinByRays_0 16 rfl rfl)
theorem dX1_isWithinByRays_19 : decode cX1_isWithinByRays 19 = .ok (.ireturn, 1) := dk_172 (dk_at dksX1_isWithinByRays_0 19 rfl rfl)
abbrev cX1_isWithinBySpreading : ByteArray := prog_1_method_47_code
def yX1_isWithinBySpreading : MethodName := ⟨RX1, "isWithinBySpreading", "(II)Z"⟩
def dkwX1_isWithinBySpreading_0 : List UInt8 := [42, 27, 182, 0, 94, 87, 28, 184, 0, 102, 42, 180, 0, 35, 27, 28, 182, 0, 212, 172]
abbrev dktX1_isWithinBySpreading_0 : List UInt8 := dkwX1_isWithinBySpreading_0 ++ []
theorem dksX1_isWithinBySpreading_0 : cX1_isWithinBySpreading.data.toList.drop 0 = dktX1_isWithinBySpreading_0 := by decide +kernel
theorem dX1_isWithinBySpreading_0 : decode cX1_isWithinBySpreading 0 = .ok (.aload_n 0, 1) := dk_42 (dk_at dksX1_isWithinBySpreading_0 0 rfl rfl)
theorem dX1_isWithinBySpreading_1 : decode cX1_isWithinBySpreading 1 = .ok (.iload_n 1, 1) := dk_27 (dk_at dksX1_isWithinBySpreading_0 1 rfl rfl)
theorem dX1_isWithinBySpreading_2 : decode cX1_isWithinBySpreading 2 = .ok (.invokevirtual 94, 3) := dk_182 0 94 (dk_at dksX1_isWithinBySpreading_0 2 rfl rfl)
theorem dX1_isWithinBySpreading_5 : decode cX1_isWithinBySpreading 5 = .ok (.pop, 1) := dk_87 (dk_at dksX1_isWithinBySpreading_0 5 rfl rfl)
theorem dX1_isWithinBySpreading_6 : decode cX1_isWithinBySpreading 6 = .ok (.iload_n 2, 1) := dk_28 (dk_at dksX1_isWithinBySpreading_0 6 rfl rfl)
theorem dX1_isWithinBySpreading_7 : decode cX1_isWithinBySpreading 7 = .ok (.invokestatic 102, 3) := dk_184 0 102 (dk_at dksX1_isWithinBySpreading_0 7 rfl rfl)
theorem dX1_isWithinBySpreading_10 : decode cX1_isWithinBySpreading 10 = .ok (.aload_n 0, 1) := dk_42 (dk_at dksX1_isWithinBySpreading_0 10 rfl rfl)
theorem dX1_isWithinBySpreading_11 : decode cX1_isWithinBySpreading 11 = .ok (.getfield 35, 3) := dk_180 0 35 (dk_at dksX1_isWithinBySpreading_0 11 rfl rfl)
theorem dX1_isWithinBySpreading_14 : decode cX1_isWithinBySpreading 14 = .ok (.iload_n 1, 1) := dk_27 (dk_at dksX1_isWithinBySpreading_0 14 rfl rfl)
theorem dX1_isWithinBySpreading_15 : decode cX1_isWithinBySpreading 15 = .ok (.iload_n 2, 1) := dk_28 (dk_at dksX1_isWithinBySpreading_0 15 rfl rfl)
theorem dX1_isWithinBySpreading_16 : decode cX1_isWithinBySpreading 16 = .ok (.invokevirtual 212, 3) := dk_182 0 212 (dk_at dksX1_isWithinBySpreading_0 16 rfl rfl)
theorem dX1_isWithinBySpreading_19 : decode cX1_isWithinBySpreading 19 = .ok (.ireturn, 1) := dk_172 (dk_at dksX1_isWithinBySpreading_0 19 rfl rfl)
abbrev cX1_pointsWithin : ByteArray := prog_1_method_48_code
def yX1_pointsWithin : MethodName := ⟨RX1, "pointsWithin", "(I)I"⟩
def dkwX1_pointsWithin_0 : List UInt8 := [42, 27, 182, 0, 94, 87, 42, 180, 0, 35, 27, 182, 0, 215, 172]
abbrev dktX1_pointsWithin_0 : List UInt8 := dkwX1_pointsWithin_0 ++ []
theorem dksX1_pointsWithin_0 : cX1_pointsWithin.data.toList.drop 0 = dktX1_pointsWithin_0 := by decide +kernel
theorem dX1_pointsWithin_0 : decode cX1_pointsWithin 0 = .ok (.aload_n 0, 1) := dk_42 (dk_at dksX1_pointsWithin_0 0 rfl rfl)
theorem dX1_pointsWithin_1 : decode cX1_pointsWithin 1 = .ok (.iload_n 1, 1) := dk_27 (dk_at dksX1_pointsWithin_0 1 rfl rfl)
theorem dX1_pointsWithin_2 : decode cX1_pointsWithin 2 = .ok (.invokevirtual 94, 3) := dk_182 0 94 (dk_at dksX1_pointsWithin_0 2 rfl rfl)
theorem dX1_pointsWithin_5 : decode cX1_pointsWithin 5 = .ok (.pop, 1) := dk_87 (dk_at dksX1_pointsWithin_0 5 rfl rfl)
theorem dX1_pointsWithin_6 : decode cX1_pointsWithin 6 = .ok (.aload_n 0, 1) := dk_42 (dk_at dksX1_pointsWithin_0 6 rfl rfl)
theorem dX1_pointsWithin_7 : decode cX1_pointsWithin 7 = .ok (.getfield 35, 3) := dk_180 0 35 (dk_at dksX1_pointsWithin_0 7 rfl rfl)
theorem dX1_pointsWithin_10 : decode cX1_pointsWithin 10 = .ok (.iload_n 1, 1) := dk_27 (dk_at dksX1_pointsWithin_0 10 rfl rfl)
theorem dX1_pointsWithin_11 : decode cX1_pointsWithin 11 = .ok (.invokevirtual 215, 3) := dk_182 0 215 (dk_at dksX1_pointsWithin_0 11 rfl rfl)
theorem dX1_pointsWithin_14 : decode cX1_pointsWithin 14 = .ok (.ireturn, 1) := dk_172 (dk_at dksX1_pointsWithin_0 14 rfl rfl)
abbrev cX1_lineRound : ByteArray := prog_1_method_49_code
def yX1_lineRound : MethodName := ⟨RX1, "lineRound", "(I)I"⟩
def dkwX1_lineRound_0 : List UInt8 := [42, 27, 182, 0, 94, 87, 42, 180, 0, 35, 27, 182, 0, 218, 172]
abbrev dktX1_lineRound_0 : List UInt8 := dkwX1_lineRound_0 ++ []
theorem dksX1_lineRound_0 : cX1_lineRound.data.toList.drop 0 = dktX1_lineRound_0 := by decide +kernel
theorem dX1_lineRound_0 : decode cX1_lineRound 0 = .ok (.aload_n 0, 1) := dk_42 (dk_at dksX1_lineRound_0 0 rfl rfl)
theorem dX1_lineRound_1 : decode cX1_lineRound 1 = .ok (.iload_n 1, 1) := dk_27 (dk_at dksX1_lineRound_0 1 rfl rfl)
theorem dX1_lineRound_2 : decode cX1_lineRound 2 = .ok (.invokevirtual 94, 3) := dk_182 0 94 (dk_at dksX1_lineRound_0 2 rfl rfl)
theorem dX1_lineRound_5 : decode cX1_lineRound 5 = .ok (.pop, 1) := dk_87 (dk_at dksX1_lineRound_0 5 rfl rfl)
theorem dX1_lineRound_6 : decode cX1_lineRound 6 = .ok (.aload_n 0, 1) := dk_42 (dk_at dksX1_lineRound_0 6 rfl rfl)
theorem dX1_lineRound_7 : decode cX1_lineRound 7 = .ok (.getfield 35, 3) := dk_180 0 35 (dk_at dksX1_lineRound_0 7 rfl rfl)
theorem dX1_lineRound_10 : decode cX1_lineRound 10 = .ok (.iload_n 1, 1) := dk_27 (dk_at dksX1_lineRound_0 10 rfl rfl)
theorem dX1_lineRound_11 : decode cX1_lineRound 11 = .ok (.invokevirtual 218, 3) := dk_182 0 218 (dk_at dksX1_lineRound_0 11 rfl rfl)
theorem dX1_lineRound_14 : decode cX1_lineRound 14 = .ok (.ireturn, 1) := dk_172 (dk_at dksX1_lineRound_0 14 rfl rfl)
abbrev cX1_isSteady : ByteArray := prog_1_method_50_code
def yX1_isSteady : MethodName := ⟨RX1, "isSteady", "(I)Z"⟩
def dkwX1_isSteady_0 : List UInt8 := [42, 27, 182, 0, 94, 87, 42, 180, 0, 35, 27, 182, 0, 221, 172]
abbrev dktX1_isSteady_0 : List UInt8 := dkwX1_isSteady_0 ++ []
theorem dksX1_isSteady_0 : cX1_isSteady.data.toList.drop 0 = dktX1_isSteady_0 := by decide +kernel
theorem dX1_isSteady_0 : decode cX1_isSteady 0 = .ok (.aload_n 0, 1) := dk_42 (dk_at dksX1_isSteady_0 0 rfl rfl)
theorem dX1_isSteady_1 : decode cX1_isSteady 1 = .ok (.iload_n 1, 1) := dk_27 (dk_at dksX1_isSteady_0 1 rfl rfl)
theorem dX1_isSteady_2 : decode cX1_isSteady 2 = .ok (.invokevirtual 94, 3) := dk_182 0 94 (dk_at dksX1_isSteady_0 2 rfl rfl)
theorem dX1_isSteady_5 : decode cX1_isSteady 5 = .ok (.pop, 1) := dk_87 (dk_at dksX1_isSteady_0 5 rfl rfl)
theorem dX1_isSteady_6 : decode cX1_isSteady 6 = .ok (.aload_n 0, 1) := dk_42 (dk_at dksX1_isSteady_0 6 rfl rfl)
theorem dX1_isSteady_7 : decode cX1_isSteady 7 = .ok (.getfield 35, 3) := dk_180 0 35 (dk_at dksX1_isSteady_0 7 rfl rfl)
theorem dX1_isSteady_10 : decode cX1_isSteady 10 = .ok (.iload_n 1, 1) := dk_27 (dk_at dksX1_isSteady_0 10 rfl rfl)
theorem dX1_isSteady_11 : decode cX1_isSteady 11 = .ok (.invokevirtual 221, 3) := dk_182 0 221 (dk_at dksX1_isSteady_0 11 rfl rfl)
theorem dX1_isSteady_14 : decode cX1_isSteady 14 = .ok (.ireturn, 1) := dk_172 (dk_at dksX1_isSteady_0 14 rfl rfl)
abbrev cX1_lineByLevel : ByteArray := prog_1_method_51_code
def yX1_lineByLevel : MethodName := ⟨RX1, "lineByLevel", "(I)I"⟩
def dkwX1_lineByLevel_1 : List UInt8 := [172]
abbrev dktX1_lineByLevel_1 : List UInt8 := dkwX1_lineByLevel_1 ++ []
def dkwX1_lineByLevel_0 : List UInt8 := [27, 42, 180, 0, 35, 180, 0, 81, 185, 0, 85, 1, 0, 184, 0, 77, 42, 180, 0, 35, 27, 182, 0, 224]
abbrev dktX1_lineByLevel_0 : List UInt8 := dkwX1_lineByLevel_0 ++ dktX1_lineByLevel_1
theorem dksX1_lineByLevel_0 : cX1_lineByLevel.data.toList.drop 0 = dktX1_lineByLevel_0 := by decide +kernel
theorem dksX1_lineByLevel_1 : cX1_lineByLevel.data.toList.drop 24 = dktX1_lineByLevel_1 := dk_seg dksX1_lineByLevel_0 24 rfl rfl
theorem dX1_lineByLevel_0 : decode cX1_lineByLevel 0 = .ok (.iload_n 1, 1) := dk_27 (dk_at dksX1_lineByLevel_0 0 rfl rfl)
theorem dX1_lineByLevel_1 : decode cX1_lineByLevel 1 = .ok (.aload_n 0, 1) := dk_42 (dk_at dksX1_lineByLevel_0 1 rfl rfl)
theorem dX1_lineByLevel_2 : decode cX1_lineByLevel 2 = .ok (.getfield 35, 3) := dk_180 0 35 (dk_at dksX1_lineByLevel_0 2 rfl rfl)
theorem dX1_lineByLevel_5 : decode cX1_lineByLevel 5 = .ok (.getfield 81, 3) := dk_180 0 81 (dk_at dksX1_lineByLevel_0 5 rfl rfl)
theorem dX1_lineByLevel_8 : decode cX1_lineByLevel 8 = .ok (.invokeinterface 85 1, 5) := by decide +kernel
theorem dX1_lineByLevel_13 : decode cX1_lineByLevel 13 = .ok (.invokestatic 77, 3) := dk_184 0 77 (dk_at dksX1_lineByLevel_0 13 rfl rfl)
theorem dX1_lineByLevel_16 : decode cX1_lineByLevel 16 = .ok (.aload_n 0, 1) := dk_42 (dk_at dksX1_lineByLevel_0 16 rfl rfl)
theorem dX1_lineByLevel_17 : decode cX1_lineByLevel 17 = .ok (.getfield 35, 3) := dk_180 0 35 (dk_at dksX1_lineByLevel_0 17 rfl rfl)
theorem dX1_lineByLevel_20 : decode cX1_lineByLevel 20 = .ok (.iload_n 1, 1) := dk_27 (dk_at dksX1_lineByLevel_0 20 rfl rfl)
theorem dX1_lineByLevel_21 : decode cX1_lineByLevel 21 = .ok (.invokevirtual 224, 3) := dk_182 0 224 (dk_at dksX1_lineByLevel_0 21 rfl rfl)
theorem dX1_lineByLevel_24 : decode cX1_lineByLevel 24 = .ok (.ireturn, 1) := dk_172 (dk_at dksX1_lineByLevel_1 0 rfl rfl)
abbrev cX1_append : ByteArray := prog_1_method_52_code
def yX1_append : MethodName := ⟨RX1, "append", "(I)I"⟩
def dkwX1_append_1 : List UInt8 := [3, 184, 0, 113, 42, 180, 0, 49, 27, 146, 182, 0, 230, 87, 42, 180, 0, 49, 182, 0, 227, 172]
abbrev dktX1_append_1 : List UInt8 := dkwX1_append_1 ++ []
def dkwX1_append_0 : List UInt8 := [27, 16, 32, 16, 126, 184, 0, 106, 42, 180, 0, 49, 182, 0, 227, 16, 60, 162, 0, 7, 4, 167, 0, 4]
abbrev dktX1_append_0 : List UInt8 := dkwX1_append_0 ++ dktX1_append_1
theorem dksX1_append_0 : cX1_append.data.toList.drop 0 = dktX1_append_0 := by decide +kernel
theorem dksX1_append_1 : cX1_append.data.toList.drop 24 = dktX1_append_1 := dk_seg dksX1_append_0 24 rfl rfl
theorem dX1_append_0 : decode cX1_append 0 = .ok (.iload_n 1, 1) := dk_27 (dk_at dksX1_append_0 0 rfl rfl)
theorem dX1_append_1 : decode cX1_append 1 = .ok (.bipush 32, 2) := dk_16 32 (dk_at dksX1_append_0 1 rfl rfl)
theorem dX1_append_3 : decode cX1_append 3 = .ok (.bipush 126, 2) := dk_16 126 (dk_at dksX1_append_0 3 rfl rfl)
theorem dX1_append_5 : decode cX1_append 5 = .ok (.invokestatic 106, 3) := dk_184 0 106 (dk_at dksX1_append_0 5 rfl rfl)
theorem dX1_append_8 : decode cX1_append 8 = .ok (.aload_n 0, 1) := dk_42 (dk_at dksX1_append_0 8 rfl rfl)
theorem dX1_append_9 : decode cX1_append 9 = .ok (.getfield 49, 3) := dk_180 0 49 (dk_at dksX1_append_0 9 rfl rfl)
theorem dX1_append_12 : decode cX1_append 12 = .ok (.invokevirtual 227, 3) := dk_182 0 227 (dk_at dksX1_append_0 12 rfl rfl)
theorem dX1_append_15 : decode cX1_append 15 = .ok (.bipush 60, 2) := dk_16 60 (dk_at dksX1_append_0 15 rfl rfl)
theorem dX1_append_17 : decode cX1_append 17 = .ok (.if_icmp .ge 7, 3) := dk_162 0 7 (dk_at dksX1_append_0 17 rfl rfl)
theorem dX1_append_20 : decode cX1_append 20 = .ok (.iconst 1, 1) := dk_4 (dk_at dksX1_append_0 20 rfl rfl)
theorem dX1_append_21 : decode cX1_append 21 = .ok (.goto 4, 3) := dk_167 0 4 (dk_at dksX1_append_0 21 rfl rfl)
theorem dX1_append_24 : decode cX1_append 24 = .ok (.iconst 0, 1) := dk_3 (dk_at dksX1_append_1 0 rfl rfl)
theorem dX1_append_25 : decode cX1_append 25 = .ok (.invokestatic 113, 3) := dk_184 0 113 (dk_at dksX1_append_1 1 rfl rfl)
theorem dX1_append_28 : decode cX1_append 28 = .ok (.aload_n 0, 1) := dk_42 (dk_at dksX1_append_1 4 rfl rfl)
theorem dX1_append_29 : decode cX1_append 29 = .ok (.getfield 49, 3) := dk_180 0 49 (dk_at dksX1_append_1 5 rfl rfl)
theorem dX1_append_32 : decode cX1_append 32 = .ok (.iload_n 1, 1) := dk_27 (dk_at dksX1_append_1 8 rfl rfl)
theorem dX1_append_33 : decode cX1_append 33 = .ok (.i2c, 1) := dk_146 (dk_at dksX1_append_1 9 rfl rfl)
theorem dX1_append_34 : decode cX1_append 34 = .ok (.invokevirtual 230, 3) := dk_182 0 230 (dk_at dksX1_append_1 10 rfl rfl)
theorem dX1_append_37 : decode cX1_append 37 = .ok (.pop, 1) := dk_87 (dk_at dksX1_append_1 13 rfl rfl)
theorem dX1_append_38 : decode cX1_append 38 = .ok (.aload_n 0, 1) := dk_42 (dk_at dksX1_append_1 14 rfl rfl)
theorem dX1_append_39 : decode cX1_append 39 = .ok (.getfield 49, 3) := dk_180 0 49 (dk_at dksX1_append_1 15 rfl rfl)
theorem dX1_append_42 : decode cX1_append 42 = .ok (.invokevirtual 227, 3) := dk_182 0 227 (dk_at dksX1_append_1 18 rfl rfl)
theorem dX1_append_45 : decode cX1_append 45 = .ok (.ireturn, 1) := dk_172 (dk_at dksX1_append_1 21 rfl rfl)
abbrev cX1_runText : ByteArray := prog_1_method_55_code
def yX1_runText : MethodName := ⟨RX1, "runText", "()I"⟩
def dkwX1_runText_1 : List UInt8 := [42, 182, 0, 117, 43, 42, 180, 0, 35, 182, 0, 248, 172]
abbrev dktX1_runText_1 : List UInt8 := dkwX1_runText_1 ++ []
def dkwX1_runText_0 : List UInt8 := [187, 0, 237, 89, 42, 183, 0, 239, 76, 43, 182, 0, 242, 154, 0, 11, 187, 0, 71, 89, 183, 0, 73, 191]
abbrev dktX1_runText_0 : List UInt8 := dkwX1_runText_0 ++ dktX1_runText_1
theorem dksX1_runText_0 : cX1_runText.data.toList.drop 0 = dktX1_runText_0 := by decide +kernel
theorem dksX1_runText_1 : cX1_runText.data.toList.drop 24 = dktX1_runText_1 := dk_seg dksX1_runText_0 24 rfl rfl
theorem dX1_runText_0 : decode cX1_runText 0 = .ok (.new 237, 3) := dk_187 0 237 (dk_at dksX1_runText_0 0 rfl rfl)
theorem dX1_runText_3 : decode cX1_runText 3 = .ok (.dup, 1) := dk_89 (dk_at dksX1_runText_0 3 rfl rfl)
theorem dX1_runText_4 : decode cX1_runText 4 = .ok (.aload_n 0, 1) := dk_42 (dk_at dksX1_runText_0 4 rfl rfl)
theorem dX1_runText_5 : decode cX1_runText 5 = .ok (.invokespecial 239, 3) := dk_183 0 239 (dk_at dksX1_runText_0 5 rfl rfl)
theorem dX1_runText_8 : decode cX1_runText 8 = .ok (.astore_n 1, 1) := dk_76 (dk_at dksX1_runText_0 8 rfl rfl)
theorem dX1_runText_9 : decode cX1_runText 9 = .ok (.aload_n 1, 1) := dk_43 (dk_at dksX1_runText_0 9 rfl rfl)
theorem dX1_runText_10 : decode cX1_runText 10 = .ok (.invokevirtual 242, 3) := dk_182 0 242 (dk_at dksX1_runText_0 10 rfl rfl)
theorem dX1_runText_13 : decode cX1_runText 13 = .ok (.ifCond .ne 11, 3) := dk_154 0 11 (dk_at dksX1_runText_0 13 rfl rfl)
theorem dX1_runText_16 : decode cX1_runText 16 = .ok (.new 71, 3) := dk_187 0 71 (dk_at dksX1_runText_0 16 rfl rfl)
theorem dX1_runText_19 : decode cX1_runText 19 = .ok (.dup, 1) := dk_89 (dk_at dksX1_runText_0 19 rfl rfl)
theorem dX1_runText_20 : decode cX1_runText 20 = .ok (.invokespecial 73, 3) := dk_183 0 73 (dk_at dksX1_runText_0 20 rfl rfl)
theorem dX1_runText_23 : decode cX1_runText 23 = .ok (.athrow, 1) := dk_191 (dk_at dksX1_runText_0 23 rfl rfl)
theorem dX1_runText_24 : decode cX1_runText 24 = .ok (.aload_n 0, 1) := dk_42 (dk_at dksX1_runText_1 0 rfl rfl)
theorem dX1_runText_25 : decode cX1_runText 25 = .ok (.invokevirtual 117, 3) := dk_182 0 117 (dk_at dksX1_runText_1 1 rfl rfl)
theorem dX1_runText_28 : decode cX1_runText 28 = .ok (.aload_n 1, 1) := dk_43 (dk_at dksX1_runText_1 4 rfl rfl)
theorem dX1_runText_29 : decode cX1_runText 29 = .ok (.aload_n 0, 1) := dk_42 (dk_at dksX1_runText_1 5 rfl rfl)
theorem dX1_runText_30 : decode cX1_runText 30 = .ok (.getfield 35, 3) := dk_180 0 35 (dk_at dksX1_runText_1 6 rfl rfl)
theorem dX1_runText_33 : decode cX1_runText 33 = .ok (.invokevirtual 248, 3) := dk_182 0 248 (dk_at dksX1_runText_1 9 rfl rfl)
theorem dX1_runText_36 : decode cX1_runText 36 = .ok (.ireturn, 1) := dk_172 (dk_at dksX1_runText_1 12 rfl rfl)
abbrev cX1_undo : ByteArray := prog_1_method_56_code
def yX1_undo : MethodName := ⟨RX1, "undo", "()I"⟩
def dkwX1_undo_1 : List UInt8 := [182, 0, 255, 192, 0, 32, 181, 0, 35, 42, 180, 0, 42, 182, 0, 53, 172]
abbrev dktX1_undo_1 : List UInt8 := dkwX1_undo_1 ++ []
def dkwX1_undo_0 : List UInt8 := [42, 180, 0, 42, 182, 0, 252, 154, 0, 7, 4, 167, 0, 4, 3, 184, 0, 113, 42, 42, 180, 0, 42]
abbrev dktX1_undo_0 : List UInt8 := dkwX1_undo_0 ++ dktX1_undo_1
theorem dksX1_undo_0 : cX1_undo.data.toList.drop 0 = dktX1_undo_0 := by decide +kernel
theorem dksX1_undo_1 : cX1_undo.data.toList.drop 23 = dktX1_undo_1 := dk_seg dksX1_undo_0 23 rfl rfl
theorem dX1_undo_0 : decode cX1_undo 0 = .ok (.aload_n 0, 1) := dk_42 (dk_at dksX1_undo_0 0 rfl rfl)
theorem dX1_undo_1 : decode cX1_undo 1 = .ok (.getfield 42, 3) := dk_180 0 42 (dk_at dksX1_undo_0 1 rfl rfl)
theorem dX1_undo_4 : decode cX1_undo 4 = .ok (.invokevirtual 252, 3) := dk_182 0 252 (dk_at dksX1_undo_0 4 rfl rfl)
theorem dX1_undo_7 : decode cX1_undo 7 = .ok (.ifCond .ne 7, 3) := dk_154 0 7 (dk_at dksX1_undo_0 7 rfl rfl)
theorem dX1_undo_10 : decode cX1_undo 10 = .ok (.iconst 1, 1) := dk_4 (dk_at dksX1_undo_0 10 rfl rfl)
theorem dX1_undo_11 : decode cX1_undo 11 = .ok (.goto 4, 3) := dk_167 0 4 (dk_at dksX1_undo_0 11 rfl rfl)
theorem dX1_undo_14 : decode cX1_undo 14 = .ok (.iconst 0, 1) := dk_3 (dk_at dksX1_undo_0 14 rfl rfl)
theorem dX1_undo_15 : decode cX1_undo 15 = .ok (.invokestatic 113, 3) := dk_184 0 113 (dk_at dksX1_undo_0 15 rfl rfl)
theorem dX1_undo_18 : decode cX1_undo 18 = .ok (.aload_n 0, 1) := dk_42 (dk_at dksX1_undo_0 18 rfl rfl)
theorem dX1_undo_19 : decode cX1_undo 19 = .ok (.aload_n 0, 1) := dk_42 (dk_at dksX1_undo_0 19 rfl rfl)
theorem dX1_undo_20 : decode cX1_undo 20 = .ok (.getfield 42, 3) := dk_180 0 42 (dk_at dksX1_undo_0 20 rfl rfl)
theorem dX1_undo_23 : decode cX1_undo 23 = .ok (.invokevirtual 255, 3) := dk_182 0 255 (dk_at dksX1_undo_1 0 rfl rfl)
theorem dX1_undo_26 : decode cX1_undo 26 = .ok (.checkcast 32, 3) := dk_192 0 32 (dk_at dksX1_undo_1 3 rfl rfl)
theorem dX1_undo_29 : decode cX1_undo 29 = .ok (.putfield 35, 3) := dk_181 0 35 (dk_at dksX1_undo_1 6 rfl rfl)
theorem dX1_undo_32 : decode cX1_undo 32 = .ok (.aload_n 0, 1) := dk_42 (dk_at dksX1_undo_1 9 rfl rfl)
theorem dX1_undo_33 : decode cX1_undo 33 = .ok (.getfield 42, 3) := dk_180 0 42 (dk_at dksX1_undo_1 10 rfl rfl)
theorem dX1_undo_36 : decode cX1_undo 36 = .ok (.invokevirtual 53, 3) := dk_182 0 53 (dk_at dksX1_undo_1 13 rfl rfl)
theorem dX1_undo_39 : decode cX1_undo 39 = .ok (.ireturn, 1) := dk_172 (dk_at dksX1_undo_1 16 rfl rfl)
abbrev cX1_restoreSnapshot : ByteArray := prog_1_method_59_code
def yX1_restoreSnapshot : MethodName := ⟨RX1, "restoreSnapshot", "()I"⟩
def dkwX1_restoreSnapshot_1 : List UInt8 := [182, 0, 60, 181, 0, 35, 42, 180, 0, 35, 180, 0, 81, 185, 0, 85, 1, 0, 172]
abbrev dktX1_restoreSnapshot_1 : List UInt8 := dkwX1_restoreSnapshot_1 ++ []
def dkwX1_restoreSnapshot_0 : List UInt8 := [42, 180, 1, 2, 198, 0, 7, 4, 167, 0, 4, 3, 184, 0, 113, 42, 182, 0, 117, 42, 42, 180, 1, 2]
abbrev dktX1_restoreSnapshot_0 : List UInt8 := dkwX1_restoreSnapshot_0 ++ dktX1_restoreSnapshot_1
theorem dksX1_restoreSnapshot_0 : cX1_restoreSnapshot.data.toList.drop 0 = dktX1_restoreSnapshot_0 := by decide +kernel
theorem dksX1_restoreSnapshot_1 : cX1_restoreSnapshot.data.toList.drop 24 = dktX1_restoreSnapshot_1 := dk_seg dksX1_restoreSnapshot_0 24 rfl rfl
theorem dX1_restoreSnapshot_0 : decode cX1_restoreSnapshot 0 = .ok (.aload_n 0, 1) := dk_42 (dk_at dksX1_restoreSnapshot_0 0 rfl rfl)
theorem dX1_restoreSnapshot_1 : decode cX1_restoreSnapshot 1 = .ok (.getfield 258, 3) := dk_180 1 2 (dk_at dksX1_restoreSnapshot_0 1 rfl rfl)
theorem dX1_restoreSnapshot_4 : decode cX1_restoreSnapshot 4 = .ok (.ifnull 7, 3) := dk_198 0 7 (dk_at dksX1_restoreSnapshot_0 4 rfl rfl)
theorem dX1_restoreSnapshot_7 : decode cX1_restoreSnapshot 7 = .ok (.iconst 1, 1) := dk_4 (dk_at dksX1_restoreSnapshot_0 7 rfl rfl)
theorem dX1_restoreSnapshot_8 : decode cX1_restoreSnapshot 8 = .ok (.goto 4, 3) := dk_167 0 4 (dk_at dksX1_restoreSnapshot_0 8 rfl rfl)
theorem dX1_restoreSnapshot_11 : decode cX1_restoreSnapshot 11 = .ok (.iconst 0, 1) := dk_3 (dk_at dksX1_restoreSnapshot_0 11 rfl rfl)
theorem dX1_restoreSnapshot_12 : decode cX1_restoreSnapshot 12 = .ok (.invokestatic 113, 3) := dk_184 0 113 (dk_at dksX1_restoreSnapshot_0 12 rfl rfl)
theorem dX1_restoreSnapshot_15 : decode cX1_restoreSnapshot 15 = .ok (.aload_n 0, 1) := dk_42 (dk_at dksX1_restoreSnapshot_0 15 rfl rfl)
theorem dX1_restoreSnapshot_16 : decode cX1_restoreSnapshot 16 = .ok (.invokevirtual 117, 3) := dk_182 0 117 (dk_at dksX1_restoreSnapshot_0 16 rfl rfl)
theorem dX1_restoreSnapshot_19 : decode cX1_restoreSnapshot 19 = .ok (.aload_n 0, 1) := dk_42 (dk_at dksX1_restoreSnapshot_0 19 rfl rfl)
theorem dX1_restoreSnapshot_20 : decode cX1_restoreSnapshot 20 = .ok (.aload_n 0, 1) := dk_42 (dk_at dksX1_restoreSnapshot_0 20 rfl rfl)
theorem dX1_restoreSnapshot_21 : decode cX1_restoreSnapshot 21 = .ok (.getfield 258, 3) := dk_180 1 2 (dk_at dksX1_restoreSnapshot_0 21 rfl rfl)
theorem dX1_restoreSnapshot_24 : decode cX1_restoreSnapshot 24 = .ok (.invokevirtual 60, 3) := dk_182 0 60 (dk_at dksX1_restoreSnapshot_1 0 rfl rfl)
theorem dX1_restoreSnapshot_27 : decode cX1_restoreSnapshot 27 = .ok (.putfield 35, 3) := dk_181 0 35 (dk_at dksX1_restoreSnapshot_1 3 rfl rfl)
theorem dX1_restoreSnapshot_30 : decode cX1_restoreSnapshot 30 = .ok (.aload_n 0, 1) := dk_42 (dk_at dksX1_restoreSnapshot_1 6 rfl rfl)
theorem dX1_restoreSnapshot_31 : decode cX1_restoreSnapshot 31 = .ok (.getfield 35, 3) := dk_180 0 35 (dk_at dksX1_restoreSnapshot_1 7 rfl rfl)
theorem dX1_restoreSnapshot_34 : decode cX1_restoreSnapshot 34 = .ok (.getfield 81, 3) := dk_180 0 81 (dk_at dksX1_restoreSnapshot_1 10 rfl rfl)
theorem dX1_restoreSnapshot_37 : decode cX1_restoreSnapshot 37 = .ok (.invokeinterface 85 1, 5) := by decide +kernel
theorem dX1_restoreSnapshot_42 : decode cX1_restoreSnapshot 42 = .ok (.ireturn, 1) := dk_172 (dk_at dksX1_restoreSnapshot_1 18 rfl rfl)
theorem q79 : (Jvm.Cond.initialized "ContourLabels") ∈ lw_all := lw_g (lw_at lw_m1 1 rfl) rfl
theorem q128 : (Jvm.Cond.instantiable "ContourLabels" (4 : Nat)) ∈ lw_all := lw_g (lw_at lw_m1 50 rfl) rfl
theorem q130 : (Jvm.Cond.instanceMethod ({ cls := "ContourLabels", name := "<init>", desc := "()V" } : Jvm.MethodName)) ∈ lw_all := lw_g (lw_at lw_m1 52 rfl) rfl
theorem q131 : (Jvm.Cond.code ({ cls := "ContourLabels", name := "<init>", desc := "()V" } : Jvm.MethodName) prog_1_method_8_code (1 : Nat) (Option.none : Option Jvm.ClassFile.FieldType)) ∈ lw_all := lw_g (lw_at lw_m1 53 rfl) rfl
theorem q132 : (Jvm.Cond.methodLink "ContourLabels" (26 : Nat) ({ cls := "java/lang/Object", name := "<init>", desc := "()V" } : Jvm.MethodName)) ∈ lw_all := lw_g (lw_at lw_m1 54 rfl) rfl
theorem q135 : (Jvm.Cond.classLink "ContourLabels" (32 : Nat) "ContourLabels$State") ∈ lw_all := lw_g (lw_at lw_m1 57 rfl) rfl
theorem q137 : (Jvm.Cond.methodLinkNest "ContourLabels" (34 : Nat) ({ cls := "ContourLabels$State", name := "<init>", desc := "()V" } : Jvm.MethodName) "ContourLabels") ∈ lw_tbl := lw_at lw_m1 59 rfl
theorem q168 : (Jvm.Cond.fieldLink "ContourLabels" (81 : Nat) "ContourLabels$State" "lines" "Ljava/util/List;") ∈ lw_all := lw_g (lw_at lw_m1 90 rfl) rfl
theorem q172 : (Jvm.Cond.fieldLink "ContourLabels" (164 : Nat) "ContourLabels$State" "gap" "I") ∈ lw_all := lw_g (lw_at lw_m1 94 rfl) rfl
theorem q178 : (Jvm.Cond.classLink "ContourLabels" (39 : Nat) "java/util/ArrayDeque") ∈ lw_all := lw_g (lw_at lw_m1 100 rfl) rfl
theorem q180 : (Jvm.Cond.methodLink "ContourLabels" (41 : Nat) ({ cls := "java/util/ArrayDeque", name := "<init>", desc := "()V" } : Jvm.MethodName)) ∈ lw_all := lw_g (lw_at lw_m1 102 rfl) rfl
theorem q196 : (Jvm.Cond.classLink "ContourLabels" (46 : Nat) "java/lang/StringBuilder") ∈ lw_all := lw_g (lw_at lw_m1 118 rfl) rfl
theorem q198 : (Jvm.Cond.methodLink "ContourLabels" (48 : Nat) ({ cls := "java/lang/StringBuilder", name := "<init>", desc := "()V" } : Jvm.MethodName)) ∈ lw_all := lw_g (lw_at lw_m1 120 rfl) rfl
theorem q229 : (Jvm.Cond.fieldLink "ContourLabels" (35 : Nat) "ContourLabels" "state" "LContourLabels$State;") ∈ lw_all := lw_g (lw_at lw_m1 151 rfl) rfl
theorem q230 : (Jvm.Cond.fieldLink "ContourLabels" (258 : Nat) "ContourLabels" "snapshot" "LContourLabels$State;") ∈ lw_all := lw_g (lw_at lw_m1 152 rfl) rfl
theorem q231 : (Jvm.Cond.fieldLink "ContourLabels" (42 : Nat) "ContourLabels" "history" "Ljava/util/ArrayDeque;") ∈ lw_all := lw_g (lw_at lw_m1 153 rfl) rfl
theorem q233 : (Jvm.Cond.fieldLink "ContourLabels" (49 : Nat) "ContourLabels" "buffer" "Ljava/lang/StringBuilder;") ∈ lw_all := lw_g (lw_at lw_m1 155 rfl) rfl
theorem q234 : (Jvm.Cond.lays "ContourLabels" "ContourLabels" "state" "LContourLabels$State;") ∈ lw_all := lw_g (lw_at lw_m1 156 rfl) rfl
theorem q235 : (Jvm.Cond.soleField "ContourLabels" "state") ∈ lw_all := lw_g (lw_at lw_m1 157 rfl) rfl
theorem q236 : (Jvm.Cond.lays "ContourLabels" "ContourLabels" "snapshot" "LContourLabels$State;") ∈ lw_all := lw_g (lw_at lw_m1 158 rfl) rfl
theorem q237 : (Jvm.Cond.soleField "ContourLabels" "snapshot") ∈ lw_all := lw_g (lw_at lw_m1 159 rfl) rfl
theorem q238 : (Jvm.Cond.laysFinal "ContourLabels" "ContourLabels" "history" "Ljava/util/ArrayDeque;") ∈ lw_all := lw_g (lw_at lw_m1 160 rfl) rfl
theorem q239 : (Jvm.Cond.soleField "ContourLabels" "history") ∈ lw_all := lw_g (lw_at lw_m1 161 rfl) rfl
theorem q240 : (Jvm.Cond.laysFinal "ContourLabels" "ContourLabels" "buffer" "Ljava/lang/StringBuilder;") ∈ lw_all := lw_g (lw_at lw_m1 162 rfl) rfl
theorem q241 : (Jvm.Cond.soleField "ContourLabels" "buffer") ∈ lw_all := lw_g (lw_at lw_m1 163 rfl) rfl
theorem q242 : (Jvm.Cond.superclass "ContourLabels" "java/lang/Object") ∈ lw_all := lw_g (lw_at lw_m1 164 rfl) rfl
theorem q244 : (Jvm.Cond.instanceMethod ({ cls := "ContourLabels", name := "labelAll", desc := "()I" } : Jvm.MethodName)) ∈ lw_all := lw_g (lw_at lw_m1 166 rfl) rfl
theorem q245 : (Jvm.Cond.selects "ContourLabels" ({ cls := "ContourLabels", name := "labelAll", desc := "()I" } : Jvm.MethodName) ({ cls := "ContourLabels", name := "labelAll", desc := "()I" } : Jvm.MethodName)) ∈ lw_all := lw_g (lw_at lw_m1 167 rfl) rfl
theorem q246 : (Jvm.Cond.code ({ cls := "ContourLabels", name := "labelAll", desc := "()I" } : Jvm.MethodName) prog_1_method_23_code (1 : Nat) (Option.some Jvm.ClassFile.FieldType.int)) ∈ lw_all := lw_g (lw_at lw_m1 168 rfl) rfl
theorem q247 : (Jvm.Cond.methodLink "ContourLabels" (117 : Nat) ({ cls := "ContourLabels", name := "save", desc := "()V" } : Jvm.MethodName)) ∈ lw_all := lw_g (lw_at lw_m1 169 rfl) rfl
theorem q248 : (Jvm.Cond.privateMethod ({ cls := "ContourLabels", name := "save", desc := "()V" } : Jvm.MethodName)) ∈ lw_tbl := lw_at lw_m1 170 rfl
theorem q249 : (Jvm.Cond.instanceMethod ({ cls := "ContourLabels", name := "save", desc := "()V" } : Jvm.MethodName)) ∈ lw_all := lw_g (lw_at lw_m1 171 rfl) rfl
theorem q250 : (Jvm.Cond.code ({ cls := "ContourLabels", name := "save", desc := "()V" } : Jvm.MethodName) prog_1_method_9_code (1 : Nat) (Option.none : Option Jvm.ClassFile.FieldType)) ∈ lw_all := lw_g (lw_at lw_m1 172 rfl) rfl
theorem q251 : (Jvm.Cond.methodLink "ContourLabels" (53 : Nat) ({ cls := "java/util/ArrayDeque", name := "size", desc := "()I" } : Jvm.MethodName)) ∈ lw_all := lw_g (lw_at lw_m1 173 rfl) rfl
theorem q258 : (Jvm.Cond.methodLink "ContourLabels" (56 : Nat) ({ cls := "java/util/ArrayDeque", name := "removeFirst", desc := "()Ljava/lang/Object;" } : Jvm.MethodName)) ∈ lw_all := lw_g (lw_at lw_m1 180 rfl) rfl
theorem q272 : (Jvm.Cond.methodLink "ContourLabels" (60 : Nat) ({ cls := "ContourLabels$State", name := "copy", desc := "()LContourLabels$State;" } : Jvm.MethodName)) ∈ lw_all := lw_g (lw_at lw_m1 194 rfl) rfl
theorem q335 : (Jvm.Cond.fieldLink "ContourLabels" (138 : Nat) "ContourLabels$Line" "level" "I") ∈ lw_all := lw_g (lw_at lw_m2 17 rfl) rfl
theorem q338 : (Jvm.Cond.fieldLinkNest "ContourLabels" (171 : Nat) "ContourLabels$Line" "points" "[I" "ContourLabels") ∈ lw_tbl := lw_at lw_m2 20 rfl
theorem q346 : (Jvm.Cond.fieldLinkNest "ContourLabels" (98 : Nat) "ContourLabels$Line" "many" "I" "ContourLabels") ∈ lw_tbl := lw_at lw_m2 28 rfl
theorem q350 : (Jvm.Cond.fieldLink "ContourLabels" (141 : Nat) "ContourLabels$Line" "label" "I") ∈ lw_all := lw_g (lw_at lw_m2 32 rfl) rfl
theorem q401 : (Jvm.Cond.selects "ContourLabels" ({ cls := "java/lang/Object", name := "getClass", desc := "()Ljava/lang/Class;" } : Jvm.MethodName) ({ cls := "java/lang/Object", name := "getClass", desc := "()Ljava/lang/Class;" } : Jvm.MethodName)) ∈ lw_all := lw_g (lw_at lw_m2 83 rfl) rfl
theorem q440 : (Jvm.Cond.methodLink "ContourLabels" (64 : Nat) ({ cls := "java/util/ArrayDeque", name := "addLast", desc := "(Ljava/lang/Object;)V" } : Jvm.MethodName)) ∈ lw_all := lw_g (lw_at lw_m2 122 rfl) rfl
theorem q525 : (Jvm.Cond.methodLink "ContourLabels" (161 : Nat) ({ cls := "ContourLabels$State", name := "labelAll", desc := "()I" } : Jvm.MethodName)) ∈ lw_all := lw_g (lw_at lw_m2 207 rfl) rfl
theorem q1143 : (Jvm.Cond.static ({ cls := "ContourLabels", name := "row", desc := "(I)I" } : Jvm.MethodName)) ∈ lw_all := lw_g (lw_at lw_m5 105 rfl) rfl
theorem q1144 : (Jvm.Cond.code ({ cls := "ContourLabels", name := "row", desc := "(I)I" } : Jvm.MethodName) prog_1_method_3_code (1 : Nat) (Option.some Jvm.ClassFile.FieldType.int)) ∈ lw_all := lw_g (lw_at lw_m5 106 rfl) rfl
theorem q1146 : (Jvm.Cond.static ({ cls := "ContourLabels", name := "size", desc := "(I)I" } : Jvm.MethodName)) ∈ lw_all := lw_g (lw_at lw_m5 108 rfl) rfl
theorem q1147 : (Jvm.Cond.code ({ cls := "ContourLabels", name := "size", desc := "(I)I" } : Jvm.MethodName) prog_1_method_1_code (1 : Nat) (Option.some Jvm.ClassFile.FieldType.int)) ∈ lw_all := lw_g (lw_at lw_m5 109 rfl) rfl
theorem q1153 : (Jvm.Cond.static ({ cls := "ContourLabels", name := "column", desc := "(I)I" } : Jvm.MethodName)) ∈ lw_all := lw_g (lw_at lw_m5 115 rfl) rfl
theorem q1154 : (Jvm.Cond.code ({ cls := "ContourLabels", name := "column", desc := "(I)I" } : Jvm.MethodName) prog_1_method_2_code (1 : Nat) (Option.some Jvm.ClassFile.FieldType.int)) ∈ lw_all := lw_g (lw_at lw_m5 116 rfl) rfl
theorem q1167 : (Jvm.Cond.static ({ cls := "ContourLabels", name := "far", desc := "(II)I" } : Jvm.MethodName)) ∈ lw_all := lw_g (lw_at lw_m5 129 rfl) rfl
theorem q1168 : (Jvm.Cond.code ({ cls := "ContourLabels", name := "far", desc := "(II)I" } : Jvm.MethodName) prog_1_method_6_code (4 : Nat) (Option.some Jvm.ClassFile.FieldType.int)) ∈ lw_all := lw_g (lw_at lw_m5 130 rfl) rfl
theorem q1169 : (Jvm.Cond.methodLink "ContourLabels" (3 : Nat) ({ cls := "ContourLabels", name := "column", desc := "(I)I" } : Jvm.MethodName)) ∈ lw_all := lw_g (lw_at lw_m5 131 rfl) rfl
theorem q1170 : (Jvm.Cond.methodLink "ContourLabels" (17 : Nat) ({ cls := "ContourLabels", name := "size", desc := "(I)I" } : Jvm.MethodName)) ∈ lw_all := lw_g (lw_at lw_m5 132 rfl) rfl
theorem q1171 : (Jvm.Cond.methodLink "ContourLabels" (11 : Nat) ({ cls := "ContourLabels", name := "row", desc := "(I)I" } : Jvm.MethodName)) ∈ lw_all := lw_g (lw_at lw_m5 133 rfl) rfl
theorem q1173 : (Jvm.Cond.static ({ cls := "ContourLabels", name := "first", desc := "([LContourLabels$Reason;)I" } : Jvm.MethodName)) ∈ lw_all := lw_g (lw_at lw_m5 135 rfl) rfl
theorem q1174 : (Jvm.Cond.code ({ cls := "ContourLabels", name := "first", desc := "([LContourLabels$Reason;)I" } : Jvm.MethodName) prog_1_method_7_code (2 : Nat) (Option.some Jvm.ClassFile.FieldType.int)) ∈ lw_all := lw_g (lw_at lw_m5 136 rfl) rfl
theorem q1175 : (Jvm.Cond.interfaceEntry "ContourLabels" (20 : Nat)) ∈ lw_tbl := lw_at lw_m5 137 rfl
theorem q1176 : (Jvm.Cond.methodLink "ContourLabels" (20 : Nat) ({ cls := "ContourLabels$Reason", name := "holds", desc := "()Z" } : Jvm.MethodName)) ∈ lw_all := lw_g (lw_at lw_m5 138 rfl) rfl
theorem q1263 : (Jvm.Cond.instanceMethod ({ cls := "ContourLabels", name := "lines", desc := "()I" } : Jvm.MethodName)) ∈ lw_all := lw_g (lw_at lw_m5 225 rfl) rfl
theorem q1264 : (Jvm.Cond.selects "ContourLabels" ({ cls := "ContourLabels", name := "lines", desc := "()I" } : Jvm.MethodName) ({ cls := "ContourLabels", name := "lines", desc := "()I" } : Jvm.MethodName)) ∈ lw_all := lw_g (lw_at lw_m5 226 rfl) rfl
theorem q1265 : (Jvm.Cond.code ({ cls := "ContourLabels", name := "lines", desc := "()I" } : Jvm.MethodName) prog_1_method_25_code (1 : Nat) (Option.some Jvm.ClassFile.FieldType.int)) ∈ lw_all := lw_g (lw_at lw_m5 227 rfl) rfl
theorem q1266 : (Jvm.Cond.interfaceEntry "ContourLabels" (85 : Nat)) ∈ lw_tbl := lw_at lw_m5 228 rfl
theorem q1267 : (Jvm.Cond.methodLink "ContourLabels" (85 : Nat) ({ cls := "java/util/List", name := "size", desc := "()I" } : Jvm.MethodName)) ∈ lw_all := lw_g (lw_at lw_m5 229 rfl) rfl
theorem q1269 : (Jvm.Cond.instanceMethod ({ cls := "ContourLabels", name := "gap", desc := "()I" } : Jvm.MethodName)) ∈ lw_all := lw_g (lw_at lw_m5 231 rfl) rfl
theorem q1270 : (Jvm.Cond.selects "ContourLabels" ({ cls := "ContourLabels", name := "gap", desc := "()I" } : Jvm.MethodName) ({ cls := "ContourLabels", name := "gap", desc := "()I" } : Jvm.MethodName)) ∈ lw_all := lw_g (lw_at lw_m5 232 rfl) rfl
theorem q1271 : (Jvm.Cond.code ({ cls := "ContourLabels", name := "gap", desc := "()I" } : Jvm.MethodName) prog_1_method_35_code (1 : Nat) (Option.some Jvm.ClassFile.FieldType.int)) ∈ lw_all := lw_g (lw_at lw_m5 233 rfl) rfl
theorem q1273 : (Jvm.Cond.instanceMethod ({ cls := "ContourLabels", name := "labels", desc := "()I" } : Jvm.MethodName)) ∈ lw_all := lw_g (lw_at lw_m5 235 rfl) rfl
theorem q1274 : (Jvm.Cond.selects "ContourLabels" ({ cls := "ContourLabels", name := "labels", desc := "()I" } : Jvm.MethodName) ({ cls := "ContourLabels", name := "labels", desc := "()I" } : Jvm.MethodName)) ∈ lw_all := lw_g (lw_at lw_m5 236 rfl) rfl
theorem q1275 : (Jvm.Cond.code ({ cls := "ContourLabels", name := "labels", desc := "()I" } : Jvm.MethodName) prog_1_method_36_code (1 : Nat) (Option.some Jvm.ClassFile.FieldType.int)) ∈ lw_all := lw_g (lw_at lw_m5 237 rfl) rfl
theorem q1276 : (Jvm.Cond.methodLink "ContourLabels" (187 : Nat) ({ cls := "ContourLabels$State", name := "labels", desc := "()I" } : Jvm.MethodName)) ∈ lw_all := lw_g (lw_at lw_m5 238 rfl) rfl
theorem q1281 : (Jvm.Cond.instanceMethod ({ cls := "ContourLabels", name := "tooNear", desc := "()I" } : Jvm.MethodName)) ∈ lw_all := lw_g (lw_at lw_m6 3 rfl) rfl
theorem q1282 : (Jvm.Cond.selects "ContourLabels" ({ cls := "ContourLabels", name := "tooNear", desc := "()I" } : Jvm.MethodName) ({ cls := "ContourLabels", name := "tooNear", desc := "()I" } : Jvm.MethodName)) ∈ lw_all := lw_g (lw_at lw_m6 4 rfl) rfl
theorem q1283 : (Jvm.Cond.code ({ cls := "ContourLabels", name := "tooNear", desc := "()I" } : Jvm.MethodName) prog_1_method_45_code (1 : Nat) (Option.some Jvm.ClassFile.FieldType.int)) ∈ lw_all := lw_g (lw_at lw_m6 5 rfl) rfl
theorem q1284 : (Jvm.Cond.methodLink "ContourLabels" (206 : Nat) ({ cls := "ContourLabels$State", name := "tooNear", desc := "()I" } : Jvm.MethodName)) ∈ lw_all := lw_g (lw_at lw_m6 6 rfl) rfl
theorem q1289 : (Jvm.Cond.instanceMethod ({ cls := "ContourLabels", name := "clearText", desc := "()I" } : Jvm.MethodName)) ∈ lw_all := lw_g (lw_at lw_m6 11 rfl) rfl
theorem q1290 : (Jvm.Cond.selects "ContourLabels" ({ cls := "ContourLabels", name := "clearText", desc := "()I" } : Jvm.MethodName) ({ cls := "ContourLabels", name := "clearText", desc := "()I" } : Jvm.MethodName)) ∈ lw_all := lw_g (lw_at lw_m6 12 rfl) rfl
theorem q1291 : (Jvm.Cond.code ({ cls := "ContourLabels", name := "clearText", desc := "()I" } : Jvm.MethodName) prog_1_method_53_code (2 : Nat) (Option.some Jvm.ClassFile.FieldType.int)) ∈ lw_all := lw_g (lw_at lw_m6 13 rfl) rfl
theorem q1292 : (Jvm.Cond.methodLink "ContourLabels" (227 : Nat) ({ cls := "java/lang/StringBuilder", name := "length", desc := "()I" } : Jvm.MethodName)) ∈ lw_all := lw_g (lw_at lw_m6 14 rfl) rfl
theorem q1299 : (Jvm.Cond.methodLink "ContourLabels" (234 : Nat) ({ cls := "java/lang/StringBuilder", name := "setLength", desc := "(I)V" } : Jvm.MethodName)) ∈ lw_all := lw_g (lw_at lw_m6 21 rfl) rfl
theorem q1530 : (Jvm.Cond.instanceMethod ({ cls := "ContourLabels", name := "errorPosition", desc := "()I" } : Jvm.MethodName)) ∈ lw_all := lw_g (lw_at lw_m7 12 rfl) rfl
theorem q1531 : (Jvm.Cond.selects "ContourLabels" ({ cls := "ContourLabels", name := "errorPosition", desc := "()I" } : Jvm.MethodName) ({ cls := "ContourLabels", name := "errorPosition", desc := "()I" } : Jvm.MethodName)) ∈ lw_all := lw_g (lw_at lw_m7 13 rfl) rfl
theorem q1532 : (Jvm.Cond.code ({ cls := "ContourLabels", name := "errorPosition", desc := "()I" } : Jvm.MethodName) prog_1_method_54_code (2 : Nat) (Option.some Jvm.ClassFile.FieldType.int)) ∈ lw_all := lw_g (lw_at lw_m7 14 rfl) rfl
theorem q1533 : (Jvm.Cond.classLink "ContourLabels" (237 : Nat) "ContourLabels$TextReader") ∈ lw_all := lw_g (lw_at lw_m7 15 rfl) rfl
theorem q1535 : (Jvm.Cond.methodLinkNest "ContourLabels" (239 : Nat) ({ cls := "ContourLabels$TextReader", name := "<init>", desc := "(LContourLabels;)V" } : Jvm.MethodName) "ContourLabels") ∈ lw_tbl := lw_at lw_m7 17 rfl
theorem q1542 : (Jvm.Cond.fieldLinkNest "ContourLabels" (245 : Nat) "ContourLabels$TextReader" "place" "I" "ContourLabels") ∈ lw_tbl := lw_at lw_m7 24 rfl
theorem q1558 : (Jvm.Cond.methodLink "ContourLabels" (242 : Nat) ({ cls := "ContourLabels$TextReader", name := "readAll", desc := "()Z" } : Jvm.MethodName)) ∈ lw_all := lw_g (lw_at lw_m7 40 rfl) rfl
theorem q1687 : (Jvm.Cond.static ({ cls := "ContourLabels", name := "next", desc := "(II)I" } : Jvm.MethodName)) ∈ lw_all := lw_g (lw_at lw_m7 169 rfl) rfl
theorem q1688 : (Jvm.Cond.code ({ cls := "ContourLabels", name := "next", desc := "(II)I" } : Jvm.MethodName) prog_1_method_5_code (4 : Nat) (Option.some Jvm.ClassFile.FieldType.int)) ∈ lw_all := lw_g (lw_at lw_m7 170 rfl) rfl
theorem q1689 : (Jvm.Cond.fieldLink "ContourLabels" (7 : Nat) "ContourLabels" "ACROSS" "[I") ∈ lw_all := lw_g (lw_at lw_m7 171 rfl) rfl
theorem q1690 : (Jvm.Cond.laysStatic "ContourLabels" "ACROSS" "[I") ∈ lw_tbl := lw_at lw_m7 172 rfl
theorem q1691 : (Jvm.Cond.fieldLink "ContourLabels" (14 : Nat) "ContourLabels" "DOWN" "[I") ∈ lw_all := lw_g (lw_at lw_m7 173 rfl) rfl
theorem q1692 : (Jvm.Cond.laysStatic "ContourLabels" "DOWN" "[I") ∈ lw_tbl := lw_at lw_m7 174 rfl
theorem q1721 : (Jvm.Cond.static ({ cls := "ContourLabels", name := "isSlanting", desc := "(I)Z" } : Jvm.MethodName)) ∈ lw_all := lw_g (lw_at lw_m7 203 rfl) rfl
theorem q1722 : (Jvm.Cond.code ({ cls := "ContourLabels", name := "isSlanting", desc := "(I)Z" } : Jvm.MethodName) prog_1_method_4_code (1 : Nat) (Option.some Jvm.ClassFile.FieldType.boolean)) ∈ lw_all := lw_g (lw_at lw_m7 204 rfl) rfl
theorem q1798 : (Jvm.Cond.instanceMethod ({ cls := "ContourLabels", name := "savedStates", desc := "()I" } : Jvm.MethodName)) ∈ lw_all := lw_g (lw_at lw_m8 40 rfl) rfl
theorem q1799 : (Jvm.Cond.selects "ContourLabels" ({ cls := "ContourLabels", name := "savedStates", desc := "()I" } : Jvm.MethodName) ({ cls := "ContourLabels", name := "savedStates", desc := "()I" } : Jvm.MethodName)) ∈ lw_all := lw_g (lw_at lw_m8 41 rfl) rfl
theorem q1800 : (Jvm.Cond.code ({ cls := "ContourLabels", name := "savedStates", desc := "()I" } : Jvm.MethodName) prog_1_method_57_code (1 : Nat) (Option.some Jvm.ClassFile.FieldType.int)) ∈ lw_all := lw_g (lw_at lw_m8 42 rfl) rfl
theorem q1802 : (Jvm.Cond.instanceMethod ({ cls := "ContourLabels", name := "takeSnapshot", desc := "()I" } : Jvm.MethodName)) ∈ lw_all := lw_g (lw_at lw_m8 44 rfl) rfl
theorem q1803 : (Jvm.Cond.selects "ContourLabels" ({ cls := "ContourLabels", name := "takeSnapshot", desc := "()I" } : Jvm.MethodName) ({ cls := "ContourLabels", name := "takeSnapshot", desc := "()I" } : Jvm.MethodName)) ∈ lw_all := lw_g (lw_at lw_m8 45 rfl) rfl
theorem q1804 : (Jvm.Cond.code ({ cls := "ContourLabels", name := "takeSnapshot", desc := "()I" } : Jvm.MethodName) prog_1_method_58_code (1 : Nat) (Option.some Jvm.ClassFile.FieldType.int)) ∈ lw_all := lw_g (lw_at lw_m8 46 rfl) rfl
theorem q1814 : (Jvm.Cond.instanceMethod ({ cls := "ContourLabels", name := "begin", desc := "(II)I" } : Jvm.MethodName)) ∈ lw_all := lw_g (lw_at lw_m8 56 rfl) rfl
theorem q1815 : (Jvm.Cond.selects "ContourLabels" ({ cls := "ContourLabels", name := "begin", desc := "(II)I" } : Jvm.MethodName) ({ cls := "ContourLabels", name := "begin", desc := "(II)I" } : Jvm.MethodName)) ∈ lw_all := lw_g (lw_at lw_m8 57 rfl) rfl
theorem q1816 : (Jvm.Cond.code ({ cls := "ContourLabels", name := "begin", desc := "(II)I" } : Jvm.MethodName) prog_1_method_16_code (3 : Nat) (Option.some Jvm.ClassFile.FieldType.int)) ∈ lw_all := lw_g (lw_at lw_m8 58 rfl) rfl
theorem q1817 : (Jvm.Cond.methodLink "ContourLabels" (102 : Nat) ({ cls := "ContourLabels", name := "checkPoint", desc := "(I)V" } : Jvm.MethodName)) ∈ lw_all := lw_g (lw_at lw_m8 59 rfl) rfl
theorem q1818 : (Jvm.Cond.static ({ cls := "ContourLabels", name := "checkPoint", desc := "(I)V" } : Jvm.MethodName)) ∈ lw_all := lw_g (lw_at lw_m8 60 rfl) rfl
theorem q1819 : (Jvm.Cond.code ({ cls := "ContourLabels", name := "checkPoint", desc := "(I)V" } : Jvm.MethodName) prog_1_method_13_code (1 : Nat) (Option.none : Option Jvm.ClassFile.FieldType)) ∈ lw_all := lw_g (lw_at lw_m8 61 rfl) rfl
theorem q1820 : (Jvm.Cond.methodLink "ContourLabels" (77 : Nat) ({ cls := "ContourLabels", name := "checkNumber", desc := "(II)V" } : Jvm.MethodName)) ∈ lw_all := lw_g (lw_at lw_m8 62 rfl) rfl
theorem q1821 : (Jvm.Cond.static ({ cls := "ContourLabels", name := "checkNumber", desc := "(II)V" } : Jvm.MethodName)) ∈ lw_all := lw_g (lw_at lw_m8 63 rfl) rfl
theorem q1822 : (Jvm.Cond.code ({ cls := "ContourLabels", name := "checkNumber", desc := "(II)V" } : Jvm.MethodName) prog_1_method_10_code (2 : Nat) (Option.none : Option Jvm.ClassFile.FieldType)) ∈ lw_all := lw_g (lw_at lw_m8 64 rfl) rfl
theorem q1823 : (Jvm.Cond.classLink "ContourLabels" (68 : Nat) "java/lang/IndexOutOfBoundsException") ∈ lw_all := lw_g (lw_at lw_m8 65 rfl) rfl
theorem q1832 : (Jvm.Cond.methodLink "ContourLabels" (70 : Nat) ({ cls := "java/lang/IndexOutOfBoundsException", name := "<init>", desc := "()V" } : Jvm.MethodName)) ∈ lw_all := lw_g (lw_at lw_m8 74 rfl) rfl
theorem q1838 : (Jvm.Cond.methodLink "ContourLabels" (106 : Nat) ({ cls := "ContourLabels", name := "checkRange", desc := "(III)V" } : Jvm.MethodName)) ∈ lw_all := lw_g (lw_at lw_m8 80 rfl) rfl
theorem q1839 : (Jvm.Cond.static ({ cls := "ContourLabels", name := "checkRange", desc := "(III)V" } : Jvm.MethodName)) ∈ lw_all := lw_g (lw_at lw_m8 81 rfl) rfl
theorem q1840 : (Jvm.Cond.code ({ cls := "ContourLabels", name := "checkRange", desc := "(III)V" } : Jvm.MethodName) prog_1_method_11_code (3 : Nat) (Option.none : Option Jvm.ClassFile.FieldType)) ∈ lw_all := lw_g (lw_at lw_m8 82 rfl) rfl
theorem q1841 : (Jvm.Cond.classLink "ContourLabels" (71 : Nat) "java/lang/IllegalArgumentException") ∈ lw_all := lw_g (lw_at lw_m8 83 rfl) rfl
theorem q1842 : (Jvm.Cond.methodLink "ContourLabels" (73 : Nat) ({ cls := "java/lang/IllegalArgumentException", name := "<init>", desc := "()V" } : Jvm.MethodName)) ∈ lw_all := lw_g (lw_at lw_m8 84 rfl) rfl
theorem q1843 : (Jvm.Cond.methodLink "ContourLabels" (110 : Nat) ({ cls := "ContourLabels$State", name := "lineAt", desc := "(I)I" } : Jvm.MethodName)) ∈ lw_all := lw_g (lw_at lw_m8 85 rfl) rfl
theorem q1844 : (Jvm.Cond.methodLink "ContourLabels" (113 : Nat) ({ cls := "ContourLabels", name := "checkState", desc := "(Z)V" } : Jvm.MethodName)) ∈ lw_all := lw_g (lw_at lw_m8 86 rfl) rfl
theorem q1845 : (Jvm.Cond.static ({ cls := "ContourLabels", name := "checkState", desc := "(Z)V" } : Jvm.MethodName)) ∈ lw_all := lw_g (lw_at lw_m8 87 rfl) rfl
theorem q1846 : (Jvm.Cond.code ({ cls := "ContourLabels", name := "checkState", desc := "(Z)V" } : Jvm.MethodName) prog_1_method_12_code (1 : Nat) (Option.none : Option Jvm.ClassFile.FieldType)) ∈ lw_all := lw_g (lw_at lw_m8 88 rfl) rfl
theorem q1847 : (Jvm.Cond.classLink "ContourLabels" (74 : Nat) "java/lang/IllegalStateException") ∈ lw_all := lw_g (lw_at lw_m8 89 rfl) rfl
theorem q1848 : (Jvm.Cond.methodLink "ContourLabels" (76 : Nat) ({ cls := "java/lang/IllegalStateException", name := "<init>", desc := "()V" } : Jvm.MethodName)) ∈ lw_all := lw_g (lw_at lw_m8 90 rfl) rfl
theorem q1852 : (Jvm.Cond.methodLink "ContourLabels" (120 : Nat) ({ cls := "ContourLabels$State", name := "begin", desc := "(II)Z" } : Jvm.MethodName)) ∈ lw_all := lw_g (lw_at lw_m8 94 rfl) rfl
theorem q1857 : (Jvm.Cond.instanceMethod ({ cls := "ContourLabels", name := "step", desc := "(II)Z" } : Jvm.MethodName)) ∈ lw_all := lw_g (lw_at lw_m8 99 rfl) rfl
theorem q1858 : (Jvm.Cond.selects "ContourLabels" ({ cls := "ContourLabels", name := "step", desc := "(II)Z" } : Jvm.MethodName) ({ cls := "ContourLabels", name := "step", desc := "(II)Z" } : Jvm.MethodName)) ∈ lw_all := lw_g (lw_at lw_m8 100 rfl) rfl
theorem q1859 : (Jvm.Cond.code ({ cls := "ContourLabels", name := "step", desc := "(II)Z" } : Jvm.MethodName) prog_1_method_17_code (3 : Nat) (Option.some Jvm.ClassFile.FieldType.boolean)) ∈ lw_all := lw_g (lw_at lw_m8 101 rfl) rfl
theorem q1860 : (Jvm.Cond.methodLink "ContourLabels" (124 : Nat) ({ cls := "ContourLabels", name := "whyNotStepped", desc := "(II)I" } : Jvm.MethodName)) ∈ lw_all := lw_g (lw_at lw_m8 102 rfl) rfl
theorem q1861 : (Jvm.Cond.instanceMethod ({ cls := "ContourLabels", name := "whyNotStepped", desc := "(II)I" } : Jvm.MethodName)) ∈ lw_all := lw_g (lw_at lw_m8 103 rfl) rfl
theorem q1862 : (Jvm.Cond.selects "ContourLabels" ({ cls := "ContourLabels", name := "whyNotStepped", desc := "(II)I" } : Jvm.MethodName) ({ cls := "ContourLabels", name := "whyNotStepped", desc := "(II)I" } : Jvm.MethodName)) ∈ lw_all := lw_g (lw_at lw_m8 104 rfl) rfl
theorem q1863 : (Jvm.Cond.code ({ cls := "ContourLabels", name := "whyNotStepped", desc := "(II)I" } : Jvm.MethodName) prog_1_method_31_code (3 : Nat) (Option.some Jvm.ClassFile.FieldType.int)) ∈ lw_all := lw_g (lw_at lw_m8 105 rfl) rfl
theorem q1864 : (Jvm.Cond.methodLink "ContourLabels" (94 : Nat) ({ cls := "ContourLabels", name := "line", desc := "(I)LContourLabels$Line;" } : Jvm.MethodName)) ∈ lw_all := lw_g (lw_at lw_m8 106 rfl) rfl
theorem q1865 : (Jvm.Cond.privateMethod ({ cls := "ContourLabels", name := "line", desc := "(I)LContourLabels$Line;" } : Jvm.MethodName)) ∈ lw_tbl := lw_at lw_m8 107 rfl
theorem q1866 : (Jvm.Cond.instanceMethod ({ cls := "ContourLabels", name := "line", desc := "(I)LContourLabels$Line;" } : Jvm.MethodName)) ∈ lw_all := lw_g (lw_at lw_m8 108 rfl) rfl
theorem q1867 : (Jvm.Cond.code ({ cls := "ContourLabels", name := "line", desc := "(I)LContourLabels$Line;" } : Jvm.MethodName) prog_1_method_14_code (2 : Nat) (Option.some (Jvm.ClassFile.FieldType.object "ContourLabels$Line"))) ∈ lw_all := lw_g (lw_at lw_m8 109 rfl) rfl
theorem q1868 : (Jvm.Cond.interfaceEntry "ContourLabels" (88 : Nat)) ∈ lw_tbl := lw_at lw_m8 110 rfl
theorem q1869 : (Jvm.Cond.methodLink "ContourLabels" (88 : Nat) ({ cls := "java/util/List", name := "get", desc := "(I)Ljava/lang/Object;" } : Jvm.MethodName)) ∈ lw_all := lw_g (lw_at lw_m8 111 rfl) rfl
theorem q1870 : (Jvm.Cond.classLink "ContourLabels" (92 : Nat) "ContourLabels$Line") ∈ lw_all := lw_g (lw_at lw_m8 112 rfl) rfl
theorem q1871 : (Jvm.Cond.methodLink "ContourLabels" (174 : Nat) ({ cls := "ContourLabels$State", name := "whyNotStepped", desc := "(II)I" } : Jvm.MethodName)) ∈ lw_all := lw_g (lw_at lw_m8 113 rfl) rfl
theorem q1872 : (Jvm.Cond.methodLink "ContourLabels" (128 : Nat) ({ cls := "ContourLabels$State", name := "step", desc := "(II)Z" } : Jvm.MethodName)) ∈ lw_all := lw_g (lw_at lw_m8 114 rfl) rfl
theorem q1873 : (Jvm.Cond.methodLink "ContourLabels" (131 : Nat) ({ cls := "ContourLabels$Line", name := "isClosed", desc := "()Z" } : Jvm.MethodName)) ∈ lw_all := lw_g (lw_at lw_m8 115 rfl) rfl
theorem q1878 : (Jvm.Cond.instanceMethod ({ cls := "ContourLabels", name := "wipe", desc := "(I)I" } : Jvm.MethodName)) ∈ lw_all := lw_g (lw_at lw_m8 120 rfl) rfl
theorem q1879 : (Jvm.Cond.selects "ContourLabels" ({ cls := "ContourLabels", name := "wipe", desc := "(I)I" } : Jvm.MethodName) ({ cls := "ContourLabels", name := "wipe", desc := "(I)I" } : Jvm.MethodName)) ∈ lw_all := lw_g (lw_at lw_m8 121 rfl) rfl
theorem q1880 : (Jvm.Cond.code ({ cls := "ContourLabels", name := "wipe", desc := "(I)I" } : Jvm.MethodName) prog_1_method_18_code (2 : Nat) (Option.some Jvm.ClassFile.FieldType.int)) ∈ lw_all := lw_g (lw_at lw_m8 122 rfl) rfl
theorem q1881 : (Jvm.Cond.methodLink "ContourLabels" (134 : Nat) ({ cls := "ContourLabels$State", name := "wipe", desc := "(I)Z" } : Jvm.MethodName)) ∈ lw_all := lw_g (lw_at lw_m8 123 rfl) rfl
theorem q1886 : (Jvm.Cond.instanceMethod ({ cls := "ContourLabels", name := "setLevel", desc := "(II)I" } : Jvm.MethodName)) ∈ lw_all := lw_g (lw_at lw_m8 128 rfl) rfl
theorem q1887 : (Jvm.Cond.selects "ContourLabels" ({ cls := "ContourLabels", name := "setLevel", desc := "(II)I" } : Jvm.MethodName) ({ cls := "ContourLabels", name := "setLevel", desc := "(II)I" } : Jvm.MethodName)) ∈ lw_all := lw_g (lw_at lw_m8 129 rfl) rfl
theorem q1888 : (Jvm.Cond.code ({ cls := "ContourLabels", name := "setLevel", desc := "(II)I" } : Jvm.MethodName) prog_1_method_19_code (4 : Nat) (Option.some Jvm.ClassFile.FieldType.int)) ∈ lw_all := lw_g (lw_at lw_m8 130 rfl) rfl
theorem q1893 : (Jvm.Cond.instanceMethod ({ cls := "ContourLabels", name := "label", desc := "(II)I" } : Jvm.MethodName)) ∈ lw_all := lw_g (lw_at lw_m8 135 rfl) rfl
theorem q1894 : (Jvm.Cond.selects "ContourLabels" ({ cls := "ContourLabels", name := "label", desc := "(II)I" } : Jvm.MethodName) ({ cls := "ContourLabels", name := "label", desc := "(II)I" } : Jvm.MethodName)) ∈ lw_all := lw_g (lw_at lw_m8 136 rfl) rfl
theorem q1895 : (Jvm.Cond.code ({ cls := "ContourLabels", name := "label", desc := "(II)I" } : Jvm.MethodName) prog_1_method_20_code (3 : Nat) (Option.some Jvm.ClassFile.FieldType.int)) ∈ lw_all := lw_g (lw_at lw_m8 137 rfl) rfl
theorem q1896 : (Jvm.Cond.methodLink "ContourLabels" (144 : Nat) ({ cls := "ContourLabels", name := "whyNotLabelled", desc := "(II)I" } : Jvm.MethodName)) ∈ lw_all := lw_g (lw_at lw_m8 138 rfl) rfl
theorem q1897 : (Jvm.Cond.instanceMethod ({ cls := "ContourLabels", name := "whyNotLabelled", desc := "(II)I" } : Jvm.MethodName)) ∈ lw_all := lw_g (lw_at lw_m8 139 rfl) rfl
theorem q1898 : (Jvm.Cond.selects "ContourLabels" ({ cls := "ContourLabels", name := "whyNotLabelled", desc := "(II)I" } : Jvm.MethodName) ({ cls := "ContourLabels", name := "whyNotLabelled", desc := "(II)I" } : Jvm.MethodName)) ∈ lw_all := lw_g (lw_at lw_m8 140 rfl) rfl
theorem q1899 : (Jvm.Cond.code ({ cls := "ContourLabels", name := "whyNotLabelled", desc := "(II)I" } : Jvm.MethodName) prog_1_method_42_code (3 : Nat) (Option.some Jvm.ClassFile.FieldType.int)) ∈ lw_all := lw_g (lw_at lw_m8 141 rfl) rfl
theorem q1900 : (Jvm.Cond.methodLink "ContourLabels" (167 : Nat) ({ cls := "ContourLabels", name := "lineWith", desc := "(II)LContourLabels$Line;" } : Jvm.MethodName)) ∈ lw_all := lw_g (lw_at lw_m8 142 rfl) rfl
theorem q1901 : (Jvm.Cond.privateMethod ({ cls := "ContourLabels", name := "lineWith", desc := "(II)LContourLabels$Line;" } : Jvm.MethodName)) ∈ lw_tbl := lw_at lw_m8 143 rfl
theorem q1902 : (Jvm.Cond.instanceMethod ({ cls := "ContourLabels", name := "lineWith", desc := "(II)LContourLabels$Line;" } : Jvm.MethodName)) ∈ lw_all := lw_g (lw_at lw_m8 144 rfl) rfl
theorem q1903 : (Jvm.Cond.code ({ cls := "ContourLabels", name := "lineWith", desc := "(II)LContourLabels$Line;" } : Jvm.MethodName) prog_1_method_15_code (4 : Nat) (Option.some (Jvm.ClassFile.FieldType.object "ContourLabels$Line"))) ∈ lw_all := lw_g (lw_at lw_m8 145 rfl) rfl
theorem q1904 : (Jvm.Cond.methodLink "ContourLabels" (202 : Nat) ({ cls := "ContourLabels$State", name := "whyNotLabelled", desc := "(II)I" } : Jvm.MethodName)) ∈ lw_all := lw_g (lw_at lw_m8 146 rfl) rfl
theorem q1905 : (Jvm.Cond.methodLink "ContourLabels" (147 : Nat) ({ cls := "ContourLabels$State", name := "label", desc := "(II)Z" } : Jvm.MethodName)) ∈ lw_all := lw_g (lw_at lw_m8 147 rfl) rfl
theorem q1906 : (Jvm.Cond.methodLink "ContourLabels" (149 : Nat) ({ cls := "ContourLabels$Line", name := "bendOfPlace", desc := "(I)I" } : Jvm.MethodName)) ∈ lw_all := lw_g (lw_at lw_m8 148 rfl) rfl
theorem q1911 : (Jvm.Cond.instanceMethod ({ cls := "ContourLabels", name := "unlabel", desc := "(I)I" } : Jvm.MethodName)) ∈ lw_all := lw_g (lw_at lw_m8 153 rfl) rfl
theorem q1912 : (Jvm.Cond.selects "ContourLabels" ({ cls := "ContourLabels", name := "unlabel", desc := "(I)I" } : Jvm.MethodName) ({ cls := "ContourLabels", name := "unlabel", desc := "(I)I" } : Jvm.MethodName)) ∈ lw_all := lw_g (lw_at lw_m8 154 rfl) rfl
theorem q1913 : (Jvm.Cond.code ({ cls := "ContourLabels", name := "unlabel", desc := "(I)I" } : Jvm.MethodName) prog_1_method_21_code (3 : Nat) (Option.some Jvm.ClassFile.FieldType.int)) ∈ lw_all := lw_g (lw_at lw_m8 155 rfl) rfl
theorem q1914 : (Jvm.Cond.methodLink "ContourLabels" (152 : Nat) ({ cls := "ContourLabels$State", name := "unlabel", desc := "(I)Z" } : Jvm.MethodName)) ∈ lw_all := lw_g (lw_at lw_m8 156 rfl) rfl
theorem q1919 : (Jvm.Cond.instanceMethod ({ cls := "ContourLabels", name := "labelBest", desc := "(I)I" } : Jvm.MethodName)) ∈ lw_all := lw_g (lw_at lw_m8 161 rfl) rfl
theorem q1920 : (Jvm.Cond.selects "ContourLabels" ({ cls := "ContourLabels", name := "labelBest", desc := "(I)I" } : Jvm.MethodName) ({ cls := "ContourLabels", name := "labelBest", desc := "(I)I" } : Jvm.MethodName)) ∈ lw_all := lw_g (lw_at lw_m8 162 rfl) rfl
theorem q1921 : (Jvm.Cond.code ({ cls := "ContourLabels", name := "labelBest", desc := "(I)I" } : Jvm.MethodName) prog_1_method_22_code (2 : Nat) (Option.some Jvm.ClassFile.FieldType.int)) ∈ lw_all := lw_g (lw_at lw_m8 163 rfl) rfl
theorem q1922 : (Jvm.Cond.methodLink "ContourLabels" (155 : Nat) ({ cls := "ContourLabels$State", name := "bestPlace", desc := "(I)I" } : Jvm.MethodName)) ∈ lw_all := lw_g (lw_at lw_m8 164 rfl) rfl
theorem q1923 : (Jvm.Cond.methodLink "ContourLabels" (158 : Nat) ({ cls := "ContourLabels$State", name := "labelBest", desc := "(I)Z" } : Jvm.MethodName)) ∈ lw_all := lw_g (lw_at lw_m8 165 rfl) rfl
theorem q1928 : (Jvm.Cond.instanceMethod ({ cls := "ContourLabels", name := "setGap", desc := "(I)I" } : Jvm.MethodName)) ∈ lw_all := lw_g (lw_at lw_m8 170 rfl) rfl
theorem q1929 : (Jvm.Cond.selects "ContourLabels" ({ cls := "ContourLabels", name := "setGap", desc := "(I)I" } : Jvm.MethodName) ({ cls := "ContourLabels", name := "setGap", desc := "(I)I" } : Jvm.MethodName)) ∈ lw_all := lw_g (lw_at lw_m8 171 rfl) rfl
theorem q1930 : (Jvm.Cond.code ({ cls := "ContourLabels", name := "setGap", desc := "(I)I" } : Jvm.MethodName) prog_1_method_24_code (3 : Nat) (Option.some Jvm.ClassFile.FieldType.int)) ∈ lw_all := lw_g (lw_at lw_m8 172 rfl) rfl
theorem q1935 : (Jvm.Cond.instanceMethod ({ cls := "ContourLabels", name := "levelOf", desc := "(I)I" } : Jvm.MethodName)) ∈ lw_all := lw_g (lw_at lw_m8 177 rfl) rfl
theorem q1936 : (Jvm.Cond.selects "ContourLabels" ({ cls := "ContourLabels", name := "levelOf", desc := "(I)I" } : Jvm.MethodName) ({ cls := "ContourLabels", name := "levelOf", desc := "(I)I" } : Jvm.MethodName)) ∈ lw_all := lw_g (lw_at lw_m8 178 rfl) rfl
theorem q1937 : (Jvm.Cond.code ({ cls := "ContourLabels", name := "levelOf", desc := "(I)I" } : Jvm.MethodName) prog_1_method_26_code (2 : Nat) (Option.some Jvm.ClassFile.FieldType.int)) ∈ lw_all := lw_g (lw_at lw_m8 179 rfl) rfl
theorem q1942 : (Jvm.Cond.instanceMethod ({ cls := "ContourLabels", name := "stepsOf", desc := "(I)I" } : Jvm.MethodName)) ∈ lw_all := lw_g (lw_at lw_m8 184 rfl) rfl
theorem q1943 : (Jvm.Cond.selects "ContourLabels" ({ cls := "ContourLabels", name := "stepsOf", desc := "(I)I" } : Jvm.MethodName) ({ cls := "ContourLabels", name := "stepsOf", desc := "(I)I" } : Jvm.MethodName)) ∈ lw_all := lw_g (lw_at lw_m8 185 rfl) rfl
theorem q1944 : (Jvm.Cond.code ({ cls := "ContourLabels", name := "stepsOf", desc := "(I)I" } : Jvm.MethodName) prog_1_method_27_code (2 : Nat) (Option.some Jvm.ClassFile.FieldType.int)) ∈ lw_all := lw_g (lw_at lw_m8 186 rfl) rfl
theorem q1949 : (Jvm.Cond.instanceMethod ({ cls := "ContourLabels", name := "pointOf", desc := "(II)I" } : Jvm.MethodName)) ∈ lw_all := lw_g (lw_at lw_m8 191 rfl) rfl
theorem q1950 : (Jvm.Cond.selects "ContourLabels" ({ cls := "ContourLabels", name := "pointOf", desc := "(II)I" } : Jvm.MethodName) ({ cls := "ContourLabels", name := "pointOf", desc := "(II)I" } : Jvm.MethodName)) ∈ lw_all := lw_g (lw_at lw_m8 192 rfl) rfl
theorem q1951 : (Jvm.Cond.code ({ cls := "ContourLabels", name := "pointOf", desc := "(II)I" } : Jvm.MethodName) prog_1_method_28_code (3 : Nat) (Option.some Jvm.ClassFile.FieldType.int)) ∈ lw_all := lw_g (lw_at lw_m8 193 rfl) rfl
theorem q1956 : (Jvm.Cond.instanceMethod ({ cls := "ContourLabels", name := "lineAt", desc := "(I)I" } : Jvm.MethodName)) ∈ lw_all := lw_g (lw_at lw_m8 198 rfl) rfl
theorem q1957 : (Jvm.Cond.selects "ContourLabels" ({ cls := "ContourLabels", name := "lineAt", desc := "(I)I" } : Jvm.MethodName) ({ cls := "ContourLabels", name := "lineAt", desc := "(I)I" } : Jvm.MethodName)) ∈ lw_all := lw_g (lw_at lw_m8 199 rfl) rfl
theorem q1958 : (Jvm.Cond.code ({ cls := "ContourLabels", name := "lineAt", desc := "(I)I" } : Jvm.MethodName) prog_1_method_29_code (2 : Nat) (Option.some Jvm.ClassFile.FieldType.int)) ∈ lw_all := lw_g (lw_at lw_m8 200 rfl) rfl
theorem q1963 : (Jvm.Cond.instanceMethod ({ cls := "ContourLabels", name := "isClosed", desc := "(I)Z" } : Jvm.MethodName)) ∈ lw_all := lw_g (lw_at lw_m8 205 rfl) rfl
theorem q1964 : (Jvm.Cond.selects "ContourLabels" ({ cls := "ContourLabels", name := "isClosed", desc := "(I)Z" } : Jvm.MethodName) ({ cls := "ContourLabels", name := "isClosed", desc := "(I)Z" } : Jvm.MethodName)) ∈ lw_all := lw_g (lw_at lw_m8 206 rfl) rfl
theorem q1965 : (Jvm.Cond.code ({ cls := "ContourLabels", name := "isClosed", desc := "(I)Z" } : Jvm.MethodName) prog_1_method_30_code (2 : Nat) (Option.some Jvm.ClassFile.FieldType.boolean)) ∈ lw_all := lw_g (lw_at lw_m8 207 rfl) rfl
theorem q1974 : (Jvm.Cond.instanceMethod ({ cls := "ContourLabels", name := "bendAt", desc := "(II)I" } : Jvm.MethodName)) ∈ lw_all := lw_g (lw_at lw_m8 216 rfl) rfl
theorem q1975 : (Jvm.Cond.selects "ContourLabels" ({ cls := "ContourLabels", name := "bendAt", desc := "(II)I" } : Jvm.MethodName) ({ cls := "ContourLabels", name := "bendAt", desc := "(II)I" } : Jvm.MethodName)) ∈ lw_all := lw_g (lw_at lw_m8 217 rfl) rfl
theorem q1976 : (Jvm.Cond.code ({ cls := "ContourLabels", name := "bendAt", desc := "(II)I" } : Jvm.MethodName) prog_1_method_32_code (3 : Nat) (Option.some Jvm.ClassFile.FieldType.int)) ∈ lw_all := lw_g (lw_at lw_m8 218 rfl) rfl
theorem q1977 : (Jvm.Cond.methodLink "ContourLabels" (175 : Nat) ({ cls := "ContourLabels$Line", name := "bend", desc := "(I)I" } : Jvm.MethodName)) ∈ lw_all := lw_g (lw_at lw_m8 219 rfl) rfl
theorem q1982 : (Jvm.Cond.instanceMethod ({ cls := "ContourLabels", name := "lengthByKinds", desc := "(I)D" } : Jvm.MethodName)) ∈ lw_all := lw_g (lw_at lw_m8 224 rfl) rfl
theorem q1983 : (Jvm.Cond.selects "ContourLabels" ({ cls := "ContourLabels", name := "lengthByKinds", desc := "(I)D" } : Jvm.MethodName) ({ cls := "ContourLabels", name := "lengthByKinds", desc := "(I)D" } : Jvm.MethodName)) ∈ lw_all := lw_g (lw_at lw_m8 225 rfl) rfl
theorem q1984 : (Jvm.Cond.code ({ cls := "ContourLabels", name := "lengthByKinds", desc := "(I)D" } : Jvm.MethodName) prog_1_method_33_code (4 : Nat) (Option.some Jvm.ClassFile.FieldType.double)) ∈ lw_all := lw_g (lw_at lw_m8 226 rfl) rfl
theorem q1985 : (Jvm.Cond.methodLink "ContourLabels" (178 : Nat) ({ cls := "ContourLabels$Line", name := "slanting", desc := "()I" } : Jvm.MethodName)) ∈ lw_all := lw_g (lw_at lw_m8 227 rfl) rfl
theorem q1990 : (Jvm.Cond.constantDouble "ContourLabels" (181 : Nat) (4609047870845172685 : UInt64)) ∈ lw_all := lw_g (lw_at lw_m8 232 rfl) rfl
theorem q1995 : (Jvm.Cond.instanceMethod ({ cls := "ContourLabels", name := "lengthBySteps", desc := "(I)D" } : Jvm.MethodName)) ∈ lw_all := lw_g (lw_at lw_m8 237 rfl) rfl
theorem q1996 : (Jvm.Cond.selects "ContourLabels" ({ cls := "ContourLabels", name := "lengthBySteps", desc := "(I)D" } : Jvm.MethodName) ({ cls := "ContourLabels", name := "lengthBySteps", desc := "(I)D" } : Jvm.MethodName)) ∈ lw_all := lw_g (lw_at lw_m8 238 rfl) rfl
theorem q1997 : (Jvm.Cond.code ({ cls := "ContourLabels", name := "lengthBySteps", desc := "(I)D" } : Jvm.MethodName) prog_1_method_34_code (2 : Nat) (Option.some Jvm.ClassFile.FieldType.double)) ∈ lw_all := lw_g (lw_at lw_m8 239 rfl) rfl
theorem q1998 : (Jvm.Cond.methodLink "ContourLabels" (183 : Nat) ({ cls := "ContourLabels$Line", name := "lengthBySteps", desc := "()D" } : Jvm.MethodName)) ∈ lw_all := lw_g (lw_at lw_m9 0 rfl) rfl
theorem q2007 : (Jvm.Cond.instanceMethod ({ cls := "ContourLabels", name := "labelOf", desc := "(I)I" } : Jvm.MethodName)) ∈ lw_all := lw_g (lw_at lw_m9 9 rfl) rfl
theorem q2008 : (Jvm.Cond.selects "ContourLabels" ({ cls := "ContourLabels", name := "labelOf", desc := "(I)I" } : Jvm.MethodName) ({ cls := "ContourLabels", name := "labelOf", desc := "(I)I" } : Jvm.MethodName)) ∈ lw_all := lw_g (lw_at lw_m9 10 rfl) rfl
theorem q2009 : (Jvm.Cond.code ({ cls := "ContourLabels", name := "labelOf", desc := "(I)I" } : Jvm.MethodName) prog_1_method_37_code (2 : Nat) (Option.some Jvm.ClassFile.FieldType.int)) ∈ lw_all := lw_g (lw_at lw_m9 11 rfl) rfl
theorem q2014 : (Jvm.Cond.instanceMethod ({ cls := "ContourLabels", name := "isTurned", desc := "(I)Z" } : Jvm.MethodName)) ∈ lw_all := lw_g (lw_at lw_m9 16 rfl) rfl
theorem q2015 : (Jvm.Cond.selects "ContourLabels" ({ cls := "ContourLabels", name := "isTurned", desc := "(I)Z" } : Jvm.MethodName) ({ cls := "ContourLabels", name := "isTurned", desc := "(I)Z" } : Jvm.MethodName)) ∈ lw_all := lw_g (lw_at lw_m9 17 rfl) rfl
theorem q2016 : (Jvm.Cond.code ({ cls := "ContourLabels", name := "isTurned", desc := "(I)Z" } : Jvm.MethodName) prog_1_method_38_code (2 : Nat) (Option.some Jvm.ClassFile.FieldType.boolean)) ∈ lw_all := lw_g (lw_at lw_m9 18 rfl) rfl
theorem q2017 : (Jvm.Cond.methodLink "ContourLabels" (190 : Nat) ({ cls := "ContourLabels$Line", name := "isTurned", desc := "()Z" } : Jvm.MethodName)) ∈ lw_all := lw_g (lw_at lw_m9 19 rfl) rfl
theorem q2025 : (Jvm.Cond.instanceMethod ({ cls := "ContourLabels", name := "readFrom", desc := "(I)I" } : Jvm.MethodName)) ∈ lw_all := lw_g (lw_at lw_m9 27 rfl) rfl
theorem q2026 : (Jvm.Cond.selects "ContourLabels" ({ cls := "ContourLabels", name := "readFrom", desc := "(I)I" } : Jvm.MethodName) ({ cls := "ContourLabels", name := "readFrom", desc := "(I)I" } : Jvm.MethodName)) ∈ lw_all := lw_g (lw_at lw_m9 28 rfl) rfl
theorem q2027 : (Jvm.Cond.code ({ cls := "ContourLabels", name := "readFrom", desc := "(I)I" } : Jvm.MethodName) prog_1_method_39_code (2 : Nat) (Option.some Jvm.ClassFile.FieldType.int)) ∈ lw_all := lw_g (lw_at lw_m9 29 rfl) rfl
theorem q2028 : (Jvm.Cond.methodLink "ContourLabels" (193 : Nat) ({ cls := "ContourLabels$Line", name := "readFrom", desc := "()I" } : Jvm.MethodName)) ∈ lw_all := lw_g (lw_at lw_m9 30 rfl) rfl
theorem q2037 : (Jvm.Cond.instanceMethod ({ cls := "ContourLabels", name := "sizeOf", desc := "(I)I" } : Jvm.MethodName)) ∈ lw_all := lw_g (lw_at lw_m9 39 rfl) rfl
theorem q2038 : (Jvm.Cond.selects "ContourLabels" ({ cls := "ContourLabels", name := "sizeOf", desc := "(I)I" } : Jvm.MethodName) ({ cls := "ContourLabels", name := "sizeOf", desc := "(I)I" } : Jvm.MethodName)) ∈ lw_all := lw_g (lw_at lw_m9 40 rfl) rfl
theorem q2039 : (Jvm.Cond.code ({ cls := "ContourLabels", name := "sizeOf", desc := "(I)I" } : Jvm.MethodName) prog_1_method_40_code (2 : Nat) (Option.some Jvm.ClassFile.FieldType.int)) ∈ lw_all := lw_g (lw_at lw_m9 41 rfl) rfl
theorem q2040 : (Jvm.Cond.methodLink "ContourLabels" (196 : Nat) ({ cls := "ContourLabels$Line", name := "labelSize", desc := "()I" } : Jvm.MethodName)) ∈ lw_all := lw_g (lw_at lw_m9 42 rfl) rfl
theorem q2045 : (Jvm.Cond.instanceMethod ({ cls := "ContourLabels", name := "bendOf", desc := "(II)I" } : Jvm.MethodName)) ∈ lw_all := lw_g (lw_at lw_m9 47 rfl) rfl
theorem q2046 : (Jvm.Cond.selects "ContourLabels" ({ cls := "ContourLabels", name := "bendOf", desc := "(II)I" } : Jvm.MethodName) ({ cls := "ContourLabels", name := "bendOf", desc := "(II)I" } : Jvm.MethodName)) ∈ lw_all := lw_g (lw_at lw_m9 48 rfl) rfl
theorem q2047 : (Jvm.Cond.code ({ cls := "ContourLabels", name := "bendOf", desc := "(II)I" } : Jvm.MethodName) prog_1_method_41_code (4 : Nat) (Option.some Jvm.ClassFile.FieldType.int)) ∈ lw_all := lw_g (lw_at lw_m9 49 rfl) rfl
theorem q2048 : (Jvm.Cond.methodLink "ContourLabels" (199 : Nat) ({ cls := "ContourLabels$Line", name := "hasPlace", desc := "(I)Z" } : Jvm.MethodName)) ∈ lw_all := lw_g (lw_at lw_m9 50 rfl) rfl
theorem q2057 : (Jvm.Cond.instanceMethod ({ cls := "ContourLabels", name := "placesOf", desc := "(I)I" } : Jvm.MethodName)) ∈ lw_all := lw_g (lw_at lw_m9 59 rfl) rfl
theorem q2058 : (Jvm.Cond.selects "ContourLabels" ({ cls := "ContourLabels", name := "placesOf", desc := "(I)I" } : Jvm.MethodName) ({ cls := "ContourLabels", name := "placesOf", desc := "(I)I" } : Jvm.MethodName)) ∈ lw_all := lw_g (lw_at lw_m9 60 rfl) rfl
theorem q2059 : (Jvm.Cond.code ({ cls := "ContourLabels", name := "placesOf", desc := "(I)I" } : Jvm.MethodName) prog_1_method_43_code (2 : Nat) (Option.some Jvm.ClassFile.FieldType.int)) ∈ lw_all := lw_g (lw_at lw_m9 61 rfl) rfl
theorem q2060 : (Jvm.Cond.methodLink "ContourLabels" (203 : Nat) ({ cls := "ContourLabels$State", name := "placesOf", desc := "(I)I" } : Jvm.MethodName)) ∈ lw_all := lw_g (lw_at lw_m9 62 rfl) rfl
theorem q2068 : (Jvm.Cond.instanceMethod ({ cls := "ContourLabels", name := "bestPlace", desc := "(I)I" } : Jvm.MethodName)) ∈ lw_all := lw_g (lw_at lw_m9 70 rfl) rfl
theorem q2069 : (Jvm.Cond.selects "ContourLabels" ({ cls := "ContourLabels", name := "bestPlace", desc := "(I)I" } : Jvm.MethodName) ({ cls := "ContourLabels", name := "bestPlace", desc := "(I)I" } : Jvm.MethodName)) ∈ lw_all := lw_g (lw_at lw_m9 71 rfl) rfl
theorem q2070 : (Jvm.Cond.code ({ cls := "ContourLabels", name := "bestPlace", desc := "(I)I" } : Jvm.MethodName) prog_1_method_44_code (2 : Nat) (Option.some Jvm.ClassFile.FieldType.int)) ∈ lw_all := lw_g (lw_at lw_m9 72 rfl) rfl
theorem q2075 : (Jvm.Cond.instanceMethod ({ cls := "ContourLabels", name := "isWithinByRays", desc := "(II)Z" } : Jvm.MethodName)) ∈ lw_all := lw_g (lw_at lw_m9 77 rfl) rfl
theorem q2076 : (Jvm.Cond.selects "ContourLabels" ({ cls := "ContourLabels", name := "isWithinByRays", desc := "(II)Z" } : Jvm.MethodName) ({ cls := "ContourLabels", name := "isWithinByRays", desc := "(II)Z" } : Jvm.MethodName)) ∈ lw_all := lw_g (lw_at lw_m9 78 rfl) rfl
theorem q2077 : (Jvm.Cond.code ({ cls := "ContourLabels", name := "isWithinByRays", desc := "(II)Z" } : Jvm.MethodName) prog_1_method_46_code (3 : Nat) (Option.some Jvm.ClassFile.FieldType.boolean)) ∈ lw_all := lw_g (lw_at lw_m9 79 rfl) rfl
theorem q2078 : (Jvm.Cond.methodLink "ContourLabels" (209 : Nat) ({ cls := "ContourLabels$State", name := "isWithin", desc := "(II)Z" } : Jvm.MethodName)) ∈ lw_all := lw_g (lw_at lw_m9 80 rfl) rfl
theorem q2090 : (Jvm.Cond.instanceMethod ({ cls := "ContourLabels", name := "isWithinBySpreading", desc := "(II)Z" } : Jvm.MethodName)) ∈ lw_all := lw_g (lw_at lw_m9 92 rfl) rfl
theorem q2091 : (Jvm.Cond.selects "ContourLabels" ({ cls := "ContourLabels", name := "isWithinBySpreading", desc := "(II)Z" } : Jvm.MethodName) ({ cls := "ContourLabels", name := "isWithinBySpreading", desc := "(II)Z" } : Jvm.MethodName)) ∈ lw_all := lw_g (lw_at lw_m9 93 rfl) rfl
theorem q2092 : (Jvm.Cond.code ({ cls := "ContourLabels", name := "isWithinBySpreading", desc := "(II)Z" } : Jvm.MethodName) prog_1_method_47_code (3 : Nat) (Option.some Jvm.ClassFile.FieldType.boolean)) ∈ lw_all := lw_g (lw_at lw_m9 94 rfl) rfl
theorem q2093 : (Jvm.Cond.methodLink "ContourLabels" (212 : Nat) ({ cls := "ContourLabels$State", name := "isWithinBySpreading", desc := "(II)Z" } : Jvm.MethodName)) ∈ lw_all := lw_g (lw_at lw_m9 95 rfl) rfl
theorem q2121 : (Jvm.Cond.instanceMethod ({ cls := "ContourLabels", name := "pointsWithin", desc := "(I)I" } : Jvm.MethodName)) ∈ lw_all := lw_g (lw_at lw_m9 123 rfl) rfl
theorem q2122 : (Jvm.Cond.selects "ContourLabels" ({ cls := "ContourLabels", name := "pointsWithin", desc := "(I)I" } : Jvm.MethodName) ({ cls := "ContourLabels", name := "pointsWithin", desc := "(I)I" } : Jvm.MethodName)) ∈ lw_all := lw_g (lw_at lw_m9 124 rfl) rfl
theorem q2123 : (Jvm.Cond.code ({ cls := "ContourLabels", name := "pointsWithin", desc := "(I)I" } : Jvm.MethodName) prog_1_method_48_code (2 : Nat) (Option.some Jvm.ClassFile.FieldType.int)) ∈ lw_all := lw_g (lw_at lw_m9 125 rfl) rfl
theorem q2124 : (Jvm.Cond.methodLink "ContourLabels" (215 : Nat) ({ cls := "ContourLabels$State", name := "pointsWithin", desc := "(I)I" } : Jvm.MethodName)) ∈ lw_all := lw_g (lw_at lw_m9 126 rfl) rfl
theorem q2133 : (Jvm.Cond.instanceMethod ({ cls := "ContourLabels", name := "lineRound", desc := "(I)I" } : Jvm.MethodName)) ∈ lw_all := lw_g (lw_at lw_m9 135 rfl) rfl
theorem q2134 : (Jvm.Cond.selects "ContourLabels" ({ cls := "ContourLabels", name := "lineRound", desc := "(I)I" } : Jvm.MethodName) ({ cls := "ContourLabels", name := "lineRound", desc := "(I)I" } : Jvm.MethodName)) ∈ lw_all := lw_g (lw_at lw_m9 136 rfl) rfl
theorem q2135 : (Jvm.Cond.code ({ cls := "ContourLabels", name := "lineRound", desc := "(I)I" } : Jvm.MethodName) prog_1_method_49_code (2 : Nat) (Option.some Jvm.ClassFile.FieldType.int)) ∈ lw_all := lw_g (lw_at lw_m9 137 rfl) rfl
theorem q2136 : (Jvm.Cond.methodLink "ContourLabels" (218 : Nat) ({ cls := "ContourLabels$State", name := "lineRound", desc := "(I)I" } : Jvm.MethodName)) ∈ lw_all := lw_g (lw_at lw_m9 138 rfl) rfl
theorem q2144 : (Jvm.Cond.instanceMethod ({ cls := "ContourLabels", name := "isSteady", desc := "(I)Z" } : Jvm.MethodName)) ∈ lw_all := lw_g (lw_at lw_m9 146 rfl) rfl
theorem q2145 : (Jvm.Cond.selects "ContourLabels" ({ cls := "ContourLabels", name := "isSteady", desc := "(I)Z" } : Jvm.MethodName) ({ cls := "ContourLabels", name := "isSteady", desc := "(I)Z" } : Jvm.MethodName)) ∈ lw_all := lw_g (lw_at lw_m9 147 rfl) rfl
theorem q2146 : (Jvm.Cond.code ({ cls := "ContourLabels", name := "isSteady", desc := "(I)Z" } : Jvm.MethodName) prog_1_method_50_code (2 : Nat) (Option.some Jvm.ClassFile.FieldType.boolean)) ∈ lw_all := lw_g (lw_at lw_m9 148 rfl) rfl
theorem q2147 : (Jvm.Cond.methodLink "ContourLabels" (221 : Nat) ({ cls := "ContourLabels$State", name := "isSteady", desc := "(I)Z" } : Jvm.MethodName)) ∈ lw_all := lw_g (lw_at lw_m9 149 rfl) rfl
theorem q2157 : (Jvm.Cond.instanceMethod ({ cls := "ContourLabels", name := "lineByLevel", desc := "(I)I" } : Jvm.MethodName)) ∈ lw_all := lw_g (lw_at lw_m9 159 rfl) rfl
theorem q2158 : (Jvm.Cond.selects "ContourLabels" ({ cls := "ContourLabels", name := "lineByLevel", desc := "(I)I" } : Jvm.MethodName) ({ cls := "ContourLabels", name := "lineByLevel", desc := "(I)I" } : Jvm.MethodName)) ∈ lw_all := lw_g (lw_at lw_m9 160 rfl) rfl
theorem q2159 : (Jvm.Cond.code ({ cls := "ContourLabels", name := "lineByLevel", desc := "(I)I" } : Jvm.MethodName) prog_1_method_51_code (2 : Nat) (Option.some Jvm.ClassFile.FieldType.int)) ∈ lw_all := lw_g (lw_at lw_m9 161 rfl) rfl
theorem q2160 : (Jvm.Cond.methodLink "ContourLabels" (224 : Nat) ({ cls := "ContourLabels$State", name := "lineByLevel", desc := "(I)I" } : Jvm.MethodName)) ∈ lw_all := lw_g (lw_at lw_m9 162 rfl) rfl
theorem q2168 : (Jvm.Cond.instanceMethod ({ cls := "ContourLabels", name := "append", desc := "(I)I" } : Jvm.MethodName)) ∈ lw_all := lw_g (lw_at lw_m9 170 rfl) rfl
theorem q2169 : (Jvm.Cond.selects "ContourLabels" ({ cls := "ContourLabels", name := "append", desc := "(I)I" } : Jvm.MethodName) ({ cls := "ContourLabels", name := "append", desc := "(I)I" } : Jvm.MethodName)) ∈ lw_all := lw_g (lw_at lw_m9 171 rfl) rfl
theorem q2170 : (Jvm.Cond.code ({ cls := "ContourLabels", name := "append", desc := "(I)I" } : Jvm.MethodName) prog_1_method_52_code (2 : Nat) (Option.some Jvm.ClassFile.FieldType.int)) ∈ lw_all := lw_g (lw_at lw_m9 172 rfl) rfl
theorem q2171 : (Jvm.Cond.methodLink "ContourLabels" (230 : Nat) ({ cls := "java/lang/StringBuilder", name := "append", desc := "(C)Ljava/lang/StringBuilder;" } : Jvm.MethodName)) ∈ lw_all := lw_g (lw_at lw_m9 173 rfl) rfl
theorem q2192 : (Jvm.Cond.instanceMethod ({ cls := "ContourLabels", name := "runText", desc := "()I" } : Jvm.MethodName)) ∈ lw_all := lw_g (lw_at lw_m9 194 rfl) rfl
theorem q2193 : (Jvm.Cond.selects "ContourLabels" ({ cls := "ContourLabels", name := "runText", desc := "()I" } : Jvm.MethodName) ({ cls := "ContourLabels", name := "runText", desc := "()I" } : Jvm.MethodName)) ∈ lw_all := lw_g (lw_at lw_m9 195 rfl) rfl
theorem q2194 : (Jvm.Cond.code ({ cls := "ContourLabels", name := "runText", desc := "()I" } : Jvm.MethodName) prog_1_method_55_code (2 : Nat) (Option.some Jvm.ClassFile.FieldType.int)) ∈ lw_all := lw_g (lw_at lw_m9 196 rfl) rfl
theorem q2195 : (Jvm.Cond.methodLink "ContourLabels" (248 : Nat) ({ cls := "ContourLabels$TextReader", name := "carryOut", desc := "(LContourLabels$State;)I" } : Jvm.MethodName)) ∈ lw_all := lw_g (lw_at lw_m9 197 rfl) rfl
theorem q2207 : (Jvm.Cond.instanceMethod ({ cls := "ContourLabels", name := "undo", desc := "()I" } : Jvm.MethodName)) ∈ lw_all := lw_g (lw_at lw_m9 209 rfl) rfl
theorem q2208 : (Jvm.Cond.selects "ContourLabels" ({ cls := "ContourLabels", name := "undo", desc := "()I" } : Jvm.MethodName) ({ cls := "ContourLabels", name := "undo", desc := "()I" } : Jvm.MethodName)) ∈ lw_all := lw_g (lw_at lw_m9 210 rfl) rfl
theorem q2209 : (Jvm.Cond.code ({ cls := "ContourLabels", name := "undo", desc := "()I" } : Jvm.MethodName) prog_1_method_56_code (1 : Nat) (Option.some Jvm.ClassFile.FieldType.int)) ∈ lw_all := lw_g (lw_at lw_m9 211 rfl) rfl
theorem q2210 : (Jvm.Cond.methodLink "ContourLabels" (252 : Nat) ({ cls := "java/util/ArrayDeque", name := "isEmpty", desc := "()Z" } : Jvm.MethodName)) ∈ lw_all := lw_g (lw_at lw_m9 212 rfl) rfl
theorem q2214 : (Jvm.Cond.methodLink "ContourLabels" (255 : Nat) ({ cls := "java/util/ArrayDeque", name := "removeLast", desc := "()Ljava/lang/Object;" } : Jvm.MethodName)) ∈ lw_all := lw_g (lw_at lw_m9 216 rfl) rfl
theorem q2229 : (Jvm.Cond.instanceMethod ({ cls := "ContourLabels", name := "restoreSnapshot", desc := "()I" } : Jvm.MethodName)) ∈ lw_all := lw_g (lw_at lw_m9 231 rfl) rfl
theorem q2230 : (Jvm.Cond.selects "ContourLabels" ({ cls := "ContourLabels", name := "restoreSnapshot", desc := "()I" } : Jvm.MethodName) ({ cls := "ContourLabels", name := "restoreSnapshot", desc := "()I" } : Jvm.MethodName)) ∈ lw_all := lw_g (lw_at lw_m9 232 rfl) rfl
theorem q2231 : (Jvm.Cond.code ({ cls := "ContourLabels", name := "restoreSnapshot", desc := "()I" } : Jvm.MethodName) prog_1_method_59_code (1 : Nat) (Option.some Jvm.ClassFile.FieldType.int)) ∈ lw_all := lw_g (lw_at lw_m9 233 rfl) rfl
theorem q2667 : (Jvm.Cond.castable "ContourLabels" "java/lang/Object") ∈ lw_tbl := lw_at lw_m11 189 rfl
theorem in_X1 : ∀ w ∈ wsX10, w ∈ lw_all := lw_in wsX10 [234, 236, 238, 240] (by decide +kernel) (by decide +kernel)

/-! ContourLabels$State -/
set_option maxRecDepth 100000
def RX2 : String := "ContourLabels$State"
def TX2 : u_T := fun k => match k with
  | 0 => ("ContourLabels$State", "lines", "Ljava/util/List;", true)
  | _ => ("ContourLabels$State", "gap", "I", false)
def tyX2 : Nat → FieldType := fun k => match k with
  | 0 => .object "java/util/List"
  | _ => .int
abbrev wsX20 : List Cond := u_ws RX2 TX2 2
theorem nmX2 : ∀ a, a < 2 → ∀ b, b < 2 → a ≠ b → (TX2 a).2.1 ≠ (TX2 b).2.1 := by decide +kernel
theorem tyX2_ok : ∀ k, k < 2 → parseFieldDescriptor (TX2 k).2.2.1 = some (tyX2 k) := by decide +kernel
abbrev cX2_init : ByteArray := prog_10_method_1_code
def yX2_init : MethodName := ⟨RX2, "<init>", "()V"⟩
def dkwX2_init_0 : List UInt8 := [42, 183, 0, 3, 42, 187, 0, 9, 89, 183, 0, 11, 181, 0, 12, 42, 5, 181, 0, 18, 177]
abbrev dktX2_init_0 : List UInt8 := dkwX2_init_0 ++ []
theorem dksX2_init_0 : cX2_init.data.toList.drop 0 = dktX2_init_0 := by decide +kernel
theorem dX2_init_0 : decode cX2_init 0 = .ok (.aload_n 0, 1) := dk_42 (dk_at dksX2_init_0 0 rfl rfl)
theorem dX2_init_1 : decode cX2_init 1 = .ok (.invokespecial 3, 3) := dk_183 0 3 (dk_at dksX2_init_0 1 rfl rfl)
theorem dX2_init_4 : decode cX2_init 4 = .ok (.aload_n 0, 1) := dk_42 (dk_at dksX2_init_0 4 rfl rfl)
theorem dX2_init_5 : decode cX2_init 5 = .ok (.new 9, 3) := dk_187 0 9 (dk_at dksX2_init_0 5 rfl rfl)
theorem dX2_init_8 : decode cX2_init 8 = .ok (.dup, 1) := dk_89 (dk_at dksX2_init_0 8 rfl rfl)
theorem dX2_init_9 : decode cX2_init 9 = .ok (.invokespecial 11, 3) := dk_183 0 11 (dk_at dksX2_init_0 9 rfl rfl)
theorem dX2_init_12 : decode cX2_init 12 = .ok (.putfield 12, 3) := dk_181 0 12 (dk_at dksX2_init_0 12 rfl rfl)
theorem dX2_init_15 : decode cX2_init 15 = .ok (.aload_n 0, 1) := dk_42 (dk_at dksX2_init_0 15 rfl rfl)
theorem dX2_init_16 : decode cX2_init 16 = .ok (.iconst 2, 1) := dk_5 (dk_at dksX2_init_0 16 rfl rfl)
theorem dX2_init_17 : decode cX2_init 17 = .ok (.putfield 18, 3) := dk_181 0 18 (dk_at dksX2_init_0 17 rfl rfl)
theorem dX2_init_20 : decode cX2_init 20 = .ok (.return_, 1) := dk_177 (dk_at dksX2_init_0 20 rfl rfl)
abbrev cX2_copy : ByteArray := prog_10_method_2_code
def yX2_copy : MethodName := ⟨RX2, "copy", "()LContourLabels$State;"⟩
def dkwX2_copy_2 : List UInt8 := [87, 132, 2, 1, 167, 255, 214, 43, 42, 180, 0, 18, 181, 0, 18, 43, 176]
abbrev dktX2_copy_2 : List UInt8 := dkwX2_copy_2 ++ []
def dkwX2_copy_1 : List UInt8 := [180, 0, 12, 42, 180, 0, 12, 28, 185, 0, 29, 2, 0, 192, 0, 33, 182, 0, 35, 185, 0, 39, 2, 0]
abbrev dktX2_copy_1 : List UInt8 := dkwX2_copy_1 ++ dktX2_copy_2
def dkwX2_copy_0 : List UInt8 := [187, 0, 13, 89, 183, 0, 22, 76, 3, 61, 28, 42, 180, 0, 12, 185, 0, 23, 1, 0, 162, 0, 35, 43]
abbrev dktX2_copy_0 : List UInt8 := dkwX2_copy_0 ++ dktX2_copy_1
theorem dksX2_copy_0 : cX2_copy.data.toList.drop 0 = dktX2_copy_0 := by decide +kernel
theorem dksX2_copy_1 : cX2_copy.data.toList.drop 24 = dktX2_copy_1 := dk_seg dksX2_copy_0 24 rfl rfl
theorem dksX2_copy_2 : cX2_copy.data.toList.drop 48 = dktX2_copy_2 := dk_seg dksX2_copy_1 24 rfl rfl
theorem dX2_copy_0 : decode cX2_copy 0 = .ok (.new 13, 3) := dk_187 0 13 (dk_at dksX2_copy_0 0 rfl rfl)
theorem dX2_copy_3 : decode cX2_copy 3 = .ok (.dup, 1) := dk_89 (dk_at dksX2_copy_0 3 rfl rfl)
theorem dX2_copy_4 : decode cX2_copy 4 = .ok (.invokespecial 22, 3) := dk_183 0 22 (dk_at dksX2_copy_0 4 rfl rfl)
theorem dX2_copy_7 : decode cX2_copy 7 = .ok (.astore_n 1, 1) := dk_76 (dk_at dksX2_copy_0 7 rfl rfl)
theorem dX2_copy_8 : decode cX2_copy 8 = .ok (.iconst 0, 1) := dk_3 (dk_at dksX2_copy_0 8 rfl rfl)
theorem dX2_copy_9 : decode cX2_copy 9 = .ok (.istore_n 2, 1) := dk_61 (dk_at dksX2_copy_0 9 rfl rfl)
theorem dX2_copy_10 : decode cX2_copy 10 = .ok (.iload_n 2, 1) := dk_28 (dk_at dksX2_copy_0 10 rfl rfl)
theorem dX2_copy_11 : decode cX2_copy 11 = .ok (.aload_n 0, 1) := dk_42 (dk_at dksX2_copy_0 11 rfl rfl)
theorem dX2_copy_12 : decode cX2_copy 12 = .ok (.getfield 12, 3) := dk_180 0 12 (dk_at dksX2_copy_0 12 rfl rfl)
theorem dX2_copy_15 : decode cX2_copy 15 = .ok (.invokeinterface 23 1, 5) := by decide +kernel
theorem dX2_copy_20 : decode cX2_copy 20 = .ok (.if_icmp .ge 35, 3) := dk_162 0 35 (dk_at dksX2_copy_0 20 rfl rfl)
theorem dX2_copy_23 : decode cX2_copy 23 = .ok (.aload_n 1, 1) := dk_43 (dk_at dksX2_copy_0 23 rfl rfl)
theorem dX2_copy_24 : decode cX2_copy 24 = .ok (.getfield 12, 3) := dk_180 0 12 (dk_at dksX2_copy_1 0 rfl rfl)
theorem dX2_copy_27 : decode cX2_copy 27 = .ok (.aload_n 0, 1) := dk_42 (dk_at dksX2_copy_1 3 rfl rfl)
theorem dX2_copy_28 : decode cX2_copy 28 = .ok (.getfield 12, 3) := dk_180 0 12 (dk_at dksX2_copy_1 4 rfl rfl)
theorem dX2_copy_31 : decode cX2_copy 31 = .ok (.iload_n 2, 1) := dk_28 (dk_at dksX2_copy_1 7 rfl rfl)
theorem dX2_copy_32 : decode cX2_copy 32 = .ok (.invokeinterface 29 2, 5) := by decide +kernel
theorem dX2_copy_37 : decode cX2_copy 37 = .ok (.checkcast 33, 3) := dk_192 0 33 (dk_at dksX2_copy_1 13 rfl rfl)
theorem dX2_copy_40 : decode cX2_copy 40 = .ok (.invokevirtual 35, 3) := dk_182 0 35 (dk_at dksX2_copy_1 16 rfl rfl)
theorem dX2_copy_43 : decode cX2_copy 43 = .ok (.invokeinterface 39 2, 5) := by decide +kernel
theorem dX2_copy_48 : decode cX2_copy 48 = .ok (.pop, 1) := dk_87 (dk_at dksX2_copy_2 0 rfl rfl)
theorem dX2_copy_49 : decode cX2_copy 49 = .ok (.iinc 2 1, 3) := dk_132 2 1 (dk_at dksX2_copy_2 1 rfl rfl)
theorem dX2_copy_52 : decode cX2_copy 52 = .ok (.goto (-42), 3) := dk_167 255 214 (dk_at dksX2_copy_2 4 rfl rfl)
theorem dX2_copy_55 : decode cX2_copy 55 = .ok (.aload_n 1, 1) := dk_43 (dk_at dksX2_copy_2 7 rfl rfl)
theorem dX2_copy_56 : decode cX2_copy 56 = .ok (.aload_n 0, 1) := dk_42 (dk_at dksX2_copy_2 8 rfl rfl)
theorem dX2_copy_57 : decode cX2_copy 57 = .ok (.getfield 18, 3) := dk_180 0 18 (dk_at dksX2_copy_2 9 rfl rfl)
theorem dX2_copy_60 : decode cX2_copy 60 = .ok (.putfield 18, 3) := dk_181 0 18 (dk_at dksX2_copy_2 12 rfl rfl)
theorem dX2_copy_63 : decode cX2_copy 63 = .ok (.aload_n 1, 1) := dk_43 (dk_at dksX2_copy_2 15 rfl rfl)
theorem dX2_copy_64 : decode cX2_copy 64 = .ok (.areturn, 1) := dk_176 (dk_at dksX2_copy_2 16 rfl rfl)
abbrev cX2_labelAll : ByteArray := prog_10_method_19_code
def yX2_labelAll : MethodName := ⟨RX2, "labelAll", "()I"⟩
def dkwX2_labelAll_4 : List UInt8 := [96, 60, 167, 255, 215, 27, 172]
abbrev dktX2_labelAll_4 : List UInt8 := dkwX2_labelAll_4 ++ []
def dkwX2_labelAll_3 : List UInt8 := [192, 0, 169, 182, 0, 199, 62, 27, 42, 29, 16, 8, 112, 182, 0, 202, 153, 0, 7, 4, 167, 0, 4, 3]
abbrev dktX2_labelAll_3 : List UInt8 := dkwX2_labelAll_3 ++ dktX2_labelAll_4
def dkwX2_labelAll_2 : List UInt8 := [182, 0, 182, 185, 0, 186, 1, 0, 77, 44, 185, 0, 192, 1, 0, 153, 0, 38, 44, 185, 0, 197, 1, 0]
abbrev dktX2_labelAll_2 : List UInt8 := dkwX2_labelAll_2 ++ dktX2_labelAll_3
def dkwX2_labelAll_1 : List UInt8 := [185, 0, 29, 2, 0, 192, 0, 33, 2, 181, 0, 106, 132, 1, 1, 167, 255, 223, 3, 60, 42, 182, 0, 178]
abbrev dktX2_labelAll_1 : List UInt8 := dkwX2_labelAll_1 ++ dktX2_labelAll_2
def dkwX2_labelAll_0 : List UInt8 := [3, 60, 27, 42, 180, 0, 12, 185, 0, 23, 1, 0, 162, 0, 26, 42, 180, 0, 12, 27]
abbrev dktX2_labelAll_0 : List UInt8 := dkwX2_labelAll_0 ++ dktX2_labelAll_1
theorem dksX2_labelAll_0 : cX2_labelAll.data.toList.drop 0 = dktX2_labelAll_0 := by decide +kernel
theorem dksX2_labelAll_1 : cX2_labelAll.data.toList.drop 20 = dktX2_labelAll_1 := dk_seg dksX2_labelAll_0 20 rfl rfl
theorem dksX2_labelAll_2 : cX2_labelAll.data.toList.drop 44 = dktX2_labelAll_2 := dk_seg dksX2_labelAll_1 24 rfl rfl
theorem dksX2_labelAll_3 : cX2_labelAll.data.toList.drop 68 = dktX2_labelAll_3 := dk_seg dksX2_labelAll_2 24 rfl rfl
theorem dksX2_labelAll_4 : cX2_labelAll.data.toList.drop 92 = dktX2_labelAll_4 := dk_seg dksX2_labelAll_3 24 rfl rfl
theorem dX2_labelAll_0 : decode cX2_labelAll 0 = .ok (.iconst 0, 1) := dk_3 (dk_at dksX2_labelAll_0 0 rfl rfl)
theorem dX2_labelAll_1 : decode cX2_labelAll 1 = .ok (.istore_n 1, 1) := dk_60 (dk_at dksX2_labelAll_0 1 rfl rfl)
theorem dX2_labelAll_2 : decode cX2_labelAll 2 = .ok (.iload_n 1, 1) := dk_27 (dk_at dksX2_labelAll_0 2 rfl rfl)
theorem dX2_labelAll_3 : decode cX2_labelAll 3 = .ok (.aload_n 0, 1) := dk_42 (dk_at dksX2_labelAll_0 3 rfl rfl)
theorem dX2_labelAll_4 : decode cX2_labelAll 4 = .ok (.getfield 12, 3) := dk_180 0 12 (dk_at dksX2_labelAll_0 4 rfl rfl)
theorem dX2_labelAll_7 : decode cX2_labelAll 7 = .ok (.invokeinterface 23 1, 5) := by decide +kernel
theorem dX2_labelAll_12 : decode cX2_labelAll 12 = .ok (.if_icmp .ge 26, 3) := dk_162 0 26 (dk_at dksX2_labelAll_0 12 rfl rfl)
theorem dX2_labelAll_15 : decode cX2_labelAll 15 = .ok (.aload_n 0, 1) := dk_42 (dk_at dksX2_labelAll_0 15 rfl rfl)
theorem dX2_labelAll_16 : decode cX2_labelAll 16 = .ok (.getfield 12, 3) := dk_180 0 12 (dk_at dksX2_labelAll_0 16 rfl rfl)
theorem dX2_labelAll_19 : decode cX2_labelAll 19 = .ok (.iload_n 1, 1) := dk_27 (dk_at dksX2_labelAll_0 19 rfl rfl)
theorem dX2_labelAll_20 : decode cX2_labelAll 20 = .ok (.invokeinterface 29 2, 5) := by decide +kernel
theorem dX2_labelAll_25 : decode cX2_labelAll 25 = .ok (.checkcast 33, 3) := dk_192 0 33 (dk_at dksX2_labelAll_1 5 rfl rfl)
theorem dX2_labelAll_28 : decode cX2_labelAll 28 = .ok (.iconst (-1), 1) := dk_2 (dk_at dksX2_labelAll_1 8 rfl rfl)
theorem dX2_labelAll_29 : decode cX2_labelAll 29 = .ok (.putfield 106, 3) := dk_181 0 106 (dk_at dksX2_labelAll_1 9 rfl rfl)
theorem dX2_labelAll_32 : decode cX2_labelAll 32 = .ok (.iinc 1 1, 3) := dk_132 1 1 (dk_at dksX2_labelAll_1 12 rfl rfl)
theorem dX2_labelAll_35 : decode cX2_labelAll 35 = .ok (.goto (-33), 3) := dk_167 255 223 (dk_at dksX2_labelAll_1 15 rfl rfl)
theorem dX2_labelAll_38 : decode cX2_labelAll 38 = .ok (.iconst 0, 1) := dk_3 (dk_at dksX2_labelAll_1 18 rfl rfl)
theorem dX2_labelAll_39 : decode cX2_labelAll 39 = .ok (.istore_n 1, 1) := dk_60 (dk_at dksX2_labelAll_1 19 rfl rfl)
theorem dX2_labelAll_40 : decode cX2_labelAll 40 = .ok (.aload_n 0, 1) := dk_42 (dk_at dksX2_labelAll_1 20 rfl rfl)
theorem dX2_labelAll_41 : decode cX2_labelAll 41 = .ok (.invokevirtual 178, 3) := dk_182 0 178 (dk_at dksX2_labelAll_1 21 rfl rfl)
theorem dX2_labelAll_44 : decode cX2_labelAll 44 = .ok (.invokevirtual 182, 3) := dk_182 0 182 (dk_at dksX2_labelAll_2 0 rfl rfl)
theorem dX2_labelAll_47 : decode cX2_labelAll 47 = .ok (.invokeinterface 186 1, 5) := by decide +kernel
theorem dX2_labelAll_52 : decode cX2_labelAll 52 = .ok (.astore_n 2, 1) := dk_77 (dk_at dksX2_labelAll_2 8 rfl rfl)
theorem dX2_labelAll_53 : decode cX2_labelAll 53 = .ok (.aload_n 2, 1) := dk_44 (dk_at dksX2_labelAll_2 9 rfl rfl)
theorem dX2_labelAll_54 : decode cX2_labelAll 54 = .ok (.invokeinterface 192 1, 5) := by decide +kernel
theorem dX2_labelAll_59 : decode cX2_labelAll 59 = .ok (.ifCond .eq 38, 3) := dk_153 0 38 (dk_at dksX2_labelAll_2 15 rfl rfl)
theorem dX2_labelAll_62 : decode cX2_labelAll 62 = .ok (.aload_n 2, 1) := dk_44 (dk_at dksX2_labelAll_2 18 rfl rfl)
theorem dX2_labelAll_63 : decode cX2_labelAll 63 = .ok (.invokeinterface 197 1, 5) := by decide +kernel
theorem dX2_labelAll_68 : decode cX2_labelAll 68 = .ok (.checkcast 169, 3) := dk_192 0 169 (dk_at dksX2_labelAll_3 0 rfl rfl)
theorem dX2_labelAll_71 : decode cX2_labelAll 71 = .ok (.invokevirtual 199, 3) := dk_182 0 199 (dk_at dksX2_labelAll_3 3 rfl rfl)
theorem dX2_labelAll_74 : decode cX2_labelAll 74 = .ok (.istore_n 3, 1) := dk_62 (dk_at dksX2_labelAll_3 6 rfl rfl)
theorem dX2_labelAll_75 : decode cX2_labelAll 75 = .ok (.iload_n 1, 1) := dk_27 (dk_at dksX2_labelAll_3 7 rfl rfl)
theorem dX2_labelAll_76 : decode cX2_labelAll 76 = .ok (.aload_n 0, 1) := dk_42 (dk_at dksX2_labelAll_3 8 rfl rfl)
theorem dX2_labelAll_77 : decode cX2_labelAll 77 = .ok (.iload_n 3, 1) := dk_29 (dk_at dksX2_labelAll_3 9 rfl rfl)
theorem dX2_labelAll_78 : decode cX2_labelAll 78 = .ok (.bipush 8, 2) := dk_16 8 (dk_at dksX2_labelAll_3 10 rfl rfl)
theorem dX2_labelAll_80 : decode cX2_labelAll 80 = .ok (.irem, 1) := dk_112 (dk_at dksX2_labelAll_3 12 rfl rfl)
theorem dX2_labelAll_81 : decode cX2_labelAll 81 = .ok (.invokevirtual 202, 3) := dk_182 0 202 (dk_at dksX2_labelAll_3 13 rfl rfl)
theorem dX2_labelAll_84 : decode cX2_labelAll 84 = .ok (.ifCond .eq 7, 3) := dk_153 0 7 (dk_at dksX2_labelAll_3 16 rfl rfl)
theorem dX2_labelAll_87 : decode cX2_labelAll 87 = .ok (.iconst 1, 1) := dk_4 (dk_at dksX2_labelAll_3 19 rfl rfl)
theorem dX2_labelAll_88 : decode cX2_labelAll 88 = .ok (.goto 4, 3) := dk_167 0 4 (dk_at dksX2_labelAll_3 20 rfl rfl)
theorem dX2_labelAll_91 : decode cX2_labelAll 91 = .ok (.iconst 0, 1) := dk_3 (dk_at dksX2_labelAll_3 23 rfl rfl)
theorem dX2_labelAll_92 : decode cX2_labelAll 92 = .ok (.iadd, 1) := dk_96 (dk_at dksX2_labelAll_4 0 rfl rfl)
theorem dX2_labelAll_93 : decode cX2_labelAll 93 = .ok (.istore_n 1, 1) := dk_60 (dk_at dksX2_labelAll_4 1 rfl rfl)
theorem dX2_labelAll_94 : decode cX2_labelAll 94 = .ok (.goto (-41), 3) := dk_167 255 215 (dk_at dksX2_labelAll_4 2 rfl rfl)
theorem dX2_labelAll_97 : decode cX2_labelAll 97 = .ok (.iload_n 1, 1) := dk_27 (dk_at dksX2_labelAll_4 5 rfl rfl)
theorem dX2_labelAll_98 : decode cX2_labelAll 98 = .ok (.ireturn, 1) := dk_172 (dk_at dksX2_labelAll_4 6 rfl rfl)
abbrev cX2_byLevels : ByteArray := prog_10_method_17_code
def yX2_byLevels : MethodName := ⟨RX2, "byLevels", "()Ljava/util/TreeMap;"⟩
def dkwX2_byLevels_3 : List UInt8 := [176]
abbrev dktX2_byLevels_3 : List UInt8 := dkwX2_byLevels_3 ++ []
def dkwX2_byLevels_2 : List UInt8 := [42, 180, 0, 12, 28, 185, 0, 29, 2, 0, 192, 0, 33, 182, 0, 174, 87, 132, 2, 1, 167, 255, 198, 43]
abbrev dktX2_byLevels_2 : List UInt8 := dkwX2_byLevels_2 ++ dktX2_byLevels_3
def dkwX2_byLevels_1 : List UInt8 := [16, 8, 42, 180, 0, 12, 28, 185, 0, 29, 2, 0, 192, 0, 33, 180, 0, 165, 104, 28, 96, 184, 0, 168]
abbrev dktX2_byLevels_1 : List UInt8 := dkwX2_byLevels_1 ++ dktX2_byLevels_2
def dkwX2_byLevels_0 : List UInt8 := [187, 0, 162, 89, 183, 0, 164, 76, 3, 61, 28, 42, 180, 0, 12, 185, 0, 23, 1, 0, 162, 0, 51, 43]
abbrev dktX2_byLevels_0 : List UInt8 := dkwX2_byLevels_0 ++ dktX2_byLevels_1
theorem dksX2_byLevels_0 : cX2_byLevels.data.toList.drop 0 = dktX2_byLevels_0 := by decide +kernel
theorem dksX2_byLevels_1 : cX2_byLevels.data.toList.drop 24 = dktX2_byLevels_1 := dk_seg dksX2_byLevels_0 24 rfl rfl
theorem dksX2_byLevels_2 : cX2_byLevels.data.toList.drop 48 = dktX2_byLevels_2 := dk_seg dksX2_byLevels_1 24 rfl rfl
theorem dksX2_byLevels_3 : cX2_byLevels.data.toList.drop 72 = dktX2_byLevels_3 := dk_seg dksX2_byLevels_2 24 rfl rfl
theorem dX2_byLevels_0 : decode cX2_byLevels 0 = .ok (.new 162, 3) := dk_187 0 162 (dk_at dksX2_byLevels_0 0 rfl rfl)
theorem dX2_byLevels_3 : decode cX2_byLevels 3 = .ok (.dup, 1) := dk_89 (dk_at dksX2_byLevels_0 3 rfl rfl)
theorem dX2_byLevels_4 : decode cX2_byLevels 4 = .ok (.invokespecial 164, 3) := dk_183 0 164 (dk_at dksX2_byLevels_0 4 rfl rfl)
theorem dX2_byLevels_7 : decode cX2_byLevels 7 = .ok (.astore_n 1, 1) := dk_76 (dk_at dksX2_byLevels_0 7 rfl rfl)
theorem dX2_byLevels_8 : decode cX2_byLevels 8 = .ok (.iconst 0, 1) := dk_3 (dk_at dksX2_byLevels_0 8 rfl rfl)
theorem dX2_byLevels_9 : decode cX2_byLevels 9 = .ok (.istore_n 2, 1) := dk_61 (dk_at dksX2_byLevels_0 9 rfl rfl)
theorem dX2_byLevels_10 : decode cX2_byLevels 10 = .ok (.iload_n 2, 1) := dk_28 (dk_at dksX2_byLevels_0 10 rfl rfl)
theorem dX2_byLevels_11 : decode cX2_byLevels 11 = .ok (.aload_n 0, 1) := dk_42 (dk_at dksX2_byLevels_0 11 rfl rfl)
theorem dX2_byLevels_12 : decode cX2_byLevels 12 = .ok (.getfield 12, 3) := dk_180 0 12 (dk_at dksX2_byLevels_0 12 rfl rfl)
theorem dX2_byLevels_15 : decode cX2_byLevels 15 = .ok (.invokeinterface 23 1, 5) := by decide +kernel
theorem dX2_byLevels_20 : decode cX2_byLevels 20 = .ok (.if_icmp .ge 51, 3) := dk_162 0 51 (dk_at dksX2_byLevels_0 20 rfl rfl)
theorem dX2_byLevels_23 : decode cX2_byLevels 23 = .ok (.aload_n 1, 1) := dk_43 (dk_at dksX2_byLevels_0 23 rfl rfl)
theorem dX2_byLevels_24 : decode cX2_byLevels 24 = .ok (.bipush 8, 2) := dk_16 8 (dk_at dksX2_byLevels_1 0 rfl rfl)
theorem dX2_byLevels_26 : decode cX2_byLevels 26 = .ok (.aload_n 0, 1) := dk_42 (dk_at dksX2_byLevels_1 2 rfl rfl)
theorem dX2_byLevels_27 : decode cX2_byLevels 27 = .ok (.getfield 12, 3) := dk_180 0 12 (dk_at dksX2_byLevels_1 3 rfl rfl)
theorem dX2_byLevels_30 : decode cX2_byLevels 30 = .ok (.iload_n 2, 1) := dk_28 (dk_at dksX2_byLevels_1 6 rfl rfl)
theorem dX2_byLevels_31 : decode cX2_byLevels 31 = .ok (.invokeinterface 29 2, 5) := by decide +kernel
theorem dX2_byLevels_36 : decode cX2_byLevels 36 = .ok (.checkcast 33, 3) := dk_192 0 33 (dk_at dksX2_byLevels_1 12 rfl rfl)
theorem dX2_byLevels_39 : decode cX2_byLevels 39 = .ok (.getfield 165, 3) := dk_180 0 165 (dk_at dksX2_byLevels_1 15 rfl rfl)
theorem dX2_byLevels_42 : decode cX2_byLevels 42 = .ok (.imul, 1) := dk_104 (dk_at dksX2_byLevels_1 18 rfl rfl)
theorem dX2_byLevels_43 : decode cX2_byLevels 43 = .ok (.iload_n 2, 1) := dk_28 (dk_at dksX2_byLevels_1 19 rfl rfl)
theorem dX2_byLevels_44 : decode cX2_byLevels 44 = .ok (.iadd, 1) := dk_96 (dk_at dksX2_byLevels_1 20 rfl rfl)
theorem dX2_byLevels_45 : decode cX2_byLevels 45 = .ok (.invokestatic 168, 3) := dk_184 0 168 (dk_at dksX2_byLevels_1 21 rfl rfl)
theorem dX2_byLevels_48 : decode cX2_byLevels 48 = .ok (.aload_n 0, 1) := dk_42 (dk_at dksX2_byLevels_2 0 rfl rfl)
theorem dX2_byLevels_49 : decode cX2_byLevels 49 = .ok (.getfield 12, 3) := dk_180 0 12 (dk_at dksX2_byLevels_2 1 rfl rfl)
theorem dX2_byLevels_52 : decode cX2_byLevels 52 = .ok (.iload_n 2, 1) := dk_28 (dk_at dksX2_byLevels_2 4 rfl rfl)
theorem dX2_byLevels_53 : decode cX2_byLevels 53 = .ok (.invokeinterface 29 2, 5) := by decide +kernel
theorem dX2_byLevels_58 : decode cX2_byLevels 58 = .ok (.checkcast 33, 3) := dk_192 0 33 (dk_at dksX2_byLevels_2 10 rfl rfl)
theorem dX2_byLevels_61 : decode cX2_byLevels 61 = .ok (.invokevirtual 174, 3) := dk_182 0 174 (dk_at dksX2_byLevels_2 13 rfl rfl)
theorem dX2_byLevels_64 : decode cX2_byLevels 64 = .ok (.pop, 1) := dk_87 (dk_at dksX2_byLevels_2 16 rfl rfl)
theorem dX2_byLevels_65 : decode cX2_byLevels 65 = .ok (.iinc 2 1, 3) := dk_132 2 1 (dk_at dksX2_byLevels_2 17 rfl rfl)
theorem dX2_byLevels_68 : decode cX2_byLevels 68 = .ok (.goto (-58), 3) := dk_167 255 198 (dk_at dksX2_byLevels_2 20 rfl rfl)
theorem dX2_byLevels_71 : decode cX2_byLevels 71 = .ok (.aload_n 1, 1) := dk_43 (dk_at dksX2_byLevels_2 23 rfl rfl)
theorem dX2_byLevels_72 : decode cX2_byLevels 72 = .ok (.areturn, 1) := dk_176 (dk_at dksX2_byLevels_3 0 rfl rfl)
abbrev cX2_labelBest : ByteArray := prog_10_method_16_code
def yX2_labelBest : MethodName := ⟨RX2, "labelBest", "(I)Z"⟩
def dkwX2_labelBest_1 : List UInt8 := [27, 28, 182, 0, 160, 153, 0, 7, 4, 167, 0, 4, 3, 172]
abbrev dktX2_labelBest_1 : List UInt8 := dkwX2_labelBest_1 ++ []
def dkwX2_labelBest_0 : List UInt8 := [42, 27, 182, 0, 88, 153, 0, 11, 42, 27, 182, 0, 157, 167, 0, 4, 2, 61, 28, 2, 159, 0, 16, 42]
abbrev dktX2_labelBest_0 : List UInt8 := dkwX2_labelBest_0 ++ dktX2_labelBest_1
theorem dksX2_labelBest_0 : cX2_labelBest.data.toList.drop 0 = dktX2_labelBest_0 := by decide +kernel
theorem dksX2_labelBest_1 : cX2_labelBest.data.toList.drop 24 = dktX2_labelBest_1 := dk_seg dksX2_labelBest_0 24 rfl rfl
theorem dX2_labelBest_0 : decode cX2_labelBest 0 = .ok (.aload_n 0, 1) := dk_42 (dk_at dksX2_labelBest_0 0 rfl rfl)
theorem dX2_labelBest_1 : decode cX2_labelBest 1 = .ok (.iload_n 1, 1) := dk_27 (dk_at dksX2_labelBest_0 1 rfl rfl)
theorem dX2_labelBest_2 : decode cX2_labelBest 2 = .ok (.invokevirtual 88, 3) := dk_182 0 88 (dk_at dksX2_labelBest_0 2 rfl rfl)
theorem dX2_labelBest_5 : decode cX2_labelBest 5 = .ok (.ifCond .eq 11, 3) := dk_153 0 11 (dk_at dksX2_labelBest_0 5 rfl rfl)
theorem dX2_labelBest_8 : decode cX2_labelBest 8 = .ok (.aload_n 0, 1) := dk_42 (dk_at dksX2_labelBest_0 8 rfl rfl)
theorem dX2_labelBest_9 : decode cX2_labelBest 9 = .ok (.iload_n 1, 1) := dk_27 (dk_at dksX2_labelBest_0 9 rfl rfl)
theorem dX2_labelBest_10 : decode cX2_labelBest 10 = .ok (.invokevirtual 157, 3) := dk_182 0 157 (dk_at dksX2_labelBest_0 10 rfl rfl)
theorem dX2_labelBest_13 : decode cX2_labelBest 13 = .ok (.goto 4, 3) := dk_167 0 4 (dk_at dksX2_labelBest_0 13 rfl rfl)
theorem dX2_labelBest_16 : decode cX2_labelBest 16 = .ok (.iconst (-1), 1) := dk_2 (dk_at dksX2_labelBest_0 16 rfl rfl)
theorem dX2_labelBest_17 : decode cX2_labelBest 17 = .ok (.istore_n 2, 1) := dk_61 (dk_at dksX2_labelBest_0 17 rfl rfl)
theorem dX2_labelBest_18 : decode cX2_labelBest 18 = .ok (.iload_n 2, 1) := dk_28 (dk_at dksX2_labelBest_0 18 rfl rfl)
theorem dX2_labelBest_19 : decode cX2_labelBest 19 = .ok (.iconst (-1), 1) := dk_2 (dk_at dksX2_labelBest_0 19 rfl rfl)
theorem dX2_labelBest_20 : decode cX2_labelBest 20 = .ok (.if_icmp .eq 16, 3) := dk_159 0 16 (dk_at dksX2_labelBest_0 20 rfl rfl)
theorem dX2_labelBest_23 : decode cX2_labelBest 23 = .ok (.aload_n 0, 1) := dk_42 (dk_at dksX2_labelBest_0 23 rfl rfl)
theorem dX2_labelBest_24 : decode cX2_labelBest 24 = .ok (.iload_n 1, 1) := dk_27 (dk_at dksX2_labelBest_1 0 rfl rfl)
theorem dX2_labelBest_25 : decode cX2_labelBest 25 = .ok (.iload_n 2, 1) := dk_28 (dk_at dksX2_labelBest_1 1 rfl rfl)
theorem dX2_labelBest_26 : decode cX2_labelBest 26 = .ok (.invokevirtual 160, 3) := dk_182 0 160 (dk_at dksX2_labelBest_1 2 rfl rfl)
theorem dX2_labelBest_29 : decode cX2_labelBest 29 = .ok (.ifCond .eq 7, 3) := dk_153 0 7 (dk_at dksX2_labelBest_1 5 rfl rfl)
theorem dX2_labelBest_32 : decode cX2_labelBest 32 = .ok (.iconst 1, 1) := dk_4 (dk_at dksX2_labelBest_1 8 rfl rfl)
theorem dX2_labelBest_33 : decode cX2_labelBest 33 = .ok (.goto 4, 3) := dk_167 0 4 (dk_at dksX2_labelBest_1 9 rfl rfl)
theorem dX2_labelBest_36 : decode cX2_labelBest 36 = .ok (.iconst 0, 1) := dk_3 (dk_at dksX2_labelBest_1 12 rfl rfl)
theorem dX2_labelBest_37 : decode cX2_labelBest 37 = .ok (.ireturn, 1) := dk_172 (dk_at dksX2_labelBest_1 13 rfl rfl)
abbrev cX2_has : ByteArray := prog_10_method_3_code
def yX2_has : MethodName := ⟨RX2, "has", "(I)Z"⟩
def dkwX2_has_0 : List UInt8 := [27, 42, 180, 0, 12, 185, 0, 23, 1, 0, 162, 0, 7, 4, 167, 0, 4, 3, 172]
abbrev dktX2_has_0 : List UInt8 := dkwX2_has_0 ++ []
theorem dksX2_has_0 : cX2_has.data.toList.drop 0 = dktX2_has_0 := by decide +kernel
theorem dX2_has_0 : decode cX2_has 0 = .ok (.iload_n 1, 1) := dk_27 (dk_at dksX2_has_0 0 rfl rfl)
theorem dX2_has_1 : decode cX2_has 1 = .ok (.aload_n 0, 1) := dk_42 (dk_at dksX2_has_0 1 rfl rfl)
theorem dX2_has_2 : decode cX2_has 2 = .ok (.getfield 12, 3) := dk_180 0 12 (dk_at dksX2_has_0 2 rfl rfl)
theorem dX2_has_5 : decode cX2_has 5 = .ok (.invokeinterface 23 1, 5) := by decide +kernel
theorem dX2_has_10 : decode cX2_has 10 = .ok (.if_icmp .ge 7, 3) := dk_162 0 7 (dk_at dksX2_has_0 10 rfl rfl)
theorem dX2_has_13 : decode cX2_has 13 = .ok (.iconst 1, 1) := dk_4 (dk_at dksX2_has_0 13 rfl rfl)
theorem dX2_has_14 : decode cX2_has 14 = .ok (.goto 4, 3) := dk_167 0 4 (dk_at dksX2_has_0 14 rfl rfl)
theorem dX2_has_17 : decode cX2_has 17 = .ok (.iconst 0, 1) := dk_3 (dk_at dksX2_has_0 17 rfl rfl)
theorem dX2_has_18 : decode cX2_has 18 = .ok (.ireturn, 1) := dk_172 (dk_at dksX2_has_0 18 rfl rfl)
abbrev cX2_bestPlace : ByteArray := prog_10_method_13_code
def yX2_bestPlace : MethodName := ⟨RX2, "bestPlace", "(I)I"⟩
def dkwX2_bestPlace_4 : List UInt8 := [153, 0, 7, 2, 167, 0, 13, 44, 182, 0, 150, 192, 0, 135, 180, 0, 154, 172]
abbrev dktX2_bestPlace_4 : List UInt8 := dkwX2_bestPlace_4 ++ []
def dkwX2_bestPlace_3 : List UInt8 := [27, 29, 182, 0, 140, 183, 0, 142, 182, 0, 145, 87, 132, 3, 1, 167, 255, 188, 44, 182, 0, 146]
abbrev dktX2_bestPlace_3 : List UInt8 := dkwX2_bestPlace_3 ++ dktX2_bestPlace_4
def dkwX2_bestPlace_2 : List UInt8 := [44, 187, 0, 135, 89, 29, 42, 180, 0, 12, 27, 185, 0, 29, 2, 0, 192, 0, 33, 29, 182, 0, 137, 42]
abbrev dktX2_bestPlace_2 : List UInt8 := dkwX2_bestPlace_2 ++ dktX2_bestPlace_3
def dkwX2_bestPlace_1 : List UInt8 := [27, 185, 0, 29, 2, 0, 192, 0, 33, 180, 0, 121, 163, 0, 54, 42, 27, 29, 182, 0, 124, 154, 0, 39]
abbrev dktX2_bestPlace_1 : List UInt8 := dkwX2_bestPlace_1 ++ dktX2_bestPlace_2
def dkwX2_bestPlace_0 : List UInt8 := [187, 0, 127, 89, 16, 60, 187, 0, 129, 89, 183, 0, 131, 183, 0, 132, 77, 3, 62, 29, 42, 180, 0, 12]
abbrev dktX2_bestPlace_0 : List UInt8 := dkwX2_bestPlace_0 ++ dktX2_bestPlace_1
theorem dksX2_bestPlace_0 : cX2_bestPlace.data.toList.drop 0 = dktX2_bestPlace_0 := by decide +kernel
theorem dksX2_bestPlace_1 : cX2_bestPlace.data.toList.drop 24 = dktX2_bestPlace_1 := dk_seg dksX2_bestPlace_0 24 rfl rfl
theorem dksX2_bestPlace_2 : cX2_bestPlace.data.toList.drop 48 = dktX2_bestPlace_2 := dk_seg dksX2_bestPlace_1 24 rfl rfl
theorem dksX2_bestPlace_3 : cX2_bestPlace.data.toList.drop 72 = dktX2_bestPlace_3 := dk_seg dksX2_bestPlace_2 24 rfl rfl
theorem dksX2_bestPlace_4 : cX2_bestPlace.data.toList.drop 94 = dktX2_bestPlace_4 := dk_seg dksX2_bestPlace_3 22 rfl rfl
theorem dX2_bestPlace_0 : decode cX2_bestPlace 0 = .ok (.new 127, 3) := dk_187 0 127 (dk_at dksX2_bestPlace_0 0 rfl rfl)
theorem dX2_bestPlace_3 : decode cX2_bestPlace 3 = .ok (.dup, 1) := dk_89 (dk_at dksX2_bestPlace_0 3 rfl rfl)
theorem dX2_bestPlace_4 : decode cX2_bestPlace 4 = .ok (.bipush 60, 2) := dk_16 60 (dk_at dksX2_bestPlace_0 4 rfl rfl)
theorem dX2_bestPlace_6 : decode cX2_bestPlace 6 = .ok (.new 129, 3) := dk_187 0 129 (dk_at dksX2_bestPlace_0 6 rfl rfl)
theorem dX2_bestPlace_9 : decode cX2_bestPlace 9 = .ok (.dup, 1) := dk_89 (dk_at dksX2_bestPlace_0 9 rfl rfl)
theorem dX2_bestPlace_10 : decode cX2_bestPlace 10 = .ok (.invokespecial 131, 3) := dk_183 0 131 (dk_at dksX2_bestPlace_0 10 rfl rfl)
theorem dX2_bestPlace_13 : decode cX2_bestPlace 13 = .ok (.invokespecial 132, 3) := dk_183 0 132 (dk_at dksX2_bestPlace_0 13 rfl rfl)
theorem dX2_bestPlace_16 : decode cX2_bestPlace 16 = .ok (.astore_n 2, 1) := dk_77 (dk_at dksX2_bestPlace_0 16 rfl rfl)
theorem dX2_bestPlace_17 : decode cX2_bestPlace 17 = .ok (.iconst 0, 1) := dk_3 (dk_at dksX2_bestPlace_0 17 rfl rfl)
theorem dX2_bestPlace_18 : decode cX2_bestPlace 18 = .ok (.istore_n 3, 1) := dk_62 (dk_at dksX2_bestPlace_0 18 rfl rfl)
theorem dX2_bestPlace_19 : decode cX2_bestPlace 19 = .ok (.iload_n 3, 1) := dk_29 (dk_at dksX2_bestPlace_0 19 rfl rfl)
theorem dX2_bestPlace_20 : decode cX2_bestPlace 20 = .ok (.aload_n 0, 1) := dk_42 (dk_at dksX2_bestPlace_0 20 rfl rfl)
theorem dX2_bestPlace_21 : decode cX2_bestPlace 21 = .ok (.getfield 12, 3) := dk_180 0 12 (dk_at dksX2_bestPlace_0 21 rfl rfl)
theorem dX2_bestPlace_24 : decode cX2_bestPlace 24 = .ok (.iload_n 1, 1) := dk_27 (dk_at dksX2_bestPlace_1 0 rfl rfl)
theorem dX2_bestPlace_25 : decode cX2_bestPlace 25 = .ok (.invokeinterface 29 2, 5) := by decide +kernel
theorem dX2_bestPlace_30 : decode cX2_bestPlace 30 = .ok (.checkcast 33, 3) := dk_192 0 33 (dk_at dksX2_bestPlace_1 6 rfl rfl)
theorem dX2_bestPlace_33 : decode cX2_bestPlace 33 = .ok (.getfield 121, 3) := dk_180 0 121 (dk_at dksX2_bestPlace_1 9 rfl rfl)
theorem dX2_bestPlace_36 : decode cX2_bestPlace 36 = .ok (.if_icmp .gt 54, 3) := dk_163 0 54 (dk_at dksX2_bestPlace_1 12 rfl rfl)
theorem dX2_bestPlace_39 : decode cX2_bestPlace 39 = .ok (.aload_n 0, 1) := dk_42 (dk_at dksX2_bestPlace_1 15 rfl rfl)
theorem dX2_bestPlace_40 : decode cX2_bestPlace 40 = .ok (.iload_n 1, 1) := dk_27 (dk_at dksX2_bestPlace_1 16 rfl rfl)
theorem dX2_bestPlace_41 : decode cX2_bestPlace 41 = .ok (.iload_n 3, 1) := dk_29 (dk_at dksX2_bestPlace_1 17 rfl rfl)
theorem dX2_bestPlace_42 : decode cX2_bestPlace 42 = .ok (.invokevirtual 124, 3) := dk_182 0 124 (dk_at dksX2_bestPlace_1 18 rfl rfl)
theorem dX2_bestPlace_45 : decode cX2_bestPlace 45 = .ok (.ifCond .ne 39, 3) := dk_154 0 39 (dk_at dksX2_bestPlace_1 21 rfl rfl)
theorem dX2_bestPlace_48 : decode cX2_bestPlace 48 = .ok (.aload_n 2, 1) := dk_44 (dk_at dksX2_bestPlace_2 0 rfl rfl)
theorem dX2_bestPlace_49 : decode cX2_bestPlace 49 = .ok (.new 135, 3) := dk_187 0 135 (dk_at dksX2_bestPlace_2 1 rfl rfl)
theorem dX2_bestPlace_52 : decode cX2_bestPlace 52 = .ok (.dup, 1) := dk_89 (dk_at dksX2_bestPlace_2 4 rfl rfl)
theorem dX2_bestPlace_53 : decode cX2_bestPlace 53 = .ok (.iload_n 3, 1) := dk_29 (dk_at dksX2_bestPlace_2 5 rfl rfl)
theorem dX2_bestPlace_54 : decode cX2_bestPlace 54 = .ok (.aload_n 0, 1) := dk_42 (dk_at dksX2_bestPlace_2 6 rfl rfl)
theorem dX2_bestPlace_55 : decode cX2_bestPlace 55 = .ok (.getfield 12, 3) := dk_180 0 12 (dk_at dksX2_bestPlace_2 7 rfl rfl)
theorem dX2_bestPlace_58 : decode cX2_bestPlace 58 = .ok (.iload_n 1, 1) := dk_27 (dk_at dksX2_bestPlace_2 10 rfl rfl)
theorem dX2_bestPlace_59 : decode cX2_bestPlace 59 = .ok (.invokeinterface 29 2, 5) := by decide +kernel
theorem dX2_bestPlace_64 : decode cX2_bestPlace 64 = .ok (.checkcast 33, 3) := dk_192 0 33 (dk_at dksX2_bestPlace_2 16 rfl rfl)
theorem dX2_bestPlace_67 : decode cX2_bestPlace 67 = .ok (.iload_n 3, 1) := dk_29 (dk_at dksX2_bestPlace_2 19 rfl rfl)
theorem dX2_bestPlace_68 : decode cX2_bestPlace 68 = .ok (.invokevirtual 137, 3) := dk_182 0 137 (dk_at dksX2_bestPlace_2 20 rfl rfl)
theorem dX2_bestPlace_71 : decode cX2_bestPlace 71 = .ok (.aload_n 0, 1) := dk_42 (dk_at dksX2_bestPlace_2 23 rfl rfl)
theorem dX2_bestPlace_72 : decode cX2_bestPlace 72 = .ok (.iload_n 1, 1) := dk_27 (dk_at dksX2_bestPlace_3 0 rfl rfl)
theorem dX2_bestPlace_73 : decode cX2_bestPlace 73 = .ok (.iload_n 3, 1) := dk_29 (dk_at dksX2_bestPlace_3 1 rfl rfl)
theorem dX2_bestPlace_74 : decode cX2_bestPlace 74 = .ok (.invokevirtual 140, 3) := dk_182 0 140 (dk_at dksX2_bestPlace_3 2 rfl rfl)
theorem dX2_bestPlace_77 : decode cX2_bestPlace 77 = .ok (.invokespecial 142, 3) := dk_183 0 142 (dk_at dksX2_bestPlace_3 5 rfl rfl)
theorem dX2_bestPlace_80 : decode cX2_bestPlace 80 = .ok (.invokevirtual 145, 3) := dk_182 0 145 (dk_at dksX2_bestPlace_3 8 rfl rfl)
theorem dX2_bestPlace_83 : decode cX2_bestPlace 83 = .ok (.pop, 1) := dk_87 (dk_at dksX2_bestPlace_3 11 rfl rfl)
theorem dX2_bestPlace_84 : decode cX2_bestPlace 84 = .ok (.iinc 3 1, 3) := dk_132 3 1 (dk_at dksX2_bestPlace_3 12 rfl rfl)
theorem dX2_bestPlace_87 : decode cX2_bestPlace 87 = .ok (.goto (-68), 3) := dk_167 255 188 (dk_at dksX2_bestPlace_3 15 rfl rfl)
theorem dX2_bestPlace_90 : decode cX2_bestPlace 90 = .ok (.aload_n 2, 1) := dk_44 (dk_at dksX2_bestPlace_3 18 rfl rfl)
theorem dX2_bestPlace_91 : decode cX2_bestPlace 91 = .ok (.invokevirtual 146, 3) := dk_182 0 146 (dk_at dksX2_bestPlace_3 19 rfl rfl)
theorem dX2_bestPlace_94 : decode cX2_bestPlace 94 = .ok (.ifCond .eq 7, 3) := dk_153 0 7 (dk_at dksX2_bestPlace_4 0 rfl rfl)
theorem dX2_bestPlace_97 : decode cX2_bestPlace 97 = .ok (.iconst (-1), 1) := dk_2 (dk_at dksX2_bestPlace_4 3 rfl rfl)
theorem dX2_bestPlace_98 : decode cX2_bestPlace 98 = .ok (.goto 13, 3) := dk_167 0 13 (dk_at dksX2_bestPlace_4 4 rfl rfl)
theorem dX2_bestPlace_101 : decode cX2_bestPlace 101 = .ok (.aload_n 2, 1) := dk_44 (dk_at dksX2_bestPlace_4 7 rfl rfl)
theorem dX2_bestPlace_102 : decode cX2_bestPlace 102 = .ok (.invokevirtual 150, 3) := dk_182 0 150 (dk_at dksX2_bestPlace_4 8 rfl rfl)
theorem dX2_bestPlace_105 : decode cX2_bestPlace 105 = .ok (.checkcast 135, 3) := dk_192 0 135 (dk_at dksX2_bestPlace_4 11 rfl rfl)
theorem dX2_bestPlace_108 : decode cX2_bestPlace 108 = .ok (.getfield 154, 3) := dk_180 0 154 (dk_at dksX2_bestPlace_4 14 rfl rfl)
theorem dX2_bestPlace_111 : decode cX2_bestPlace 111 = .ok (.ireturn, 1) := dk_172 (dk_at dksX2_bestPlace_4 17 rfl rfl)
abbrev cX2_whyNotLabelled : ByteArray := prog_10_method_11_code
def yX2_whyNotLabelled : MethodName := ⟨RX2, "whyNotLabelled", "(II)I"⟩
def dkwX2_whyNotLabelled_3 : List UInt8 := [172]
abbrev dktX2_whyNotLabelled_3 : List UInt8 := dkwX2_whyNotLabelled_3 ++ []
def dkwX2_whyNotLabelled_2 : List UInt8 := [186, 0, 117, 0, 0, 83, 89, 6, 42, 27, 28, 186, 0, 118, 0, 0, 83, 58, 4, 25, 4, 184, 0, 84]
abbrev dktX2_whyNotLabelled_2 : List UInt8 := dkwX2_whyNotLabelled_2 ++ dktX2_whyNotLabelled_3
def dkwX2_whyNotLabelled_1 : List UInt8 := [186, 0, 113, 0, 0, 83, 89, 4, 45, 28, 186, 0, 116, 0, 0, 83, 89, 5, 45, 28]
abbrev dktX2_whyNotLabelled_1 : List UInt8 := dkwX2_whyNotLabelled_1 ++ dktX2_whyNotLabelled_2
def dkwX2_whyNotLabelled_0 : List UInt8 := [42, 180, 0, 12, 27, 185, 0, 29, 2, 0, 192, 0, 33, 78, 7, 189, 0, 68, 89, 3, 45, 28]
abbrev dktX2_whyNotLabelled_0 : List UInt8 := dkwX2_whyNotLabelled_0 ++ dktX2_whyNotLabelled_1
theorem dksX2_whyNotLabelled_0 : cX2_whyNotLabelled.data.toList.drop 0 = dktX2_whyNotLabelled_0 := by decide +kernel
theorem dksX2_whyNotLabelled_1 : cX2_whyNotLabelled.data.toList.drop 22 = dktX2_whyNotLabelled_1 := dk_seg dksX2_whyNotLabelled_0 22 rfl rfl
theorem dksX2_whyNotLabelled_2 : cX2_whyNotLabelled.data.toList.drop 42 = dktX2_whyNotLabelled_2 := dk_seg dksX2_whyNotLabelled_1 20 rfl rfl
theorem dksX2_whyNotLabelled_3 : cX2_whyNotLabelled.data.toList.drop 66 = dktX2_whyNotLabelled_3 := dk_seg dksX2_whyNotLabelled_2 24 rfl rfl
theorem dX2_whyNotLabelled_0 : decode cX2_whyNotLabelled 0 = .ok (.aload_n 0, 1) := dk_42 (dk_at dksX2_whyNotLabelled_0 0 rfl rfl)
theorem dX2_whyNotLabelled_1 : decode cX2_whyNotLabelled 1 = .ok (.getfield 12, 3) := dk_180 0 12 (dk_at dksX2_whyNotLabelled_0 1 rfl rfl)
theorem dX2_whyNotLabelled_4 : decode cX2_whyNotLabelled 4 = .ok (.iload_n 1, 1) := dk_27 (dk_at dksX2_whyNotLabelled_0 4 rfl rfl)
theorem dX2_whyNotLabelled_5 : decode cX2_whyNotLabelled 5 = .ok (.invokeinterface 29 2, 5) := by decide +kernel
theorem dX2_whyNotLabelled_10 : decode cX2_whyNotLabelled 10 = .ok (.checkcast 33, 3) := dk_192 0 33 (dk_at dksX2_whyNotLabelled_0 10 rfl rfl)
theorem dX2_whyNotLabelled_13 : decode cX2_whyNotLabelled 13 = .ok (.astore_n 3, 1) := dk_78 (dk_at dksX2_whyNotLabelled_0 13 rfl rfl)
theorem dX2_whyNotLabelled_14 : decode cX2_whyNotLabelled 14 = .ok (.iconst 4, 1) := dk_7 (dk_at dksX2_whyNotLabelled_0 14 rfl rfl)
theorem dX2_whyNotLabelled_15 : decode cX2_whyNotLabelled 15 = .ok (.anewarray 68, 3) := dk_189 0 68 (dk_at dksX2_whyNotLabelled_0 15 rfl rfl)
theorem dX2_whyNotLabelled_18 : decode cX2_whyNotLabelled 18 = .ok (.dup, 1) := dk_89 (dk_at dksX2_whyNotLabelled_0 18 rfl rfl)
theorem dX2_whyNotLabelled_19 : decode cX2_whyNotLabelled 19 = .ok (.iconst 0, 1) := dk_3 (dk_at dksX2_whyNotLabelled_0 19 rfl rfl)
theorem dX2_whyNotLabelled_20 : decode cX2_whyNotLabelled 20 = .ok (.aload_n 3, 1) := dk_45 (dk_at dksX2_whyNotLabelled_0 20 rfl rfl)
theorem dX2_whyNotLabelled_21 : decode cX2_whyNotLabelled 21 = .ok (.iload_n 2, 1) := dk_28 (dk_at dksX2_whyNotLabelled_0 21 rfl rfl)
theorem dX2_whyNotLabelled_22 : decode cX2_whyNotLabelled 22 = .ok (.invokedynamic 113, 5) := by decide +kernel
theorem dX2_whyNotLabelled_27 : decode cX2_whyNotLabelled 27 = .ok (.aastore, 1) := dk_83 (dk_at dksX2_whyNotLabelled_1 5 rfl rfl)
theorem dX2_whyNotLabelled_28 : decode cX2_whyNotLabelled 28 = .ok (.dup, 1) := dk_89 (dk_at dksX2_whyNotLabelled_1 6 rfl rfl)
theorem dX2_whyNotLabelled_29 : decode cX2_whyNotLabelled 29 = .ok (.iconst 1, 1) := dk_4 (dk_at dksX2_whyNotLabelled_1 7 rfl rfl)
theorem dX2_whyNotLabelled_30 : decode cX2_whyNotLabelled 30 = .ok (.aload_n 3, 1) := dk_45 (dk_at dksX2_whyNotLabelled_1 8 rfl rfl)
theorem dX2_whyNotLabelled_31 : decode cX2_whyNotLabelled 31 = .ok (.iload_n 2, 1) := dk_28 (dk_at dksX2_whyNotLabelled_1 9 rfl rfl)
theorem dX2_whyNotLabelled_32 : decode cX2_whyNotLabelled 32 = .ok (.invokedynamic 116, 5) := by decide +kernel
theorem dX2_whyNotLabelled_37 : decode cX2_whyNotLabelled 37 = .ok (.aastore, 1) := dk_83 (dk_at dksX2_whyNotLabelled_1 15 rfl rfl)
theorem dX2_whyNotLabelled_38 : decode cX2_whyNotLabelled 38 = .ok (.dup, 1) := dk_89 (dk_at dksX2_whyNotLabelled_1 16 rfl rfl)
theorem dX2_whyNotLabelled_39 : decode cX2_whyNotLabelled 39 = .ok (.iconst 2, 1) := dk_5 (dk_at dksX2_whyNotLabelled_1 17 rfl rfl)
theorem dX2_whyNotLabelled_40 : decode cX2_whyNotLabelled 40 = .ok (.aload_n 3, 1) := dk_45 (dk_at dksX2_whyNotLabelled_1 18 rfl rfl)
theorem dX2_whyNotLabelled_41 : decode cX2_whyNotLabelled 41 = .ok (.iload_n 2, 1) := dk_28 (dk_at dksX2_whyNotLabelled_1 19 rfl rfl)
theorem dX2_whyNotLabelled_42 : decode cX2_whyNotLabelled 42 = .ok (.invokedynamic 117, 5) := by decide +kernel
theorem dX2_whyNotLabelled_47 : decode cX2_whyNotLabelled 47 = .ok (.aastore, 1) := dk_83 (dk_at dksX2_whyNotLabelled_2 5 rfl rfl)
theorem dX2_whyNotLabelled_48 : decode cX2_whyNotLabelled 48 = .ok (.dup, 1) := dk_89 (dk_at dksX2_whyNotLabelled_2 6 rfl rfl)
theorem dX2_whyNotLabelled_49 : decode cX2_whyNotLabelled 49 = .ok (.iconst 3, 1) := dk_6 (dk_at dksX2_whyNotLabelled_2 7 rfl rfl)
theorem dX2_whyNotLabelled_50 : decode cX2_whyNotLabelled 50 = .ok (.aload_n 0, 1) := dk_42 (dk_at dksX2_whyNotLabelled_2 8 rfl rfl)
theorem dX2_whyNotLabelled_51 : decode cX2_whyNotLabelled 51 = .ok (.iload_n 1, 1) := dk_27 (dk_at dksX2_whyNotLabelled_2 9 rfl rfl)
theorem dX2_whyNotLabelled_52 : decode cX2_whyNotLabelled 52 = .ok (.iload_n 2, 1) := dk_28 (dk_at dksX2_whyNotLabelled_2 10 rfl rfl)
theorem dX2_whyNotLabelled_53 : decode cX2_whyNotLabelled 53 = .ok (.invokedynamic 118, 5) := by decide +kernel
theorem dX2_whyNotLabelled_58 : decode cX2_whyNotLabelled 58 = .ok (.aastore, 1) := dk_83 (dk_at dksX2_whyNotLabelled_2 16 rfl rfl)
theorem dX2_whyNotLabelled_59 : decode cX2_whyNotLabelled 59 = .ok (.astore 4, 2) := dk_58 4 (dk_at dksX2_whyNotLabelled_2 17 rfl rfl)
theorem dX2_whyNotLabelled_61 : decode cX2_whyNotLabelled 61 = .ok (.aload 4, 2) := dk_25 4 (dk_at dksX2_whyNotLabelled_2 19 rfl rfl)
theorem dX2_whyNotLabelled_63 : decode cX2_whyNotLabelled 63 = .ok (.invokestatic 84, 3) := dk_184 0 84 (dk_at dksX2_whyNotLabelled_2 21 rfl rfl)
theorem dX2_whyNotLabelled_66 : decode cX2_whyNotLabelled 66 = .ok (.ireturn, 1) := dk_172 (dk_at dksX2_whyNotLabelled_3 0 rfl rfl)
abbrev cX2_lambda_whyNotLabelled_5 : ByteArray := prog_10_method_36_code
def yX2_lambda_whyNotLabelled_5 : MethodName := ⟨RX2, "lambda$whyNotLabelled$5", "(LContourLabels$Line;I)Z"⟩
def dkwX2_lambda_whyNotLabelled_5_0 : List UInt8 := [42, 27, 182, 0, 255, 154, 0, 7, 4, 167, 0, 4, 3, 172]
abbrev dktX2_lambda_whyNotLabelled_5_0 : List UInt8 := dkwX2_lambda_whyNotLabelled_5_0 ++ []
theorem dksX2_lambda_whyNotLabelled_5_0 : cX2_lambda_whyNotLabelled_5.data.toList.drop 0 = dktX2_lambda_whyNotLabelled_5_0 := by decide +kernel
theorem dX2_lambda_whyNotLabelled_5_0 : decode cX2_lambda_whyNotLabelled_5 0 = .ok (.aload_n 0, 1) := dk_42 (dk_at dksX2_lambda_whyNotLabelled_5_0 0 rfl rfl)
theorem dX2_lambda_whyNotLabelled_5_1 : decode cX2_lambda_whyNotLabelled_5 1 = .ok (.iload_n 1, 1) := dk_27 (dk_at dksX2_lambda_whyNotLabelled_5_0 1 rfl rfl)
theorem dX2_lambda_whyNotLabelled_5_2 : decode cX2_lambda_whyNotLabelled_5 2 = .ok (.invokevirtual 255, 3) := dk_182 0 255 (dk_at dksX2_lambda_whyNotLabelled_5_0 2 rfl rfl)
theorem dX2_lambda_whyNotLabelled_5_5 : decode cX2_lambda_whyNotLabelled_5 5 = .ok (.ifCond .ne 7, 3) := dk_154 0 7 (dk_at dksX2_lambda_whyNotLabelled_5_0 5 rfl rfl)
theorem dX2_lambda_whyNotLabelled_5_8 : decode cX2_lambda_whyNotLabelled_5 8 = .ok (.iconst 1, 1) := dk_4 (dk_at dksX2_lambda_whyNotLabelled_5_0 8 rfl rfl)
theorem dX2_lambda_whyNotLabelled_5_9 : decode cX2_lambda_whyNotLabelled_5 9 = .ok (.goto 4, 3) := dk_167 0 4 (dk_at dksX2_lambda_whyNotLabelled_5_0 9 rfl rfl)
theorem dX2_lambda_whyNotLabelled_5_12 : decode cX2_lambda_whyNotLabelled_5 12 = .ok (.iconst 0, 1) := dk_3 (dk_at dksX2_lambda_whyNotLabelled_5_0 12 rfl rfl)
theorem dX2_lambda_whyNotLabelled_5_13 : decode cX2_lambda_whyNotLabelled_5 13 = .ok (.ireturn, 1) := dk_172 (dk_at dksX2_lambda_whyNotLabelled_5_0 13 rfl rfl)
abbrev cX2_lambda_whyNotLabelled_6 : ByteArray := prog_10_method_35_code
def yX2_lambda_whyNotLabelled_6 : MethodName := ⟨RX2, "lambda$whyNotLabelled$6", "(LContourLabels$Line;I)Z"⟩
def dkwX2_lambda_whyNotLabelled_6_0 : List UInt8 := [42, 27, 182, 0, 137, 4, 164, 0, 7, 4, 167, 0, 4, 3, 172]
abbrev dktX2_lambda_whyNotLabelled_6_0 : List UInt8 := dkwX2_lambda_whyNotLabelled_6_0 ++ []
theorem dksX2_lambda_whyNotLabelled_6_0 : cX2_lambda_whyNotLabelled_6.data.toList.drop 0 = dktX2_lambda_whyNotLabelled_6_0 := by decide +kernel
theorem dX2_lambda_whyNotLabelled_6_0 : decode cX2_lambda_whyNotLabelled_6 0 = .ok (.aload_n 0, 1) := dk_42 (dk_at dksX2_lambda_whyNotLabelled_6_0 0 rfl rfl)
theorem dX2_lambda_whyNotLabelled_6_1 : decode cX2_lambda_whyNotLabelled_6 1 = .ok (.iload_n 1, 1) := dk_27 (dk_at dksX2_lambda_whyNotLabelled_6_0 1 rfl rfl)
theorem dX2_lambda_whyNotLabelled_6_2 : decode cX2_lambda_whyNotLabelled_6 2 = .ok (.invokevirtual 137, 3) := dk_182 0 137 (dk_at dksX2_lambda_whyNotLabelled_6_0 2 rfl rfl)
theorem dX2_lambda_whyNotLabelled_6_5 : decode cX2_lambda_whyNotLabelled_6 5 = .ok (.iconst 1, 1) := dk_4 (dk_at dksX2_lambda_whyNotLabelled_6_0 5 rfl rfl)
theorem dX2_lambda_whyNotLabelled_6_6 : decode cX2_lambda_whyNotLabelled_6 6 = .ok (.if_icmp .le 7, 3) := dk_164 0 7 (dk_at dksX2_lambda_whyNotLabelled_6_0 6 rfl rfl)
theorem dX2_lambda_whyNotLabelled_6_9 : decode cX2_lambda_whyNotLabelled_6 9 = .ok (.iconst 1, 1) := dk_4 (dk_at dksX2_lambda_whyNotLabelled_6_0 9 rfl rfl)
theorem dX2_lambda_whyNotLabelled_6_10 : decode cX2_lambda_whyNotLabelled_6 10 = .ok (.goto 4, 3) := dk_167 0 4 (dk_at dksX2_lambda_whyNotLabelled_6_0 10 rfl rfl)
theorem dX2_lambda_whyNotLabelled_6_13 : decode cX2_lambda_whyNotLabelled_6 13 = .ok (.iconst 0, 1) := dk_3 (dk_at dksX2_lambda_whyNotLabelled_6_0 13 rfl rfl)
theorem dX2_lambda_whyNotLabelled_6_14 : decode cX2_lambda_whyNotLabelled_6 14 = .ok (.ireturn, 1) := dk_172 (dk_at dksX2_lambda_whyNotLabelled_6_0 14 rfl rfl)
abbrev cX2_lambda_whyNotLabelled_7 : ByteArray := prog_10_method_34_code
def yX2_lambda_whyNotLabelled_7 : MethodName := ⟨RX2, "lambda$whyNotLabelled$7", "(LContourLabels$Line;I)Z"⟩
def dkwX2_lambda_whyNotLabelled_7_0 : List UInt8 := [42, 27, 182, 0, 252, 172]
abbrev dktX2_lambda_whyNotLabelled_7_0 : List UInt8 := dkwX2_lambda_whyNotLabelled_7_0 ++ []
theorem dksX2_lambda_whyNotLabelled_7_0 : cX2_lambda_whyNotLabelled_7.data.toList.drop 0 = dktX2_lambda_whyNotLabelled_7_0 := by decide +kernel
theorem dX2_lambda_whyNotLabelled_7_0 : decode cX2_lambda_whyNotLabelled_7 0 = .ok (.aload_n 0, 1) := dk_42 (dk_at dksX2_lambda_whyNotLabelled_7_0 0 rfl rfl)
theorem dX2_lambda_whyNotLabelled_7_1 : decode cX2_lambda_whyNotLabelled_7 1 = .ok (.iload_n 1, 1) := dk_27 (dk_at dksX2_lambda_whyNotLabelled_7_0 1 rfl rfl)
theorem dX2_lambda_whyNotLabelled_7_2 : decode cX2_lambda_whyNotLabelled_7 2 = .ok (.invokevirtual 252, 3) := dk_182 0 252 (dk_at dksX2_lambda_whyNotLabelled_7_0 2 rfl rfl)
theorem dX2_lambda_whyNotLabelled_7_5 : decode cX2_lambda_whyNotLabelled_7 5 = .ok (.ireturn, 1) := dk_172 (dk_at dksX2_lambda_whyNotLabelled_7_0 5 rfl rfl)
abbrev cX2_lambda_whyNotLabelled_8 : ByteArray := prog_10_method_33_code
def yX2_lambda_whyNotLabelled_8 : MethodName := ⟨RX2, "lambda$whyNotLabelled$8", "(II)Z"⟩
def dkwX2_lambda_whyNotLabelled_8_0 : List UInt8 := [42, 27, 28, 182, 0, 140, 42, 180, 0, 18, 162, 0, 7, 4, 167, 0, 4, 3, 172]
abbrev dktX2_lambda_whyNotLabelled_8_0 : List UInt8 := dkwX2_lambda_whyNotLabelled_8_0 ++ []
theorem dksX2_lambda_whyNotLabelled_8_0 : cX2_lambda_whyNotLabelled_8.data.toList.drop 0 = dktX2_lambda_whyNotLabelled_8_0 := by decide +kernel
theorem dX2_lambda_whyNotLabelled_8_0 : decode cX2_lambda_whyNotLabelled_8 0 = .ok (.aload_n 0, 1) := dk_42 (dk_at dksX2_lambda_whyNotLabelled_8_0 0 rfl rfl)
theorem dX2_lambda_whyNotLabelled_8_1 : decode cX2_lambda_whyNotLabelled_8 1 = .ok (.iload_n 1, 1) := dk_27 (dk_at dksX2_lambda_whyNotLabelled_8_0 1 rfl rfl)
theorem dX2_lambda_whyNotLabelled_8_2 : decode cX2_lambda_whyNotLabelled_8 2 = .ok (.iload_n 2, 1) := dk_28 (dk_at dksX2_lambda_whyNotLabelled_8_0 2 rfl rfl)
theorem dX2_lambda_whyNotLabelled_8_3 : decode cX2_lambda_whyNotLabelled_8 3 = .ok (.invokevirtual 140, 3) := dk_182 0 140 (dk_at dksX2_lambda_whyNotLabelled_8_0 3 rfl rfl)
theorem dX2_lambda_whyNotLabelled_8_6 : decode cX2_lambda_whyNotLabelled_8 6 = .ok (.aload_n 0, 1) := dk_42 (dk_at dksX2_lambda_whyNotLabelled_8_0 6 rfl rfl)
theorem dX2_lambda_whyNotLabelled_8_7 : decode cX2_lambda_whyNotLabelled_8 7 = .ok (.getfield 18, 3) := dk_180 0 18 (dk_at dksX2_lambda_whyNotLabelled_8_0 7 rfl rfl)
theorem dX2_lambda_whyNotLabelled_8_10 : decode cX2_lambda_whyNotLabelled_8 10 = .ok (.if_icmp .ge 7, 3) := dk_162 0 7 (dk_at dksX2_lambda_whyNotLabelled_8_0 10 rfl rfl)
theorem dX2_lambda_whyNotLabelled_8_13 : decode cX2_lambda_whyNotLabelled_8 13 = .ok (.iconst 1, 1) := dk_4 (dk_at dksX2_lambda_whyNotLabelled_8_0 13 rfl rfl)
theorem dX2_lambda_whyNotLabelled_8_14 : decode cX2_lambda_whyNotLabelled_8 14 = .ok (.goto 4, 3) := dk_167 0 4 (dk_at dksX2_lambda_whyNotLabelled_8_0 14 rfl rfl)
theorem dX2_lambda_whyNotLabelled_8_17 : decode cX2_lambda_whyNotLabelled_8 17 = .ok (.iconst 0, 1) := dk_3 (dk_at dksX2_lambda_whyNotLabelled_8_0 17 rfl rfl)
theorem dX2_lambda_whyNotLabelled_8_18 : decode cX2_lambda_whyNotLabelled_8 18 = .ok (.ireturn, 1) := dk_172 (dk_at dksX2_lambda_whyNotLabelled_8_0 18 rfl rfl)
abbrev cX2_far : ByteArray := prog_10_method_10_code
def yX2_far : MethodName := ⟨RX2, "far", "(II)I"⟩
def dkwX2_far_4 : List UInt8 := [29, 172]
abbrev dktX2_far_4 : List UInt8 := dkwX2_far_4 ++ []
def dkwX2_far_3 : List UInt8 := [182, 0, 109, 54, 6, 21, 6, 29, 162, 0, 8, 21, 6, 167, 0, 4, 29, 62, 132, 4, 1, 167, 255, 169]
abbrev dktX2_far_3 : List UInt8 := dkwX2_far_3 ++ dktX2_far_4
def dkwX2_far_2 : List UInt8 := [160, 0, 8, 16, 99, 167, 0, 22, 42, 180, 0, 12, 27, 185, 0, 29, 2, 0, 192, 0, 33, 28, 25, 5]
abbrev dktX2_far_2 : List UInt8 := dkwX2_far_2 ++ dktX2_far_3
def dkwX2_far_1 : List UInt8 := [21, 4, 185, 0, 29, 2, 0, 192, 0, 33, 58, 5, 21, 4, 27, 159, 0, 12, 25, 5, 180, 0, 106, 2]
abbrev dktX2_far_1 : List UInt8 := dkwX2_far_1 ++ dktX2_far_2
def dkwX2_far_0 : List UInt8 := [16, 99, 62, 3, 54, 4, 21, 4, 42, 180, 0, 12, 185, 0, 23, 1, 0, 162, 0, 79, 42, 180, 0, 12]
abbrev dktX2_far_0 : List UInt8 := dkwX2_far_0 ++ dktX2_far_1
theorem dksX2_far_0 : cX2_far.data.toList.drop 0 = dktX2_far_0 := by decide +kernel
theorem dksX2_far_1 : cX2_far.data.toList.drop 24 = dktX2_far_1 := dk_seg dksX2_far_0 24 rfl rfl
theorem dksX2_far_2 : cX2_far.data.toList.drop 48 = dktX2_far_2 := dk_seg dksX2_far_1 24 rfl rfl
theorem dksX2_far_3 : cX2_far.data.toList.drop 72 = dktX2_far_3 := dk_seg dksX2_far_2 24 rfl rfl
theorem dksX2_far_4 : cX2_far.data.toList.drop 96 = dktX2_far_4 := dk_seg dksX2_far_3 24 rfl rfl
theorem dX2_far_0 : decode cX2_far 0 = .ok (.bipush 99, 2) := dk_16 99 (dk_at dksX2_far_0 0 rfl rfl)
theorem dX2_far_2 : decode cX2_far 2 = .ok (.istore_n 3, 1) := dk_62 (dk_at dksX2_far_0 2 rfl rfl)
theorem dX2_far_3 : decode cX2_far 3 = .ok (.iconst 0, 1) := dk_3 (dk_at dksX2_far_0 3 rfl rfl)
theorem dX2_far_4 : decode cX2_far 4 = .ok (.istore 4, 2) := dk_54 4 (dk_at dksX2_far_0 4 rfl rfl)
theorem dX2_far_6 : decode cX2_far 6 = .ok (.iload 4, 2) := dk_21 4 (dk_at dksX2_far_0 6 rfl rfl)
theorem dX2_far_8 : decode cX2_far 8 = .ok (.aload_n 0, 1) := dk_42 (dk_at dksX2_far_0 8 rfl rfl)
theorem dX2_far_9 : decode cX2_far 9 = .ok (.getfield 12, 3) := dk_180 0 12 (dk_at dksX2_far_0 9 rfl rfl)
theorem dX2_far_12 : decode cX2_far 12 = .ok (.invokeinterface 23 1, 5) := by decide +kernel
theorem dX2_far_17 : decode cX2_far 17 = .ok (.if_icmp .ge 79, 3) := dk_162 0 79 (dk_at dksX2_far_0 17 rfl rfl)
theorem dX2_far_20 : decode cX2_far 20 = .ok (.aload_n 0, 1) := dk_42 (dk_at dksX2_far_0 20 rfl rfl)
theorem dX2_far_21 : decode cX2_far 21 = .ok (.getfield 12, 3) := dk_180 0 12 (dk_at dksX2_far_0 21 rfl rfl)
theorem dX2_far_24 : decode cX2_far 24 = .ok (.iload 4, 2) := dk_21 4 (dk_at dksX2_far_1 0 rfl rfl)
theorem dX2_far_26 : decode cX2_far 26 = .ok (.invokeinterface 29 2, 5) := by decide +kernel
theorem dX2_far_31 : decode cX2_far 31 = .ok (.checkcast 33, 3) := dk_192 0 33 (dk_at dksX2_far_1 7 rfl rfl)
theorem dX2_far_34 : decode cX2_far 34 = .ok (.astore 5, 2) := dk_58 5 (dk_at dksX2_far_1 10 rfl rfl)
theorem dX2_far_36 : decode cX2_far 36 = .ok (.iload 4, 2) := dk_21 4 (dk_at dksX2_far_1 12 rfl rfl)
theorem dX2_far_38 : decode cX2_far 38 = .ok (.iload_n 1, 1) := dk_27 (dk_at dksX2_far_1 14 rfl rfl)
theorem dX2_far_39 : decode cX2_far 39 = .ok (.if_icmp .eq 12, 3) := dk_159 0 12 (dk_at dksX2_far_1 15 rfl rfl)
theorem dX2_far_42 : decode cX2_far 42 = .ok (.aload 5, 2) := dk_25 5 (dk_at dksX2_far_1 18 rfl rfl)
theorem dX2_far_44 : decode cX2_far 44 = .ok (.getfield 106, 3) := dk_180 0 106 (dk_at dksX2_far_1 20 rfl rfl)
theorem dX2_far_47 : decode cX2_far 47 = .ok (.iconst (-1), 1) := dk_2 (dk_at dksX2_far_1 23 rfl rfl)
theorem dX2_far_48 : decode cX2_far 48 = .ok (.if_icmp .ne 8, 3) := dk_160 0 8 (dk_at dksX2_far_2 0 rfl rfl)
theorem dX2_far_51 : decode cX2_far 51 = .ok (.bipush 99, 2) := dk_16 99 (dk_at dksX2_far_2 3 rfl rfl)
theorem dX2_far_53 : decode cX2_far 53 = .ok (.goto 22, 3) := dk_167 0 22 (dk_at dksX2_far_2 5 rfl rfl)
theorem dX2_far_56 : decode cX2_far 56 = .ok (.aload_n 0, 1) := dk_42 (dk_at dksX2_far_2 8 rfl rfl)
theorem dX2_far_57 : decode cX2_far 57 = .ok (.getfield 12, 3) := dk_180 0 12 (dk_at dksX2_far_2 9 rfl rfl)
theorem dX2_far_60 : decode cX2_far 60 = .ok (.iload_n 1, 1) := dk_27 (dk_at dksX2_far_2 12 rfl rfl)
theorem dX2_far_61 : decode cX2_far 61 = .ok (.invokeinterface 29 2, 5) := by decide +kernel
theorem dX2_far_66 : decode cX2_far 66 = .ok (.checkcast 33, 3) := dk_192 0 33 (dk_at dksX2_far_2 18 rfl rfl)
theorem dX2_far_69 : decode cX2_far 69 = .ok (.iload_n 2, 1) := dk_28 (dk_at dksX2_far_2 21 rfl rfl)
theorem dX2_far_70 : decode cX2_far 70 = .ok (.aload 5, 2) := dk_25 5 (dk_at dksX2_far_2 22 rfl rfl)
theorem dX2_far_72 : decode cX2_far 72 = .ok (.invokevirtual 109, 3) := dk_182 0 109 (dk_at dksX2_far_3 0 rfl rfl)
theorem dX2_far_75 : decode cX2_far 75 = .ok (.istore 6, 2) := dk_54 6 (dk_at dksX2_far_3 3 rfl rfl)
theorem dX2_far_77 : decode cX2_far 77 = .ok (.iload 6, 2) := dk_21 6 (dk_at dksX2_far_3 5 rfl rfl)
theorem dX2_far_79 : decode cX2_far 79 = .ok (.iload_n 3, 1) := dk_29 (dk_at dksX2_far_3 7 rfl rfl)
theorem dX2_far_80 : decode cX2_far 80 = .ok (.if_icmp .ge 8, 3) := dk_162 0 8 (dk_at dksX2_far_3 8 rfl rfl)
theorem dX2_far_83 : decode cX2_far 83 = .ok (.iload 6, 2) := dk_21 6 (dk_at dksX2_far_3 11 rfl rfl)
theorem dX2_far_85 : decode cX2_far 85 = .ok (.goto 4, 3) := dk_167 0 4 (dk_at dksX2_far_3 13 rfl rfl)
theorem dX2_far_88 : decode cX2_far 88 = .ok (.iload_n 3, 1) := dk_29 (dk_at dksX2_far_3 16 rfl rfl)
theorem dX2_far_89 : decode cX2_far 89 = .ok (.istore_n 3, 1) := dk_62 (dk_at dksX2_far_3 17 rfl rfl)
theorem dX2_far_90 : decode cX2_far 90 = .ok (.iinc 4 1, 3) := dk_132 4 1 (dk_at dksX2_far_3 18 rfl rfl)
theorem dX2_far_93 : decode cX2_far 93 = .ok (.goto (-87), 3) := dk_167 255 169 (dk_at dksX2_far_3 21 rfl rfl)
theorem dX2_far_96 : decode cX2_far 96 = .ok (.iload_n 3, 1) := dk_29 (dk_at dksX2_far_4 0 rfl rfl)
theorem dX2_far_97 : decode cX2_far 97 = .ok (.ireturn, 1) := dk_172 (dk_at dksX2_far_4 1 rfl rfl)
abbrev cX2_label : ByteArray := prog_10_method_14_code
def yX2_label : MethodName := ⟨RX2, "label", "(II)Z"⟩
def dkwX2_label_2 : List UInt8 := [153, 0, 20, 42, 180, 0, 12, 27, 185, 0, 29, 2, 0, 192, 0, 33, 28, 181, 0, 106, 29, 172]
abbrev dktX2_label_2 : List UInt8 := dkwX2_label_2 ++ []
def dkwX2_label_1 : List UInt8 := [180, 0, 121, 163, 0, 16, 42, 27, 28, 182, 0, 124, 154, 0, 7, 4, 167, 0, 4, 3, 62, 29]
abbrev dktX2_label_1 : List UInt8 := dkwX2_label_1 ++ dktX2_label_2
def dkwX2_label_0 : List UInt8 := [42, 27, 182, 0, 88, 153, 0, 36, 28, 42, 180, 0, 12, 27, 185, 0, 29, 2, 0, 192, 0, 33]
abbrev dktX2_label_0 : List UInt8 := dkwX2_label_0 ++ dktX2_label_1
theorem dksX2_label_0 : cX2_label.data.toList.drop 0 = dktX2_label_0 := by decide +kernel
theorem dksX2_label_1 : cX2_label.data.toList.drop 22 = dktX2_label_1 := dk_seg dksX2_label_0 22 rfl rfl
theorem dksX2_label_2 : cX2_label.data.toList.drop 44 = dktX2_label_2 := dk_seg dksX2_label_1 22 rfl rfl
theorem dX2_label_0 : decode cX2_label 0 = .ok (.aload_n 0, 1) := dk_42 (dk_at dksX2_label_0 0 rfl rfl)
theorem dX2_label_1 : decode cX2_label 1 = .ok (.iload_n 1, 1) := dk_27 (dk_at dksX2_label_0 1 rfl rfl)
theorem dX2_label_2 : decode cX2_label 2 = .ok (.invokevirtual 88, 3) := dk_182 0 88 (dk_at dksX2_label_0 2 rfl rfl)
theorem dX2_label_5 : decode cX2_label 5 = .ok (.ifCond .eq 36, 3) := dk_153 0 36 (dk_at dksX2_label_0 5 rfl rfl)
theorem dX2_label_8 : decode cX2_label 8 = .ok (.iload_n 2, 1) := dk_28 (dk_at dksX2_label_0 8 rfl rfl)
theorem dX2_label_9 : decode cX2_label 9 = .ok (.aload_n 0, 1) := dk_42 (dk_at dksX2_label_0 9 rfl rfl)
theorem dX2_label_10 : decode cX2_label 10 = .ok (.getfield 12, 3) := dk_180 0 12 (dk_at dksX2_label_0 10 rfl rfl)
theorem dX2_label_13 : decode cX2_label 13 = .ok (.iload_n 1, 1) := dk_27 (dk_at dksX2_label_0 13 rfl rfl)
theorem dX2_label_14 : decode cX2_label 14 = .ok (.invokeinterface 29 2, 5) := by decide +kernel
theorem dX2_label_19 : decode cX2_label 19 = .ok (.checkcast 33, 3) := dk_192 0 33 (dk_at dksX2_label_0 19 rfl rfl)
theorem dX2_label_22 : decode cX2_label 22 = .ok (.getfield 121, 3) := dk_180 0 121 (dk_at dksX2_label_1 0 rfl rfl)
theorem dX2_label_25 : decode cX2_label 25 = .ok (.if_icmp .gt 16, 3) := dk_163 0 16 (dk_at dksX2_label_1 3 rfl rfl)
theorem dX2_label_28 : decode cX2_label 28 = .ok (.aload_n 0, 1) := dk_42 (dk_at dksX2_label_1 6 rfl rfl)
theorem dX2_label_29 : decode cX2_label 29 = .ok (.iload_n 1, 1) := dk_27 (dk_at dksX2_label_1 7 rfl rfl)
theorem dX2_label_30 : decode cX2_label 30 = .ok (.iload_n 2, 1) := dk_28 (dk_at dksX2_label_1 8 rfl rfl)
theorem dX2_label_31 : decode cX2_label 31 = .ok (.invokevirtual 124, 3) := dk_182 0 124 (dk_at dksX2_label_1 9 rfl rfl)
theorem dX2_label_34 : decode cX2_label 34 = .ok (.ifCond .ne 7, 3) := dk_154 0 7 (dk_at dksX2_label_1 12 rfl rfl)
theorem dX2_label_37 : decode cX2_label 37 = .ok (.iconst 1, 1) := dk_4 (dk_at dksX2_label_1 15 rfl rfl)
theorem dX2_label_38 : decode cX2_label 38 = .ok (.goto 4, 3) := dk_167 0 4 (dk_at dksX2_label_1 16 rfl rfl)
theorem dX2_label_41 : decode cX2_label 41 = .ok (.iconst 0, 1) := dk_3 (dk_at dksX2_label_1 19 rfl rfl)
theorem dX2_label_42 : decode cX2_label 42 = .ok (.istore_n 3, 1) := dk_62 (dk_at dksX2_label_1 20 rfl rfl)
theorem dX2_label_43 : decode cX2_label 43 = .ok (.iload_n 3, 1) := dk_29 (dk_at dksX2_label_1 21 rfl rfl)
theorem dX2_label_44 : decode cX2_label 44 = .ok (.ifCond .eq 20, 3) := dk_153 0 20 (dk_at dksX2_label_2 0 rfl rfl)
theorem dX2_label_47 : decode cX2_label 47 = .ok (.aload_n 0, 1) := dk_42 (dk_at dksX2_label_2 3 rfl rfl)
theorem dX2_label_48 : decode cX2_label 48 = .ok (.getfield 12, 3) := dk_180 0 12 (dk_at dksX2_label_2 4 rfl rfl)
theorem dX2_label_51 : decode cX2_label 51 = .ok (.iload_n 1, 1) := dk_27 (dk_at dksX2_label_2 7 rfl rfl)
theorem dX2_label_52 : decode cX2_label 52 = .ok (.invokeinterface 29 2, 5) := by decide +kernel
theorem dX2_label_57 : decode cX2_label 57 = .ok (.checkcast 33, 3) := dk_192 0 33 (dk_at dksX2_label_2 13 rfl rfl)
theorem dX2_label_60 : decode cX2_label 60 = .ok (.iload_n 2, 1) := dk_28 (dk_at dksX2_label_2 16 rfl rfl)
theorem dX2_label_61 : decode cX2_label 61 = .ok (.putfield 106, 3) := dk_181 0 106 (dk_at dksX2_label_2 17 rfl rfl)
theorem dX2_label_64 : decode cX2_label 64 = .ok (.iload_n 3, 1) := dk_29 (dk_at dksX2_label_2 20 rfl rfl)
theorem dX2_label_65 : decode cX2_label 65 = .ok (.ireturn, 1) := dk_172 (dk_at dksX2_label_2 21 rfl rfl)
abbrev cX2_labels : ByteArray := prog_10_method_20_code
def yX2_labels : MethodName := ⟨RX2, "labels", "()I"⟩
def dkwX2_labels_2 : List UInt8 := [132, 2, 1, 167, 255, 212, 27, 172]
abbrev dktX2_labels_2 : List UInt8 := dkwX2_labels_2 ++ []
def dkwX2_labels_1 : List UInt8 := [185, 0, 29, 2, 0, 192, 0, 33, 180, 0, 106, 2, 160, 0, 7, 3, 167, 0, 4, 4, 96, 60]
abbrev dktX2_labels_1 : List UInt8 := dkwX2_labels_1 ++ dktX2_labels_2
def dkwX2_labels_0 : List UInt8 := [3, 60, 3, 61, 28, 42, 180, 0, 12, 185, 0, 23, 1, 0, 162, 0, 37, 27, 42, 180, 0, 12, 28]
abbrev dktX2_labels_0 : List UInt8 := dkwX2_labels_0 ++ dktX2_labels_1
theorem dksX2_labels_0 : cX2_labels.data.toList.drop 0 = dktX2_labels_0 := by decide +kernel
theorem dksX2_labels_1 : cX2_labels.data.toList.drop 23 = dktX2_labels_1 := dk_seg dksX2_labels_0 23 rfl rfl
theorem dksX2_labels_2 : cX2_labels.data.toList.drop 45 = dktX2_labels_2 := dk_seg dksX2_labels_1 22 rfl rfl
theorem dX2_labels_0 : decode cX2_labels 0 = .ok (.iconst 0, 1) := dk_3 (dk_at dksX2_labels_0 0 rfl rfl)
theorem dX2_labels_1 : decode cX2_labels 1 = .ok (.istore_n 1, 1) := dk_60 (dk_at dksX2_labels_0 1 rfl rfl)
theorem dX2_labels_2 : decode cX2_labels 2 = .ok (.iconst 0, 1) := dk_3 (dk_at dksX2_labels_0 2 rfl rfl)
theorem dX2_labels_3 : decode cX2_labels 3 = .ok (.istore_n 2, 1) := dk_61 (dk_at dksX2_labels_0 3 rfl rfl)
theorem dX2_labels_4 : decode cX2_labels 4 = .ok (.iload_n 2, 1) := dk_28 (dk_at dksX2_labels_0 4 rfl rfl)
theorem dX2_labels_5 : decode cX2_labels 5 = .ok (.aload_n 0, 1) := dk_42 (dk_at dksX2_labels_0 5 rfl rfl)
theorem dX2_labels_6 : decode cX2_labels 6 = .ok (.getfield 12, 3) := dk_180 0 12 (dk_at dksX2_labels_0 6 rfl rfl)
theorem dX2_labels_9 : decode cX2_labels 9 = .ok (.invokeinterface 23 1, 5) := by decide +kernel
theorem dX2_labels_14 : decode cX2_labels 14 = .ok (.if_icmp .ge 37, 3) := dk_162 0 37 (dk_at dksX2_labels_0 14 rfl rfl)
theorem dX2_labels_17 : decode cX2_labels 17 = .ok (.iload_n 1, 1) := dk_27 (dk_at dksX2_labels_0 17 rfl rfl)
theorem dX2_labels_18 : decode cX2_labels 18 = .ok (.aload_n 0, 1) := dk_42 (dk_at dksX2_labels_0 18 rfl rfl)
theorem dX2_labels_19 : decode cX2_labels 19 = .ok (.getfield 12, 3) := dk_180 0 12 (dk_at dksX2_labels_0 19 rfl rfl)
theorem dX2_labels_22 : decode cX2_labels 22 = .ok (.iload_n 2, 1) := dk_28 (dk_at dksX2_labels_0 22 rfl rfl)
theorem dX2_labels_23 : decode cX2_labels 23 = .ok (.invokeinterface 29 2, 5) := by decide +kernel
theorem dX2_labels_28 : decode cX2_labels 28 = .ok (.checkcast 33, 3) := dk_192 0 33 (dk_at dksX2_labels_1 5 rfl rfl)
theorem dX2_labels_31 : decode cX2_labels 31 = .ok (.getfield 106, 3) := dk_180 0 106 (dk_at dksX2_labels_1 8 rfl rfl)
theorem dX2_labels_34 : decode cX2_labels 34 = .ok (.iconst (-1), 1) := dk_2 (dk_at dksX2_labels_1 11 rfl rfl)
theorem dX2_labels_35 : decode cX2_labels 35 = .ok (.if_icmp .ne 7, 3) := dk_160 0 7 (dk_at dksX2_labels_1 12 rfl rfl)
theorem dX2_labels_38 : decode cX2_labels 38 = .ok (.iconst 0, 1) := dk_3 (dk_at dksX2_labels_1 15 rfl rfl)
theorem dX2_labels_39 : decode cX2_labels 39 = .ok (.goto 4, 3) := dk_167 0 4 (dk_at dksX2_labels_1 16 rfl rfl)
theorem dX2_labels_42 : decode cX2_labels 42 = .ok (.iconst 1, 1) := dk_4 (dk_at dksX2_labels_1 19 rfl rfl)
theorem dX2_labels_43 : decode cX2_labels 43 = .ok (.iadd, 1) := dk_96 (dk_at dksX2_labels_1 20 rfl rfl)
theorem dX2_labels_44 : decode cX2_labels 44 = .ok (.istore_n 1, 1) := dk_60 (dk_at dksX2_labels_1 21 rfl rfl)
theorem dX2_labels_45 : decode cX2_labels 45 = .ok (.iinc 2 1, 3) := dk_132 2 1 (dk_at dksX2_labels_2 0 rfl rfl)
theorem dX2_labels_48 : decode cX2_labels 48 = .ok (.goto (-44), 3) := dk_167 255 212 (dk_at dksX2_labels_2 3 rfl rfl)
theorem dX2_labels_51 : decode cX2_labels 51 = .ok (.iload_n 1, 1) := dk_27 (dk_at dksX2_labels_2 6 rfl rfl)
theorem dX2_labels_52 : decode cX2_labels 52 = .ok (.ireturn, 1) := dk_172 (dk_at dksX2_labels_2 7 rfl rfl)
abbrev cX2_tooNear : ByteArray := prog_10_method_21_code
def yX2_tooNear : MethodName := ⟨RX2, "tooNear", "()I"⟩
def dkwX2_tooNear_6 : List UInt8 := [167, 0, 4, 3, 96, 60, 132, 3, 1, 167, 255, 128, 132, 2, 1, 167, 255, 105, 27, 172]
abbrev dktX2_tooNear_6 : List UInt8 := dkwX2_tooNear_6 ++ []
def dkwX2_tooNear_5 : List UInt8 := [42, 180, 0, 12, 29, 185, 0, 29, 2, 0, 192, 0, 33, 182, 0, 109, 42, 180, 0, 18, 162, 0, 7, 4]
abbrev dktX2_tooNear_5 : List UInt8 := dkwX2_tooNear_5 ++ dktX2_tooNear_6
def dkwX2_tooNear_4 : List UInt8 := [185, 0, 29, 2, 0, 192, 0, 33, 42, 180, 0, 12, 28, 185, 0, 29, 2, 0, 192, 0, 33, 180, 0, 106]
abbrev dktX2_tooNear_4 : List UInt8 := dkwX2_tooNear_4 ++ dktX2_tooNear_5
def dkwX2_tooNear_3 : List UInt8 := [159, 0, 7, 4, 167, 0, 4, 3, 54, 4, 27, 21, 4, 153, 0, 59, 42, 180, 0, 12, 28]
abbrev dktX2_tooNear_3 : List UInt8 := dkwX2_tooNear_3 ++ dktX2_tooNear_4
def dkwX2_tooNear_2 : List UInt8 := [180, 0, 106, 2, 159, 0, 27, 42, 180, 0, 12, 29, 185, 0, 29, 2, 0, 192, 0, 33, 180, 0, 106, 2]
abbrev dktX2_tooNear_2 : List UInt8 := dkwX2_tooNear_2 ++ dktX2_tooNear_3
def dkwX2_tooNear_1 : List UInt8 := [180, 0, 12, 185, 0, 23, 1, 0, 162, 0, 121, 42, 180, 0, 12, 28, 185, 0, 29, 2, 0, 192, 0, 33]
abbrev dktX2_tooNear_1 : List UInt8 := dkwX2_tooNear_1 ++ dktX2_tooNear_2
def dkwX2_tooNear_0 : List UInt8 := [3, 60, 3, 61, 28, 42, 180, 0, 12, 185, 0, 23, 1, 0, 162, 0, 144, 28, 4, 96, 62, 29, 42]
abbrev dktX2_tooNear_0 : List UInt8 := dkwX2_tooNear_0 ++ dktX2_tooNear_1
theorem dksX2_tooNear_0 : cX2_tooNear.data.toList.drop 0 = dktX2_tooNear_0 := by decide +kernel
theorem dksX2_tooNear_1 : cX2_tooNear.data.toList.drop 23 = dktX2_tooNear_1 := dk_seg dksX2_tooNear_0 23 rfl rfl
theorem dksX2_tooNear_2 : cX2_tooNear.data.toList.drop 47 = dktX2_tooNear_2 := dk_seg dksX2_tooNear_1 24 rfl rfl
theorem dksX2_tooNear_3 : cX2_tooNear.data.toList.drop 71 = dktX2_tooNear_3 := dk_seg dksX2_tooNear_2 24 rfl rfl
theorem dksX2_tooNear_4 : cX2_tooNear.data.toList.drop 92 = dktX2_tooNear_4 := dk_seg dksX2_tooNear_3 21 rfl rfl
theorem dksX2_tooNear_5 : cX2_tooNear.data.toList.drop 116 = dktX2_tooNear_5 := dk_seg dksX2_tooNear_4 24 rfl rfl
theorem dksX2_tooNear_6 : cX2_tooNear.data.toList.drop 140 = dktX2_tooNear_6 := dk_seg dksX2_tooNear_5 24 rfl rfl
theorem dX2_tooNear_0 : decode cX2_tooNear 0 = .ok (.iconst 0, 1) := dk_3 (dk_at dksX2_tooNear_0 0 rfl rfl)
theorem dX2_tooNear_1 : decode cX2_tooNear 1 = .ok (.istore_n 1, 1) := dk_60 (dk_at dksX2_tooNear_0 1 rfl rfl)
theorem dX2_tooNear_2 : decode cX2_tooNear 2 = .ok (.iconst 0, 1) := dk_3 (dk_at dksX2_tooNear_0 2 rfl rfl)
theorem dX2_tooNear_3 : decode cX2_tooNear 3 = .ok (.istore_n 2, 1) := dk_61 (dk_at dksX2_tooNear_0 3 rfl rfl)
theorem dX2_tooNear_4 : decode cX2_tooNear 4 = .ok (.iload_n 2, 1) := dk_28 (dk_at dksX2_tooNear_0 4 rfl rfl)
theorem dX2_tooNear_5 : decode cX2_tooNear 5 = .ok (.aload_n 0, 1) := dk_42 (dk_at dksX2_tooNear_0 5 rfl rfl)
theorem dX2_tooNear_6 : decode cX2_tooNear 6 = .ok (.getfield 12, 3) := dk_180 0 12 (dk_at dksX2_tooNear_0 6 rfl rfl)
theorem dX2_tooNear_9 : decode cX2_tooNear 9 = .ok (.invokeinterface 23 1, 5) := by decide +kernel
theorem dX2_tooNear_14 : decode cX2_tooNear 14 = .ok (.if_icmp .ge 144, 3) := dk_162 0 144 (dk_at dksX2_tooNear_0 14 rfl rfl)
theorem dX2_tooNear_17 : decode cX2_tooNear 17 = .ok (.iload_n 2, 1) := dk_28 (dk_at dksX2_tooNear_0 17 rfl rfl)
theorem dX2_tooNear_18 : decode cX2_tooNear 18 = .ok (.iconst 1, 1) := dk_4 (dk_at dksX2_tooNear_0 18 rfl rfl)
theorem dX2_tooNear_19 : decode cX2_tooNear 19 = .ok (.iadd, 1) := dk_96 (dk_at dksX2_tooNear_0 19 rfl rfl)
theorem dX2_tooNear_20 : decode cX2_tooNear 20 = .ok (.istore_n 3, 1) := dk_62 (dk_at dksX2_tooNear_0 20 rfl rfl)
theorem dX2_tooNear_21 : decode cX2_tooNear 21 = .ok (.iload_n 3, 1) := dk_29 (dk_at dksX2_tooNear_0 21 rfl rfl)
theorem dX2_tooNear_22 : decode cX2_tooNear 22 = .ok (.aload_n 0, 1) := dk_42 (dk_at dksX2_tooNear_0 22 rfl rfl)
theorem dX2_tooNear_23 : decode cX2_tooNear 23 = .ok (.getfield 12, 3) := dk_180 0 12 (dk_at dksX2_tooNear_1 0 rfl rfl)
theorem dX2_tooNear_26 : decode cX2_tooNear 26 = .ok (.invokeinterface 23 1, 5) := by decide +kernel
theorem dX2_tooNear_31 : decode cX2_tooNear 31 = .ok (.if_icmp .ge 121, 3) := dk_162 0 121 (dk_at dksX2_tooNear_1 8 rfl rfl)
theorem dX2_tooNear_34 : decode cX2_tooNear 34 = .ok (.aload_n 0, 1) := dk_42 (dk_at dksX2_tooNear_1 11 rfl rfl)
theorem dX2_tooNear_35 : decode cX2_tooNear 35 = .ok (.getfield 12, 3) := dk_180 0 12 (dk_at dksX2_tooNear_1 12 rfl rfl)
theorem dX2_tooNear_38 : decode cX2_tooNear 38 = .ok (.iload_n 2, 1) := dk_28 (dk_at dksX2_tooNear_1 15 rfl rfl)
theorem dX2_tooNear_39 : decode cX2_tooNear 39 = .ok (.invokeinterface 29 2, 5) := by decide +kernel
theorem dX2_tooNear_44 : decode cX2_tooNear 44 = .ok (.checkcast 33, 3) := dk_192 0 33 (dk_at dksX2_tooNear_1 21 rfl rfl)
theorem dX2_tooNear_47 : decode cX2_tooNear 47 = .ok (.getfield 106, 3) := dk_180 0 106 (dk_at dksX2_tooNear_2 0 rfl rfl)
theorem dX2_tooNear_50 : decode cX2_tooNear 50 = .ok (.iconst (-1), 1) := dk_2 (dk_at dksX2_tooNear_2 3 rfl rfl)
theorem dX2_tooNear_51 : decode cX2_tooNear 51 = .ok (.if_icmp .eq 27, 3) := dk_159 0 27 (dk_at dksX2_tooNear_2 4 rfl rfl)
theorem dX2_tooNear_54 : decode cX2_tooNear 54 = .ok (.aload_n 0, 1) := dk_42 (dk_at dksX2_tooNear_2 7 rfl rfl)
theorem dX2_tooNear_55 : decode cX2_tooNear 55 = .ok (.getfield 12, 3) := dk_180 0 12 (dk_at dksX2_tooNear_2 8 rfl rfl)
theorem dX2_tooNear_58 : decode cX2_tooNear 58 = .ok (.iload_n 3, 1) := dk_29 (dk_at dksX2_tooNear_2 11 rfl rfl)
theorem dX2_tooNear_59 : decode cX2_tooNear 59 = .ok (.invokeinterface 29 2, 5) := by decide +kernel
theorem dX2_tooNear_64 : decode cX2_tooNear 64 = .ok (.checkcast 33, 3) := dk_192 0 33 (dk_at dksX2_tooNear_2 17 rfl rfl)
theorem dX2_tooNear_67 : decode cX2_tooNear 67 = .ok (.getfield 106, 3) := dk_180 0 106 (dk_at dksX2_tooNear_2 20 rfl rfl)
theorem dX2_tooNear_70 : decode cX2_tooNear 70 = .ok (.iconst (-1), 1) := dk_2 (dk_at dksX2_tooNear_2 23 rfl rfl)
theorem dX2_tooNear_71 : decode cX2_tooNear 71 = .ok (.if_icmp .eq 7, 3) := dk_159 0 7 (dk_at dksX2_tooNear_3 0 rfl rfl)
theorem dX2_tooNear_74 : decode cX2_tooNear 74 = .ok (.iconst 1, 1) := dk_4 (dk_at dksX2_tooNear_3 3 rfl rfl)
theorem dX2_tooNear_75 : decode cX2_tooNear 75 = .ok (.goto 4, 3) := dk_167 0 4 (dk_at dksX2_tooNear_3 4 rfl rfl)
theorem dX2_tooNear_78 : decode cX2_tooNear 78 = .ok (.iconst 0, 1) := dk_3 (dk_at dksX2_tooNear_3 7 rfl rfl)
theorem dX2_tooNear_79 : decode cX2_tooNear 79 = .ok (.istore 4, 2) := dk_54 4 (dk_at dksX2_tooNear_3 8 rfl rfl)
theorem dX2_tooNear_81 : decode cX2_tooNear 81 = .ok (.iload_n 1, 1) := dk_27 (dk_at dksX2_tooNear_3 10 rfl rfl)
theorem dX2_tooNear_82 : decode cX2_tooNear 82 = .ok (.iload 4, 2) := dk_21 4 (dk_at dksX2_tooNear_3 11 rfl rfl)
theorem dX2_tooNear_84 : decode cX2_tooNear 84 = .ok (.ifCond .eq 59, 3) := dk_153 0 59 (dk_at dksX2_tooNear_3 13 rfl rfl)
theorem dX2_tooNear_87 : decode cX2_tooNear 87 = .ok (.aload_n 0, 1) := dk_42 (dk_at dksX2_tooNear_3 16 rfl rfl)
theorem dX2_tooNear_88 : decode cX2_tooNear 88 = .ok (.getfield 12, 3) := dk_180 0 12 (dk_at dksX2_tooNear_3 17 rfl rfl)
theorem dX2_tooNear_91 : decode cX2_tooNear 91 = .ok (.iload_n 2, 1) := dk_28 (dk_at dksX2_tooNear_3 20 rfl rfl)
theorem dX2_tooNear_92 : decode cX2_tooNear 92 = .ok (.invokeinterface 29 2, 5) := by decide +kernel
theorem dX2_tooNear_97 : decode cX2_tooNear 97 = .ok (.checkcast 33, 3) := dk_192 0 33 (dk_at dksX2_tooNear_4 5 rfl rfl)
theorem dX2_tooNear_100 : decode cX2_tooNear 100 = .ok (.aload_n 0, 1) := dk_42 (dk_at dksX2_tooNear_4 8 rfl rfl)
theorem dX2_tooNear_101 : decode cX2_tooNear 101 = .ok (.getfield 12, 3) := dk_180 0 12 (dk_at dksX2_tooNear_4 9 rfl rfl)
theorem dX2_tooNear_104 : decode cX2_tooNear 104 = .ok (.iload_n 2, 1) := dk_28 (dk_at dksX2_tooNear_4 12 rfl rfl)
theorem dX2_tooNear_105 : decode cX2_tooNear 105 = .ok (.invokeinterface 29 2, 5) := by decide +kernel
theorem dX2_tooNear_110 : decode cX2_tooNear 110 = .ok (.checkcast 33, 3) := dk_192 0 33 (dk_at dksX2_tooNear_4 18 rfl rfl)
theorem dX2_tooNear_113 : decode cX2_tooNear 113 = .ok (.getfield 106, 3) := dk_180 0 106 (dk_at dksX2_tooNear_4 21 rfl rfl)
theorem dX2_tooNear_116 : decode cX2_tooNear 116 = .ok (.aload_n 0, 1) := dk_42 (dk_at dksX2_tooNear_5 0 rfl rfl)
theorem dX2_tooNear_117 : decode cX2_tooNear 117 = .ok (.getfield 12, 3) := dk_180 0 12 (dk_at dksX2_tooNear_5 1 rfl rfl)
theorem dX2_tooNear_120 : decode cX2_tooNear 120 = .ok (.iload_n 3, 1) := dk_29 (dk_at dksX2_tooNear_5 4 rfl rfl)
theorem dX2_tooNear_121 : decode cX2_tooNear 121 = .ok (.invokeinterface 29 2, 5) := by decide +kernel
theorem dX2_tooNear_126 : decode cX2_tooNear 126 = .ok (.checkcast 33, 3) := dk_192 0 33 (dk_at dksX2_tooNear_5 10 rfl rfl)
theorem dX2_tooNear_129 : decode cX2_tooNear 129 = .ok (.invokevirtual 109, 3) := dk_182 0 109 (dk_at dksX2_tooNear_5 13 rfl rfl)
theorem dX2_tooNear_132 : decode cX2_tooNear 132 = .ok (.aload_n 0, 1) := dk_42 (dk_at dksX2_tooNear_5 16 rfl rfl)
theorem dX2_tooNear_133 : decode cX2_tooNear 133 = .ok (.getfield 18, 3) := dk_180 0 18 (dk_at dksX2_tooNear_5 17 rfl rfl)
theorem dX2_tooNear_136 : decode cX2_tooNear 136 = .ok (.if_icmp .ge 7, 3) := dk_162 0 7 (dk_at dksX2_tooNear_5 20 rfl rfl)
theorem dX2_tooNear_139 : decode cX2_tooNear 139 = .ok (.iconst 1, 1) := dk_4 (dk_at dksX2_tooNear_5 23 rfl rfl)
theorem dX2_tooNear_140 : decode cX2_tooNear 140 = .ok (.goto 4, 3) := dk_167 0 4 (dk_at dksX2_tooNear_6 0 rfl rfl)
theorem dX2_tooNear_143 : decode cX2_tooNear 143 = .ok (.iconst 0, 1) := dk_3 (dk_at dksX2_tooNear_6 3 rfl rfl)
theorem dX2_tooNear_144 : decode cX2_tooNear 144 = .ok (.iadd, 1) := dk_96 (dk_at dksX2_tooNear_6 4 rfl rfl)
theorem dX2_tooNear_145 : decode cX2_tooNear 145 = .ok (.istore_n 1, 1) := dk_60 (dk_at dksX2_tooNear_6 5 rfl rfl)
theorem dX2_tooNear_146 : decode cX2_tooNear 146 = .ok (.iinc 3 1, 3) := dk_132 3 1 (dk_at dksX2_tooNear_6 6 rfl rfl)
theorem dX2_tooNear_149 : decode cX2_tooNear 149 = .ok (.goto (-128), 3) := dk_167 255 128 (dk_at dksX2_tooNear_6 9 rfl rfl)
theorem dX2_tooNear_152 : decode cX2_tooNear 152 = .ok (.iinc 2 1, 3) := dk_132 2 1 (dk_at dksX2_tooNear_6 12 rfl rfl)
theorem dX2_tooNear_155 : decode cX2_tooNear 155 = .ok (.goto (-151), 3) := dk_167 255 105 (dk_at dksX2_tooNear_6 15 rfl rfl)
theorem dX2_tooNear_158 : decode cX2_tooNear 158 = .ok (.iload_n 1, 1) := dk_27 (dk_at dksX2_tooNear_6 18 rfl rfl)
theorem dX2_tooNear_159 : decode cX2_tooNear 159 = .ok (.ireturn, 1) := dk_172 (dk_at dksX2_tooNear_6 19 rfl rfl)
abbrev cX2_begin : ByteArray := prog_10_method_8_code
def yX2_begin : MethodName := ⟨RX2, "begin", "(II)Z"⟩
def dkwX2_begin_2 : List UInt8 := [185, 0, 39, 2, 0, 87, 29, 172]
abbrev dktX2_begin_2 : List UInt8 := dkwX2_begin_2 ++ []
def dkwX2_begin_1 : List UInt8 := [167, 0, 4, 3, 62, 29, 153, 0, 22, 42, 180, 0, 12, 187, 0, 33, 89, 27, 28, 183, 0, 100]
abbrev dktX2_begin_1 : List UInt8 := dkwX2_begin_1 ++ dktX2_begin_2
def dkwX2_begin_0 : List UInt8 := [42, 180, 0, 12, 185, 0, 23, 1, 0, 16, 8, 162, 0, 16, 42, 28, 182, 0, 96, 2, 160, 0, 7, 4]
abbrev dktX2_begin_0 : List UInt8 := dkwX2_begin_0 ++ dktX2_begin_1
theorem dksX2_begin_0 : cX2_begin.data.toList.drop 0 = dktX2_begin_0 := by decide +kernel
theorem dksX2_begin_1 : cX2_begin.data.toList.drop 24 = dktX2_begin_1 := dk_seg dksX2_begin_0 24 rfl rfl
theorem dksX2_begin_2 : cX2_begin.data.toList.drop 46 = dktX2_begin_2 := dk_seg dksX2_begin_1 22 rfl rfl
theorem dX2_begin_0 : decode cX2_begin 0 = .ok (.aload_n 0, 1) := dk_42 (dk_at dksX2_begin_0 0 rfl rfl)
theorem dX2_begin_1 : decode cX2_begin 1 = .ok (.getfield 12, 3) := dk_180 0 12 (dk_at dksX2_begin_0 1 rfl rfl)
theorem dX2_begin_4 : decode cX2_begin 4 = .ok (.invokeinterface 23 1, 5) := by decide +kernel
theorem dX2_begin_9 : decode cX2_begin 9 = .ok (.bipush 8, 2) := dk_16 8 (dk_at dksX2_begin_0 9 rfl rfl)
theorem dX2_begin_11 : decode cX2_begin 11 = .ok (.if_icmp .ge 16, 3) := dk_162 0 16 (dk_at dksX2_begin_0 11 rfl rfl)
theorem dX2_begin_14 : decode cX2_begin 14 = .ok (.aload_n 0, 1) := dk_42 (dk_at dksX2_begin_0 14 rfl rfl)
theorem dX2_begin_15 : decode cX2_begin 15 = .ok (.iload_n 2, 1) := dk_28 (dk_at dksX2_begin_0 15 rfl rfl)
theorem dX2_begin_16 : decode cX2_begin 16 = .ok (.invokevirtual 96, 3) := dk_182 0 96 (dk_at dksX2_begin_0 16 rfl rfl)
theorem dX2_begin_19 : decode cX2_begin 19 = .ok (.iconst (-1), 1) := dk_2 (dk_at dksX2_begin_0 19 rfl rfl)
theorem dX2_begin_20 : decode cX2_begin 20 = .ok (.if_icmp .ne 7, 3) := dk_160 0 7 (dk_at dksX2_begin_0 20 rfl rfl)
theorem dX2_begin_23 : decode cX2_begin 23 = .ok (.iconst 1, 1) := dk_4 (dk_at dksX2_begin_0 23 rfl rfl)
theorem dX2_begin_24 : decode cX2_begin 24 = .ok (.goto 4, 3) := dk_167 0 4 (dk_at dksX2_begin_1 0 rfl rfl)
theorem dX2_begin_27 : decode cX2_begin 27 = .ok (.iconst 0, 1) := dk_3 (dk_at dksX2_begin_1 3 rfl rfl)
theorem dX2_begin_28 : decode cX2_begin 28 = .ok (.istore_n 3, 1) := dk_62 (dk_at dksX2_begin_1 4 rfl rfl)
theorem dX2_begin_29 : decode cX2_begin 29 = .ok (.iload_n 3, 1) := dk_29 (dk_at dksX2_begin_1 5 rfl rfl)
theorem dX2_begin_30 : decode cX2_begin 30 = .ok (.ifCond .eq 22, 3) := dk_153 0 22 (dk_at dksX2_begin_1 6 rfl rfl)
theorem dX2_begin_33 : decode cX2_begin 33 = .ok (.aload_n 0, 1) := dk_42 (dk_at dksX2_begin_1 9 rfl rfl)
theorem dX2_begin_34 : decode cX2_begin 34 = .ok (.getfield 12, 3) := dk_180 0 12 (dk_at dksX2_begin_1 10 rfl rfl)
theorem dX2_begin_37 : decode cX2_begin 37 = .ok (.new 33, 3) := dk_187 0 33 (dk_at dksX2_begin_1 13 rfl rfl)
theorem dX2_begin_40 : decode cX2_begin 40 = .ok (.dup, 1) := dk_89 (dk_at dksX2_begin_1 16 rfl rfl)
theorem dX2_begin_41 : decode cX2_begin 41 = .ok (.iload_n 1, 1) := dk_27 (dk_at dksX2_begin_1 17 rfl rfl)
theorem dX2_begin_42 : decode cX2_begin 42 = .ok (.iload_n 2, 1) := dk_28 (dk_at dksX2_begin_1 18 rfl rfl)
theorem dX2_begin_43 : decode cX2_begin 43 = .ok (.invokespecial 100, 3) := dk_183 0 100 (dk_at dksX2_begin_1 19 rfl rfl)
theorem dX2_begin_46 : decode cX2_begin 46 = .ok (.invokeinterface 39 2, 5) := by decide +kernel
theorem dX2_begin_51 : decode cX2_begin 51 = .ok (.pop, 1) := dk_87 (dk_at dksX2_begin_2 5 rfl rfl)
theorem dX2_begin_52 : decode cX2_begin 52 = .ok (.iload_n 3, 1) := dk_29 (dk_at dksX2_begin_2 6 rfl rfl)
theorem dX2_begin_53 : decode cX2_begin 53 = .ok (.ireturn, 1) := dk_172 (dk_at dksX2_begin_2 7 rfl rfl)
abbrev cX2_lineAt : ByteArray := prog_10_method_4_code
def yX2_lineAt : MethodName := ⟨RX2, "lineAt", "(I)I"⟩
def dkwX2_lineAt_2 : List UInt8 := [172]
abbrev dktX2_lineAt_2 : List UInt8 := dkwX2_lineAt_2 ++ []
def dkwX2_lineAt_1 : List UInt8 := [185, 0, 29, 2, 0, 192, 0, 33, 27, 182, 0, 43, 153, 0, 5, 28, 172, 132, 2, 1, 167, 255, 218, 2]
abbrev dktX2_lineAt_1 : List UInt8 := dkwX2_lineAt_1 ++ dktX2_lineAt_2
def dkwX2_lineAt_0 : List UInt8 := [3, 61, 28, 42, 180, 0, 12, 185, 0, 23, 1, 0, 162, 0, 31, 42, 180, 0, 12, 28]
abbrev dktX2_lineAt_0 : List UInt8 := dkwX2_lineAt_0 ++ dktX2_lineAt_1
theorem dksX2_lineAt_0 : cX2_lineAt.data.toList.drop 0 = dktX2_lineAt_0 := by decide +kernel
theorem dksX2_lineAt_1 : cX2_lineAt.data.toList.drop 20 = dktX2_lineAt_1 := dk_seg dksX2_lineAt_0 20 rfl rfl
theorem dksX2_lineAt_2 : cX2_lineAt.data.toList.drop 44 = dktX2_lineAt_2 := dk_seg dksX2_lineAt_1 24 rfl rfl
theorem dX2_lineAt_0 : decode cX2_lineAt 0 = .ok (.iconst 0, 1) := dk_3 (dk_at dksX2_lineAt_0 0 rfl rfl)
theorem dX2_lineAt_1 : decode cX2_lineAt 1 = .ok (.istore_n 2, 1) := dk_61 (dk_at dksX2_lineAt_0 1 rfl rfl)
theorem dX2_lineAt_2 : decode cX2_lineAt 2 = .ok (.iload_n 2, 1) := dk_28 (dk_at dksX2_lineAt_0 2 rfl rfl)
theorem dX2_lineAt_3 : decode cX2_lineAt 3 = .ok (.aload_n 0, 1) := dk_42 (dk_at dksX2_lineAt_0 3 rfl rfl)
theorem dX2_lineAt_4 : decode cX2_lineAt 4 = .ok (.getfield 12, 3) := dk_180 0 12 (dk_at dksX2_lineAt_0 4 rfl rfl)
theorem dX2_lineAt_7 : decode cX2_lineAt 7 = .ok (.invokeinterface 23 1, 5) := by decide +kernel
theorem dX2_lineAt_12 : decode cX2_lineAt 12 = .ok (.if_icmp .ge 31, 3) := dk_162 0 31 (dk_at dksX2_lineAt_0 12 rfl rfl)
theorem dX2_lineAt_15 : decode cX2_lineAt 15 = .ok (.aload_n 0, 1) := dk_42 (dk_at dksX2_lineAt_0 15 rfl rfl)
theorem dX2_lineAt_16 : decode cX2_lineAt 16 = .ok (.getfield 12, 3) := dk_180 0 12 (dk_at dksX2_lineAt_0 16 rfl rfl)
theorem dX2_lineAt_19 : decode cX2_lineAt 19 = .ok (.iload_n 2, 1) := dk_28 (dk_at dksX2_lineAt_0 19 rfl rfl)
theorem dX2_lineAt_20 : decode cX2_lineAt 20 = .ok (.invokeinterface 29 2, 5) := by decide +kernel
theorem dX2_lineAt_25 : decode cX2_lineAt 25 = .ok (.checkcast 33, 3) := dk_192 0 33 (dk_at dksX2_lineAt_1 5 rfl rfl)
theorem dX2_lineAt_28 : decode cX2_lineAt 28 = .ok (.iload_n 1, 1) := dk_27 (dk_at dksX2_lineAt_1 8 rfl rfl)
theorem dX2_lineAt_29 : decode cX2_lineAt 29 = .ok (.invokevirtual 43, 3) := dk_182 0 43 (dk_at dksX2_lineAt_1 9 rfl rfl)
theorem dX2_lineAt_32 : decode cX2_lineAt 32 = .ok (.ifCond .eq 5, 3) := dk_153 0 5 (dk_at dksX2_lineAt_1 12 rfl rfl)
theorem dX2_lineAt_35 : decode cX2_lineAt 35 = .ok (.iload_n 2, 1) := dk_28 (dk_at dksX2_lineAt_1 15 rfl rfl)
theorem dX2_lineAt_36 : decode cX2_lineAt 36 = .ok (.ireturn, 1) := dk_172 (dk_at dksX2_lineAt_1 16 rfl rfl)
theorem dX2_lineAt_37 : decode cX2_lineAt 37 = .ok (.iinc 2 1, 3) := dk_132 2 1 (dk_at dksX2_lineAt_1 17 rfl rfl)
theorem dX2_lineAt_40 : decode cX2_lineAt 40 = .ok (.goto (-38), 3) := dk_167 255 218 (dk_at dksX2_lineAt_1 20 rfl rfl)
theorem dX2_lineAt_43 : decode cX2_lineAt 43 = .ok (.iconst (-1), 1) := dk_2 (dk_at dksX2_lineAt_1 23 rfl rfl)
theorem dX2_lineAt_44 : decode cX2_lineAt 44 = .ok (.ireturn, 1) := dk_172 (dk_at dksX2_lineAt_2 0 rfl rfl)
abbrev cX2_step : ByteArray := prog_10_method_7_code
def yX2_step : MethodName := ⟨RX2, "step", "(II)Z"⟩
def dkwX2_step_1 : List UInt8 := [153, 0, 20, 42, 180, 0, 12, 27, 185, 0, 29, 2, 0, 192, 0, 33, 28, 182, 0, 92, 29, 172]
abbrev dktX2_step_1 : List UInt8 := dkwX2_step_1 ++ []
def dkwX2_step_0 : List UInt8 := [42, 27, 182, 0, 88, 153, 0, 16, 42, 27, 28, 182, 0, 89, 154, 0, 7, 4, 167, 0, 4, 3, 62, 29]
abbrev dktX2_step_0 : List UInt8 := dkwX2_step_0 ++ dktX2_step_1
theorem dksX2_step_0 : cX2_step.data.toList.drop 0 = dktX2_step_0 := by decide +kernel
theorem dksX2_step_1 : cX2_step.data.toList.drop 24 = dktX2_step_1 := dk_seg dksX2_step_0 24 rfl rfl
theorem dX2_step_0 : decode cX2_step 0 = .ok (.aload_n 0, 1) := dk_42 (dk_at dksX2_step_0 0 rfl rfl)
theorem dX2_step_1 : decode cX2_step 1 = .ok (.iload_n 1, 1) := dk_27 (dk_at dksX2_step_0 1 rfl rfl)
theorem dX2_step_2 : decode cX2_step 2 = .ok (.invokevirtual 88, 3) := dk_182 0 88 (dk_at dksX2_step_0 2 rfl rfl)
theorem dX2_step_5 : decode cX2_step 5 = .ok (.ifCond .eq 16, 3) := dk_153 0 16 (dk_at dksX2_step_0 5 rfl rfl)
theorem dX2_step_8 : decode cX2_step 8 = .ok (.aload_n 0, 1) := dk_42 (dk_at dksX2_step_0 8 rfl rfl)
theorem dX2_step_9 : decode cX2_step 9 = .ok (.iload_n 1, 1) := dk_27 (dk_at dksX2_step_0 9 rfl rfl)
theorem dX2_step_10 : decode cX2_step 10 = .ok (.iload_n 2, 1) := dk_28 (dk_at dksX2_step_0 10 rfl rfl)
theorem dX2_step_11 : decode cX2_step 11 = .ok (.invokevirtual 89, 3) := dk_182 0 89 (dk_at dksX2_step_0 11 rfl rfl)
theorem dX2_step_14 : decode cX2_step 14 = .ok (.ifCond .ne 7, 3) := dk_154 0 7 (dk_at dksX2_step_0 14 rfl rfl)
theorem dX2_step_17 : decode cX2_step 17 = .ok (.iconst 1, 1) := dk_4 (dk_at dksX2_step_0 17 rfl rfl)
theorem dX2_step_18 : decode cX2_step 18 = .ok (.goto 4, 3) := dk_167 0 4 (dk_at dksX2_step_0 18 rfl rfl)
theorem dX2_step_21 : decode cX2_step 21 = .ok (.iconst 0, 1) := dk_3 (dk_at dksX2_step_0 21 rfl rfl)
theorem dX2_step_22 : decode cX2_step 22 = .ok (.istore_n 3, 1) := dk_62 (dk_at dksX2_step_0 22 rfl rfl)
theorem dX2_step_23 : decode cX2_step 23 = .ok (.iload_n 3, 1) := dk_29 (dk_at dksX2_step_0 23 rfl rfl)
theorem dX2_step_24 : decode cX2_step 24 = .ok (.ifCond .eq 20, 3) := dk_153 0 20 (dk_at dksX2_step_1 0 rfl rfl)
theorem dX2_step_27 : decode cX2_step 27 = .ok (.aload_n 0, 1) := dk_42 (dk_at dksX2_step_1 3 rfl rfl)
theorem dX2_step_28 : decode cX2_step 28 = .ok (.getfield 12, 3) := dk_180 0 12 (dk_at dksX2_step_1 4 rfl rfl)
theorem dX2_step_31 : decode cX2_step 31 = .ok (.iload_n 1, 1) := dk_27 (dk_at dksX2_step_1 7 rfl rfl)
theorem dX2_step_32 : decode cX2_step 32 = .ok (.invokeinterface 29 2, 5) := by decide +kernel
theorem dX2_step_37 : decode cX2_step 37 = .ok (.checkcast 33, 3) := dk_192 0 33 (dk_at dksX2_step_1 13 rfl rfl)
theorem dX2_step_40 : decode cX2_step 40 = .ok (.iload_n 2, 1) := dk_28 (dk_at dksX2_step_1 16 rfl rfl)
theorem dX2_step_41 : decode cX2_step 41 = .ok (.invokevirtual 92, 3) := dk_182 0 92 (dk_at dksX2_step_1 17 rfl rfl)
theorem dX2_step_44 : decode cX2_step 44 = .ok (.iload_n 3, 1) := dk_29 (dk_at dksX2_step_1 20 rfl rfl)
theorem dX2_step_45 : decode cX2_step 45 = .ok (.ireturn, 1) := dk_172 (dk_at dksX2_step_1 21 rfl rfl)
abbrev cX2_whyNotStepped : ByteArray := prog_10_method_6_code
def yX2_whyNotStepped : MethodName := ⟨RX2, "whyNotStepped", "(II)I"⟩
def dkwX2_whyNotStepped_3 : List UInt8 := [28, 186, 0, 81, 0, 0, 83, 58, 5, 25, 5, 184, 0, 84, 172]
abbrev dktX2_whyNotStepped_3 : List UInt8 := dkwX2_whyNotStepped_3 ++ []
def dkwX2_whyNotStepped_2 : List UInt8 := [21, 4, 186, 0, 75, 0, 0, 83, 89, 6, 42, 21, 4, 45, 186, 0, 78, 0, 0, 83, 89, 7, 42, 45]
abbrev dktX2_whyNotStepped_2 : List UInt8 := dkwX2_whyNotStepped_2 ++ dktX2_whyNotStepped_3
def dkwX2_whyNotStepped_1 : List UInt8 := [8, 189, 0, 68, 89, 3, 45, 186, 0, 70, 0, 0, 83, 89, 4, 45, 186, 0, 74, 0, 0, 83, 89, 5]
abbrev dktX2_whyNotStepped_1 : List UInt8 := dkwX2_whyNotStepped_1 ++ dktX2_whyNotStepped_2
def dkwX2_whyNotStepped_0 : List UInt8 := [42, 180, 0, 12, 27, 185, 0, 29, 2, 0, 192, 0, 33, 78, 45, 182, 0, 61, 28, 184, 0, 64, 54, 4]
abbrev dktX2_whyNotStepped_0 : List UInt8 := dkwX2_whyNotStepped_0 ++ dktX2_whyNotStepped_1
theorem dksX2_whyNotStepped_0 : cX2_whyNotStepped.data.toList.drop 0 = dktX2_whyNotStepped_0 := by decide +kernel
theorem dksX2_whyNotStepped_1 : cX2_whyNotStepped.data.toList.drop 24 = dktX2_whyNotStepped_1 := dk_seg dksX2_whyNotStepped_0 24 rfl rfl
theorem dksX2_whyNotStepped_2 : cX2_whyNotStepped.data.toList.drop 48 = dktX2_whyNotStepped_2 := dk_seg dksX2_whyNotStepped_1 24 rfl rfl
theorem dksX2_whyNotStepped_3 : cX2_whyNotStepped.data.toList.drop 72 = dktX2_whyNotStepped_3 := dk_seg dksX2_whyNotStepped_2 24 rfl rfl
theorem dX2_whyNotStepped_0 : decode cX2_whyNotStepped 0 = .ok (.aload_n 0, 1) := dk_42 (dk_at dksX2_whyNotStepped_0 0 rfl rfl)
theorem dX2_whyNotStepped_1 : decode cX2_whyNotStepped 1 = .ok (.getfield 12, 3) := dk_180 0 12 (dk_at dksX2_whyNotStepped_0 1 rfl rfl)
theorem dX2_whyNotStepped_4 : decode cX2_whyNotStepped 4 = .ok (.iload_n 1, 1) := dk_27 (dk_at dksX2_whyNotStepped_0 4 rfl rfl)
theorem dX2_whyNotStepped_5 : decode cX2_whyNotStepped 5 = .ok (.invokeinterface 29 2, 5) := by decide +kernel
theorem dX2_whyNotStepped_10 : decode cX2_whyNotStepped 10 = .ok (.checkcast 33, 3) := dk_192 0 33 (dk_at dksX2_whyNotStepped_0 10 rfl rfl)
theorem dX2_whyNotStepped_13 : decode cX2_whyNotStepped 13 = .ok (.astore_n 3, 1) := dk_78 (dk_at dksX2_whyNotStepped_0 13 rfl rfl)
theorem dX2_whyNotStepped_14 : decode cX2_whyNotStepped 14 = .ok (.aload_n 3, 1) := dk_45 (dk_at dksX2_whyNotStepped_0 14 rfl rfl)
theorem dX2_whyNotStepped_15 : decode cX2_whyNotStepped 15 = .ok (.invokevirtual 61, 3) := dk_182 0 61 (dk_at dksX2_whyNotStepped_0 15 rfl rfl)
theorem dX2_whyNotStepped_18 : decode cX2_whyNotStepped 18 = .ok (.iload_n 2, 1) := dk_28 (dk_at dksX2_whyNotStepped_0 18 rfl rfl)
theorem dX2_whyNotStepped_19 : decode cX2_whyNotStepped 19 = .ok (.invokestatic 64, 3) := dk_184 0 64 (dk_at dksX2_whyNotStepped_0 19 rfl rfl)
theorem dX2_whyNotStepped_22 : decode cX2_whyNotStepped 22 = .ok (.istore 4, 2) := dk_54 4 (dk_at dksX2_whyNotStepped_0 22 rfl rfl)
theorem dX2_whyNotStepped_24 : decode cX2_whyNotStepped 24 = .ok (.iconst 5, 1) := dk_8 (dk_at dksX2_whyNotStepped_1 0 rfl rfl)
theorem dX2_whyNotStepped_25 : decode cX2_whyNotStepped 25 = .ok (.anewarray 68, 3) := dk_189 0 68 (dk_at dksX2_whyNotStepped_1 1 rfl rfl)
theorem dX2_whyNotStepped_28 : decode cX2_whyNotStepped 28 = .ok (.dup, 1) := dk_89 (dk_at dksX2_whyNotStepped_1 4 rfl rfl)
theorem dX2_whyNotStepped_29 : decode cX2_whyNotStepped 29 = .ok (.iconst 0, 1) := dk_3 (dk_at dksX2_whyNotStepped_1 5 rfl rfl)
theorem dX2_whyNotStepped_30 : decode cX2_whyNotStepped 30 = .ok (.aload_n 3, 1) := dk_45 (dk_at dksX2_whyNotStepped_1 6 rfl rfl)
theorem dX2_whyNotStepped_31 : decode cX2_whyNotStepped 31 = .ok (.invokedynamic 70, 5) := by decide +kernel
theorem dX2_whyNotStepped_36 : decode cX2_whyNotStepped 36 = .ok (.aastore, 1) := dk_83 (dk_at dksX2_whyNotStepped_1 12 rfl rfl)
theorem dX2_whyNotStepped_37 : decode cX2_whyNotStepped 37 = .ok (.dup, 1) := dk_89 (dk_at dksX2_whyNotStepped_1 13 rfl rfl)
theorem dX2_whyNotStepped_38 : decode cX2_whyNotStepped 38 = .ok (.iconst 1, 1) := dk_4 (dk_at dksX2_whyNotStepped_1 14 rfl rfl)
theorem dX2_whyNotStepped_39 : decode cX2_whyNotStepped 39 = .ok (.aload_n 3, 1) := dk_45 (dk_at dksX2_whyNotStepped_1 15 rfl rfl)
theorem dX2_whyNotStepped_40 : decode cX2_whyNotStepped 40 = .ok (.invokedynamic 74, 5) := by decide +kernel
theorem dX2_whyNotStepped_45 : decode cX2_whyNotStepped 45 = .ok (.aastore, 1) := dk_83 (dk_at dksX2_whyNotStepped_1 21 rfl rfl)
theorem dX2_whyNotStepped_46 : decode cX2_whyNotStepped 46 = .ok (.dup, 1) := dk_89 (dk_at dksX2_whyNotStepped_1 22 rfl rfl)
theorem dX2_whyNotStepped_47 : decode cX2_whyNotStepped 47 = .ok (.iconst 2, 1) := dk_5 (dk_at dksX2_whyNotStepped_1 23 rfl rfl)
theorem dX2_whyNotStepped_48 : decode cX2_whyNotStepped 48 = .ok (.iload 4, 2) := dk_21 4 (dk_at dksX2_whyNotStepped_2 0 rfl rfl)
theorem dX2_whyNotStepped_50 : decode cX2_whyNotStepped 50 = .ok (.invokedynamic 75, 5) := by decide +kernel
theorem dX2_whyNotStepped_55 : decode cX2_whyNotStepped 55 = .ok (.aastore, 1) := dk_83 (dk_at dksX2_whyNotStepped_2 7 rfl rfl)
theorem dX2_whyNotStepped_56 : decode cX2_whyNotStepped 56 = .ok (.dup, 1) := dk_89 (dk_at dksX2_whyNotStepped_2 8 rfl rfl)
theorem dX2_whyNotStepped_57 : decode cX2_whyNotStepped 57 = .ok (.iconst 3, 1) := dk_6 (dk_at dksX2_whyNotStepped_2 9 rfl rfl)
theorem dX2_whyNotStepped_58 : decode cX2_whyNotStepped 58 = .ok (.aload_n 0, 1) := dk_42 (dk_at dksX2_whyNotStepped_2 10 rfl rfl)
theorem dX2_whyNotStepped_59 : decode cX2_whyNotStepped 59 = .ok (.iload 4, 2) := dk_21 4 (dk_at dksX2_whyNotStepped_2 11 rfl rfl)
theorem dX2_whyNotStepped_61 : decode cX2_whyNotStepped 61 = .ok (.aload_n 3, 1) := dk_45 (dk_at dksX2_whyNotStepped_2 13 rfl rfl)
theorem dX2_whyNotStepped_62 : decode cX2_whyNotStepped 62 = .ok (.invokedynamic 78, 5) := by decide +kernel
theorem dX2_whyNotStepped_67 : decode cX2_whyNotStepped 67 = .ok (.aastore, 1) := dk_83 (dk_at dksX2_whyNotStepped_2 19 rfl rfl)
theorem dX2_whyNotStepped_68 : decode cX2_whyNotStepped 68 = .ok (.dup, 1) := dk_89 (dk_at dksX2_whyNotStepped_2 20 rfl rfl)
theorem dX2_whyNotStepped_69 : decode cX2_whyNotStepped 69 = .ok (.iconst 4, 1) := dk_7 (dk_at dksX2_whyNotStepped_2 21 rfl rfl)
theorem dX2_whyNotStepped_70 : decode cX2_whyNotStepped 70 = .ok (.aload_n 0, 1) := dk_42 (dk_at dksX2_whyNotStepped_2 22 rfl rfl)
theorem dX2_whyNotStepped_71 : decode cX2_whyNotStepped 71 = .ok (.aload_n 3, 1) := dk_45 (dk_at dksX2_whyNotStepped_2 23 rfl rfl)
theorem dX2_whyNotStepped_72 : decode cX2_whyNotStepped 72 = .ok (.iload_n 2, 1) := dk_28 (dk_at dksX2_whyNotStepped_3 0 rfl rfl)
theorem dX2_whyNotStepped_73 : decode cX2_whyNotStepped 73 = .ok (.invokedynamic 81, 5) := by decide +kernel
theorem dX2_whyNotStepped_78 : decode cX2_whyNotStepped 78 = .ok (.aastore, 1) := dk_83 (dk_at dksX2_whyNotStepped_3 6 rfl rfl)
theorem dX2_whyNotStepped_79 : decode cX2_whyNotStepped 79 = .ok (.astore 5, 2) := dk_58 5 (dk_at dksX2_whyNotStepped_3 7 rfl rfl)
theorem dX2_whyNotStepped_81 : decode cX2_whyNotStepped 81 = .ok (.aload 5, 2) := dk_25 5 (dk_at dksX2_whyNotStepped_3 9 rfl rfl)
theorem dX2_whyNotStepped_83 : decode cX2_whyNotStepped 83 = .ok (.invokestatic 84, 3) := dk_184 0 84 (dk_at dksX2_whyNotStepped_3 11 rfl rfl)
theorem dX2_whyNotStepped_86 : decode cX2_whyNotStepped 86 = .ok (.ireturn, 1) := dk_172 (dk_at dksX2_whyNotStepped_3 14 rfl rfl)
abbrev cX2_lambda_whyNotStepped_0 : ByteArray := prog_10_method_41_code
def yX2_lambda_whyNotStepped_0 : MethodName := ⟨RX2, "lambda$whyNotStepped$0", "(LContourLabels$Line;)Z"⟩
theorem dX2_lambda_whyNotStepped_0_0 : decode cX2_lambda_whyNotStepped_0 0 = .ok (.aload_n 0, 1) := by decide +kernel
theorem dX2_lambda_whyNotStepped_0_1 : decode cX2_lambda_whyNotStepped_0 1 = .ok (.invokevirtual 205, 3) := by decide +kernel
theorem dX2_lambda_whyNotStepped_0_4 : decode cX2_lambda_whyNotStepped_0 4 = .ok (.ireturn, 1) := by decide +kernel
abbrev cX2_lambda_whyNotStepped_1 : ByteArray := prog_10_method_40_code
def yX2_lambda_whyNotStepped_1 : MethodName := ⟨RX2, "lambda$whyNotStepped$1", "(LContourLabels$Line;)Z"⟩
def dkwX2_lambda_whyNotStepped_1_0 : List UInt8 := [42, 180, 0, 121, 16, 60, 160, 0, 7, 4, 167, 0, 4, 3, 172]
abbrev dktX2_lambda_whyNotStepped_1_0 : List UInt8 := dkwX2_lambda_whyNotStepped_1_0 ++ []
theorem dksX2_lambda_whyNotStepped_1_0 : cX2_lambda_whyNotStepped_1.data.toList.drop 0 = dktX2_lambda_whyNotStepped_1_0 := by decide +kernel
theorem dX2_lambda_whyNotStepped_1_0 : decode cX2_lambda_whyNotStepped_1 0 = .ok (.aload_n 0, 1) := dk_42 (dk_at dksX2_lambda_whyNotStepped_1_0 0 rfl rfl)
theorem dX2_lambda_whyNotStepped_1_1 : decode cX2_lambda_whyNotStepped_1 1 = .ok (.getfield 121, 3) := dk_180 0 121 (dk_at dksX2_lambda_whyNotStepped_1_0 1 rfl rfl)
theorem dX2_lambda_whyNotStepped_1_4 : decode cX2_lambda_whyNotStepped_1 4 = .ok (.bipush 60, 2) := dk_16 60 (dk_at dksX2_lambda_whyNotStepped_1_0 4 rfl rfl)
theorem dX2_lambda_whyNotStepped_1_6 : decode cX2_lambda_whyNotStepped_1 6 = .ok (.if_icmp .ne 7, 3) := dk_160 0 7 (dk_at dksX2_lambda_whyNotStepped_1_0 6 rfl rfl)
theorem dX2_lambda_whyNotStepped_1_9 : decode cX2_lambda_whyNotStepped_1 9 = .ok (.iconst 1, 1) := dk_4 (dk_at dksX2_lambda_whyNotStepped_1_0 9 rfl rfl)
theorem dX2_lambda_whyNotStepped_1_10 : decode cX2_lambda_whyNotStepped_1 10 = .ok (.goto 4, 3) := dk_167 0 4 (dk_at dksX2_lambda_whyNotStepped_1_0 10 rfl rfl)
theorem dX2_lambda_whyNotStepped_1_13 : decode cX2_lambda_whyNotStepped_1 13 = .ok (.iconst 0, 1) := dk_3 (dk_at dksX2_lambda_whyNotStepped_1_0 13 rfl rfl)
theorem dX2_lambda_whyNotStepped_1_14 : decode cX2_lambda_whyNotStepped_1 14 = .ok (.ireturn, 1) := dk_172 (dk_at dksX2_lambda_whyNotStepped_1_0 14 rfl rfl)
abbrev cX2_lambda_whyNotStepped_2 : ByteArray := prog_10_method_39_code
def yX2_lambda_whyNotStepped_2 : MethodName := ⟨RX2, "lambda$whyNotStepped$2", "(I)Z"⟩
def dkwX2_lambda_whyNotStepped_2_0 : List UInt8 := [26, 2, 160, 0, 7, 4, 167, 0, 4, 3, 172]
abbrev dktX2_lambda_whyNotStepped_2_0 : List UInt8 := dkwX2_lambda_whyNotStepped_2_0 ++ []
theorem dksX2_lambda_whyNotStepped_2_0 : cX2_lambda_whyNotStepped_2.data.toList.drop 0 = dktX2_lambda_whyNotStepped_2_0 := by decide +kernel
theorem dX2_lambda_whyNotStepped_2_0 : decode cX2_lambda_whyNotStepped_2 0 = .ok (.iload_n 0, 1) := dk_26 (dk_at dksX2_lambda_whyNotStepped_2_0 0 rfl rfl)
theorem dX2_lambda_whyNotStepped_2_1 : decode cX2_lambda_whyNotStepped_2 1 = .ok (.iconst (-1), 1) := dk_2 (dk_at dksX2_lambda_whyNotStepped_2_0 1 rfl rfl)
theorem dX2_lambda_whyNotStepped_2_2 : decode cX2_lambda_whyNotStepped_2 2 = .ok (.if_icmp .ne 7, 3) := dk_160 0 7 (dk_at dksX2_lambda_whyNotStepped_2_0 2 rfl rfl)
theorem dX2_lambda_whyNotStepped_2_5 : decode cX2_lambda_whyNotStepped_2 5 = .ok (.iconst 1, 1) := dk_4 (dk_at dksX2_lambda_whyNotStepped_2_0 5 rfl rfl)
theorem dX2_lambda_whyNotStepped_2_6 : decode cX2_lambda_whyNotStepped_2 6 = .ok (.goto 4, 3) := dk_167 0 4 (dk_at dksX2_lambda_whyNotStepped_2_0 6 rfl rfl)
theorem dX2_lambda_whyNotStepped_2_9 : decode cX2_lambda_whyNotStepped_2 9 = .ok (.iconst 0, 1) := dk_3 (dk_at dksX2_lambda_whyNotStepped_2_0 9 rfl rfl)
theorem dX2_lambda_whyNotStepped_2_10 : decode cX2_lambda_whyNotStepped_2 10 = .ok (.ireturn, 1) := dk_172 (dk_at dksX2_lambda_whyNotStepped_2_0 10 rfl rfl)
abbrev cX2_lambda_whyNotStepped_3 : ByteArray := prog_10_method_38_code
def yX2_lambda_whyNotStepped_3 : MethodName := ⟨RX2, "lambda$whyNotStepped$3", "(ILContourLabels$Line;)Z"⟩
def dkwX2_lambda_whyNotStepped_3_0 : List UInt8 := [42, 27, 182, 0, 96, 2, 159, 0, 15, 44, 27, 182, 1, 5, 154, 0, 7, 4, 167, 0, 4, 3, 172]
abbrev dktX2_lambda_whyNotStepped_3_0 : List UInt8 := dkwX2_lambda_whyNotStepped_3_0 ++ []
theorem dksX2_lambda_whyNotStepped_3_0 : cX2_lambda_whyNotStepped_3.data.toList.drop 0 = dktX2_lambda_whyNotStepped_3_0 := by decide +kernel
theorem dX2_lambda_whyNotStepped_3_0 : decode cX2_lambda_whyNotStepped_3 0 = .ok (.aload_n 0, 1) := dk_42 (dk_at dksX2_lambda_whyNotStepped_3_0 0 rfl rfl)
theorem dX2_lambda_whyNotStepped_3_1 : decode cX2_lambda_whyNotStepped_3 1 = .ok (.iload_n 1, 1) := dk_27 (dk_at dksX2_lambda_whyNotStepped_3_0 1 rfl rfl)
theorem dX2_lambda_whyNotStepped_3_2 : decode cX2_lambda_whyNotStepped_3 2 = .ok (.invokevirtual 96, 3) := dk_182 0 96 (dk_at dksX2_lambda_whyNotStepped_3_0 2 rfl rfl)
theorem dX2_lambda_whyNotStepped_3_5 : decode cX2_lambda_whyNotStepped_3 5 = .ok (.iconst (-1), 1) := dk_2 (dk_at dksX2_lambda_whyNotStepped_3_0 5 rfl rfl)
theorem dX2_lambda_whyNotStepped_3_6 : decode cX2_lambda_whyNotStepped_3 6 = .ok (.if_icmp .eq 15, 3) := dk_159 0 15 (dk_at dksX2_lambda_whyNotStepped_3_0 6 rfl rfl)
theorem dX2_lambda_whyNotStepped_3_9 : decode cX2_lambda_whyNotStepped_3 9 = .ok (.aload_n 2, 1) := dk_44 (dk_at dksX2_lambda_whyNotStepped_3_0 9 rfl rfl)
theorem dX2_lambda_whyNotStepped_3_10 : decode cX2_lambda_whyNotStepped_3 10 = .ok (.iload_n 1, 1) := dk_27 (dk_at dksX2_lambda_whyNotStepped_3_0 10 rfl rfl)
theorem dX2_lambda_whyNotStepped_3_11 : decode cX2_lambda_whyNotStepped_3 11 = .ok (.invokevirtual 261, 3) := dk_182 1 5 (dk_at dksX2_lambda_whyNotStepped_3_0 11 rfl rfl)
theorem dX2_lambda_whyNotStepped_3_14 : decode cX2_lambda_whyNotStepped_3 14 = .ok (.ifCond .ne 7, 3) := dk_154 0 7 (dk_at dksX2_lambda_whyNotStepped_3_0 14 rfl rfl)
theorem dX2_lambda_whyNotStepped_3_17 : decode cX2_lambda_whyNotStepped_3 17 = .ok (.iconst 1, 1) := dk_4 (dk_at dksX2_lambda_whyNotStepped_3_0 17 rfl rfl)
theorem dX2_lambda_whyNotStepped_3_18 : decode cX2_lambda_whyNotStepped_3 18 = .ok (.goto 4, 3) := dk_167 0 4 (dk_at dksX2_lambda_whyNotStepped_3_0 18 rfl rfl)
theorem dX2_lambda_whyNotStepped_3_21 : decode cX2_lambda_whyNotStepped_3 21 = .ok (.iconst 0, 1) := dk_3 (dk_at dksX2_lambda_whyNotStepped_3_0 21 rfl rfl)
theorem dX2_lambda_whyNotStepped_3_22 : decode cX2_lambda_whyNotStepped_3 22 = .ok (.ireturn, 1) := dk_172 (dk_at dksX2_lambda_whyNotStepped_3_0 22 rfl rfl)
abbrev cX2_lambda_whyNotStepped_4 : ByteArray := prog_10_method_37_code
def yX2_lambda_whyNotStepped_4 : MethodName := ⟨RX2, "lambda$whyNotStepped$4", "(LContourLabels$Line;I)Z"⟩
def dkwX2_lambda_whyNotStepped_4_0 : List UInt8 := [42, 43, 182, 0, 61, 28, 182, 1, 2, 172]
abbrev dktX2_lambda_whyNotStepped_4_0 : List UInt8 := dkwX2_lambda_whyNotStepped_4_0 ++ []
theorem dksX2_lambda_whyNotStepped_4_0 : cX2_lambda_whyNotStepped_4.data.toList.drop 0 = dktX2_lambda_whyNotStepped_4_0 := by decide +kernel
theorem dX2_lambda_whyNotStepped_4_0 : decode cX2_lambda_whyNotStepped_4 0 = .ok (.aload_n 0, 1) := dk_42 (dk_at dksX2_lambda_whyNotStepped_4_0 0 rfl rfl)
theorem dX2_lambda_whyNotStepped_4_1 : decode cX2_lambda_whyNotStepped_4 1 = .ok (.aload_n 1, 1) := dk_43 (dk_at dksX2_lambda_whyNotStepped_4_0 1 rfl rfl)
theorem dX2_lambda_whyNotStepped_4_2 : decode cX2_lambda_whyNotStepped_4 2 = .ok (.invokevirtual 61, 3) := dk_182 0 61 (dk_at dksX2_lambda_whyNotStepped_4_0 2 rfl rfl)
theorem dX2_lambda_whyNotStepped_4_5 : decode cX2_lambda_whyNotStepped_4 5 = .ok (.iload_n 2, 1) := dk_28 (dk_at dksX2_lambda_whyNotStepped_4_0 5 rfl rfl)
theorem dX2_lambda_whyNotStepped_4_6 : decode cX2_lambda_whyNotStepped_4 6 = .ok (.invokevirtual 258, 3) := dk_182 1 2 (dk_at dksX2_lambda_whyNotStepped_4_0 6 rfl rfl)
theorem dX2_lambda_whyNotStepped_4_9 : decode cX2_lambda_whyNotStepped_4 9 = .ok (.ireturn, 1) := dk_172 (dk_at dksX2_lambda_whyNotStepped_4_0 9 rfl rfl)
abbrev cX2_crosses : ByteArray := prog_10_method_5_code
def yX2_crosses : MethodName := ⟨RX2, "crosses", "(II)Z"⟩
def dkwX2_crosses_3 : List UInt8 := [54, 5, 132, 6, 1, 167, 255, 207, 21, 5, 172]
abbrev dktX2_crosses_3 : List UInt8 := dkwX2_crosses_3 ++ []
def dkwX2_crosses_2 : List UInt8 := [21, 5, 42, 180, 0, 12, 21, 6, 185, 0, 29, 2, 0, 192, 0, 33, 29, 21, 4, 182, 0, 57, 128]
abbrev dktX2_crosses_2 : List UInt8 := dkwX2_crosses_2 ++ dktX2_crosses_3
def dkwX2_crosses_1 : List UInt8 := [54, 6, 21, 6, 42, 180, 0, 12, 185, 0, 23, 1, 0, 162, 0, 41, 28, 184, 0, 54, 153, 0, 34]
abbrev dktX2_crosses_1 : List UInt8 := dkwX2_crosses_1 ++ dktX2_crosses_2
def dkwX2_crosses_0 : List UInt8 := [27, 178, 0, 47, 28, 46, 96, 62, 27, 16, 24, 178, 0, 51, 28, 46, 104, 96, 54, 4, 3, 54, 5, 3]
abbrev dktX2_crosses_0 : List UInt8 := dkwX2_crosses_0 ++ dktX2_crosses_1
theorem dksX2_crosses_0 : cX2_crosses.data.toList.drop 0 = dktX2_crosses_0 := by decide +kernel
theorem dksX2_crosses_1 : cX2_crosses.data.toList.drop 24 = dktX2_crosses_1 := dk_seg dksX2_crosses_0 24 rfl rfl
theorem dksX2_crosses_2 : cX2_crosses.data.toList.drop 47 = dktX2_crosses_2 := dk_seg dksX2_crosses_1 23 rfl rfl
theorem dksX2_crosses_3 : cX2_crosses.data.toList.drop 70 = dktX2_crosses_3 := dk_seg dksX2_crosses_2 23 rfl rfl
theorem dX2_crosses_0 : decode cX2_crosses 0 = .ok (.iload_n 1, 1) := dk_27 (dk_at dksX2_crosses_0 0 rfl rfl)
theorem dX2_crosses_1 : decode cX2_crosses 1 = .ok (.getstatic 47, 3) := dk_178 0 47 (dk_at dksX2_crosses_0 1 rfl rfl)
theorem dX2_crosses_4 : decode cX2_crosses 4 = .ok (.iload_n 2, 1) := dk_28 (dk_at dksX2_crosses_0 4 rfl rfl)
theorem dX2_crosses_5 : decode cX2_crosses 5 = .ok (.iaload, 1) := dk_46 (dk_at dksX2_crosses_0 5 rfl rfl)
theorem dX2_crosses_6 : decode cX2_crosses 6 = .ok (.iadd, 1) := dk_96 (dk_at dksX2_crosses_0 6 rfl rfl)
theorem dX2_crosses_7 : decode cX2_crosses 7 = .ok (.istore_n 3, 1) := dk_62 (dk_at dksX2_crosses_0 7 rfl rfl)
theorem dX2_crosses_8 : decode cX2_crosses 8 = .ok (.iload_n 1, 1) := dk_27 (dk_at dksX2_crosses_0 8 rfl rfl)
theorem dX2_crosses_9 : decode cX2_crosses 9 = .ok (.bipush 24, 2) := dk_16 24 (dk_at dksX2_crosses_0 9 rfl rfl)
theorem dX2_crosses_11 : decode cX2_crosses 11 = .ok (.getstatic 51, 3) := dk_178 0 51 (dk_at dksX2_crosses_0 11 rfl rfl)
theorem dX2_crosses_14 : decode cX2_crosses 14 = .ok (.iload_n 2, 1) := dk_28 (dk_at dksX2_crosses_0 14 rfl rfl)
theorem dX2_crosses_15 : decode cX2_crosses 15 = .ok (.iaload, 1) := dk_46 (dk_at dksX2_crosses_0 15 rfl rfl)
theorem dX2_crosses_16 : decode cX2_crosses 16 = .ok (.imul, 1) := dk_104 (dk_at dksX2_crosses_0 16 rfl rfl)
theorem dX2_crosses_17 : decode cX2_crosses 17 = .ok (.iadd, 1) := dk_96 (dk_at dksX2_crosses_0 17 rfl rfl)
theorem dX2_crosses_18 : decode cX2_crosses 18 = .ok (.istore 4, 2) := dk_54 4 (dk_at dksX2_crosses_0 18 rfl rfl)
theorem dX2_crosses_20 : decode cX2_crosses 20 = .ok (.iconst 0, 1) := dk_3 (dk_at dksX2_crosses_0 20 rfl rfl)
theorem dX2_crosses_21 : decode cX2_crosses 21 = .ok (.istore 5, 2) := dk_54 5 (dk_at dksX2_crosses_0 21 rfl rfl)
theorem dX2_crosses_23 : decode cX2_crosses 23 = .ok (.iconst 0, 1) := dk_3 (dk_at dksX2_crosses_0 23 rfl rfl)
theorem dX2_crosses_24 : decode cX2_crosses 24 = .ok (.istore 6, 2) := dk_54 6 (dk_at dksX2_crosses_1 0 rfl rfl)
theorem dX2_crosses_26 : decode cX2_crosses 26 = .ok (.iload 6, 2) := dk_21 6 (dk_at dksX2_crosses_1 2 rfl rfl)
theorem dX2_crosses_28 : decode cX2_crosses 28 = .ok (.aload_n 0, 1) := dk_42 (dk_at dksX2_crosses_1 4 rfl rfl)
theorem dX2_crosses_29 : decode cX2_crosses 29 = .ok (.getfield 12, 3) := dk_180 0 12 (dk_at dksX2_crosses_1 5 rfl rfl)
theorem dX2_crosses_32 : decode cX2_crosses 32 = .ok (.invokeinterface 23 1, 5) := by decide +kernel
theorem dX2_crosses_37 : decode cX2_crosses 37 = .ok (.if_icmp .ge 41, 3) := dk_162 0 41 (dk_at dksX2_crosses_1 13 rfl rfl)
theorem dX2_crosses_40 : decode cX2_crosses 40 = .ok (.iload_n 2, 1) := dk_28 (dk_at dksX2_crosses_1 16 rfl rfl)
theorem dX2_crosses_41 : decode cX2_crosses 41 = .ok (.invokestatic 54, 3) := dk_184 0 54 (dk_at dksX2_crosses_1 17 rfl rfl)
theorem dX2_crosses_44 : decode cX2_crosses 44 = .ok (.ifCond .eq 34, 3) := dk_153 0 34 (dk_at dksX2_crosses_1 20 rfl rfl)
theorem dX2_crosses_47 : decode cX2_crosses 47 = .ok (.iload 5, 2) := dk_21 5 (dk_at dksX2_crosses_2 0 rfl rfl)
theorem dX2_crosses_49 : decode cX2_crosses 49 = .ok (.aload_n 0, 1) := dk_42 (dk_at dksX2_crosses_2 2 rfl rfl)
theorem dX2_crosses_50 : decode cX2_crosses 50 = .ok (.getfield 12, 3) := dk_180 0 12 (dk_at dksX2_crosses_2 3 rfl rfl)
theorem dX2_crosses_53 : decode cX2_crosses 53 = .ok (.iload 6, 2) := dk_21 6 (dk_at dksX2_crosses_2 6 rfl rfl)
theorem dX2_crosses_55 : decode cX2_crosses 55 = .ok (.invokeinterface 29 2, 5) := by decide +kernel
theorem dX2_crosses_60 : decode cX2_crosses 60 = .ok (.checkcast 33, 3) := dk_192 0 33 (dk_at dksX2_crosses_2 13 rfl rfl)
theorem dX2_crosses_63 : decode cX2_crosses 63 = .ok (.iload_n 3, 1) := dk_29 (dk_at dksX2_crosses_2 16 rfl rfl)
theorem dX2_crosses_64 : decode cX2_crosses 64 = .ok (.iload 4, 2) := dk_21 4 (dk_at dksX2_crosses_2 17 rfl rfl)
theorem dX2_crosses_66 : decode cX2_crosses 66 = .ok (.invokevirtual 57, 3) := dk_182 0 57 (dk_at dksX2_crosses_2 19 rfl rfl)
theorem dX2_crosses_69 : decode cX2_crosses 69 = .ok (.ior, 1) := dk_128 (dk_at dksX2_crosses_2 22 rfl rfl)
theorem dX2_crosses_70 : decode cX2_crosses 70 = .ok (.istore 5, 2) := dk_54 5 (dk_at dksX2_crosses_3 0 rfl rfl)
theorem dX2_crosses_72 : decode cX2_crosses 72 = .ok (.iinc 6 1, 3) := dk_132 6 1 (dk_at dksX2_crosses_3 2 rfl rfl)
theorem dX2_crosses_75 : decode cX2_crosses 75 = .ok (.goto (-49), 3) := dk_167 255 207 (dk_at dksX2_crosses_3 5 rfl rfl)
theorem dX2_crosses_78 : decode cX2_crosses 78 = .ok (.iload 5, 2) := dk_21 5 (dk_at dksX2_crosses_3 8 rfl rfl)
theorem dX2_crosses_80 : decode cX2_crosses 80 = .ok (.ireturn, 1) := dk_172 (dk_at dksX2_crosses_3 10 rfl rfl)
abbrev cX2_wipe : ByteArray := prog_10_method_9_code
def yX2_wipe : MethodName := ⟨RX2, "wipe", "(I)Z"⟩
def dkwX2_wipe_0 : List UInt8 := [42, 27, 182, 0, 88, 61, 28, 153, 0, 14, 42, 180, 0, 12, 27, 185, 0, 103, 2, 0, 87, 28, 172]
abbrev dktX2_wipe_0 : List UInt8 := dkwX2_wipe_0 ++ []
theorem dksX2_wipe_0 : cX2_wipe.data.toList.drop 0 = dktX2_wipe_0 := by decide +kernel
theorem dX2_wipe_0 : decode cX2_wipe 0 = .ok (.aload_n 0, 1) := dk_42 (dk_at dksX2_wipe_0 0 rfl rfl)
theorem dX2_wipe_1 : decode cX2_wipe 1 = .ok (.iload_n 1, 1) := dk_27 (dk_at dksX2_wipe_0 1 rfl rfl)
theorem dX2_wipe_2 : decode cX2_wipe 2 = .ok (.invokevirtual 88, 3) := dk_182 0 88 (dk_at dksX2_wipe_0 2 rfl rfl)
theorem dX2_wipe_5 : decode cX2_wipe 5 = .ok (.istore_n 2, 1) := dk_61 (dk_at dksX2_wipe_0 5 rfl rfl)
theorem dX2_wipe_6 : decode cX2_wipe 6 = .ok (.iload_n 2, 1) := dk_28 (dk_at dksX2_wipe_0 6 rfl rfl)
theorem dX2_wipe_7 : decode cX2_wipe 7 = .ok (.ifCond .eq 14, 3) := dk_153 0 14 (dk_at dksX2_wipe_0 7 rfl rfl)
theorem dX2_wipe_10 : decode cX2_wipe 10 = .ok (.aload_n 0, 1) := dk_42 (dk_at dksX2_wipe_0 10 rfl rfl)
theorem dX2_wipe_11 : decode cX2_wipe 11 = .ok (.getfield 12, 3) := dk_180 0 12 (dk_at dksX2_wipe_0 11 rfl rfl)
theorem dX2_wipe_14 : decode cX2_wipe 14 = .ok (.iload_n 1, 1) := dk_27 (dk_at dksX2_wipe_0 14 rfl rfl)
theorem dX2_wipe_15 : decode cX2_wipe 15 = .ok (.invokeinterface 103 2, 5) := by decide +kernel
theorem dX2_wipe_20 : decode cX2_wipe 20 = .ok (.pop, 1) := dk_87 (dk_at dksX2_wipe_0 20 rfl rfl)
theorem dX2_wipe_21 : decode cX2_wipe 21 = .ok (.iload_n 2, 1) := dk_28 (dk_at dksX2_wipe_0 21 rfl rfl)
theorem dX2_wipe_22 : decode cX2_wipe 22 = .ok (.ireturn, 1) := dk_172 (dk_at dksX2_wipe_0 22 rfl rfl)
abbrev cX2_unlabel : ByteArray := prog_10_method_15_code
def yX2_unlabel : MethodName := ⟨RX2, "unlabel", "(I)Z"⟩
def dkwX2_unlabel_2 : List UInt8 := [192, 0, 33, 2, 181, 0, 106, 28, 172]
abbrev dktX2_unlabel_2 : List UInt8 := dkwX2_unlabel_2 ++ []
def dkwX2_unlabel_1 : List UInt8 := [2, 159, 0, 7, 4, 167, 0, 4, 3, 61, 28, 153, 0, 20, 42, 180, 0, 12, 27, 185, 0, 29, 2, 0]
abbrev dktX2_unlabel_1 : List UInt8 := dkwX2_unlabel_1 ++ dktX2_unlabel_2
def dkwX2_unlabel_0 : List UInt8 := [42, 27, 182, 0, 88, 153, 0, 27, 42, 180, 0, 12, 27, 185, 0, 29, 2, 0, 192, 0, 33, 180, 0, 106]
abbrev dktX2_unlabel_0 : List UInt8 := dkwX2_unlabel_0 ++ dktX2_unlabel_1
theorem dksX2_unlabel_0 : cX2_unlabel.data.toList.drop 0 = dktX2_unlabel_0 := by decide +kernel
theorem dksX2_unlabel_1 : cX2_unlabel.data.toList.drop 24 = dktX2_unlabel_1 := dk_seg dksX2_unlabel_0 24 rfl rfl
theorem dksX2_unlabel_2 : cX2_unlabel.data.toList.drop 48 = dktX2_unlabel_2 := dk_seg dksX2_unlabel_1 24 rfl rfl
theorem dX2_unlabel_0 : decode cX2_unlabel 0 = .ok (.aload_n 0, 1) := dk_42 (dk_at dksX2_unlabel_0 0 rfl rfl)
theorem dX2_unlabel_1 : decode cX2_unlabel 1 = .ok (.iload_n 1, 1) := dk_27 (dk_at dksX2_unlabel_0 1 rfl rfl)
theorem dX2_unlabel_2 : decode cX2_unlabel 2 = .ok (.invokevirtual 88, 3) := dk_182 0 88 (dk_at dksX2_unlabel_0 2 rfl rfl)
theorem dX2_unlabel_5 : decode cX2_unlabel 5 = .ok (.ifCond .eq 27, 3) := dk_153 0 27 (dk_at dksX2_unlabel_0 5 rfl rfl)
theorem dX2_unlabel_8 : decode cX2_unlabel 8 = .ok (.aload_n 0, 1) := dk_42 (dk_at dksX2_unlabel_0 8 rfl rfl)
theorem dX2_unlabel_9 : decode cX2_unlabel 9 = .ok (.getfield 12, 3) := dk_180 0 12 (dk_at dksX2_unlabel_0 9 rfl rfl)
theorem dX2_unlabel_12 : decode cX2_unlabel 12 = .ok (.iload_n 1, 1) := dk_27 (dk_at dksX2_unlabel_0 12 rfl rfl)
theorem dX2_unlabel_13 : decode cX2_unlabel 13 = .ok (.invokeinterface 29 2, 5) := by decide +kernel
theorem dX2_unlabel_18 : decode cX2_unlabel 18 = .ok (.checkcast 33, 3) := dk_192 0 33 (dk_at dksX2_unlabel_0 18 rfl rfl)
theorem dX2_unlabel_21 : decode cX2_unlabel 21 = .ok (.getfield 106, 3) := dk_180 0 106 (dk_at dksX2_unlabel_0 21 rfl rfl)
theorem dX2_unlabel_24 : decode cX2_unlabel 24 = .ok (.iconst (-1), 1) := dk_2 (dk_at dksX2_unlabel_1 0 rfl rfl)
theorem dX2_unlabel_25 : decode cX2_unlabel 25 = .ok (.if_icmp .eq 7, 3) := dk_159 0 7 (dk_at dksX2_unlabel_1 1 rfl rfl)
theorem dX2_unlabel_28 : decode cX2_unlabel 28 = .ok (.iconst 1, 1) := dk_4 (dk_at dksX2_unlabel_1 4 rfl rfl)
theorem dX2_unlabel_29 : decode cX2_unlabel 29 = .ok (.goto 4, 3) := dk_167 0 4 (dk_at dksX2_unlabel_1 5 rfl rfl)
theorem dX2_unlabel_32 : decode cX2_unlabel 32 = .ok (.iconst 0, 1) := dk_3 (dk_at dksX2_unlabel_1 8 rfl rfl)
theorem dX2_unlabel_33 : decode cX2_unlabel 33 = .ok (.istore_n 2, 1) := dk_61 (dk_at dksX2_unlabel_1 9 rfl rfl)
theorem dX2_unlabel_34 : decode cX2_unlabel 34 = .ok (.iload_n 2, 1) := dk_28 (dk_at dksX2_unlabel_1 10 rfl rfl)
theorem dX2_unlabel_35 : decode cX2_unlabel 35 = .ok (.ifCond .eq 20, 3) := dk_153 0 20 (dk_at dksX2_unlabel_1 11 rfl rfl)
theorem dX2_unlabel_38 : decode cX2_unlabel 38 = .ok (.aload_n 0, 1) := dk_42 (dk_at dksX2_unlabel_1 14 rfl rfl)
theorem dX2_unlabel_39 : decode cX2_unlabel 39 = .ok (.getfield 12, 3) := dk_180 0 12 (dk_at dksX2_unlabel_1 15 rfl rfl)
theorem dX2_unlabel_42 : decode cX2_unlabel 42 = .ok (.iload_n 1, 1) := dk_27 (dk_at dksX2_unlabel_1 18 rfl rfl)
theorem dX2_unlabel_43 : decode cX2_unlabel 43 = .ok (.invokeinterface 29 2, 5) := by decide +kernel
theorem dX2_unlabel_48 : decode cX2_unlabel 48 = .ok (.checkcast 33, 3) := dk_192 0 33 (dk_at dksX2_unlabel_2 0 rfl rfl)
theorem dX2_unlabel_51 : decode cX2_unlabel 51 = .ok (.iconst (-1), 1) := dk_2 (dk_at dksX2_unlabel_2 3 rfl rfl)
theorem dX2_unlabel_52 : decode cX2_unlabel 52 = .ok (.putfield 106, 3) := dk_181 0 106 (dk_at dksX2_unlabel_2 4 rfl rfl)
theorem dX2_unlabel_55 : decode cX2_unlabel 55 = .ok (.iload_n 2, 1) := dk_28 (dk_at dksX2_unlabel_2 7 rfl rfl)
theorem dX2_unlabel_56 : decode cX2_unlabel 56 = .ok (.ireturn, 1) := dk_172 (dk_at dksX2_unlabel_2 8 rfl rfl)
abbrev cX2_placesOf : ByteArray := prog_10_method_12_code
def yX2_placesOf : MethodName := ⟨RX2, "placesOf", "(I)I"⟩
def dkwX2_placesOf_2 : List UInt8 := [172]
abbrev dktX2_placesOf_2 : List UInt8 := dkwX2_placesOf_2 ++ []
def dkwX2_placesOf_1 : List UInt8 := [28, 42, 27, 29, 182, 0, 124, 154, 0, 7, 4, 167, 0, 4, 3, 96, 61, 132, 3, 1, 167, 255, 216, 28]
abbrev dktX2_placesOf_1 : List UInt8 := dkwX2_placesOf_1 ++ dktX2_placesOf_2
def dkwX2_placesOf_0 : List UInt8 := [3, 61, 3, 62, 29, 42, 180, 0, 12, 27, 185, 0, 29, 2, 0, 192, 0, 33, 180, 0, 121, 163, 0, 26]
abbrev dktX2_placesOf_0 : List UInt8 := dkwX2_placesOf_0 ++ dktX2_placesOf_1
theorem dksX2_placesOf_0 : cX2_placesOf.data.toList.drop 0 = dktX2_placesOf_0 := by decide +kernel
theorem dksX2_placesOf_1 : cX2_placesOf.data.toList.drop 24 = dktX2_placesOf_1 := dk_seg dksX2_placesOf_0 24 rfl rfl
theorem dksX2_placesOf_2 : cX2_placesOf.data.toList.drop 48 = dktX2_placesOf_2 := dk_seg dksX2_placesOf_1 24 rfl rfl
theorem dX2_placesOf_0 : decode cX2_placesOf 0 = .ok (.iconst 0, 1) := dk_3 (dk_at dksX2_placesOf_0 0 rfl rfl)
theorem dX2_placesOf_1 : decode cX2_placesOf 1 = .ok (.istore_n 2, 1) := dk_61 (dk_at dksX2_placesOf_0 1 rfl rfl)
theorem dX2_placesOf_2 : decode cX2_placesOf 2 = .ok (.iconst 0, 1) := dk_3 (dk_at dksX2_placesOf_0 2 rfl rfl)
theorem dX2_placesOf_3 : decode cX2_placesOf 3 = .ok (.istore_n 3, 1) := dk_62 (dk_at dksX2_placesOf_0 3 rfl rfl)
theorem dX2_placesOf_4 : decode cX2_placesOf 4 = .ok (.iload_n 3, 1) := dk_29 (dk_at dksX2_placesOf_0 4 rfl rfl)
theorem dX2_placesOf_5 : decode cX2_placesOf 5 = .ok (.aload_n 0, 1) := dk_42 (dk_at dksX2_placesOf_0 5 rfl rfl)
theorem dX2_placesOf_6 : decode cX2_placesOf 6 = .ok (.getfield 12, 3) := dk_180 0 12 (dk_at dksX2_placesOf_0 6 rfl rfl)
theorem dX2_placesOf_9 : decode cX2_placesOf 9 = .ok (.iload_n 1, 1) := dk_27 (dk_at dksX2_placesOf_0 9 rfl rfl)
theorem dX2_placesOf_10 : decode cX2_placesOf 10 = .ok (.invokeinterface 29 2, 5) := by decide +kernel
theorem dX2_placesOf_15 : decode cX2_placesOf 15 = .ok (.checkcast 33, 3) := dk_192 0 33 (dk_at dksX2_placesOf_0 15 rfl rfl)
theorem dX2_placesOf_18 : decode cX2_placesOf 18 = .ok (.getfield 121, 3) := dk_180 0 121 (dk_at dksX2_placesOf_0 18 rfl rfl)
theorem dX2_placesOf_21 : decode cX2_placesOf 21 = .ok (.if_icmp .gt 26, 3) := dk_163 0 26 (dk_at dksX2_placesOf_0 21 rfl rfl)
theorem dX2_placesOf_24 : decode cX2_placesOf 24 = .ok (.iload_n 2, 1) := dk_28 (dk_at dksX2_placesOf_1 0 rfl rfl)
theorem dX2_placesOf_25 : decode cX2_placesOf 25 = .ok (.aload_n 0, 1) := dk_42 (dk_at dksX2_placesOf_1 1 rfl rfl)
theorem dX2_placesOf_26 : decode cX2_placesOf 26 = .ok (.iload_n 1, 1) := dk_27 (dk_at dksX2_placesOf_1 2 rfl rfl)
theorem dX2_placesOf_27 : decode cX2_placesOf 27 = .ok (.iload_n 3, 1) := dk_29 (dk_at dksX2_placesOf_1 3 rfl rfl)
theorem dX2_placesOf_28 : decode cX2_placesOf 28 = .ok (.invokevirtual 124, 3) := dk_182 0 124 (dk_at dksX2_placesOf_1 4 rfl rfl)
theorem dX2_placesOf_31 : decode cX2_placesOf 31 = .ok (.ifCond .ne 7, 3) := dk_154 0 7 (dk_at dksX2_placesOf_1 7 rfl rfl)
theorem dX2_placesOf_34 : decode cX2_placesOf 34 = .ok (.iconst 1, 1) := dk_4 (dk_at dksX2_placesOf_1 10 rfl rfl)
theorem dX2_placesOf_35 : decode cX2_placesOf 35 = .ok (.goto 4, 3) := dk_167 0 4 (dk_at dksX2_placesOf_1 11 rfl rfl)
theorem dX2_placesOf_38 : decode cX2_placesOf 38 = .ok (.iconst 0, 1) := dk_3 (dk_at dksX2_placesOf_1 14 rfl rfl)
theorem dX2_placesOf_39 : decode cX2_placesOf 39 = .ok (.iadd, 1) := dk_96 (dk_at dksX2_placesOf_1 15 rfl rfl)
theorem dX2_placesOf_40 : decode cX2_placesOf 40 = .ok (.istore_n 2, 1) := dk_61 (dk_at dksX2_placesOf_1 16 rfl rfl)
theorem dX2_placesOf_41 : decode cX2_placesOf 41 = .ok (.iinc 3 1, 3) := dk_132 3 1 (dk_at dksX2_placesOf_1 17 rfl rfl)
theorem dX2_placesOf_44 : decode cX2_placesOf 44 = .ok (.goto (-40), 3) := dk_167 255 216 (dk_at dksX2_placesOf_1 20 rfl rfl)
theorem dX2_placesOf_47 : decode cX2_placesOf 47 = .ok (.iload_n 2, 1) := dk_28 (dk_at dksX2_placesOf_1 23 rfl rfl)
theorem dX2_placesOf_48 : decode cX2_placesOf 48 = .ok (.ireturn, 1) := dk_172 (dk_at dksX2_placesOf_2 0 rfl rfl)
abbrev cX2_isWithin : ByteArray := prog_10_method_22_code
def yX2_isWithin : MethodName := ⟨RX2, "isWithin", "(II)Z"⟩
def dkwX2_isWithin_1 : List UInt8 := [182, 0, 43, 154, 0, 15, 45, 28, 182, 0, 208, 153, 0, 7, 4, 167, 0, 4, 3, 172]
abbrev dktX2_isWithin_1 : List UInt8 := dkwX2_isWithin_1 ++ []
def dkwX2_isWithin_0 : List UInt8 := [42, 180, 0, 12, 27, 185, 0, 29, 2, 0, 192, 0, 33, 78, 45, 182, 0, 205, 153, 0, 23, 45, 28]
abbrev dktX2_isWithin_0 : List UInt8 := dkwX2_isWithin_0 ++ dktX2_isWithin_1
theorem dksX2_isWithin_0 : cX2_isWithin.data.toList.drop 0 = dktX2_isWithin_0 := by decide +kernel
theorem dksX2_isWithin_1 : cX2_isWithin.data.toList.drop 23 = dktX2_isWithin_1 := dk_seg dksX2_isWithin_0 23 rfl rfl
theorem dX2_isWithin_0 : decode cX2_isWithin 0 = .ok (.aload_n 0, 1) := dk_42 (dk_at dksX2_isWithin_0 0 rfl rfl)
theorem dX2_isWithin_1 : decode cX2_isWithin 1 = .ok (.getfield 12, 3) := dk_180 0 12 (dk_at dksX2_isWithin_0 1 rfl rfl)
theorem dX2_isWithin_4 : decode cX2_isWithin 4 = .ok (.iload_n 1, 1) := dk_27 (dk_at dksX2_isWithin_0 4 rfl rfl)
theorem dX2_isWithin_5 : decode cX2_isWithin 5 = .ok (.invokeinterface 29 2, 5) := by decide +kernel
theorem dX2_isWithin_10 : decode cX2_isWithin 10 = .ok (.checkcast 33, 3) := dk_192 0 33 (dk_at dksX2_isWithin_0 10 rfl rfl)
theorem dX2_isWithin_13 : decode cX2_isWithin 13 = .ok (.astore_n 3, 1) := dk_78 (dk_at dksX2_isWithin_0 13 rfl rfl)
theorem dX2_isWithin_14 : decode cX2_isWithin 14 = .ok (.aload_n 3, 1) := dk_45 (dk_at dksX2_isWithin_0 14 rfl rfl)
theorem dX2_isWithin_15 : decode cX2_isWithin 15 = .ok (.invokevirtual 205, 3) := dk_182 0 205 (dk_at dksX2_isWithin_0 15 rfl rfl)
theorem dX2_isWithin_18 : decode cX2_isWithin 18 = .ok (.ifCond .eq 23, 3) := dk_153 0 23 (dk_at dksX2_isWithin_0 18 rfl rfl)
theorem dX2_isWithin_21 : decode cX2_isWithin 21 = .ok (.aload_n 3, 1) := dk_45 (dk_at dksX2_isWithin_0 21 rfl rfl)
theorem dX2_isWithin_22 : decode cX2_isWithin 22 = .ok (.iload_n 2, 1) := dk_28 (dk_at dksX2_isWithin_0 22 rfl rfl)
theorem dX2_isWithin_23 : decode cX2_isWithin 23 = .ok (.invokevirtual 43, 3) := dk_182 0 43 (dk_at dksX2_isWithin_1 0 rfl rfl)
theorem dX2_isWithin_26 : decode cX2_isWithin 26 = .ok (.ifCond .ne 15, 3) := dk_154 0 15 (dk_at dksX2_isWithin_1 3 rfl rfl)
theorem dX2_isWithin_29 : decode cX2_isWithin 29 = .ok (.aload_n 3, 1) := dk_45 (dk_at dksX2_isWithin_1 6 rfl rfl)
theorem dX2_isWithin_30 : decode cX2_isWithin 30 = .ok (.iload_n 2, 1) := dk_28 (dk_at dksX2_isWithin_1 7 rfl rfl)
theorem dX2_isWithin_31 : decode cX2_isWithin 31 = .ok (.invokevirtual 208, 3) := dk_182 0 208 (dk_at dksX2_isWithin_1 8 rfl rfl)
theorem dX2_isWithin_34 : decode cX2_isWithin 34 = .ok (.ifCond .eq 7, 3) := dk_153 0 7 (dk_at dksX2_isWithin_1 11 rfl rfl)
theorem dX2_isWithin_37 : decode cX2_isWithin 37 = .ok (.iconst 1, 1) := dk_4 (dk_at dksX2_isWithin_1 14 rfl rfl)
theorem dX2_isWithin_38 : decode cX2_isWithin 38 = .ok (.goto 4, 3) := dk_167 0 4 (dk_at dksX2_isWithin_1 15 rfl rfl)
theorem dX2_isWithin_41 : decode cX2_isWithin 41 = .ok (.iconst 0, 1) := dk_3 (dk_at dksX2_isWithin_1 18 rfl rfl)
theorem dX2_isWithin_42 : decode cX2_isWithin 42 = .ok (.ireturn, 1) := dk_172 (dk_at dksX2_isWithin_1 19 rfl rfl)
abbrev cX2_isWithinBySpreading : ByteArray := prog_10_method_29_code
def yX2_isWithinBySpreading : MethodName := ⟨RX2, "isWithinBySpreading", "(II)Z"⟩
def dkwX2_isWithinBySpreading_2 : List UInt8 := [172]
abbrev dktX2_isWithinBySpreading_2 : List UInt8 := dkwX2_isWithinBySpreading_2 ++ []
def dkwX2_isWithinBySpreading_1 : List UInt8 := [182, 0, 43, 154, 0, 20, 45, 184, 0, 241, 28, 184, 0, 220, 46, 5, 159, 0, 7, 4, 167, 0, 4, 3]
abbrev dktX2_isWithinBySpreading_1 : List UInt8 := dkwX2_isWithinBySpreading_1 ++ dktX2_isWithinBySpreading_2
def dkwX2_isWithinBySpreading_0 : List UInt8 := [42, 180, 0, 12, 27, 185, 0, 29, 2, 0, 192, 0, 33, 78, 45, 182, 0, 205, 153, 0, 28, 45, 28]
abbrev dktX2_isWithinBySpreading_0 : List UInt8 := dkwX2_isWithinBySpreading_0 ++ dktX2_isWithinBySpreading_1
theorem dksX2_isWithinBySpreading_0 : cX2_isWithinBySpreading.data.toList.drop 0 = dktX2_isWithinBySpreading_0 := by decide +kernel
theorem dksX2_isWithinBySpreading_1 : cX2_isWithinBySpreading.data.toList.drop 23 = dktX2_isWithinBySpreading_1 := dk_seg dksX2_isWithinBySpreading_0 23 rfl rfl
theorem dksX2_isWithinBySpreading_2 : cX2_isWithinBySpreading.data.toList.drop 47 = dktX2_isWithinBySpreading_2 := dk_seg dksX2_isWithinBySpreading_1 24 rfl rfl
theorem dX2_isWithinBySpreading_0 : decode cX2_isWithinBySpreading 0 = .ok (.aload_n 0, 1) := dk_42 (dk_at dksX2_isWithinBySpreading_0 0 rfl rfl)
theorem dX2_isWithinBySpreading_1 : decode cX2_isWithinBySpreading 1 = .ok (.getfield 12, 3) := dk_180 0 12 (dk_at dksX2_isWithinBySpreading_0 1 rfl rfl)
theorem dX2_isWithinBySpreading_4 : decode cX2_isWithinBySpreading 4 = .ok (.iload_n 1, 1) := dk_27 (dk_at dksX2_isWithinBySpreading_0 4 rfl rfl)
theorem dX2_isWithinBySpreading_5 : decode cX2_isWithinBySpreading 5 = .ok (.invokeinterface 29 2, 5) := by decide +kernel
theorem dX2_isWithinBySpreading_10 : decode cX2_isWithinBySpreading 10 = .ok (.checkcast 33, 3) := dk_192 0 33 (dk_at dksX2_isWithinBySpreading_0 10 rfl rfl)
theorem dX2_isWithinBySpreading_13 : decode cX2_isWithinBySpreading 13 = .ok (.astore_n 3, 1) := dk_78 (dk_at dksX2_isWithinBySpreading_0 13 rfl rfl)
theorem dX2_isWithinBySpreading_14 : decode cX2_isWithinBySpreading 14 = .ok (.aload_n 3, 1) := dk_45 (dk_at dksX2_isWithinBySpreading_0 14 rfl rfl)
theorem dX2_isWithinBySpreading_15 : decode cX2_isWithinBySpreading 15 = .ok (.invokevirtual 205, 3) := dk_182 0 205 (dk_at dksX2_isWithinBySpreading_0 15 rfl rfl)
theorem dX2_isWithinBySpreading_18 : decode cX2_isWithinBySpreading 18 = .ok (.ifCond .eq 28, 3) := dk_153 0 28 (dk_at dksX2_isWithinBySpreading_0 18 rfl rfl)
theorem dX2_isWithinBySpreading_21 : decode cX2_isWithinBySpreading 21 = .ok (.aload_n 3, 1) := dk_45 (dk_at dksX2_isWithinBySpreading_0 21 rfl rfl)
theorem dX2_isWithinBySpreading_22 : decode cX2_isWithinBySpreading 22 = .ok (.iload_n 2, 1) := dk_28 (dk_at dksX2_isWithinBySpreading_0 22 rfl rfl)
theorem dX2_isWithinBySpreading_23 : decode cX2_isWithinBySpreading 23 = .ok (.invokevirtual 43, 3) := dk_182 0 43 (dk_at dksX2_isWithinBySpreading_1 0 rfl rfl)
theorem dX2_isWithinBySpreading_26 : decode cX2_isWithinBySpreading 26 = .ok (.ifCond .ne 20, 3) := dk_154 0 20 (dk_at dksX2_isWithinBySpreading_1 3 rfl rfl)
theorem dX2_isWithinBySpreading_29 : decode cX2_isWithinBySpreading 29 = .ok (.aload_n 3, 1) := dk_45 (dk_at dksX2_isWithinBySpreading_1 6 rfl rfl)
theorem dX2_isWithinBySpreading_30 : decode cX2_isWithinBySpreading 30 = .ok (.invokestatic 241, 3) := dk_184 0 241 (dk_at dksX2_isWithinBySpreading_1 7 rfl rfl)
theorem dX2_isWithinBySpreading_33 : decode cX2_isWithinBySpreading 33 = .ok (.iload_n 2, 1) := dk_28 (dk_at dksX2_isWithinBySpreading_1 10 rfl rfl)
theorem dX2_isWithinBySpreading_34 : decode cX2_isWithinBySpreading 34 = .ok (.invokestatic 220, 3) := dk_184 0 220 (dk_at dksX2_isWithinBySpreading_1 11 rfl rfl)
theorem dX2_isWithinBySpreading_37 : decode cX2_isWithinBySpreading 37 = .ok (.iaload, 1) := dk_46 (dk_at dksX2_isWithinBySpreading_1 14 rfl rfl)
theorem dX2_isWithinBySpreading_38 : decode cX2_isWithinBySpreading 38 = .ok (.iconst 2, 1) := dk_5 (dk_at dksX2_isWithinBySpreading_1 15 rfl rfl)
theorem dX2_isWithinBySpreading_39 : decode cX2_isWithinBySpreading 39 = .ok (.if_icmp .eq 7, 3) := dk_159 0 7 (dk_at dksX2_isWithinBySpreading_1 16 rfl rfl)
theorem dX2_isWithinBySpreading_42 : decode cX2_isWithinBySpreading 42 = .ok (.iconst 1, 1) := dk_4 (dk_at dksX2_isWithinBySpreading_1 19 rfl rfl)
theorem dX2_isWithinBySpreading_43 : decode cX2_isWithinBySpreading 43 = .ok (.goto 4, 3) := dk_167 0 4 (dk_at dksX2_isWithinBySpreading_1 20 rfl rfl)
theorem dX2_isWithinBySpreading_46 : decode cX2_isWithinBySpreading 46 = .ok (.iconst 0, 1) := dk_3 (dk_at dksX2_isWithinBySpreading_1 23 rfl rfl)
theorem dX2_isWithinBySpreading_47 : decode cX2_isWithinBySpreading 47 = .ok (.ireturn, 1) := dk_172 (dk_at dksX2_isWithinBySpreading_2 0 rfl rfl)
abbrev cX2_outside : ByteArray := prog_10_method_25_code
def yX2_outside : MethodName := ⟨RX2, "outside", "(LContourLabels$Line;)[I"⟩
def dkwX2_outside_7 : List UInt8 := [132, 7, 1, 167, 255, 140, 167, 255, 109, 43, 176]
abbrev dktX2_outside_7 : List UInt8 := dkwX2_outside_7 ++ []
def dkwX2_outside_6 : List UInt8 := [21, 7, 184, 0, 230, 154, 0, 17, 43, 21, 11, 5, 79, 44, 21, 4, 21, 11, 79, 132, 4, 1]
abbrev dktX2_outside_6 : List UInt8 := dkwX2_outside_6 ++ dktX2_outside_7
def dkwX2_outside_5 : List UInt8 := [21, 9, 104, 21, 8, 96, 167, 0, 4, 3, 54, 11, 43, 21, 11, 46, 154, 0, 30, 42, 21, 5, 21, 6]
abbrev dktX2_outside_5 : List UInt8 := dkwX2_outside_5 ++ dktX2_outside_6
def dkwX2_outside_4 : List UInt8 := [155, 0, 14, 21, 9, 16, 35, 162, 0, 7, 4, 167, 0, 4, 3, 54, 10, 21, 10, 153, 0, 14, 16, 51]
abbrev dktX2_outside_4 : List UInt8 := dkwX2_outside_4 ++ dktX2_outside_5
def dkwX2_outside_3 : List UInt8 := [178, 0, 51, 21, 7, 46, 96, 54, 9, 21, 8, 155, 0, 26, 21, 8, 16, 51, 162, 0, 19, 21, 9]
abbrev dktX2_outside_3 : List UInt8 := dkwX2_outside_3 ++ dktX2_outside_4
def dkwX2_outside_2 : List UInt8 := [54, 7, 21, 7, 16, 8, 162, 0, 115, 21, 5, 178, 0, 47, 21, 7, 46, 96, 54, 8, 21, 6]
abbrev dktX2_outside_2 : List UInt8 := dkwX2_outside_2 ++ dktX2_outside_3
def dkwX2_outside_1 : List UInt8 := [162, 0, 147, 44, 29, 46, 16, 51, 112, 54, 5, 44, 29, 46, 16, 51, 108, 54, 6, 132, 3, 1, 3]
abbrev dktX2_outside_1 : List UInt8 := dkwX2_outside_1 ++ dktX2_outside_2
def dkwX2_outside_0 : List UInt8 := [42, 184, 0, 226, 76, 43, 190, 188, 10, 77, 3, 62, 4, 54, 4, 43, 3, 5, 79, 29, 21, 4]
abbrev dktX2_outside_0 : List UInt8 := dkwX2_outside_0 ++ dktX2_outside_1
theorem dksX2_outside_0 : cX2_outside.data.toList.drop 0 = dktX2_outside_0 := by decide +kernel
theorem dksX2_outside_1 : cX2_outside.data.toList.drop 22 = dktX2_outside_1 := dk_seg dksX2_outside_0 22 rfl rfl
theorem dksX2_outside_2 : cX2_outside.data.toList.drop 45 = dktX2_outside_2 := dk_seg dksX2_outside_1 23 rfl rfl
theorem dksX2_outside_3 : cX2_outside.data.toList.drop 67 = dktX2_outside_3 := dk_seg dksX2_outside_2 22 rfl rfl
theorem dksX2_outside_4 : cX2_outside.data.toList.drop 90 = dktX2_outside_4 := dk_seg dksX2_outside_3 23 rfl rfl
theorem dksX2_outside_5 : cX2_outside.data.toList.drop 114 = dktX2_outside_5 := dk_seg dksX2_outside_4 24 rfl rfl
theorem dksX2_outside_6 : cX2_outside.data.toList.drop 138 = dktX2_outside_6 := dk_seg dksX2_outside_5 24 rfl rfl
theorem dksX2_outside_7 : cX2_outside.data.toList.drop 160 = dktX2_outside_7 := dk_seg dksX2_outside_6 22 rfl rfl
theorem dX2_outside_0 : decode cX2_outside 0 = .ok (.aload_n 0, 1) := dk_42 (dk_at dksX2_outside_0 0 rfl rfl)
theorem dX2_outside_1 : decode cX2_outside 1 = .ok (.invokestatic 226, 3) := dk_184 0 226 (dk_at dksX2_outside_0 1 rfl rfl)
theorem dX2_outside_4 : decode cX2_outside 4 = .ok (.astore_n 1, 1) := dk_76 (dk_at dksX2_outside_0 4 rfl rfl)
theorem dX2_outside_5 : decode cX2_outside 5 = .ok (.aload_n 1, 1) := dk_43 (dk_at dksX2_outside_0 5 rfl rfl)
theorem dX2_outside_6 : decode cX2_outside 6 = .ok (.arraylength, 1) := dk_190 (dk_at dksX2_outside_0 6 rfl rfl)
theorem dX2_outside_7 : decode cX2_outside 7 = .ok (.newarray .int, 2) := dk_188_10 (dk_at dksX2_outside_0 7 rfl rfl)
theorem dX2_outside_9 : decode cX2_outside 9 = .ok (.astore_n 2, 1) := dk_77 (dk_at dksX2_outside_0 9 rfl rfl)
theorem dX2_outside_10 : decode cX2_outside 10 = .ok (.iconst 0, 1) := dk_3 (dk_at dksX2_outside_0 10 rfl rfl)
theorem dX2_outside_11 : decode cX2_outside 11 = .ok (.istore_n 3, 1) := dk_62 (dk_at dksX2_outside_0 11 rfl rfl)
theorem dX2_outside_12 : decode cX2_outside 12 = .ok (.iconst 1, 1) := dk_4 (dk_at dksX2_outside_0 12 rfl rfl)
theorem dX2_outside_13 : decode cX2_outside 13 = .ok (.istore 4, 2) := dk_54 4 (dk_at dksX2_outside_0 13 rfl rfl)
theorem dX2_outside_15 : decode cX2_outside 15 = .ok (.aload_n 1, 1) := dk_43 (dk_at dksX2_outside_0 15 rfl rfl)
theorem dX2_outside_16 : decode cX2_outside 16 = .ok (.iconst 0, 1) := dk_3 (dk_at dksX2_outside_0 16 rfl rfl)
theorem dX2_outside_17 : decode cX2_outside 17 = .ok (.iconst 2, 1) := dk_5 (dk_at dksX2_outside_0 17 rfl rfl)
theorem dX2_outside_18 : decode cX2_outside 18 = .ok (.iastore, 1) := dk_79 (dk_at dksX2_outside_0 18 rfl rfl)
theorem dX2_outside_19 : decode cX2_outside 19 = .ok (.iload_n 3, 1) := dk_29 (dk_at dksX2_outside_0 19 rfl rfl)
theorem dX2_outside_20 : decode cX2_outside 20 = .ok (.iload 4, 2) := dk_21 4 (dk_at dksX2_outside_0 20 rfl rfl)
theorem dX2_outside_22 : decode cX2_outside 22 = .ok (.if_icmp .ge 147, 3) := dk_162 0 147 (dk_at dksX2_outside_1 0 rfl rfl)
theorem dX2_outside_25 : decode cX2_outside 25 = .ok (.aload_n 2, 1) := dk_44 (dk_at dksX2_outside_1 3 rfl rfl)
theorem dX2_outside_26 : decode cX2_outside 26 = .ok (.iload_n 3, 1) := dk_29 (dk_at dksX2_outside_1 4 rfl rfl)
theorem dX2_outside_27 : decode cX2_outside 27 = .ok (.iaload, 1) := dk_46 (dk_at dksX2_outside_1 5 rfl rfl)
theorem dX2_outside_28 : decode cX2_outside 28 = .ok (.bipush 51, 2) := dk_16 51 (dk_at dksX2_outside_1 6 rfl rfl)
theorem dX2_outside_30 : decode cX2_outside 30 = .ok (.irem, 1) := dk_112 (dk_at dksX2_outside_1 8 rfl rfl)
theorem dX2_outside_31 : decode cX2_outside 31 = .ok (.istore 5, 2) := dk_54 5 (dk_at dksX2_outside_1 9 rfl rfl)
theorem dX2_outside_33 : decode cX2_outside 33 = .ok (.aload_n 2, 1) := dk_44 (dk_at dksX2_outside_1 11 rfl rfl)
theorem dX2_outside_34 : decode cX2_outside 34 = .ok (.iload_n 3, 1) := dk_29 (dk_at dksX2_outside_1 12 rfl rfl)
theorem dX2_outside_35 : decode cX2_outside 35 = .ok (.iaload, 1) := dk_46 (dk_at dksX2_outside_1 13 rfl rfl)
theorem dX2_outside_36 : decode cX2_outside 36 = .ok (.bipush 51, 2) := dk_16 51 (dk_at dksX2_outside_1 14 rfl rfl)
theorem dX2_outside_38 : decode cX2_outside 38 = .ok (.idiv, 1) := dk_108 (dk_at dksX2_outside_1 16 rfl rfl)
theorem dX2_outside_39 : decode cX2_outside 39 = .ok (.istore 6, 2) := dk_54 6 (dk_at dksX2_outside_1 17 rfl rfl)
theorem dX2_outside_41 : decode cX2_outside 41 = .ok (.iinc 3 1, 3) := dk_132 3 1 (dk_at dksX2_outside_1 19 rfl rfl)
theorem dX2_outside_44 : decode cX2_outside 44 = .ok (.iconst 0, 1) := dk_3 (dk_at dksX2_outside_1 22 rfl rfl)
theorem dX2_outside_45 : decode cX2_outside 45 = .ok (.istore 7, 2) := dk_54 7 (dk_at dksX2_outside_2 0 rfl rfl)
theorem dX2_outside_47 : decode cX2_outside 47 = .ok (.iload 7, 2) := dk_21 7 (dk_at dksX2_outside_2 2 rfl rfl)
theorem dX2_outside_49 : decode cX2_outside 49 = .ok (.bipush 8, 2) := dk_16 8 (dk_at dksX2_outside_2 4 rfl rfl)
theorem dX2_outside_51 : decode cX2_outside 51 = .ok (.if_icmp .ge 115, 3) := dk_162 0 115 (dk_at dksX2_outside_2 6 rfl rfl)
theorem dX2_outside_54 : decode cX2_outside 54 = .ok (.iload 5, 2) := dk_21 5 (dk_at dksX2_outside_2 9 rfl rfl)
theorem dX2_outside_56 : decode cX2_outside 56 = .ok (.getstatic 47, 3) := dk_178 0 47 (dk_at dksX2_outside_2 11 rfl rfl)
theorem dX2_outside_59 : decode cX2_outside 59 = .ok (.iload 7, 2) := dk_21 7 (dk_at dksX2_outside_2 14 rfl rfl)
theorem dX2_outside_61 : decode cX2_outside 61 = .ok (.iaload, 1) := dk_46 (dk_at dksX2_outside_2 16 rfl rfl)
theorem dX2_outside_62 : decode cX2_outside 62 = .ok (.iadd, 1) := dk_96 (dk_at dksX2_outside_2 17 rfl rfl)
theorem dX2_outside_63 : decode cX2_outside 63 = .ok (.istore 8, 2) := dk_54 8 (dk_at dksX2_outside_2 18 rfl rfl)
theorem dX2_outside_65 : decode cX2_outside 65 = .ok (.iload 6, 2) := dk_21 6 (dk_at dksX2_outside_2 20 rfl rfl)
theorem dX2_outside_67 : decode cX2_outside 67 = .ok (.getstatic 51, 3) := dk_178 0 51 (dk_at dksX2_outside_3 0 rfl rfl)
theorem dX2_outside_70 : decode cX2_outside 70 = .ok (.iload 7, 2) := dk_21 7 (dk_at dksX2_outside_3 3 rfl rfl)
theorem dX2_outside_72 : decode cX2_outside 72 = .ok (.iaload, 1) := dk_46 (dk_at dksX2_outside_3 5 rfl rfl)
theorem dX2_outside_73 : decode cX2_outside 73 = .ok (.iadd, 1) := dk_96 (dk_at dksX2_outside_3 6 rfl rfl)
theorem dX2_outside_74 : decode cX2_outside 74 = .ok (.istore 9, 2) := dk_54 9 (dk_at dksX2_outside_3 7 rfl rfl)
theorem dX2_outside_76 : decode cX2_outside 76 = .ok (.iload 8, 2) := dk_21 8 (dk_at dksX2_outside_3 9 rfl rfl)
theorem dX2_outside_78 : decode cX2_outside 78 = .ok (.ifCond .lt 26, 3) := dk_155 0 26 (dk_at dksX2_outside_3 11 rfl rfl)
theorem dX2_outside_81 : decode cX2_outside 81 = .ok (.iload 8, 2) := dk_21 8 (dk_at dksX2_outside_3 14 rfl rfl)
theorem dX2_outside_83 : decode cX2_outside 83 = .ok (.bipush 51, 2) := dk_16 51 (dk_at dksX2_outside_3 16 rfl rfl)
theorem dX2_outside_85 : decode cX2_outside 85 = .ok (.if_icmp .ge 19, 3) := dk_162 0 19 (dk_at dksX2_outside_3 18 rfl rfl)
theorem dX2_outside_88 : decode cX2_outside 88 = .ok (.iload 9, 2) := dk_21 9 (dk_at dksX2_outside_3 21 rfl rfl)
theorem dX2_outside_90 : decode cX2_outside 90 = .ok (.ifCond .lt 14, 3) := dk_155 0 14 (dk_at dksX2_outside_4 0 rfl rfl)
theorem dX2_outside_93 : decode cX2_outside 93 = .ok (.iload 9, 2) := dk_21 9 (dk_at dksX2_outside_4 3 rfl rfl)
theorem dX2_outside_95 : decode cX2_outside 95 = .ok (.bipush 35, 2) := dk_16 35 (dk_at dksX2_outside_4 5 rfl rfl)
theorem dX2_outside_97 : decode cX2_outside 97 = .ok (.if_icmp .ge 7, 3) := dk_162 0 7 (dk_at dksX2_outside_4 7 rfl rfl)
theorem dX2_outside_100 : decode cX2_outside 100 = .ok (.iconst 1, 1) := dk_4 (dk_at dksX2_outside_4 10 rfl rfl)
theorem dX2_outside_101 : decode cX2_outside 101 = .ok (.goto 4, 3) := dk_167 0 4 (dk_at dksX2_outside_4 11 rfl rfl)
theorem dX2_outside_104 : decode cX2_outside 104 = .ok (.iconst 0, 1) := dk_3 (dk_at dksX2_outside_4 14 rfl rfl)
theorem dX2_outside_105 : decode cX2_outside 105 = .ok (.istore 10, 2) := dk_54 10 (dk_at dksX2_outside_4 15 rfl rfl)
theorem dX2_outside_107 : decode cX2_outside 107 = .ok (.iload 10, 2) := dk_21 10 (dk_at dksX2_outside_4 17 rfl rfl)
theorem dX2_outside_109 : decode cX2_outside 109 = .ok (.ifCond .eq 14, 3) := dk_153 0 14 (dk_at dksX2_outside_4 19 rfl rfl)
theorem dX2_outside_112 : decode cX2_outside 112 = .ok (.bipush 51, 2) := dk_16 51 (dk_at dksX2_outside_4 22 rfl rfl)
theorem dX2_outside_114 : decode cX2_outside 114 = .ok (.iload 9, 2) := dk_21 9 (dk_at dksX2_outside_5 0 rfl rfl)
theorem dX2_outside_116 : decode cX2_outside 116 = .ok (.imul, 1) := dk_104 (dk_at dksX2_outside_5 2 rfl rfl)
theorem dX2_outside_117 : decode cX2_outside 117 = .ok (.iload 8, 2) := dk_21 8 (dk_at dksX2_outside_5 3 rfl rfl)
theorem dX2_outside_119 : decode cX2_outside 119 = .ok (.iadd, 1) := dk_96 (dk_at dksX2_outside_5 5 rfl rfl)
theorem dX2_outside_120 : decode cX2_outside 120 = .ok (.goto 4, 3) := dk_167 0 4 (dk_at dksX2_outside_5 6 rfl rfl)
theorem dX2_outside_123 : decode cX2_outside 123 = .ok (.iconst 0, 1) := dk_3 (dk_at dksX2_outside_5 9 rfl rfl)
theorem dX2_outside_124 : decode cX2_outside 124 = .ok (.istore 11, 2) := dk_54 11 (dk_at dksX2_outside_5 10 rfl rfl)
theorem dX2_outside_126 : decode cX2_outside 126 = .ok (.aload_n 1, 1) := dk_43 (dk_at dksX2_outside_5 12 rfl rfl)
theorem dX2_outside_127 : decode cX2_outside 127 = .ok (.iload 11, 2) := dk_21 11 (dk_at dksX2_outside_5 13 rfl rfl)
theorem dX2_outside_129 : decode cX2_outside 129 = .ok (.iaload, 1) := dk_46 (dk_at dksX2_outside_5 15 rfl rfl)
theorem dX2_outside_130 : decode cX2_outside 130 = .ok (.ifCond .ne 30, 3) := dk_154 0 30 (dk_at dksX2_outside_5 16 rfl rfl)
theorem dX2_outside_133 : decode cX2_outside 133 = .ok (.aload_n 0, 1) := dk_42 (dk_at dksX2_outside_5 19 rfl rfl)
theorem dX2_outside_134 : decode cX2_outside 134 = .ok (.iload 5, 2) := dk_21 5 (dk_at dksX2_outside_5 20 rfl rfl)
theorem dX2_outside_136 : decode cX2_outside 136 = .ok (.iload 6, 2) := dk_21 6 (dk_at dksX2_outside_5 22 rfl rfl)
theorem dX2_outside_138 : decode cX2_outside 138 = .ok (.iload 7, 2) := dk_21 7 (dk_at dksX2_outside_6 0 rfl rfl)
theorem dX2_outside_140 : decode cX2_outside 140 = .ok (.invokestatic 230, 3) := dk_184 0 230 (dk_at dksX2_outside_6 2 rfl rfl)
theorem dX2_outside_143 : decode cX2_outside 143 = .ok (.ifCond .ne 17, 3) := dk_154 0 17 (dk_at dksX2_outside_6 5 rfl rfl)
theorem dX2_outside_146 : decode cX2_outside 146 = .ok (.aload_n 1, 1) := dk_43 (dk_at dksX2_outside_6 8 rfl rfl)
theorem dX2_outside_147 : decode cX2_outside 147 = .ok (.iload 11, 2) := dk_21 11 (dk_at dksX2_outside_6 9 rfl rfl)
theorem dX2_outside_149 : decode cX2_outside 149 = .ok (.iconst 2, 1) := dk_5 (dk_at dksX2_outside_6 11 rfl rfl)
theorem dX2_outside_150 : decode cX2_outside 150 = .ok (.iastore, 1) := dk_79 (dk_at dksX2_outside_6 12 rfl rfl)
theorem dX2_outside_151 : decode cX2_outside 151 = .ok (.aload_n 2, 1) := dk_44 (dk_at dksX2_outside_6 13 rfl rfl)
theorem dX2_outside_152 : decode cX2_outside 152 = .ok (.iload 4, 2) := dk_21 4 (dk_at dksX2_outside_6 14 rfl rfl)
theorem dX2_outside_154 : decode cX2_outside 154 = .ok (.iload 11, 2) := dk_21 11 (dk_at dksX2_outside_6 16 rfl rfl)
theorem dX2_outside_156 : decode cX2_outside 156 = .ok (.iastore, 1) := dk_79 (dk_at dksX2_outside_6 18 rfl rfl)
theorem dX2_outside_157 : decode cX2_outside 157 = .ok (.iinc 4 1, 3) := dk_132 4 1 (dk_at dksX2_outside_6 19 rfl rfl)
theorem dX2_outside_160 : decode cX2_outside 160 = .ok (.iinc 7 1, 3) := dk_132 7 1 (dk_at dksX2_outside_7 0 rfl rfl)
theorem dX2_outside_163 : decode cX2_outside 163 = .ok (.goto (-116), 3) := dk_167 255 140 (dk_at dksX2_outside_7 3 rfl rfl)
theorem dX2_outside_166 : decode cX2_outside 166 = .ok (.goto (-147), 3) := dk_167 255 109 (dk_at dksX2_outside_7 6 rfl rfl)
theorem dX2_outside_169 : decode cX2_outside 169 = .ok (.aload_n 1, 1) := dk_43 (dk_at dksX2_outside_7 9 rfl rfl)
theorem dX2_outside_170 : decode cX2_outside 170 = .ok (.areturn, 1) := dk_176 (dk_at dksX2_outside_7 10 rfl rfl)
abbrev cX2_fineMap : ByteArray := prog_10_method_24_code
def yX2_fineMap : MethodName := ⟨RX2, "fineMap", "(LContourLabels$Line;)[I"⟩
def dkwX2_fineMap_2 : List UInt8 := [178, 0, 47, 42, 180, 0, 223, 28, 46, 46, 96, 4, 79, 132, 2, 1, 167, 255, 202, 43, 176]
abbrev dktX2_fineMap_2 : List UInt8 := dkwX2_fineMap_2 ++ []
def dkwX2_fineMap_1 : List UInt8 := [184, 0, 220, 62, 43, 29, 4, 79, 43, 29, 16, 51, 178, 0, 51, 42, 180, 0, 223, 28, 46, 46, 104, 96]
abbrev dktX2_fineMap_1 : List UInt8 := dkwX2_fineMap_1 ++ dktX2_fineMap_2
def dkwX2_fineMap_0 : List UInt8 := [17, 6, 249, 188, 10, 76, 3, 61, 28, 42, 180, 0, 121, 162, 0, 52, 42, 180, 0, 217, 28, 46]
abbrev dktX2_fineMap_0 : List UInt8 := dkwX2_fineMap_0 ++ dktX2_fineMap_1
theorem dksX2_fineMap_0 : cX2_fineMap.data.toList.drop 0 = dktX2_fineMap_0 := by decide +kernel
theorem dksX2_fineMap_1 : cX2_fineMap.data.toList.drop 22 = dktX2_fineMap_1 := dk_seg dksX2_fineMap_0 22 rfl rfl
theorem dksX2_fineMap_2 : cX2_fineMap.data.toList.drop 46 = dktX2_fineMap_2 := dk_seg dksX2_fineMap_1 24 rfl rfl
theorem dX2_fineMap_0 : decode cX2_fineMap 0 = .ok (.sipush 1785, 3) := dk_17 6 249 (dk_at dksX2_fineMap_0 0 rfl rfl)
theorem dX2_fineMap_3 : decode cX2_fineMap 3 = .ok (.newarray .int, 2) := dk_188_10 (dk_at dksX2_fineMap_0 3 rfl rfl)
theorem dX2_fineMap_5 : decode cX2_fineMap 5 = .ok (.astore_n 1, 1) := dk_76 (dk_at dksX2_fineMap_0 5 rfl rfl)
theorem dX2_fineMap_6 : decode cX2_fineMap 6 = .ok (.iconst 0, 1) := dk_3 (dk_at dksX2_fineMap_0 6 rfl rfl)
theorem dX2_fineMap_7 : decode cX2_fineMap 7 = .ok (.istore_n 2, 1) := dk_61 (dk_at dksX2_fineMap_0 7 rfl rfl)
theorem dX2_fineMap_8 : decode cX2_fineMap 8 = .ok (.iload_n 2, 1) := dk_28 (dk_at dksX2_fineMap_0 8 rfl rfl)
theorem dX2_fineMap_9 : decode cX2_fineMap 9 = .ok (.aload_n 0, 1) := dk_42 (dk_at dksX2_fineMap_0 9 rfl rfl)
theorem dX2_fineMap_10 : decode cX2_fineMap 10 = .ok (.getfield 121, 3) := dk_180 0 121 (dk_at dksX2_fineMap_0 10 rfl rfl)
theorem dX2_fineMap_13 : decode cX2_fineMap 13 = .ok (.if_icmp .ge 52, 3) := dk_162 0 52 (dk_at dksX2_fineMap_0 13 rfl rfl)
theorem dX2_fineMap_16 : decode cX2_fineMap 16 = .ok (.aload_n 0, 1) := dk_42 (dk_at dksX2_fineMap_0 16 rfl rfl)
theorem dX2_fineMap_17 : decode cX2_fineMap 17 = .ok (.getfield 217, 3) := dk_180 0 217 (dk_at dksX2_fineMap_0 17 rfl rfl)
theorem dX2_fineMap_20 : decode cX2_fineMap 20 = .ok (.iload_n 2, 1) := dk_28 (dk_at dksX2_fineMap_0 20 rfl rfl)
theorem dX2_fineMap_21 : decode cX2_fineMap 21 = .ok (.iaload, 1) := dk_46 (dk_at dksX2_fineMap_0 21 rfl rfl)
theorem dX2_fineMap_22 : decode cX2_fineMap 22 = .ok (.invokestatic 220, 3) := dk_184 0 220 (dk_at dksX2_fineMap_1 0 rfl rfl)
theorem dX2_fineMap_25 : decode cX2_fineMap 25 = .ok (.istore_n 3, 1) := dk_62 (dk_at dksX2_fineMap_1 3 rfl rfl)
theorem dX2_fineMap_26 : decode cX2_fineMap 26 = .ok (.aload_n 1, 1) := dk_43 (dk_at dksX2_fineMap_1 4 rfl rfl)
theorem dX2_fineMap_27 : decode cX2_fineMap 27 = .ok (.iload_n 3, 1) := dk_29 (dk_at dksX2_fineMap_1 5 rfl rfl)
theorem dX2_fineMap_28 : decode cX2_fineMap 28 = .ok (.iconst 1, 1) := dk_4 (dk_at dksX2_fineMap_1 6 rfl rfl)
theorem dX2_fineMap_29 : decode cX2_fineMap 29 = .ok (.iastore, 1) := dk_79 (dk_at dksX2_fineMap_1 7 rfl rfl)
theorem dX2_fineMap_30 : decode cX2_fineMap 30 = .ok (.aload_n 1, 1) := dk_43 (dk_at dksX2_fineMap_1 8 rfl rfl)
theorem dX2_fineMap_31 : decode cX2_fineMap 31 = .ok (.iload_n 3, 1) := dk_29 (dk_at dksX2_fineMap_1 9 rfl rfl)
theorem dX2_fineMap_32 : decode cX2_fineMap 32 = .ok (.bipush 51, 2) := dk_16 51 (dk_at dksX2_fineMap_1 10 rfl rfl)
theorem dX2_fineMap_34 : decode cX2_fineMap 34 = .ok (.getstatic 51, 3) := dk_178 0 51 (dk_at dksX2_fineMap_1 12 rfl rfl)
theorem dX2_fineMap_37 : decode cX2_fineMap 37 = .ok (.aload_n 0, 1) := dk_42 (dk_at dksX2_fineMap_1 15 rfl rfl)
theorem dX2_fineMap_38 : decode cX2_fineMap 38 = .ok (.getfield 223, 3) := dk_180 0 223 (dk_at dksX2_fineMap_1 16 rfl rfl)
theorem dX2_fineMap_41 : decode cX2_fineMap 41 = .ok (.iload_n 2, 1) := dk_28 (dk_at dksX2_fineMap_1 19 rfl rfl)
theorem dX2_fineMap_42 : decode cX2_fineMap 42 = .ok (.iaload, 1) := dk_46 (dk_at dksX2_fineMap_1 20 rfl rfl)
theorem dX2_fineMap_43 : decode cX2_fineMap 43 = .ok (.iaload, 1) := dk_46 (dk_at dksX2_fineMap_1 21 rfl rfl)
theorem dX2_fineMap_44 : decode cX2_fineMap 44 = .ok (.imul, 1) := dk_104 (dk_at dksX2_fineMap_1 22 rfl rfl)
theorem dX2_fineMap_45 : decode cX2_fineMap 45 = .ok (.iadd, 1) := dk_96 (dk_at dksX2_fineMap_1 23 rfl rfl)
theorem dX2_fineMap_46 : decode cX2_fineMap 46 = .ok (.getstatic 47, 3) := dk_178 0 47 (dk_at dksX2_fineMap_2 0 rfl rfl)
theorem dX2_fineMap_49 : decode cX2_fineMap 49 = .ok (.aload_n 0, 1) := dk_42 (dk_at dksX2_fineMap_2 3 rfl rfl)
theorem dX2_fineMap_50 : decode cX2_fineMap 50 = .ok (.getfield 223, 3) := dk_180 0 223 (dk_at dksX2_fineMap_2 4 rfl rfl)
theorem dX2_fineMap_53 : decode cX2_fineMap 53 = .ok (.iload_n 2, 1) := dk_28 (dk_at dksX2_fineMap_2 7 rfl rfl)
theorem dX2_fineMap_54 : decode cX2_fineMap 54 = .ok (.iaload, 1) := dk_46 (dk_at dksX2_fineMap_2 8 rfl rfl)
theorem dX2_fineMap_55 : decode cX2_fineMap 55 = .ok (.iaload, 1) := dk_46 (dk_at dksX2_fineMap_2 9 rfl rfl)
theorem dX2_fineMap_56 : decode cX2_fineMap 56 = .ok (.iadd, 1) := dk_96 (dk_at dksX2_fineMap_2 10 rfl rfl)
theorem dX2_fineMap_57 : decode cX2_fineMap 57 = .ok (.iconst 1, 1) := dk_4 (dk_at dksX2_fineMap_2 11 rfl rfl)
theorem dX2_fineMap_58 : decode cX2_fineMap 58 = .ok (.iastore, 1) := dk_79 (dk_at dksX2_fineMap_2 12 rfl rfl)
theorem dX2_fineMap_59 : decode cX2_fineMap 59 = .ok (.iinc 2 1, 3) := dk_132 2 1 (dk_at dksX2_fineMap_2 13 rfl rfl)
theorem dX2_fineMap_62 : decode cX2_fineMap 62 = .ok (.goto (-54), 3) := dk_167 255 202 (dk_at dksX2_fineMap_2 16 rfl rfl)
theorem dX2_fineMap_65 : decode cX2_fineMap 65 = .ok (.aload_n 1, 1) := dk_43 (dk_at dksX2_fineMap_2 19 rfl rfl)
theorem dX2_fineMap_66 : decode cX2_fineMap 66 = .ok (.areturn, 1) := dk_176 (dk_at dksX2_fineMap_2 20 rfl rfl)
abbrev cX2_spot : ByteArray := prog_10_method_23_code
def yX2_spot : MethodName := ⟨RX2, "spot", "(I)I"⟩
def dkwX2_spot_0 : List UInt8 := [16, 102, 26, 184, 0, 211, 4, 96, 104, 5, 26, 184, 0, 214, 4, 96, 104, 96, 172]
abbrev dktX2_spot_0 : List UInt8 := dkwX2_spot_0 ++ []
theorem dksX2_spot_0 : cX2_spot.data.toList.drop 0 = dktX2_spot_0 := by decide +kernel
theorem dX2_spot_0 : decode cX2_spot 0 = .ok (.bipush 102, 2) := dk_16 102 (dk_at dksX2_spot_0 0 rfl rfl)
theorem dX2_spot_2 : decode cX2_spot 2 = .ok (.iload_n 0, 1) := dk_26 (dk_at dksX2_spot_0 2 rfl rfl)
theorem dX2_spot_3 : decode cX2_spot 3 = .ok (.invokestatic 211, 3) := dk_184 0 211 (dk_at dksX2_spot_0 3 rfl rfl)
theorem dX2_spot_6 : decode cX2_spot 6 = .ok (.iconst 1, 1) := dk_4 (dk_at dksX2_spot_0 6 rfl rfl)
theorem dX2_spot_7 : decode cX2_spot 7 = .ok (.iadd, 1) := dk_96 (dk_at dksX2_spot_0 7 rfl rfl)
theorem dX2_spot_8 : decode cX2_spot 8 = .ok (.imul, 1) := dk_104 (dk_at dksX2_spot_0 8 rfl rfl)
theorem dX2_spot_9 : decode cX2_spot 9 = .ok (.iconst 2, 1) := dk_5 (dk_at dksX2_spot_0 9 rfl rfl)
theorem dX2_spot_10 : decode cX2_spot 10 = .ok (.iload_n 0, 1) := dk_26 (dk_at dksX2_spot_0 10 rfl rfl)
theorem dX2_spot_11 : decode cX2_spot 11 = .ok (.invokestatic 214, 3) := dk_184 0 214 (dk_at dksX2_spot_0 11 rfl rfl)
theorem dX2_spot_14 : decode cX2_spot 14 = .ok (.iconst 1, 1) := dk_4 (dk_at dksX2_spot_0 14 rfl rfl)
theorem dX2_spot_15 : decode cX2_spot 15 = .ok (.iadd, 1) := dk_96 (dk_at dksX2_spot_0 15 rfl rfl)
theorem dX2_spot_16 : decode cX2_spot 16 = .ok (.imul, 1) := dk_104 (dk_at dksX2_spot_0 16 rfl rfl)
theorem dX2_spot_17 : decode cX2_spot 17 = .ok (.iadd, 1) := dk_96 (dk_at dksX2_spot_0 17 rfl rfl)
theorem dX2_spot_18 : decode cX2_spot 18 = .ok (.ireturn, 1) := dk_172 (dk_at dksX2_spot_0 18 rfl rfl)
abbrev cX2_isBarred : ByteArray := prog_10_method_28_code
def yX2_isBarred : MethodName := ⟨RX2, "isBarred", "(LContourLabels$Line;III)Z"⟩
def dkwX2_isBarred_3 : List UInt8 := [184, 0, 54, 153, 0, 17, 21, 6, 154, 0, 8, 21, 7, 153, 0, 7, 4, 167, 0, 4, 3, 172]
abbrev dktX2_isBarred_3 : List UInt8 := dkwX2_isBarred_3 ++ []
def dkwX2_isBarred_2 : List UInt8 := [184, 0, 234, 27, 5, 21, 4, 104, 96, 28, 21, 5, 100, 184, 0, 234, 184, 0, 237, 54, 7, 29]
abbrev dktX2_isBarred_2 : List UInt8 := dkwX2_isBarred_2 ++ dktX2_isBarred_3
def dkwX2_isBarred_1 : List UInt8 := [21, 4, 100, 28, 5, 21, 5, 104, 96, 184, 0, 234, 184, 0, 237, 54, 6, 42, 27, 28, 21, 5, 96]
abbrev dktX2_isBarred_1 : List UInt8 := dkwX2_isBarred_1 ++ dktX2_isBarred_2
def dkwX2_isBarred_0 : List UInt8 := [178, 0, 47, 29, 46, 54, 4, 178, 0, 51, 29, 46, 54, 5, 42, 27, 21, 4, 96, 28, 184, 0, 234, 27]
abbrev dktX2_isBarred_0 : List UInt8 := dkwX2_isBarred_0 ++ dktX2_isBarred_1
theorem dksX2_isBarred_0 : cX2_isBarred.data.toList.drop 0 = dktX2_isBarred_0 := by decide +kernel
theorem dksX2_isBarred_1 : cX2_isBarred.data.toList.drop 24 = dktX2_isBarred_1 := dk_seg dksX2_isBarred_0 24 rfl rfl
theorem dksX2_isBarred_2 : cX2_isBarred.data.toList.drop 47 = dktX2_isBarred_2 := dk_seg dksX2_isBarred_1 23 rfl rfl
theorem dksX2_isBarred_3 : cX2_isBarred.data.toList.drop 69 = dktX2_isBarred_3 := dk_seg dksX2_isBarred_2 22 rfl rfl
theorem dX2_isBarred_0 : decode cX2_isBarred 0 = .ok (.getstatic 47, 3) := dk_178 0 47 (dk_at dksX2_isBarred_0 0 rfl rfl)
theorem dX2_isBarred_3 : decode cX2_isBarred 3 = .ok (.iload_n 3, 1) := dk_29 (dk_at dksX2_isBarred_0 3 rfl rfl)
theorem dX2_isBarred_4 : decode cX2_isBarred 4 = .ok (.iaload, 1) := dk_46 (dk_at dksX2_isBarred_0 4 rfl rfl)
theorem dX2_isBarred_5 : decode cX2_isBarred 5 = .ok (.istore 4, 2) := dk_54 4 (dk_at dksX2_isBarred_0 5 rfl rfl)
theorem dX2_isBarred_7 : decode cX2_isBarred 7 = .ok (.getstatic 51, 3) := dk_178 0 51 (dk_at dksX2_isBarred_0 7 rfl rfl)
theorem dX2_isBarred_10 : decode cX2_isBarred 10 = .ok (.iload_n 3, 1) := dk_29 (dk_at dksX2_isBarred_0 10 rfl rfl)
theorem dX2_isBarred_11 : decode cX2_isBarred 11 = .ok (.iaload, 1) := dk_46 (dk_at dksX2_isBarred_0 11 rfl rfl)
theorem dX2_isBarred_12 : decode cX2_isBarred 12 = .ok (.istore 5, 2) := dk_54 5 (dk_at dksX2_isBarred_0 12 rfl rfl)
theorem dX2_isBarred_14 : decode cX2_isBarred 14 = .ok (.aload_n 0, 1) := dk_42 (dk_at dksX2_isBarred_0 14 rfl rfl)
theorem dX2_isBarred_15 : decode cX2_isBarred 15 = .ok (.iload_n 1, 1) := dk_27 (dk_at dksX2_isBarred_0 15 rfl rfl)
theorem dX2_isBarred_16 : decode cX2_isBarred 16 = .ok (.iload 4, 2) := dk_21 4 (dk_at dksX2_isBarred_0 16 rfl rfl)
theorem dX2_isBarred_18 : decode cX2_isBarred 18 = .ok (.iadd, 1) := dk_96 (dk_at dksX2_isBarred_0 18 rfl rfl)
theorem dX2_isBarred_19 : decode cX2_isBarred 19 = .ok (.iload_n 2, 1) := dk_28 (dk_at dksX2_isBarred_0 19 rfl rfl)
theorem dX2_isBarred_20 : decode cX2_isBarred 20 = .ok (.invokestatic 234, 3) := dk_184 0 234 (dk_at dksX2_isBarred_0 20 rfl rfl)
theorem dX2_isBarred_23 : decode cX2_isBarred 23 = .ok (.iload_n 1, 1) := dk_27 (dk_at dksX2_isBarred_0 23 rfl rfl)
theorem dX2_isBarred_24 : decode cX2_isBarred 24 = .ok (.iload 4, 2) := dk_21 4 (dk_at dksX2_isBarred_1 0 rfl rfl)
theorem dX2_isBarred_26 : decode cX2_isBarred 26 = .ok (.isub, 1) := dk_100 (dk_at dksX2_isBarred_1 2 rfl rfl)
theorem dX2_isBarred_27 : decode cX2_isBarred 27 = .ok (.iload_n 2, 1) := dk_28 (dk_at dksX2_isBarred_1 3 rfl rfl)
theorem dX2_isBarred_28 : decode cX2_isBarred 28 = .ok (.iconst 2, 1) := dk_5 (dk_at dksX2_isBarred_1 4 rfl rfl)
theorem dX2_isBarred_29 : decode cX2_isBarred 29 = .ok (.iload 5, 2) := dk_21 5 (dk_at dksX2_isBarred_1 5 rfl rfl)
theorem dX2_isBarred_31 : decode cX2_isBarred 31 = .ok (.imul, 1) := dk_104 (dk_at dksX2_isBarred_1 7 rfl rfl)
theorem dX2_isBarred_32 : decode cX2_isBarred 32 = .ok (.iadd, 1) := dk_96 (dk_at dksX2_isBarred_1 8 rfl rfl)
theorem dX2_isBarred_33 : decode cX2_isBarred 33 = .ok (.invokestatic 234, 3) := dk_184 0 234 (dk_at dksX2_isBarred_1 9 rfl rfl)
theorem dX2_isBarred_36 : decode cX2_isBarred 36 = .ok (.invokestatic 237, 3) := dk_184 0 237 (dk_at dksX2_isBarred_1 12 rfl rfl)
theorem dX2_isBarred_39 : decode cX2_isBarred 39 = .ok (.istore 6, 2) := dk_54 6 (dk_at dksX2_isBarred_1 15 rfl rfl)
theorem dX2_isBarred_41 : decode cX2_isBarred 41 = .ok (.aload_n 0, 1) := dk_42 (dk_at dksX2_isBarred_1 17 rfl rfl)
theorem dX2_isBarred_42 : decode cX2_isBarred 42 = .ok (.iload_n 1, 1) := dk_27 (dk_at dksX2_isBarred_1 18 rfl rfl)
theorem dX2_isBarred_43 : decode cX2_isBarred 43 = .ok (.iload_n 2, 1) := dk_28 (dk_at dksX2_isBarred_1 19 rfl rfl)
theorem dX2_isBarred_44 : decode cX2_isBarred 44 = .ok (.iload 5, 2) := dk_21 5 (dk_at dksX2_isBarred_1 20 rfl rfl)
theorem dX2_isBarred_46 : decode cX2_isBarred 46 = .ok (.iadd, 1) := dk_96 (dk_at dksX2_isBarred_1 22 rfl rfl)
theorem dX2_isBarred_47 : decode cX2_isBarred 47 = .ok (.invokestatic 234, 3) := dk_184 0 234 (dk_at dksX2_isBarred_2 0 rfl rfl)
theorem dX2_isBarred_50 : decode cX2_isBarred 50 = .ok (.iload_n 1, 1) := dk_27 (dk_at dksX2_isBarred_2 3 rfl rfl)
theorem dX2_isBarred_51 : decode cX2_isBarred 51 = .ok (.iconst 2, 1) := dk_5 (dk_at dksX2_isBarred_2 4 rfl rfl)
theorem dX2_isBarred_52 : decode cX2_isBarred 52 = .ok (.iload 4, 2) := dk_21 4 (dk_at dksX2_isBarred_2 5 rfl rfl)
theorem dX2_isBarred_54 : decode cX2_isBarred 54 = .ok (.imul, 1) := dk_104 (dk_at dksX2_isBarred_2 7 rfl rfl)
theorem dX2_isBarred_55 : decode cX2_isBarred 55 = .ok (.iadd, 1) := dk_96 (dk_at dksX2_isBarred_2 8 rfl rfl)
theorem dX2_isBarred_56 : decode cX2_isBarred 56 = .ok (.iload_n 2, 1) := dk_28 (dk_at dksX2_isBarred_2 9 rfl rfl)
theorem dX2_isBarred_57 : decode cX2_isBarred 57 = .ok (.iload 5, 2) := dk_21 5 (dk_at dksX2_isBarred_2 10 rfl rfl)
theorem dX2_isBarred_59 : decode cX2_isBarred 59 = .ok (.isub, 1) := dk_100 (dk_at dksX2_isBarred_2 12 rfl rfl)
theorem dX2_isBarred_60 : decode cX2_isBarred 60 = .ok (.invokestatic 234, 3) := dk_184 0 234 (dk_at dksX2_isBarred_2 13 rfl rfl)
theorem dX2_isBarred_63 : decode cX2_isBarred 63 = .ok (.invokestatic 237, 3) := dk_184 0 237 (dk_at dksX2_isBarred_2 16 rfl rfl)
theorem dX2_isBarred_66 : decode cX2_isBarred 66 = .ok (.istore 7, 2) := dk_54 7 (dk_at dksX2_isBarred_2 19 rfl rfl)
theorem dX2_isBarred_68 : decode cX2_isBarred 68 = .ok (.iload_n 3, 1) := dk_29 (dk_at dksX2_isBarred_2 21 rfl rfl)
theorem dX2_isBarred_69 : decode cX2_isBarred 69 = .ok (.invokestatic 54, 3) := dk_184 0 54 (dk_at dksX2_isBarred_3 0 rfl rfl)
theorem dX2_isBarred_72 : decode cX2_isBarred 72 = .ok (.ifCond .eq 17, 3) := dk_153 0 17 (dk_at dksX2_isBarred_3 3 rfl rfl)
theorem dX2_isBarred_75 : decode cX2_isBarred 75 = .ok (.iload 6, 2) := dk_21 6 (dk_at dksX2_isBarred_3 6 rfl rfl)
theorem dX2_isBarred_77 : decode cX2_isBarred 77 = .ok (.ifCond .ne 8, 3) := dk_154 0 8 (dk_at dksX2_isBarred_3 8 rfl rfl)
theorem dX2_isBarred_80 : decode cX2_isBarred 80 = .ok (.iload 7, 2) := dk_21 7 (dk_at dksX2_isBarred_3 11 rfl rfl)
theorem dX2_isBarred_82 : decode cX2_isBarred 82 = .ok (.ifCond .eq 7, 3) := dk_153 0 7 (dk_at dksX2_isBarred_3 13 rfl rfl)
theorem dX2_isBarred_85 : decode cX2_isBarred 85 = .ok (.iconst 1, 1) := dk_4 (dk_at dksX2_isBarred_3 16 rfl rfl)
theorem dX2_isBarred_86 : decode cX2_isBarred 86 = .ok (.goto 4, 3) := dk_167 0 4 (dk_at dksX2_isBarred_3 17 rfl rfl)
theorem dX2_isBarred_89 : decode cX2_isBarred 89 = .ok (.iconst 0, 1) := dk_3 (dk_at dksX2_isBarred_3 20 rfl rfl)
theorem dX2_isBarred_90 : decode cX2_isBarred 90 = .ok (.ireturn, 1) := dk_172 (dk_at dksX2_isBarred_3 21 rfl rfl)
abbrev cX2_pointAt : ByteArray := prog_10_method_26_code
def yX2_pointAt : MethodName := ⟨RX2, "pointAt", "(II)I"⟩
def dkwX2_pointAt_2 : List UInt8 := [4, 100, 104, 26, 5, 108, 96, 4, 100, 167, 0, 4, 2, 172]
abbrev dktX2_pointAt_2 : List UInt8 := dkwX2_pointAt_2 ++ []
def dkwX2_pointAt_1 : List UInt8 := [158, 0, 13, 27, 16, 32, 163, 0, 7, 4, 167, 0, 4, 3, 61, 28, 153, 0, 20, 16, 24, 27, 5, 108]
abbrev dktX2_pointAt_1 : List UInt8 := dkwX2_pointAt_1 ++ dktX2_pointAt_2
def dkwX2_pointAt_0 : List UInt8 := [26, 5, 112, 154, 0, 33, 27, 5, 112, 154, 0, 27, 26, 158, 0, 23, 26, 16, 48, 163, 0, 17, 27]
abbrev dktX2_pointAt_0 : List UInt8 := dkwX2_pointAt_0 ++ dktX2_pointAt_1
theorem dksX2_pointAt_0 : cX2_pointAt.data.toList.drop 0 = dktX2_pointAt_0 := by decide +kernel
theorem dksX2_pointAt_1 : cX2_pointAt.data.toList.drop 23 = dktX2_pointAt_1 := dk_seg dksX2_pointAt_0 23 rfl rfl
theorem dksX2_pointAt_2 : cX2_pointAt.data.toList.drop 47 = dktX2_pointAt_2 := dk_seg dksX2_pointAt_1 24 rfl rfl
theorem dX2_pointAt_0 : decode cX2_pointAt 0 = .ok (.iload_n 0, 1) := dk_26 (dk_at dksX2_pointAt_0 0 rfl rfl)
theorem dX2_pointAt_1 : decode cX2_pointAt 1 = .ok (.iconst 2, 1) := dk_5 (dk_at dksX2_pointAt_0 1 rfl rfl)
theorem dX2_pointAt_2 : decode cX2_pointAt 2 = .ok (.irem, 1) := dk_112 (dk_at dksX2_pointAt_0 2 rfl rfl)
theorem dX2_pointAt_3 : decode cX2_pointAt 3 = .ok (.ifCond .ne 33, 3) := dk_154 0 33 (dk_at dksX2_pointAt_0 3 rfl rfl)
theorem dX2_pointAt_6 : decode cX2_pointAt 6 = .ok (.iload_n 1, 1) := dk_27 (dk_at dksX2_pointAt_0 6 rfl rfl)
theorem dX2_pointAt_7 : decode cX2_pointAt 7 = .ok (.iconst 2, 1) := dk_5 (dk_at dksX2_pointAt_0 7 rfl rfl)
theorem dX2_pointAt_8 : decode cX2_pointAt 8 = .ok (.irem, 1) := dk_112 (dk_at dksX2_pointAt_0 8 rfl rfl)
theorem dX2_pointAt_9 : decode cX2_pointAt 9 = .ok (.ifCond .ne 27, 3) := dk_154 0 27 (dk_at dksX2_pointAt_0 9 rfl rfl)
theorem dX2_pointAt_12 : decode cX2_pointAt 12 = .ok (.iload_n 0, 1) := dk_26 (dk_at dksX2_pointAt_0 12 rfl rfl)
theorem dX2_pointAt_13 : decode cX2_pointAt 13 = .ok (.ifCond .le 23, 3) := dk_158 0 23 (dk_at dksX2_pointAt_0 13 rfl rfl)
theorem dX2_pointAt_16 : decode cX2_pointAt 16 = .ok (.iload_n 0, 1) := dk_26 (dk_at dksX2_pointAt_0 16 rfl rfl)
theorem dX2_pointAt_17 : decode cX2_pointAt 17 = .ok (.bipush 48, 2) := dk_16 48 (dk_at dksX2_pointAt_0 17 rfl rfl)
theorem dX2_pointAt_19 : decode cX2_pointAt 19 = .ok (.if_icmp .gt 17, 3) := dk_163 0 17 (dk_at dksX2_pointAt_0 19 rfl rfl)
theorem dX2_pointAt_22 : decode cX2_pointAt 22 = .ok (.iload_n 1, 1) := dk_27 (dk_at dksX2_pointAt_0 22 rfl rfl)
theorem dX2_pointAt_23 : decode cX2_pointAt 23 = .ok (.ifCond .le 13, 3) := dk_158 0 13 (dk_at dksX2_pointAt_1 0 rfl rfl)
theorem dX2_pointAt_26 : decode cX2_pointAt 26 = .ok (.iload_n 1, 1) := dk_27 (dk_at dksX2_pointAt_1 3 rfl rfl)
theorem dX2_pointAt_27 : decode cX2_pointAt 27 = .ok (.bipush 32, 2) := dk_16 32 (dk_at dksX2_pointAt_1 4 rfl rfl)
theorem dX2_pointAt_29 : decode cX2_pointAt 29 = .ok (.if_icmp .gt 7, 3) := dk_163 0 7 (dk_at dksX2_pointAt_1 6 rfl rfl)
theorem dX2_pointAt_32 : decode cX2_pointAt 32 = .ok (.iconst 1, 1) := dk_4 (dk_at dksX2_pointAt_1 9 rfl rfl)
theorem dX2_pointAt_33 : decode cX2_pointAt 33 = .ok (.goto 4, 3) := dk_167 0 4 (dk_at dksX2_pointAt_1 10 rfl rfl)
theorem dX2_pointAt_36 : decode cX2_pointAt 36 = .ok (.iconst 0, 1) := dk_3 (dk_at dksX2_pointAt_1 13 rfl rfl)
theorem dX2_pointAt_37 : decode cX2_pointAt 37 = .ok (.istore_n 2, 1) := dk_61 (dk_at dksX2_pointAt_1 14 rfl rfl)
theorem dX2_pointAt_38 : decode cX2_pointAt 38 = .ok (.iload_n 2, 1) := dk_28 (dk_at dksX2_pointAt_1 15 rfl rfl)
theorem dX2_pointAt_39 : decode cX2_pointAt 39 = .ok (.ifCond .eq 20, 3) := dk_153 0 20 (dk_at dksX2_pointAt_1 16 rfl rfl)
theorem dX2_pointAt_42 : decode cX2_pointAt 42 = .ok (.bipush 24, 2) := dk_16 24 (dk_at dksX2_pointAt_1 19 rfl rfl)
theorem dX2_pointAt_44 : decode cX2_pointAt 44 = .ok (.iload_n 1, 1) := dk_27 (dk_at dksX2_pointAt_1 21 rfl rfl)
theorem dX2_pointAt_45 : decode cX2_pointAt 45 = .ok (.iconst 2, 1) := dk_5 (dk_at dksX2_pointAt_1 22 rfl rfl)
theorem dX2_pointAt_46 : decode cX2_pointAt 46 = .ok (.idiv, 1) := dk_108 (dk_at dksX2_pointAt_1 23 rfl rfl)
theorem dX2_pointAt_47 : decode cX2_pointAt 47 = .ok (.iconst 1, 1) := dk_4 (dk_at dksX2_pointAt_2 0 rfl rfl)
theorem dX2_pointAt_48 : decode cX2_pointAt 48 = .ok (.isub, 1) := dk_100 (dk_at dksX2_pointAt_2 1 rfl rfl)
theorem dX2_pointAt_49 : decode cX2_pointAt 49 = .ok (.imul, 1) := dk_104 (dk_at dksX2_pointAt_2 2 rfl rfl)
theorem dX2_pointAt_50 : decode cX2_pointAt 50 = .ok (.iload_n 0, 1) := dk_26 (dk_at dksX2_pointAt_2 3 rfl rfl)
theorem dX2_pointAt_51 : decode cX2_pointAt 51 = .ok (.iconst 2, 1) := dk_5 (dk_at dksX2_pointAt_2 4 rfl rfl)
theorem dX2_pointAt_52 : decode cX2_pointAt 52 = .ok (.idiv, 1) := dk_108 (dk_at dksX2_pointAt_2 5 rfl rfl)
theorem dX2_pointAt_53 : decode cX2_pointAt 53 = .ok (.iadd, 1) := dk_96 (dk_at dksX2_pointAt_2 6 rfl rfl)
theorem dX2_pointAt_54 : decode cX2_pointAt 54 = .ok (.iconst 1, 1) := dk_4 (dk_at dksX2_pointAt_2 7 rfl rfl)
theorem dX2_pointAt_55 : decode cX2_pointAt 55 = .ok (.isub, 1) := dk_100 (dk_at dksX2_pointAt_2 8 rfl rfl)
theorem dX2_pointAt_56 : decode cX2_pointAt 56 = .ok (.goto 4, 3) := dk_167 0 4 (dk_at dksX2_pointAt_2 9 rfl rfl)
theorem dX2_pointAt_59 : decode cX2_pointAt 59 = .ok (.iconst (-1), 1) := dk_2 (dk_at dksX2_pointAt_2 12 rfl rfl)
theorem dX2_pointAt_60 : decode cX2_pointAt 60 = .ok (.ireturn, 1) := dk_172 (dk_at dksX2_pointAt_2 13 rfl rfl)
abbrev cX2_isStep : ByteArray := prog_10_method_27_code
def yX2_isStep : MethodName := ⟨RX2, "isStep", "(LContourLabels$Line;II)Z"⟩
def dkwX2_isStep_1 : List UInt8 := [172]
abbrev dktX2_isStep_1 : List UInt8 := dkwX2_isStep_1 ++ []
def dkwX2_isStep_0 : List UInt8 := [27, 2, 159, 0, 21, 28, 2, 159, 0, 16, 42, 27, 28, 182, 0, 57, 153, 0, 7, 4, 167, 0, 4, 3]
abbrev dktX2_isStep_0 : List UInt8 := dkwX2_isStep_0 ++ dktX2_isStep_1
theorem dksX2_isStep_0 : cX2_isStep.data.toList.drop 0 = dktX2_isStep_0 := by decide +kernel
theorem dksX2_isStep_1 : cX2_isStep.data.toList.drop 24 = dktX2_isStep_1 := dk_seg dksX2_isStep_0 24 rfl rfl
theorem dX2_isStep_0 : decode cX2_isStep 0 = .ok (.iload_n 1, 1) := dk_27 (dk_at dksX2_isStep_0 0 rfl rfl)
theorem dX2_isStep_1 : decode cX2_isStep 1 = .ok (.iconst (-1), 1) := dk_2 (dk_at dksX2_isStep_0 1 rfl rfl)
theorem dX2_isStep_2 : decode cX2_isStep 2 = .ok (.if_icmp .eq 21, 3) := dk_159 0 21 (dk_at dksX2_isStep_0 2 rfl rfl)
theorem dX2_isStep_5 : decode cX2_isStep 5 = .ok (.iload_n 2, 1) := dk_28 (dk_at dksX2_isStep_0 5 rfl rfl)
theorem dX2_isStep_6 : decode cX2_isStep 6 = .ok (.iconst (-1), 1) := dk_2 (dk_at dksX2_isStep_0 6 rfl rfl)
theorem dX2_isStep_7 : decode cX2_isStep 7 = .ok (.if_icmp .eq 16, 3) := dk_159 0 16 (dk_at dksX2_isStep_0 7 rfl rfl)
theorem dX2_isStep_10 : decode cX2_isStep 10 = .ok (.aload_n 0, 1) := dk_42 (dk_at dksX2_isStep_0 10 rfl rfl)
theorem dX2_isStep_11 : decode cX2_isStep 11 = .ok (.iload_n 1, 1) := dk_27 (dk_at dksX2_isStep_0 11 rfl rfl)
theorem dX2_isStep_12 : decode cX2_isStep 12 = .ok (.iload_n 2, 1) := dk_28 (dk_at dksX2_isStep_0 12 rfl rfl)
theorem dX2_isStep_13 : decode cX2_isStep 13 = .ok (.invokevirtual 57, 3) := dk_182 0 57 (dk_at dksX2_isStep_0 13 rfl rfl)
theorem dX2_isStep_16 : decode cX2_isStep 16 = .ok (.ifCond .eq 7, 3) := dk_153 0 7 (dk_at dksX2_isStep_0 16 rfl rfl)
theorem dX2_isStep_19 : decode cX2_isStep 19 = .ok (.iconst 1, 1) := dk_4 (dk_at dksX2_isStep_0 19 rfl rfl)
theorem dX2_isStep_20 : decode cX2_isStep 20 = .ok (.goto 4, 3) := dk_167 0 4 (dk_at dksX2_isStep_0 20 rfl rfl)
theorem dX2_isStep_23 : decode cX2_isStep 23 = .ok (.iconst 0, 1) := dk_3 (dk_at dksX2_isStep_0 23 rfl rfl)
theorem dX2_isStep_24 : decode cX2_isStep 24 = .ok (.ireturn, 1) := dk_172 (dk_at dksX2_isStep_1 0 rfl rfl)
abbrev cX2_pointsWithin : ByteArray := prog_10_method_30_code
def yX2_pointsWithin : MethodName := ⟨RX2, "pointsWithin", "(I)I"⟩
def dkwX2_pointsWithin_1 : List UInt8 := [167, 0, 4, 3, 96, 61, 132, 3, 1, 167, 255, 229, 28, 172]
abbrev dktX2_pointsWithin_1 : List UInt8 := dkwX2_pointsWithin_1 ++ []
def dkwX2_pointsWithin_0 : List UInt8 := [3, 61, 3, 62, 29, 17, 1, 128, 162, 0, 26, 28, 42, 27, 29, 182, 0, 244, 153, 0, 7, 4]
abbrev dktX2_pointsWithin_0 : List UInt8 := dkwX2_pointsWithin_0 ++ dktX2_pointsWithin_1
theorem dksX2_pointsWithin_0 : cX2_pointsWithin.data.toList.drop 0 = dktX2_pointsWithin_0 := by decide +kernel
theorem dksX2_pointsWithin_1 : cX2_pointsWithin.data.toList.drop 22 = dktX2_pointsWithin_1 := dk_seg dksX2_pointsWithin_0 22 rfl rfl
theorem dX2_pointsWithin_0 : decode cX2_pointsWithin 0 = .ok (.iconst 0, 1) := dk_3 (dk_at dksX2_pointsWithin_0 0 rfl rfl)
theorem dX2_pointsWithin_1 : decode cX2_pointsWithin 1 = .ok (.istore_n 2, 1) := dk_61 (dk_at dksX2_pointsWithin_0 1 rfl rfl)
theorem dX2_pointsWithin_2 : decode cX2_pointsWithin 2 = .ok (.iconst 0, 1) := dk_3 (dk_at dksX2_pointsWithin_0 2 rfl rfl)
theorem dX2_pointsWithin_3 : decode cX2_pointsWithin 3 = .ok (.istore_n 3, 1) := dk_62 (dk_at dksX2_pointsWithin_0 3 rfl rfl)
theorem dX2_pointsWithin_4 : decode cX2_pointsWithin 4 = .ok (.iload_n 3, 1) := dk_29 (dk_at dksX2_pointsWithin_0 4 rfl rfl)
theorem dX2_pointsWithin_5 : decode cX2_pointsWithin 5 = .ok (.sipush 384, 3) := dk_17 1 128 (dk_at dksX2_pointsWithin_0 5 rfl rfl)
theorem dX2_pointsWithin_8 : decode cX2_pointsWithin 8 = .ok (.if_icmp .ge 26, 3) := dk_162 0 26 (dk_at dksX2_pointsWithin_0 8 rfl rfl)
theorem dX2_pointsWithin_11 : decode cX2_pointsWithin 11 = .ok (.iload_n 2, 1) := dk_28 (dk_at dksX2_pointsWithin_0 11 rfl rfl)
theorem dX2_pointsWithin_12 : decode cX2_pointsWithin 12 = .ok (.aload_n 0, 1) := dk_42 (dk_at dksX2_pointsWithin_0 12 rfl rfl)
theorem dX2_pointsWithin_13 : decode cX2_pointsWithin 13 = .ok (.iload_n 1, 1) := dk_27 (dk_at dksX2_pointsWithin_0 13 rfl rfl)
theorem dX2_pointsWithin_14 : decode cX2_pointsWithin 14 = .ok (.iload_n 3, 1) := dk_29 (dk_at dksX2_pointsWithin_0 14 rfl rfl)
theorem dX2_pointsWithin_15 : decode cX2_pointsWithin 15 = .ok (.invokevirtual 244, 3) := dk_182 0 244 (dk_at dksX2_pointsWithin_0 15 rfl rfl)
theorem dX2_pointsWithin_18 : decode cX2_pointsWithin 18 = .ok (.ifCond .eq 7, 3) := dk_153 0 7 (dk_at dksX2_pointsWithin_0 18 rfl rfl)
theorem dX2_pointsWithin_21 : decode cX2_pointsWithin 21 = .ok (.iconst 1, 1) := dk_4 (dk_at dksX2_pointsWithin_0 21 rfl rfl)
theorem dX2_pointsWithin_22 : decode cX2_pointsWithin 22 = .ok (.goto 4, 3) := dk_167 0 4 (dk_at dksX2_pointsWithin_1 0 rfl rfl)
theorem dX2_pointsWithin_25 : decode cX2_pointsWithin 25 = .ok (.iconst 0, 1) := dk_3 (dk_at dksX2_pointsWithin_1 3 rfl rfl)
theorem dX2_pointsWithin_26 : decode cX2_pointsWithin 26 = .ok (.iadd, 1) := dk_96 (dk_at dksX2_pointsWithin_1 4 rfl rfl)
theorem dX2_pointsWithin_27 : decode cX2_pointsWithin 27 = .ok (.istore_n 2, 1) := dk_61 (dk_at dksX2_pointsWithin_1 5 rfl rfl)
theorem dX2_pointsWithin_28 : decode cX2_pointsWithin 28 = .ok (.iinc 3 1, 3) := dk_132 3 1 (dk_at dksX2_pointsWithin_1 6 rfl rfl)
theorem dX2_pointsWithin_31 : decode cX2_pointsWithin 31 = .ok (.goto (-27), 3) := dk_167 255 229 (dk_at dksX2_pointsWithin_1 9 rfl rfl)
theorem dX2_pointsWithin_34 : decode cX2_pointsWithin 34 = .ok (.iload_n 2, 1) := dk_28 (dk_at dksX2_pointsWithin_1 12 rfl rfl)
theorem dX2_pointsWithin_35 : decode cX2_pointsWithin 35 = .ok (.ireturn, 1) := dk_172 (dk_at dksX2_pointsWithin_1 13 rfl rfl)
abbrev cX2_lineRound : ByteArray := prog_10_method_31_code
def yX2_lineRound : MethodName := ⟨RX2, "lineRound", "(I)I"⟩
def dkwX2_lineRound_4 : List UInt8 := [61, 132, 3, 1, 167, 255, 160, 28, 172]
abbrev dktX2_lineRound_4 : List UInt8 := dkwX2_lineRound_4 ++ []
def dkwX2_lineRound_3 : List UInt8 := [185, 0, 29, 2, 0, 192, 0, 33, 180, 0, 217, 3, 46, 182, 0, 244, 153, 0, 7, 29, 167, 0, 4, 28]
abbrev dktX2_lineRound_3 : List UInt8 := dkwX2_lineRound_3 ++ dktX2_lineRound_4
def dkwX2_lineRound_2 : List UInt8 := [4, 167, 0, 4, 3, 54, 4, 21, 4, 153, 0, 38, 28, 2, 159, 0, 29, 42, 28, 42, 180, 0, 12, 29]
abbrev dktX2_lineRound_2 : List UInt8 := dkwX2_lineRound_2 ++ dktX2_lineRound_3
def dkwX2_lineRound_1 : List UInt8 := [42, 180, 0, 12, 27, 185, 0, 29, 2, 0, 192, 0, 33, 180, 0, 217, 3, 46, 182, 0, 244, 153, 0, 7]
abbrev dktX2_lineRound_1 : List UInt8 := dkwX2_lineRound_1 ++ dktX2_lineRound_2
def dkwX2_lineRound_0 : List UInt8 := [2, 61, 3, 62, 29, 42, 180, 0, 12, 185, 0, 23, 1, 0, 162, 0, 89, 29, 27, 159, 0, 33, 42, 29]
abbrev dktX2_lineRound_0 : List UInt8 := dkwX2_lineRound_0 ++ dktX2_lineRound_1
theorem dksX2_lineRound_0 : cX2_lineRound.data.toList.drop 0 = dktX2_lineRound_0 := by decide +kernel
theorem dksX2_lineRound_1 : cX2_lineRound.data.toList.drop 24 = dktX2_lineRound_1 := dk_seg dksX2_lineRound_0 24 rfl rfl
theorem dksX2_lineRound_2 : cX2_lineRound.data.toList.drop 48 = dktX2_lineRound_2 := dk_seg dksX2_lineRound_1 24 rfl rfl
theorem dksX2_lineRound_3 : cX2_lineRound.data.toList.drop 72 = dktX2_lineRound_3 := dk_seg dksX2_lineRound_2 24 rfl rfl
theorem dksX2_lineRound_4 : cX2_lineRound.data.toList.drop 96 = dktX2_lineRound_4 := dk_seg dksX2_lineRound_3 24 rfl rfl
theorem dX2_lineRound_0 : decode cX2_lineRound 0 = .ok (.iconst (-1), 1) := dk_2 (dk_at dksX2_lineRound_0 0 rfl rfl)
theorem dX2_lineRound_1 : decode cX2_lineRound 1 = .ok (.istore_n 2, 1) := dk_61 (dk_at dksX2_lineRound_0 1 rfl rfl)
theorem dX2_lineRound_2 : decode cX2_lineRound 2 = .ok (.iconst 0, 1) := dk_3 (dk_at dksX2_lineRound_0 2 rfl rfl)
theorem dX2_lineRound_3 : decode cX2_lineRound 3 = .ok (.istore_n 3, 1) := dk_62 (dk_at dksX2_lineRound_0 3 rfl rfl)
theorem dX2_lineRound_4 : decode cX2_lineRound 4 = .ok (.iload_n 3, 1) := dk_29 (dk_at dksX2_lineRound_0 4 rfl rfl)
theorem dX2_lineRound_5 : decode cX2_lineRound 5 = .ok (.aload_n 0, 1) := dk_42 (dk_at dksX2_lineRound_0 5 rfl rfl)
theorem dX2_lineRound_6 : decode cX2_lineRound 6 = .ok (.getfield 12, 3) := dk_180 0 12 (dk_at dksX2_lineRound_0 6 rfl rfl)
theorem dX2_lineRound_9 : decode cX2_lineRound 9 = .ok (.invokeinterface 23 1, 5) := by decide +kernel
theorem dX2_lineRound_14 : decode cX2_lineRound 14 = .ok (.if_icmp .ge 89, 3) := dk_162 0 89 (dk_at dksX2_lineRound_0 14 rfl rfl)
theorem dX2_lineRound_17 : decode cX2_lineRound 17 = .ok (.iload_n 3, 1) := dk_29 (dk_at dksX2_lineRound_0 17 rfl rfl)
theorem dX2_lineRound_18 : decode cX2_lineRound 18 = .ok (.iload_n 1, 1) := dk_27 (dk_at dksX2_lineRound_0 18 rfl rfl)
theorem dX2_lineRound_19 : decode cX2_lineRound 19 = .ok (.if_icmp .eq 33, 3) := dk_159 0 33 (dk_at dksX2_lineRound_0 19 rfl rfl)
theorem dX2_lineRound_22 : decode cX2_lineRound 22 = .ok (.aload_n 0, 1) := dk_42 (dk_at dksX2_lineRound_0 22 rfl rfl)
theorem dX2_lineRound_23 : decode cX2_lineRound 23 = .ok (.iload_n 3, 1) := dk_29 (dk_at dksX2_lineRound_0 23 rfl rfl)
theorem dX2_lineRound_24 : decode cX2_lineRound 24 = .ok (.aload_n 0, 1) := dk_42 (dk_at dksX2_lineRound_1 0 rfl rfl)
theorem dX2_lineRound_25 : decode cX2_lineRound 25 = .ok (.getfield 12, 3) := dk_180 0 12 (dk_at dksX2_lineRound_1 1 rfl rfl)
theorem dX2_lineRound_28 : decode cX2_lineRound 28 = .ok (.iload_n 1, 1) := dk_27 (dk_at dksX2_lineRound_1 4 rfl rfl)
theorem dX2_lineRound_29 : decode cX2_lineRound 29 = .ok (.invokeinterface 29 2, 5) := by decide +kernel
theorem dX2_lineRound_34 : decode cX2_lineRound 34 = .ok (.checkcast 33, 3) := dk_192 0 33 (dk_at dksX2_lineRound_1 10 rfl rfl)
theorem dX2_lineRound_37 : decode cX2_lineRound 37 = .ok (.getfield 217, 3) := dk_180 0 217 (dk_at dksX2_lineRound_1 13 rfl rfl)
theorem dX2_lineRound_40 : decode cX2_lineRound 40 = .ok (.iconst 0, 1) := dk_3 (dk_at dksX2_lineRound_1 16 rfl rfl)
theorem dX2_lineRound_41 : decode cX2_lineRound 41 = .ok (.iaload, 1) := dk_46 (dk_at dksX2_lineRound_1 17 rfl rfl)
theorem dX2_lineRound_42 : decode cX2_lineRound 42 = .ok (.invokevirtual 244, 3) := dk_182 0 244 (dk_at dksX2_lineRound_1 18 rfl rfl)
theorem dX2_lineRound_45 : decode cX2_lineRound 45 = .ok (.ifCond .eq 7, 3) := dk_153 0 7 (dk_at dksX2_lineRound_1 21 rfl rfl)
theorem dX2_lineRound_48 : decode cX2_lineRound 48 = .ok (.iconst 1, 1) := dk_4 (dk_at dksX2_lineRound_2 0 rfl rfl)
theorem dX2_lineRound_49 : decode cX2_lineRound 49 = .ok (.goto 4, 3) := dk_167 0 4 (dk_at dksX2_lineRound_2 1 rfl rfl)
theorem dX2_lineRound_52 : decode cX2_lineRound 52 = .ok (.iconst 0, 1) := dk_3 (dk_at dksX2_lineRound_2 4 rfl rfl)
theorem dX2_lineRound_53 : decode cX2_lineRound 53 = .ok (.istore 4, 2) := dk_54 4 (dk_at dksX2_lineRound_2 5 rfl rfl)
theorem dX2_lineRound_55 : decode cX2_lineRound 55 = .ok (.iload 4, 2) := dk_21 4 (dk_at dksX2_lineRound_2 7 rfl rfl)
theorem dX2_lineRound_57 : decode cX2_lineRound 57 = .ok (.ifCond .eq 38, 3) := dk_153 0 38 (dk_at dksX2_lineRound_2 9 rfl rfl)
theorem dX2_lineRound_60 : decode cX2_lineRound 60 = .ok (.iload_n 2, 1) := dk_28 (dk_at dksX2_lineRound_2 12 rfl rfl)
theorem dX2_lineRound_61 : decode cX2_lineRound 61 = .ok (.iconst (-1), 1) := dk_2 (dk_at dksX2_lineRound_2 13 rfl rfl)
theorem dX2_lineRound_62 : decode cX2_lineRound 62 = .ok (.if_icmp .eq 29, 3) := dk_159 0 29 (dk_at dksX2_lineRound_2 14 rfl rfl)
theorem dX2_lineRound_65 : decode cX2_lineRound 65 = .ok (.aload_n 0, 1) := dk_42 (dk_at dksX2_lineRound_2 17 rfl rfl)
theorem dX2_lineRound_66 : decode cX2_lineRound 66 = .ok (.iload_n 2, 1) := dk_28 (dk_at dksX2_lineRound_2 18 rfl rfl)
theorem dX2_lineRound_67 : decode cX2_lineRound 67 = .ok (.aload_n 0, 1) := dk_42 (dk_at dksX2_lineRound_2 19 rfl rfl)
theorem dX2_lineRound_68 : decode cX2_lineRound 68 = .ok (.getfield 12, 3) := dk_180 0 12 (dk_at dksX2_lineRound_2 20 rfl rfl)
theorem dX2_lineRound_71 : decode cX2_lineRound 71 = .ok (.iload_n 3, 1) := dk_29 (dk_at dksX2_lineRound_2 23 rfl rfl)
theorem dX2_lineRound_72 : decode cX2_lineRound 72 = .ok (.invokeinterface 29 2, 5) := by decide +kernel
theorem dX2_lineRound_77 : decode cX2_lineRound 77 = .ok (.checkcast 33, 3) := dk_192 0 33 (dk_at dksX2_lineRound_3 5 rfl rfl)
theorem dX2_lineRound_80 : decode cX2_lineRound 80 = .ok (.getfield 217, 3) := dk_180 0 217 (dk_at dksX2_lineRound_3 8 rfl rfl)
theorem dX2_lineRound_83 : decode cX2_lineRound 83 = .ok (.iconst 0, 1) := dk_3 (dk_at dksX2_lineRound_3 11 rfl rfl)
theorem dX2_lineRound_84 : decode cX2_lineRound 84 = .ok (.iaload, 1) := dk_46 (dk_at dksX2_lineRound_3 12 rfl rfl)
theorem dX2_lineRound_85 : decode cX2_lineRound 85 = .ok (.invokevirtual 244, 3) := dk_182 0 244 (dk_at dksX2_lineRound_3 13 rfl rfl)
theorem dX2_lineRound_88 : decode cX2_lineRound 88 = .ok (.ifCond .eq 7, 3) := dk_153 0 7 (dk_at dksX2_lineRound_3 16 rfl rfl)
theorem dX2_lineRound_91 : decode cX2_lineRound 91 = .ok (.iload_n 3, 1) := dk_29 (dk_at dksX2_lineRound_3 19 rfl rfl)
theorem dX2_lineRound_92 : decode cX2_lineRound 92 = .ok (.goto 4, 3) := dk_167 0 4 (dk_at dksX2_lineRound_3 20 rfl rfl)
theorem dX2_lineRound_95 : decode cX2_lineRound 95 = .ok (.iload_n 2, 1) := dk_28 (dk_at dksX2_lineRound_3 23 rfl rfl)
theorem dX2_lineRound_96 : decode cX2_lineRound 96 = .ok (.istore_n 2, 1) := dk_61 (dk_at dksX2_lineRound_4 0 rfl rfl)
theorem dX2_lineRound_97 : decode cX2_lineRound 97 = .ok (.iinc 3 1, 3) := dk_132 3 1 (dk_at dksX2_lineRound_4 1 rfl rfl)
theorem dX2_lineRound_100 : decode cX2_lineRound 100 = .ok (.goto (-96), 3) := dk_167 255 160 (dk_at dksX2_lineRound_4 4 rfl rfl)
theorem dX2_lineRound_103 : decode cX2_lineRound 103 = .ok (.iload_n 2, 1) := dk_28 (dk_at dksX2_lineRound_4 7 rfl rfl)
theorem dX2_lineRound_104 : decode cX2_lineRound 104 = .ok (.ireturn, 1) := dk_172 (dk_at dksX2_lineRound_4 8 rfl rfl)
abbrev cX2_isSteady : ByteArray := prog_10_method_32_code
def yX2_isSteady : MethodName := ⟨RX2, "isSteady", "(I)Z"⟩
def dkwX2_isSteady_2 : List UInt8 := [160, 0, 7, 4, 167, 0, 4, 3, 172]
abbrev dktX2_isSteady_2 : List UInt8 := dkwX2_isSteady_2 ++ []
def dkwX2_isSteady_1 : List UInt8 := [180, 0, 165, 42, 180, 0, 12, 28, 185, 0, 29, 2, 0, 192, 0, 33, 180, 0, 165, 100, 184, 0, 250, 8]
abbrev dktX2_isSteady_1 : List UInt8 := dkwX2_isSteady_1 ++ dktX2_isSteady_2
def dkwX2_isSteady_0 : List UInt8 := [42, 27, 182, 0, 247, 61, 28, 2, 159, 0, 43, 42, 180, 0, 12, 27, 185, 0, 29, 2, 0, 192, 0, 33]
abbrev dktX2_isSteady_0 : List UInt8 := dkwX2_isSteady_0 ++ dktX2_isSteady_1
theorem dksX2_isSteady_0 : cX2_isSteady.data.toList.drop 0 = dktX2_isSteady_0 := by decide +kernel
theorem dksX2_isSteady_1 : cX2_isSteady.data.toList.drop 24 = dktX2_isSteady_1 := dk_seg dksX2_isSteady_0 24 rfl rfl
theorem dksX2_isSteady_2 : cX2_isSteady.data.toList.drop 48 = dktX2_isSteady_2 := dk_seg dksX2_isSteady_1 24 rfl rfl
theorem dX2_isSteady_0 : decode cX2_isSteady 0 = .ok (.aload_n 0, 1) := dk_42 (dk_at dksX2_isSteady_0 0 rfl rfl)
theorem dX2_isSteady_1 : decode cX2_isSteady 1 = .ok (.iload_n 1, 1) := dk_27 (dk_at dksX2_isSteady_0 1 rfl rfl)
theorem dX2_isSteady_2 : decode cX2_isSteady 2 = .ok (.invokevirtual 247, 3) := dk_182 0 247 (dk_at dksX2_isSteady_0 2 rfl rfl)
theorem dX2_isSteady_5 : decode cX2_isSteady 5 = .ok (.istore_n 2, 1) := dk_61 (dk_at dksX2_isSteady_0 5 rfl rfl)
theorem dX2_isSteady_6 : decode cX2_isSteady 6 = .ok (.iload_n 2, 1) := dk_28 (dk_at dksX2_isSteady_0 6 rfl rfl)
theorem dX2_isSteady_7 : decode cX2_isSteady 7 = .ok (.iconst (-1), 1) := dk_2 (dk_at dksX2_isSteady_0 7 rfl rfl)
theorem dX2_isSteady_8 : decode cX2_isSteady 8 = .ok (.if_icmp .eq 43, 3) := dk_159 0 43 (dk_at dksX2_isSteady_0 8 rfl rfl)
theorem dX2_isSteady_11 : decode cX2_isSteady 11 = .ok (.aload_n 0, 1) := dk_42 (dk_at dksX2_isSteady_0 11 rfl rfl)
theorem dX2_isSteady_12 : decode cX2_isSteady 12 = .ok (.getfield 12, 3) := dk_180 0 12 (dk_at dksX2_isSteady_0 12 rfl rfl)
theorem dX2_isSteady_15 : decode cX2_isSteady 15 = .ok (.iload_n 1, 1) := dk_27 (dk_at dksX2_isSteady_0 15 rfl rfl)
theorem dX2_isSteady_16 : decode cX2_isSteady 16 = .ok (.invokeinterface 29 2, 5) := by decide +kernel
theorem dX2_isSteady_21 : decode cX2_isSteady 21 = .ok (.checkcast 33, 3) := dk_192 0 33 (dk_at dksX2_isSteady_0 21 rfl rfl)
theorem dX2_isSteady_24 : decode cX2_isSteady 24 = .ok (.getfield 165, 3) := dk_180 0 165 (dk_at dksX2_isSteady_1 0 rfl rfl)
theorem dX2_isSteady_27 : decode cX2_isSteady 27 = .ok (.aload_n 0, 1) := dk_42 (dk_at dksX2_isSteady_1 3 rfl rfl)
theorem dX2_isSteady_28 : decode cX2_isSteady 28 = .ok (.getfield 12, 3) := dk_180 0 12 (dk_at dksX2_isSteady_1 4 rfl rfl)
theorem dX2_isSteady_31 : decode cX2_isSteady 31 = .ok (.iload_n 2, 1) := dk_28 (dk_at dksX2_isSteady_1 7 rfl rfl)
theorem dX2_isSteady_32 : decode cX2_isSteady 32 = .ok (.invokeinterface 29 2, 5) := by decide +kernel
theorem dX2_isSteady_37 : decode cX2_isSteady 37 = .ok (.checkcast 33, 3) := dk_192 0 33 (dk_at dksX2_isSteady_1 13 rfl rfl)
theorem dX2_isSteady_40 : decode cX2_isSteady 40 = .ok (.getfield 165, 3) := dk_180 0 165 (dk_at dksX2_isSteady_1 16 rfl rfl)
theorem dX2_isSteady_43 : decode cX2_isSteady 43 = .ok (.isub, 1) := dk_100 (dk_at dksX2_isSteady_1 19 rfl rfl)
theorem dX2_isSteady_44 : decode cX2_isSteady 44 = .ok (.invokestatic 250, 3) := dk_184 0 250 (dk_at dksX2_isSteady_1 20 rfl rfl)
theorem dX2_isSteady_47 : decode cX2_isSteady 47 = .ok (.iconst 5, 1) := dk_8 (dk_at dksX2_isSteady_1 23 rfl rfl)
theorem dX2_isSteady_48 : decode cX2_isSteady 48 = .ok (.if_icmp .ne 7, 3) := dk_160 0 7 (dk_at dksX2_isSteady_2 0 rfl rfl)
theorem dX2_isSteady_51 : decode cX2_isSteady 51 = .ok (.iconst 1, 1) := dk_4 (dk_at dksX2_isSteady_2 3 rfl rfl)
theorem dX2_isSteady_52 : decode cX2_isSteady 52 = .ok (.goto 4, 3) := dk_167 0 4 (dk_at dksX2_isSteady_2 4 rfl rfl)
theorem dX2_isSteady_55 : decode cX2_isSteady 55 = .ok (.iconst 0, 1) := dk_3 (dk_at dksX2_isSteady_2 7 rfl rfl)
theorem dX2_isSteady_56 : decode cX2_isSteady 56 = .ok (.ireturn, 1) := dk_172 (dk_at dksX2_isSteady_2 8 rfl rfl)
abbrev cX2_lineByLevel : ByteArray := prog_10_method_18_code
def yX2_lineByLevel : MethodName := ⟨RX2, "lineByLevel", "(I)I"⟩
def dkwX2_lineByLevel_2 : List UInt8 := [132, 2, 255, 167, 255, 220, 2, 172]
abbrev dktX2_lineByLevel_2 : List UInt8 := dkwX2_lineByLevel_2 ++ []
def dkwX2_lineByLevel_1 : List UInt8 := [45, 185, 0, 197, 1, 0, 192, 0, 169, 182, 0, 199, 54, 4, 28, 154, 0, 9, 21, 4, 16, 8, 112, 172]
abbrev dktX2_lineByLevel_1 : List UInt8 := dkwX2_lineByLevel_1 ++ dktX2_lineByLevel_2
def dkwX2_lineByLevel_0 : List UInt8 := [27, 61, 42, 182, 0, 178, 182, 0, 182, 185, 0, 186, 1, 0, 78, 45, 185, 0, 192, 1, 0, 153, 0, 33]
abbrev dktX2_lineByLevel_0 : List UInt8 := dkwX2_lineByLevel_0 ++ dktX2_lineByLevel_1
theorem dksX2_lineByLevel_0 : cX2_lineByLevel.data.toList.drop 0 = dktX2_lineByLevel_0 := by decide +kernel
theorem dksX2_lineByLevel_1 : cX2_lineByLevel.data.toList.drop 24 = dktX2_lineByLevel_1 := dk_seg dksX2_lineByLevel_0 24 rfl rfl
theorem dksX2_lineByLevel_2 : cX2_lineByLevel.data.toList.drop 48 = dktX2_lineByLevel_2 := dk_seg dksX2_lineByLevel_1 24 rfl rfl
theorem dX2_lineByLevel_0 : decode cX2_lineByLevel 0 = .ok (.iload_n 1, 1) := dk_27 (dk_at dksX2_lineByLevel_0 0 rfl rfl)
theorem dX2_lineByLevel_1 : decode cX2_lineByLevel 1 = .ok (.istore_n 2, 1) := dk_61 (dk_at dksX2_lineByLevel_0 1 rfl rfl)
theorem dX2_lineByLevel_2 : decode cX2_lineByLevel 2 = .ok (.aload_n 0, 1) := dk_42 (dk_at dksX2_lineByLevel_0 2 rfl rfl)
theorem dX2_lineByLevel_3 : decode cX2_lineByLevel 3 = .ok (.invokevirtual 178, 3) := dk_182 0 178 (dk_at dksX2_lineByLevel_0 3 rfl rfl)
theorem dX2_lineByLevel_6 : decode cX2_lineByLevel 6 = .ok (.invokevirtual 182, 3) := dk_182 0 182 (dk_at dksX2_lineByLevel_0 6 rfl rfl)
theorem dX2_lineByLevel_9 : decode cX2_lineByLevel 9 = .ok (.invokeinterface 186 1, 5) := by decide +kernel
theorem dX2_lineByLevel_14 : decode cX2_lineByLevel 14 = .ok (.astore_n 3, 1) := dk_78 (dk_at dksX2_lineByLevel_0 14 rfl rfl)
theorem dX2_lineByLevel_15 : decode cX2_lineByLevel 15 = .ok (.aload_n 3, 1) := dk_45 (dk_at dksX2_lineByLevel_0 15 rfl rfl)
theorem dX2_lineByLevel_16 : decode cX2_lineByLevel 16 = .ok (.invokeinterface 192 1, 5) := by decide +kernel
theorem dX2_lineByLevel_21 : decode cX2_lineByLevel 21 = .ok (.ifCond .eq 33, 3) := dk_153 0 33 (dk_at dksX2_lineByLevel_0 21 rfl rfl)
theorem dX2_lineByLevel_24 : decode cX2_lineByLevel 24 = .ok (.aload_n 3, 1) := dk_45 (dk_at dksX2_lineByLevel_1 0 rfl rfl)
theorem dX2_lineByLevel_25 : decode cX2_lineByLevel 25 = .ok (.invokeinterface 197 1, 5) := by decide +kernel
theorem dX2_lineByLevel_30 : decode cX2_lineByLevel 30 = .ok (.checkcast 169, 3) := dk_192 0 169 (dk_at dksX2_lineByLevel_1 6 rfl rfl)
theorem dX2_lineByLevel_33 : decode cX2_lineByLevel 33 = .ok (.invokevirtual 199, 3) := dk_182 0 199 (dk_at dksX2_lineByLevel_1 9 rfl rfl)
theorem dX2_lineByLevel_36 : decode cX2_lineByLevel 36 = .ok (.istore 4, 2) := dk_54 4 (dk_at dksX2_lineByLevel_1 12 rfl rfl)
theorem dX2_lineByLevel_38 : decode cX2_lineByLevel 38 = .ok (.iload_n 2, 1) := dk_28 (dk_at dksX2_lineByLevel_1 14 rfl rfl)
theorem dX2_lineByLevel_39 : decode cX2_lineByLevel 39 = .ok (.ifCond .ne 9, 3) := dk_154 0 9 (dk_at dksX2_lineByLevel_1 15 rfl rfl)
theorem dX2_lineByLevel_42 : decode cX2_lineByLevel 42 = .ok (.iload 4, 2) := dk_21 4 (dk_at dksX2_lineByLevel_1 18 rfl rfl)
theorem dX2_lineByLevel_44 : decode cX2_lineByLevel 44 = .ok (.bipush 8, 2) := dk_16 8 (dk_at dksX2_lineByLevel_1 20 rfl rfl)
theorem dX2_lineByLevel_46 : decode cX2_lineByLevel 46 = .ok (.irem, 1) := dk_112 (dk_at dksX2_lineByLevel_1 22 rfl rfl)
theorem dX2_lineByLevel_47 : decode cX2_lineByLevel 47 = .ok (.ireturn, 1) := dk_172 (dk_at dksX2_lineByLevel_1 23 rfl rfl)
theorem dX2_lineByLevel_48 : decode cX2_lineByLevel 48 = .ok (.iinc 2 (-1), 3) := dk_132 2 255 (dk_at dksX2_lineByLevel_2 0 rfl rfl)
theorem dX2_lineByLevel_51 : decode cX2_lineByLevel 51 = .ok (.goto (-36), 3) := dk_167 255 220 (dk_at dksX2_lineByLevel_2 3 rfl rfl)
theorem dX2_lineByLevel_54 : decode cX2_lineByLevel 54 = .ok (.iconst (-1), 1) := dk_2 (dk_at dksX2_lineByLevel_2 6 rfl rfl)
theorem dX2_lineByLevel_55 : decode cX2_lineByLevel 55 = .ok (.ireturn, 1) := dk_172 (dk_at dksX2_lineByLevel_2 7 rfl rfl)
theorem q80 : (Jvm.Cond.initialized "ContourLabels$State") ∈ lw_all := lw_g (lw_at lw_m1 2 rfl) rfl
theorem q136 : (Jvm.Cond.instantiable "ContourLabels$State" (2 : Nat)) ∈ lw_all := lw_g (lw_at lw_m1 58 rfl) rfl
theorem q138 : (Jvm.Cond.instanceMethod ({ cls := "ContourLabels$State", name := "<init>", desc := "()V" } : Jvm.MethodName)) ∈ lw_all := lw_g (lw_at lw_m1 60 rfl) rfl
theorem q139 : (Jvm.Cond.code ({ cls := "ContourLabels$State", name := "<init>", desc := "()V" } : Jvm.MethodName) prog_10_method_1_code (1 : Nat) (Option.none : Option Jvm.ClassFile.FieldType)) ∈ lw_all := lw_g (lw_at lw_m1 61 rfl) rfl
theorem q140 : (Jvm.Cond.methodLink "ContourLabels$State" (3 : Nat) ({ cls := "java/lang/Object", name := "<init>", desc := "()V" } : Jvm.MethodName)) ∈ lw_all := lw_g (lw_at lw_m1 62 rfl) rfl
theorem q141 : (Jvm.Cond.classLink "ContourLabels$State" (9 : Nat) "java/util/ArrayList") ∈ lw_all := lw_g (lw_at lw_m1 63 rfl) rfl
theorem q143 : (Jvm.Cond.methodLink "ContourLabels$State" (11 : Nat) ({ cls := "java/util/ArrayList", name := "<init>", desc := "()V" } : Jvm.MethodName)) ∈ lw_all := lw_g (lw_at lw_m1 65 rfl) rfl
theorem q167 : (Jvm.Cond.fieldLink "ContourLabels$State" (12 : Nat) "ContourLabels$State" "lines" "Ljava/util/List;") ∈ lw_all := lw_g (lw_at lw_m1 89 rfl) rfl
theorem q170 : (Jvm.Cond.fieldLink "ContourLabels$State" (18 : Nat) "ContourLabels$State" "gap" "I") ∈ lw_all := lw_g (lw_at lw_m1 92 rfl) rfl
theorem q173 : (Jvm.Cond.laysFinal "ContourLabels$State" "ContourLabels$State" "lines" "Ljava/util/List;") ∈ lw_all := lw_g (lw_at lw_m1 95 rfl) rfl
theorem q174 : (Jvm.Cond.soleField "ContourLabels$State" "lines") ∈ lw_all := lw_g (lw_at lw_m1 96 rfl) rfl
theorem q175 : (Jvm.Cond.lays "ContourLabels$State" "ContourLabels$State" "gap" "I") ∈ lw_all := lw_g (lw_at lw_m1 97 rfl) rfl
theorem q176 : (Jvm.Cond.soleField "ContourLabels$State" "gap") ∈ lw_all := lw_g (lw_at lw_m1 98 rfl) rfl
theorem q177 : (Jvm.Cond.superclass "ContourLabels$State" "java/lang/Object") ∈ lw_all := lw_g (lw_at lw_m1 99 rfl) rfl
theorem q273 : (Jvm.Cond.instanceMethod ({ cls := "ContourLabels$State", name := "copy", desc := "()LContourLabels$State;" } : Jvm.MethodName)) ∈ lw_all := lw_g (lw_at lw_m1 195 rfl) rfl
theorem q274 : (Jvm.Cond.selects "ContourLabels$State" ({ cls := "ContourLabels$State", name := "copy", desc := "()LContourLabels$State;" } : Jvm.MethodName) ({ cls := "ContourLabels$State", name := "copy", desc := "()LContourLabels$State;" } : Jvm.MethodName)) ∈ lw_all := lw_g (lw_at lw_m1 196 rfl) rfl
theorem q275 : (Jvm.Cond.code ({ cls := "ContourLabels$State", name := "copy", desc := "()LContourLabels$State;" } : Jvm.MethodName) prog_10_method_2_code (3 : Nat) (Option.some (Jvm.ClassFile.FieldType.object "ContourLabels$State"))) ∈ lw_all := lw_g (lw_at lw_m1 197 rfl) rfl
theorem q276 : (Jvm.Cond.classLink "ContourLabels$State" (13 : Nat) "ContourLabels$State") ∈ lw_all := lw_g (lw_at lw_m1 198 rfl) rfl
theorem q277 : (Jvm.Cond.methodLink "ContourLabels$State" (22 : Nat) ({ cls := "ContourLabels$State", name := "<init>", desc := "()V" } : Jvm.MethodName)) ∈ lw_all := lw_g (lw_at lw_m1 199 rfl) rfl
theorem q278 : (Jvm.Cond.interfaceEntry "ContourLabels$State" (23 : Nat)) ∈ lw_tbl := lw_at lw_m1 200 rfl
theorem q279 : (Jvm.Cond.methodLink "ContourLabels$State" (23 : Nat) ({ cls := "java/util/List", name := "size", desc := "()I" } : Jvm.MethodName)) ∈ lw_all := lw_g (lw_at lw_m1 201 rfl) rfl
theorem q288 : (Jvm.Cond.interfaceEntry "ContourLabels$State" (29 : Nat)) ∈ lw_tbl := lw_at lw_m1 210 rfl
theorem q289 : (Jvm.Cond.methodLink "ContourLabels$State" (29 : Nat) ({ cls := "java/util/List", name := "get", desc := "(I)Ljava/lang/Object;" } : Jvm.MethodName)) ∈ lw_all := lw_g (lw_at lw_m1 211 rfl) rfl
theorem q307 : (Jvm.Cond.classLink "ContourLabels$State" (33 : Nat) "ContourLabels$Line") ∈ lw_all := lw_g (lw_at lw_m1 229 rfl) rfl
theorem q308 : (Jvm.Cond.methodLink "ContourLabels$State" (35 : Nat) ({ cls := "ContourLabels$Line", name := "copy", desc := "()LContourLabels$Line;" } : Jvm.MethodName)) ∈ lw_all := lw_g (lw_at lw_m1 230 rfl) rfl
theorem q334 : (Jvm.Cond.fieldLink "ContourLabels$State" (165 : Nat) "ContourLabels$Line" "level" "I") ∈ lw_all := lw_g (lw_at lw_m2 16 rfl) rfl
theorem q337 : (Jvm.Cond.fieldLinkNest "ContourLabels$State" (217 : Nat) "ContourLabels$Line" "points" "[I" "ContourLabels") ∈ lw_tbl := lw_at lw_m2 19 rfl
theorem q341 : (Jvm.Cond.fieldLinkNest "ContourLabels$State" (223 : Nat) "ContourLabels$Line" "steps" "[I" "ContourLabels") ∈ lw_tbl := lw_at lw_m2 23 rfl
theorem q345 : (Jvm.Cond.fieldLinkNest "ContourLabels$State" (121 : Nat) "ContourLabels$Line" "many" "I" "ContourLabels") ∈ lw_tbl := lw_at lw_m2 27 rfl
theorem q349 : (Jvm.Cond.fieldLink "ContourLabels$State" (106 : Nat) "ContourLabels$Line" "label" "I") ∈ lw_all := lw_g (lw_at lw_m2 31 rfl) rfl
theorem q364 : (Jvm.Cond.interfaceEntry "ContourLabels$State" (39 : Nat)) ∈ lw_tbl := lw_at lw_m2 46 rfl
theorem q365 : (Jvm.Cond.methodLink "ContourLabels$State" (39 : Nat) ({ cls := "java/util/List", name := "add", desc := "(Ljava/lang/Object;)Z" } : Jvm.MethodName)) ∈ lw_all := lw_g (lw_at lw_m2 47 rfl) rfl
theorem q407 : (Jvm.Cond.selects "ContourLabels$State" ({ cls := "java/lang/Object", name := "getClass", desc := "()Ljava/lang/Class;" } : Jvm.MethodName) ({ cls := "java/lang/Object", name := "getClass", desc := "()Ljava/lang/Class;" } : Jvm.MethodName)) ∈ lw_all := lw_g (lw_at lw_m2 89 rfl) rfl
theorem q526 : (Jvm.Cond.instanceMethod ({ cls := "ContourLabels$State", name := "labelAll", desc := "()I" } : Jvm.MethodName)) ∈ lw_all := lw_g (lw_at lw_m2 208 rfl) rfl
theorem q527 : (Jvm.Cond.selects "ContourLabels$State" ({ cls := "ContourLabels$State", name := "labelAll", desc := "()I" } : Jvm.MethodName) ({ cls := "ContourLabels$State", name := "labelAll", desc := "()I" } : Jvm.MethodName)) ∈ lw_all := lw_g (lw_at lw_m2 209 rfl) rfl
theorem q528 : (Jvm.Cond.code ({ cls := "ContourLabels$State", name := "labelAll", desc := "()I" } : Jvm.MethodName) prog_10_method_19_code (4 : Nat) (Option.some Jvm.ClassFile.FieldType.int)) ∈ lw_all := lw_g (lw_at lw_m2 210 rfl) rfl
theorem q529 : (Jvm.Cond.methodLink "ContourLabels$State" (178 : Nat) ({ cls := "ContourLabels$State", name := "byLevels", desc := "()Ljava/util/TreeMap;" } : Jvm.MethodName)) ∈ lw_all := lw_g (lw_at lw_m2 211 rfl) rfl
theorem q530 : (Jvm.Cond.privateMethod ({ cls := "ContourLabels$State", name := "byLevels", desc := "()Ljava/util/TreeMap;" } : Jvm.MethodName)) ∈ lw_tbl := lw_at lw_m2 212 rfl
theorem q531 : (Jvm.Cond.instanceMethod ({ cls := "ContourLabels$State", name := "byLevels", desc := "()Ljava/util/TreeMap;" } : Jvm.MethodName)) ∈ lw_all := lw_g (lw_at lw_m2 213 rfl) rfl
theorem q532 : (Jvm.Cond.code ({ cls := "ContourLabels$State", name := "byLevels", desc := "()Ljava/util/TreeMap;" } : Jvm.MethodName) prog_10_method_17_code (3 : Nat) (Option.some (Jvm.ClassFile.FieldType.object "java/util/TreeMap"))) ∈ lw_all := lw_g (lw_at lw_m2 214 rfl) rfl
theorem q533 : (Jvm.Cond.classLink "ContourLabels$State" (162 : Nat) "java/util/TreeMap") ∈ lw_all := lw_g (lw_at lw_m2 215 rfl) rfl
theorem q535 : (Jvm.Cond.methodLink "ContourLabels$State" (164 : Nat) ({ cls := "java/util/TreeMap", name := "<init>", desc := "()V" } : Jvm.MethodName)) ∈ lw_all := lw_g (lw_at lw_m2 217 rfl) rfl
theorem q567 : (Jvm.Cond.methodLink "ContourLabels$State" (168 : Nat) ({ cls := "java/lang/Integer", name := "valueOf", desc := "(I)Ljava/lang/Integer;" } : Jvm.MethodName)) ∈ lw_all := lw_g (lw_at lw_m3 9 rfl) rfl
theorem q587 : (Jvm.Cond.methodLink "ContourLabels$State" (174 : Nat) ({ cls := "java/util/TreeMap", name := "put", desc := "(Ljava/lang/Object;Ljava/lang/Object;)Ljava/lang/Object;" } : Jvm.MethodName)) ∈ lw_all := lw_g (lw_at lw_m3 29 rfl) rfl
theorem q906 : (Jvm.Cond.methodLink "ContourLabels$State" (182 : Nat) ({ cls := "java/util/TreeMap", name := "keySet", desc := "()Ljava/util/Set;" } : Jvm.MethodName)) ∈ lw_all := lw_g (lw_at lw_m4 108 rfl) rfl
theorem q927 : (Jvm.Cond.interfaceEntry "ContourLabels$State" (186 : Nat)) ∈ lw_tbl := lw_at lw_m4 129 rfl
theorem q928 : (Jvm.Cond.methodLink "ContourLabels$State" (186 : Nat) ({ cls := "java/util/Set", name := "iterator", desc := "()Ljava/util/Iterator;" } : Jvm.MethodName)) ∈ lw_all := lw_g (lw_at lw_m4 130 rfl) rfl
theorem q972 : (Jvm.Cond.interfaceEntry "ContourLabels$State" (192 : Nat)) ∈ lw_tbl := lw_at lw_m4 174 rfl
theorem q973 : (Jvm.Cond.methodLink "ContourLabels$State" (192 : Nat) ({ cls := "java/util/Iterator", name := "hasNext", desc := "()Z" } : Jvm.MethodName)) ∈ lw_all := lw_g (lw_at lw_m4 175 rfl) rfl
theorem q982 : (Jvm.Cond.interfaceEntry "ContourLabels$State" (197 : Nat)) ∈ lw_tbl := lw_at lw_m4 184 rfl
theorem q983 : (Jvm.Cond.methodLink "ContourLabels$State" (197 : Nat) ({ cls := "java/util/Iterator", name := "next", desc := "()Ljava/lang/Object;" } : Jvm.MethodName)) ∈ lw_all := lw_g (lw_at lw_m4 185 rfl) rfl
theorem q1000 : (Jvm.Cond.classLink "ContourLabels$State" (169 : Nat) "java/lang/Integer") ∈ lw_all := lw_g (lw_at lw_m4 202 rfl) rfl
theorem q1001 : (Jvm.Cond.methodLink "ContourLabels$State" (199 : Nat) ({ cls := "java/lang/Integer", name := "intValue", desc := "()I" } : Jvm.MethodName)) ∈ lw_all := lw_g (lw_at lw_m4 203 rfl) rfl
theorem q1005 : (Jvm.Cond.methodLink "ContourLabels$State" (202 : Nat) ({ cls := "ContourLabels$State", name := "labelBest", desc := "(I)Z" } : Jvm.MethodName)) ∈ lw_all := lw_g (lw_at lw_m4 207 rfl) rfl
theorem q1006 : (Jvm.Cond.instanceMethod ({ cls := "ContourLabels$State", name := "labelBest", desc := "(I)Z" } : Jvm.MethodName)) ∈ lw_all := lw_g (lw_at lw_m4 208 rfl) rfl
theorem q1007 : (Jvm.Cond.selects "ContourLabels$State" ({ cls := "ContourLabels$State", name := "labelBest", desc := "(I)Z" } : Jvm.MethodName) ({ cls := "ContourLabels$State", name := "labelBest", desc := "(I)Z" } : Jvm.MethodName)) ∈ lw_all := lw_g (lw_at lw_m4 209 rfl) rfl
theorem q1008 : (Jvm.Cond.code ({ cls := "ContourLabels$State", name := "labelBest", desc := "(I)Z" } : Jvm.MethodName) prog_10_method_16_code (3 : Nat) (Option.some Jvm.ClassFile.FieldType.boolean)) ∈ lw_all := lw_g (lw_at lw_m4 210 rfl) rfl
theorem q1009 : (Jvm.Cond.methodLink "ContourLabels$State" (88 : Nat) ({ cls := "ContourLabels$State", name := "has", desc := "(I)Z" } : Jvm.MethodName)) ∈ lw_all := lw_g (lw_at lw_m4 211 rfl) rfl
theorem q1010 : (Jvm.Cond.instanceMethod ({ cls := "ContourLabels$State", name := "has", desc := "(I)Z" } : Jvm.MethodName)) ∈ lw_all := lw_g (lw_at lw_m4 212 rfl) rfl
theorem q1011 : (Jvm.Cond.selects "ContourLabels$State" ({ cls := "ContourLabels$State", name := "has", desc := "(I)Z" } : Jvm.MethodName) ({ cls := "ContourLabels$State", name := "has", desc := "(I)Z" } : Jvm.MethodName)) ∈ lw_all := lw_g (lw_at lw_m4 213 rfl) rfl
theorem q1012 : (Jvm.Cond.code ({ cls := "ContourLabels$State", name := "has", desc := "(I)Z" } : Jvm.MethodName) prog_10_method_3_code (2 : Nat) (Option.some Jvm.ClassFile.FieldType.boolean)) ∈ lw_all := lw_g (lw_at lw_m4 214 rfl) rfl
theorem q1013 : (Jvm.Cond.methodLink "ContourLabels$State" (157 : Nat) ({ cls := "ContourLabels$State", name := "bestPlace", desc := "(I)I" } : Jvm.MethodName)) ∈ lw_all := lw_g (lw_at lw_m4 215 rfl) rfl
theorem q1014 : (Jvm.Cond.instanceMethod ({ cls := "ContourLabels$State", name := "bestPlace", desc := "(I)I" } : Jvm.MethodName)) ∈ lw_all := lw_g (lw_at lw_m4 216 rfl) rfl
theorem q1015 : (Jvm.Cond.selects "ContourLabels$State" ({ cls := "ContourLabels$State", name := "bestPlace", desc := "(I)I" } : Jvm.MethodName) ({ cls := "ContourLabels$State", name := "bestPlace", desc := "(I)I" } : Jvm.MethodName)) ∈ lw_all := lw_g (lw_at lw_m4 217 rfl) rfl
theorem q1016 : (Jvm.Cond.code ({ cls := "ContourLabels$State", name := "bestPlace", desc := "(I)I" } : Jvm.MethodName) prog_10_method_13_code (4 : Nat) (Option.some Jvm.ClassFile.FieldType.int)) ∈ lw_all := lw_g (lw_at lw_m4 218 rfl) rfl
theorem q1017 : (Jvm.Cond.classLink "ContourLabels$State" (127 : Nat) "java/util/PriorityQueue") ∈ lw_all := lw_g (lw_at lw_m4 219 rfl) rfl
theorem q1019 : (Jvm.Cond.classLink "ContourLabels$State" (129 : Nat) "ContourLabels$BestFirst") ∈ lw_all := lw_g (lw_at lw_m4 221 rfl) rfl
theorem q1021 : (Jvm.Cond.methodLinkNest "ContourLabels$State" (131 : Nat) ({ cls := "ContourLabels$BestFirst", name := "<init>", desc := "()V" } : Jvm.MethodName) "ContourLabels") ∈ lw_tbl := lw_at lw_m4 223 rfl
theorem q1026 : (Jvm.Cond.methodLink "ContourLabels$State" (132 : Nat) ({ cls := "java/util/PriorityQueue", name := "<init>", desc := "(ILjava/util/Comparator;)V" } : Jvm.MethodName)) ∈ lw_all := lw_g (lw_at lw_m4 228 rfl) rfl
theorem q1068 : (Jvm.Cond.methodLink "ContourLabels$State" (124 : Nat) ({ cls := "ContourLabels$State", name := "whyNotLabelled", desc := "(II)I" } : Jvm.MethodName)) ∈ lw_all := lw_g (lw_at lw_m5 30 rfl) rfl
theorem q1069 : (Jvm.Cond.instanceMethod ({ cls := "ContourLabels$State", name := "whyNotLabelled", desc := "(II)I" } : Jvm.MethodName)) ∈ lw_all := lw_g (lw_at lw_m5 31 rfl) rfl
theorem q1070 : (Jvm.Cond.selects "ContourLabels$State" ({ cls := "ContourLabels$State", name := "whyNotLabelled", desc := "(II)I" } : Jvm.MethodName) ({ cls := "ContourLabels$State", name := "whyNotLabelled", desc := "(II)I" } : Jvm.MethodName)) ∈ lw_all := lw_g (lw_at lw_m5 32 rfl) rfl
theorem q1071 : (Jvm.Cond.code ({ cls := "ContourLabels$State", name := "whyNotLabelled", desc := "(II)I" } : Jvm.MethodName) prog_10_method_11_code (5 : Nat) (Option.some Jvm.ClassFile.FieldType.int)) ∈ lw_all := lw_g (lw_at lw_m5 33 rfl) rfl
theorem q1072 : (Jvm.Cond.classLink "ContourLabels$State" (68 : Nat) "ContourLabels$Reason") ∈ lw_all := lw_g (lw_at lw_m5 34 rfl) rfl
theorem q1074 : (Jvm.Cond.static ({ cls := "ContourLabels$State", name := "lambda$whyNotLabelled$5", desc := "(LContourLabels$Line;I)Z" } : Jvm.MethodName)) ∈ lw_all := lw_g (lw_at lw_m5 36 rfl) rfl
theorem q1075 : (Jvm.Cond.code ({ cls := "ContourLabels$State", name := "lambda$whyNotLabelled$5", desc := "(LContourLabels$Line;I)Z" } : Jvm.MethodName) prog_10_method_36_code (2 : Nat) (Option.some Jvm.ClassFile.FieldType.boolean)) ∈ lw_all := lw_g (lw_at lw_m5 37 rfl) rfl
theorem q1076 : (Jvm.Cond.methodLink "ContourLabels$State" (255 : Nat) ({ cls := "ContourLabels$Line", name := "hasPlace", desc := "(I)Z" } : Jvm.MethodName)) ∈ lw_all := lw_g (lw_at lw_m5 38 rfl) rfl
theorem q1104 : (Jvm.Cond.static ({ cls := "ContourLabels$State", name := "lambda$whyNotLabelled$6", desc := "(LContourLabels$Line;I)Z" } : Jvm.MethodName)) ∈ lw_all := lw_g (lw_at lw_m5 66 rfl) rfl
theorem q1105 : (Jvm.Cond.code ({ cls := "ContourLabels$State", name := "lambda$whyNotLabelled$6", desc := "(LContourLabels$Line;I)Z" } : Jvm.MethodName) prog_10_method_35_code (2 : Nat) (Option.some Jvm.ClassFile.FieldType.boolean)) ∈ lw_all := lw_g (lw_at lw_m5 67 rfl) rfl
theorem q1106 : (Jvm.Cond.methodLink "ContourLabels$State" (137 : Nat) ({ cls := "ContourLabels$Line", name := "bendOfPlace", desc := "(I)I" } : Jvm.MethodName)) ∈ lw_all := lw_g (lw_at lw_m5 68 rfl) rfl
theorem q1132 : (Jvm.Cond.static ({ cls := "ContourLabels$State", name := "lambda$whyNotLabelled$7", desc := "(LContourLabels$Line;I)Z" } : Jvm.MethodName)) ∈ lw_all := lw_g (lw_at lw_m5 94 rfl) rfl
theorem q1133 : (Jvm.Cond.code ({ cls := "ContourLabels$State", name := "lambda$whyNotLabelled$7", desc := "(LContourLabels$Line;I)Z" } : Jvm.MethodName) prog_10_method_34_code (2 : Nat) (Option.some Jvm.ClassFile.FieldType.boolean)) ∈ lw_all := lw_g (lw_at lw_m5 95 rfl) rfl
theorem q1134 : (Jvm.Cond.methodLink "ContourLabels$State" (252 : Nat) ({ cls := "ContourLabels$Line", name := "stands", desc := "(I)Z" } : Jvm.MethodName)) ∈ lw_all := lw_g (lw_at lw_m5 96 rfl) rfl
theorem q1155 : (Jvm.Cond.privateMethod ({ cls := "ContourLabels$State", name := "lambda$whyNotLabelled$8", desc := "(II)Z" } : Jvm.MethodName)) ∈ lw_tbl := lw_at lw_m5 117 rfl
theorem q1156 : (Jvm.Cond.instanceMethod ({ cls := "ContourLabels$State", name := "lambda$whyNotLabelled$8", desc := "(II)Z" } : Jvm.MethodName)) ∈ lw_all := lw_g (lw_at lw_m5 118 rfl) rfl
theorem q1157 : (Jvm.Cond.code ({ cls := "ContourLabels$State", name := "lambda$whyNotLabelled$8", desc := "(II)Z" } : Jvm.MethodName) prog_10_method_33_code (3 : Nat) (Option.some Jvm.ClassFile.FieldType.boolean)) ∈ lw_all := lw_g (lw_at lw_m5 119 rfl) rfl
theorem q1158 : (Jvm.Cond.methodLink "ContourLabels$State" (140 : Nat) ({ cls := "ContourLabels$State", name := "far", desc := "(II)I" } : Jvm.MethodName)) ∈ lw_all := lw_g (lw_at lw_m5 120 rfl) rfl
theorem q1159 : (Jvm.Cond.privateMethod ({ cls := "ContourLabels$State", name := "far", desc := "(II)I" } : Jvm.MethodName)) ∈ lw_tbl := lw_at lw_m5 121 rfl
theorem q1160 : (Jvm.Cond.instanceMethod ({ cls := "ContourLabels$State", name := "far", desc := "(II)I" } : Jvm.MethodName)) ∈ lw_all := lw_g (lw_at lw_m5 122 rfl) rfl
theorem q1161 : (Jvm.Cond.code ({ cls := "ContourLabels$State", name := "far", desc := "(II)I" } : Jvm.MethodName) prog_10_method_10_code (7 : Nat) (Option.some Jvm.ClassFile.FieldType.int)) ∈ lw_all := lw_g (lw_at lw_m5 123 rfl) rfl
theorem q1162 : (Jvm.Cond.methodLink "ContourLabels$State" (109 : Nat) ({ cls := "ContourLabels$Line", name := "far", desc := "(ILContourLabels$Line;)I" } : Jvm.MethodName)) ∈ lw_all := lw_g (lw_at lw_m5 124 rfl) rfl
theorem q1172 : (Jvm.Cond.methodLinkNest "ContourLabels$State" (84 : Nat) ({ cls := "ContourLabels", name := "first", desc := "([LContourLabels$Reason;)I" } : Jvm.MethodName) "ContourLabels") ∈ lw_tbl := lw_at lw_m5 134 rfl
theorem q1179 : (Jvm.Cond.classLink "ContourLabels$State" (135 : Nat) "ContourLabels$Candidate") ∈ lw_all := lw_g (lw_at lw_m5 141 rfl) rfl
theorem q1181 : (Jvm.Cond.methodLink "ContourLabels$State" (142 : Nat) ({ cls := "ContourLabels$Candidate", name := "<init>", desc := "(III)V" } : Jvm.MethodName)) ∈ lw_all := lw_g (lw_at lw_m5 143 rfl) rfl
theorem q1187 : (Jvm.Cond.fieldLink "ContourLabels$State" (154 : Nat) "ContourLabels$Candidate" "place" "I") ∈ lw_all := lw_g (lw_at lw_m5 149 rfl) rfl
theorem q1199 : (Jvm.Cond.methodLink "ContourLabels$State" (145 : Nat) ({ cls := "java/util/PriorityQueue", name := "add", desc := "(Ljava/lang/Object;)Z" } : Jvm.MethodName)) ∈ lw_all := lw_g (lw_at lw_m5 161 rfl) rfl
theorem q1228 : (Jvm.Cond.methodLink "ContourLabels$State" (146 : Nat) ({ cls := "java/util/PriorityQueue", name := "isEmpty", desc := "()Z" } : Jvm.MethodName)) ∈ lw_all := lw_g (lw_at lw_m5 190 rfl) rfl
theorem q1254 : (Jvm.Cond.methodLink "ContourLabels$State" (150 : Nat) ({ cls := "java/util/PriorityQueue", name := "peek", desc := "()Ljava/lang/Object;" } : Jvm.MethodName)) ∈ lw_all := lw_g (lw_at lw_m5 216 rfl) rfl
theorem q1258 : (Jvm.Cond.methodLink "ContourLabels$State" (160 : Nat) ({ cls := "ContourLabels$State", name := "label", desc := "(II)Z" } : Jvm.MethodName)) ∈ lw_all := lw_g (lw_at lw_m5 220 rfl) rfl
theorem q1259 : (Jvm.Cond.instanceMethod ({ cls := "ContourLabels$State", name := "label", desc := "(II)Z" } : Jvm.MethodName)) ∈ lw_all := lw_g (lw_at lw_m5 221 rfl) rfl
theorem q1260 : (Jvm.Cond.selects "ContourLabels$State" ({ cls := "ContourLabels$State", name := "label", desc := "(II)Z" } : Jvm.MethodName) ({ cls := "ContourLabels$State", name := "label", desc := "(II)Z" } : Jvm.MethodName)) ∈ lw_all := lw_g (lw_at lw_m5 222 rfl) rfl
theorem q1261 : (Jvm.Cond.code ({ cls := "ContourLabels$State", name := "label", desc := "(II)Z" } : Jvm.MethodName) prog_10_method_14_code (4 : Nat) (Option.some Jvm.ClassFile.FieldType.boolean)) ∈ lw_all := lw_g (lw_at lw_m5 223 rfl) rfl
theorem q1277 : (Jvm.Cond.instanceMethod ({ cls := "ContourLabels$State", name := "labels", desc := "()I" } : Jvm.MethodName)) ∈ lw_all := lw_g (lw_at lw_m5 239 rfl) rfl
theorem q1278 : (Jvm.Cond.selects "ContourLabels$State" ({ cls := "ContourLabels$State", name := "labels", desc := "()I" } : Jvm.MethodName) ({ cls := "ContourLabels$State", name := "labels", desc := "()I" } : Jvm.MethodName)) ∈ lw_all := lw_g (lw_at lw_m6 0 rfl) rfl
theorem q1279 : (Jvm.Cond.code ({ cls := "ContourLabels$State", name := "labels", desc := "()I" } : Jvm.MethodName) prog_10_method_20_code (3 : Nat) (Option.some Jvm.ClassFile.FieldType.int)) ∈ lw_all := lw_g (lw_at lw_m6 1 rfl) rfl
theorem q1285 : (Jvm.Cond.instanceMethod ({ cls := "ContourLabels$State", name := "tooNear", desc := "()I" } : Jvm.MethodName)) ∈ lw_all := lw_g (lw_at lw_m6 7 rfl) rfl
theorem q1286 : (Jvm.Cond.selects "ContourLabels$State" ({ cls := "ContourLabels$State", name := "tooNear", desc := "()I" } : Jvm.MethodName) ({ cls := "ContourLabels$State", name := "tooNear", desc := "()I" } : Jvm.MethodName)) ∈ lw_all := lw_g (lw_at lw_m6 8 rfl) rfl
theorem q1287 : (Jvm.Cond.code ({ cls := "ContourLabels$State", name := "tooNear", desc := "()I" } : Jvm.MethodName) prog_10_method_21_code (5 : Nat) (Option.some Jvm.ClassFile.FieldType.int)) ∈ lw_all := lw_g (lw_at lw_m6 9 rfl) rfl
theorem q1652 : (Jvm.Cond.instanceMethod ({ cls := "ContourLabels$State", name := "begin", desc := "(II)Z" } : Jvm.MethodName)) ∈ lw_all := lw_g (lw_at lw_m7 134 rfl) rfl
theorem q1653 : (Jvm.Cond.selects "ContourLabels$State" ({ cls := "ContourLabels$State", name := "begin", desc := "(II)Z" } : Jvm.MethodName) ({ cls := "ContourLabels$State", name := "begin", desc := "(II)Z" } : Jvm.MethodName)) ∈ lw_all := lw_g (lw_at lw_m7 135 rfl) rfl
theorem q1654 : (Jvm.Cond.code ({ cls := "ContourLabels$State", name := "begin", desc := "(II)Z" } : Jvm.MethodName) prog_10_method_8_code (4 : Nat) (Option.some Jvm.ClassFile.FieldType.boolean)) ∈ lw_all := lw_g (lw_at lw_m7 136 rfl) rfl
theorem q1655 : (Jvm.Cond.methodLink "ContourLabels$State" (96 : Nat) ({ cls := "ContourLabels$State", name := "lineAt", desc := "(I)I" } : Jvm.MethodName)) ∈ lw_all := lw_g (lw_at lw_m7 137 rfl) rfl
theorem q1656 : (Jvm.Cond.instanceMethod ({ cls := "ContourLabels$State", name := "lineAt", desc := "(I)I" } : Jvm.MethodName)) ∈ lw_all := lw_g (lw_at lw_m7 138 rfl) rfl
theorem q1657 : (Jvm.Cond.selects "ContourLabels$State" ({ cls := "ContourLabels$State", name := "lineAt", desc := "(I)I" } : Jvm.MethodName) ({ cls := "ContourLabels$State", name := "lineAt", desc := "(I)I" } : Jvm.MethodName)) ∈ lw_all := lw_g (lw_at lw_m7 139 rfl) rfl
theorem q1658 : (Jvm.Cond.code ({ cls := "ContourLabels$State", name := "lineAt", desc := "(I)I" } : Jvm.MethodName) prog_10_method_4_code (3 : Nat) (Option.some Jvm.ClassFile.FieldType.int)) ∈ lw_all := lw_g (lw_at lw_m7 140 rfl) rfl
theorem q1659 : (Jvm.Cond.methodLink "ContourLabels$State" (43 : Nat) ({ cls := "ContourLabels$Line", name := "has", desc := "(I)Z" } : Jvm.MethodName)) ∈ lw_all := lw_g (lw_at lw_m7 141 rfl) rfl
theorem q1663 : (Jvm.Cond.methodLink "ContourLabels$State" (100 : Nat) ({ cls := "ContourLabels$Line", name := "<init>", desc := "(II)V" } : Jvm.MethodName)) ∈ lw_all := lw_g (lw_at lw_m7 145 rfl) rfl
theorem q1675 : (Jvm.Cond.instanceMethod ({ cls := "ContourLabels$State", name := "step", desc := "(II)Z" } : Jvm.MethodName)) ∈ lw_all := lw_g (lw_at lw_m7 157 rfl) rfl
theorem q1676 : (Jvm.Cond.selects "ContourLabels$State" ({ cls := "ContourLabels$State", name := "step", desc := "(II)Z" } : Jvm.MethodName) ({ cls := "ContourLabels$State", name := "step", desc := "(II)Z" } : Jvm.MethodName)) ∈ lw_all := lw_g (lw_at lw_m7 158 rfl) rfl
theorem q1677 : (Jvm.Cond.code ({ cls := "ContourLabels$State", name := "step", desc := "(II)Z" } : Jvm.MethodName) prog_10_method_7_code (4 : Nat) (Option.some Jvm.ClassFile.FieldType.boolean)) ∈ lw_all := lw_g (lw_at lw_m7 159 rfl) rfl
theorem q1678 : (Jvm.Cond.methodLink "ContourLabels$State" (89 : Nat) ({ cls := "ContourLabels$State", name := "whyNotStepped", desc := "(II)I" } : Jvm.MethodName)) ∈ lw_all := lw_g (lw_at lw_m7 160 rfl) rfl
theorem q1679 : (Jvm.Cond.instanceMethod ({ cls := "ContourLabels$State", name := "whyNotStepped", desc := "(II)I" } : Jvm.MethodName)) ∈ lw_all := lw_g (lw_at lw_m7 161 rfl) rfl
theorem q1680 : (Jvm.Cond.selects "ContourLabels$State" ({ cls := "ContourLabels$State", name := "whyNotStepped", desc := "(II)I" } : Jvm.MethodName) ({ cls := "ContourLabels$State", name := "whyNotStepped", desc := "(II)I" } : Jvm.MethodName)) ∈ lw_all := lw_g (lw_at lw_m7 162 rfl) rfl
theorem q1681 : (Jvm.Cond.code ({ cls := "ContourLabels$State", name := "whyNotStepped", desc := "(II)I" } : Jvm.MethodName) prog_10_method_6_code (6 : Nat) (Option.some Jvm.ClassFile.FieldType.int)) ∈ lw_all := lw_g (lw_at lw_m7 163 rfl) rfl
theorem q1682 : (Jvm.Cond.methodLink "ContourLabels$State" (61 : Nat) ({ cls := "ContourLabels$Line", name := "end", desc := "()I" } : Jvm.MethodName)) ∈ lw_all := lw_g (lw_at lw_m7 164 rfl) rfl
theorem q1686 : (Jvm.Cond.methodLinkNest "ContourLabels$State" (64 : Nat) ({ cls := "ContourLabels", name := "next", desc := "(II)I" } : Jvm.MethodName) "ContourLabels") ∈ lw_tbl := lw_at lw_m7 168 rfl
theorem q1693 : (Jvm.Cond.static ({ cls := "ContourLabels$State", name := "lambda$whyNotStepped$0", desc := "(LContourLabels$Line;)Z" } : Jvm.MethodName)) ∈ lw_all := lw_g (lw_at lw_m7 175 rfl) rfl
theorem q1694 : (Jvm.Cond.code ({ cls := "ContourLabels$State", name := "lambda$whyNotStepped$0", desc := "(LContourLabels$Line;)Z" } : Jvm.MethodName) prog_10_method_41_code (1 : Nat) (Option.some Jvm.ClassFile.FieldType.boolean)) ∈ lw_all := lw_g (lw_at lw_m7 176 rfl) rfl
theorem q1695 : (Jvm.Cond.methodLink "ContourLabels$State" (205 : Nat) ({ cls := "ContourLabels$Line", name := "isClosed", desc := "()Z" } : Jvm.MethodName)) ∈ lw_all := lw_g (lw_at lw_m7 177 rfl) rfl
theorem q1700 : (Jvm.Cond.static ({ cls := "ContourLabels$State", name := "lambda$whyNotStepped$1", desc := "(LContourLabels$Line;)Z" } : Jvm.MethodName)) ∈ lw_all := lw_g (lw_at lw_m7 182 rfl) rfl
theorem q1701 : (Jvm.Cond.code ({ cls := "ContourLabels$State", name := "lambda$whyNotStepped$1", desc := "(LContourLabels$Line;)Z" } : Jvm.MethodName) prog_10_method_40_code (1 : Nat) (Option.some Jvm.ClassFile.FieldType.boolean)) ∈ lw_all := lw_g (lw_at lw_m7 183 rfl) rfl
theorem q1702 : (Jvm.Cond.static ({ cls := "ContourLabels$State", name := "lambda$whyNotStepped$2", desc := "(I)Z" } : Jvm.MethodName)) ∈ lw_all := lw_g (lw_at lw_m7 184 rfl) rfl
theorem q1703 : (Jvm.Cond.code ({ cls := "ContourLabels$State", name := "lambda$whyNotStepped$2", desc := "(I)Z" } : Jvm.MethodName) prog_10_method_39_code (1 : Nat) (Option.some Jvm.ClassFile.FieldType.boolean)) ∈ lw_all := lw_g (lw_at lw_m7 185 rfl) rfl
theorem q1704 : (Jvm.Cond.privateMethod ({ cls := "ContourLabels$State", name := "lambda$whyNotStepped$3", desc := "(ILContourLabels$Line;)Z" } : Jvm.MethodName)) ∈ lw_tbl := lw_at lw_m7 186 rfl
theorem q1705 : (Jvm.Cond.instanceMethod ({ cls := "ContourLabels$State", name := "lambda$whyNotStepped$3", desc := "(ILContourLabels$Line;)Z" } : Jvm.MethodName)) ∈ lw_all := lw_g (lw_at lw_m7 187 rfl) rfl
theorem q1706 : (Jvm.Cond.code ({ cls := "ContourLabels$State", name := "lambda$whyNotStepped$3", desc := "(ILContourLabels$Line;)Z" } : Jvm.MethodName) prog_10_method_38_code (3 : Nat) (Option.some Jvm.ClassFile.FieldType.boolean)) ∈ lw_all := lw_g (lw_at lw_m7 188 rfl) rfl
theorem q1707 : (Jvm.Cond.methodLink "ContourLabels$State" (261 : Nat) ({ cls := "ContourLabels$Line", name := "closesAt", desc := "(I)Z" } : Jvm.MethodName)) ∈ lw_all := lw_g (lw_at lw_m7 189 rfl) rfl
theorem q1711 : (Jvm.Cond.privateMethod ({ cls := "ContourLabels$State", name := "lambda$whyNotStepped$4", desc := "(LContourLabels$Line;I)Z" } : Jvm.MethodName)) ∈ lw_tbl := lw_at lw_m7 193 rfl
theorem q1712 : (Jvm.Cond.instanceMethod ({ cls := "ContourLabels$State", name := "lambda$whyNotStepped$4", desc := "(LContourLabels$Line;I)Z" } : Jvm.MethodName)) ∈ lw_all := lw_g (lw_at lw_m7 194 rfl) rfl
theorem q1713 : (Jvm.Cond.code ({ cls := "ContourLabels$State", name := "lambda$whyNotStepped$4", desc := "(LContourLabels$Line;I)Z" } : Jvm.MethodName) prog_10_method_37_code (3 : Nat) (Option.some Jvm.ClassFile.FieldType.boolean)) ∈ lw_all := lw_g (lw_at lw_m7 195 rfl) rfl
theorem q1714 : (Jvm.Cond.methodLink "ContourLabels$State" (258 : Nat) ({ cls := "ContourLabels$State", name := "crosses", desc := "(II)Z" } : Jvm.MethodName)) ∈ lw_all := lw_g (lw_at lw_m7 196 rfl) rfl
theorem q1715 : (Jvm.Cond.privateMethod ({ cls := "ContourLabels$State", name := "crosses", desc := "(II)Z" } : Jvm.MethodName)) ∈ lw_tbl := lw_at lw_m7 197 rfl
theorem q1716 : (Jvm.Cond.instanceMethod ({ cls := "ContourLabels$State", name := "crosses", desc := "(II)Z" } : Jvm.MethodName)) ∈ lw_all := lw_g (lw_at lw_m7 198 rfl) rfl
theorem q1717 : (Jvm.Cond.code ({ cls := "ContourLabels$State", name := "crosses", desc := "(II)Z" } : Jvm.MethodName) prog_10_method_5_code (7 : Nat) (Option.some Jvm.ClassFile.FieldType.boolean)) ∈ lw_all := lw_g (lw_at lw_m7 199 rfl) rfl
theorem q1718 : (Jvm.Cond.fieldLinkNest "ContourLabels$State" (47 : Nat) "ContourLabels" "ACROSS" "[I" "ContourLabels") ∈ lw_tbl := lw_at lw_m7 200 rfl
theorem q1719 : (Jvm.Cond.fieldLinkNest "ContourLabels$State" (51 : Nat) "ContourLabels" "DOWN" "[I" "ContourLabels") ∈ lw_tbl := lw_at lw_m7 201 rfl
theorem q1720 : (Jvm.Cond.methodLinkNest "ContourLabels$State" (54 : Nat) ({ cls := "ContourLabels", name := "isSlanting", desc := "(I)Z" } : Jvm.MethodName) "ContourLabels") ∈ lw_tbl := lw_at lw_m7 202 rfl
theorem q1723 : (Jvm.Cond.methodLink "ContourLabels$State" (57 : Nat) ({ cls := "ContourLabels$Line", name := "hasStep", desc := "(II)Z" } : Jvm.MethodName)) ∈ lw_all := lw_g (lw_at lw_m7 205 rfl) rfl
theorem q1727 : (Jvm.Cond.methodLink "ContourLabels$State" (92 : Nat) ({ cls := "ContourLabels$Line", name := "step", desc := "(I)V" } : Jvm.MethodName)) ∈ lw_all := lw_g (lw_at lw_m7 209 rfl) rfl
theorem q1747 : (Jvm.Cond.instanceMethod ({ cls := "ContourLabels$State", name := "wipe", desc := "(I)Z" } : Jvm.MethodName)) ∈ lw_all := lw_g (lw_at lw_m7 229 rfl) rfl
theorem q1748 : (Jvm.Cond.selects "ContourLabels$State" ({ cls := "ContourLabels$State", name := "wipe", desc := "(I)Z" } : Jvm.MethodName) ({ cls := "ContourLabels$State", name := "wipe", desc := "(I)Z" } : Jvm.MethodName)) ∈ lw_all := lw_g (lw_at lw_m7 230 rfl) rfl
theorem q1749 : (Jvm.Cond.code ({ cls := "ContourLabels$State", name := "wipe", desc := "(I)Z" } : Jvm.MethodName) prog_10_method_9_code (3 : Nat) (Option.some Jvm.ClassFile.FieldType.boolean)) ∈ lw_all := lw_g (lw_at lw_m7 231 rfl) rfl
theorem q1750 : (Jvm.Cond.interfaceEntry "ContourLabels$State" (103 : Nat)) ∈ lw_tbl := lw_at lw_m7 232 rfl
theorem q1751 : (Jvm.Cond.methodLink "ContourLabels$State" (103 : Nat) ({ cls := "java/util/List", name := "remove", desc := "(I)Ljava/lang/Object;" } : Jvm.MethodName)) ∈ lw_all := lw_g (lw_at lw_m7 233 rfl) rfl
theorem q1778 : (Jvm.Cond.instanceMethod ({ cls := "ContourLabels$State", name := "unlabel", desc := "(I)Z" } : Jvm.MethodName)) ∈ lw_all := lw_g (lw_at lw_m8 20 rfl) rfl
theorem q1779 : (Jvm.Cond.selects "ContourLabels$State" ({ cls := "ContourLabels$State", name := "unlabel", desc := "(I)Z" } : Jvm.MethodName) ({ cls := "ContourLabels$State", name := "unlabel", desc := "(I)Z" } : Jvm.MethodName)) ∈ lw_all := lw_g (lw_at lw_m8 21 rfl) rfl
theorem q1780 : (Jvm.Cond.code ({ cls := "ContourLabels$State", name := "unlabel", desc := "(I)Z" } : Jvm.MethodName) prog_10_method_15_code (3 : Nat) (Option.some Jvm.ClassFile.FieldType.boolean)) ∈ lw_all := lw_g (lw_at lw_m8 22 rfl) rfl
theorem q2061 : (Jvm.Cond.instanceMethod ({ cls := "ContourLabels$State", name := "placesOf", desc := "(I)I" } : Jvm.MethodName)) ∈ lw_all := lw_g (lw_at lw_m9 63 rfl) rfl
theorem q2062 : (Jvm.Cond.selects "ContourLabels$State" ({ cls := "ContourLabels$State", name := "placesOf", desc := "(I)I" } : Jvm.MethodName) ({ cls := "ContourLabels$State", name := "placesOf", desc := "(I)I" } : Jvm.MethodName)) ∈ lw_all := lw_g (lw_at lw_m9 64 rfl) rfl
theorem q2063 : (Jvm.Cond.code ({ cls := "ContourLabels$State", name := "placesOf", desc := "(I)I" } : Jvm.MethodName) prog_10_method_12_code (4 : Nat) (Option.some Jvm.ClassFile.FieldType.int)) ∈ lw_all := lw_g (lw_at lw_m9 65 rfl) rfl
theorem q2079 : (Jvm.Cond.instanceMethod ({ cls := "ContourLabels$State", name := "isWithin", desc := "(II)Z" } : Jvm.MethodName)) ∈ lw_all := lw_g (lw_at lw_m9 81 rfl) rfl
theorem q2080 : (Jvm.Cond.selects "ContourLabels$State" ({ cls := "ContourLabels$State", name := "isWithin", desc := "(II)Z" } : Jvm.MethodName) ({ cls := "ContourLabels$State", name := "isWithin", desc := "(II)Z" } : Jvm.MethodName)) ∈ lw_all := lw_g (lw_at lw_m9 82 rfl) rfl
theorem q2081 : (Jvm.Cond.code ({ cls := "ContourLabels$State", name := "isWithin", desc := "(II)Z" } : Jvm.MethodName) prog_10_method_22_code (4 : Nat) (Option.some Jvm.ClassFile.FieldType.boolean)) ∈ lw_all := lw_g (lw_at lw_m9 83 rfl) rfl
theorem q2082 : (Jvm.Cond.methodLink "ContourLabels$State" (208 : Nat) ({ cls := "ContourLabels$Line", name := "isRound", desc := "(I)Z" } : Jvm.MethodName)) ∈ lw_all := lw_g (lw_at lw_m9 84 rfl) rfl
theorem q2094 : (Jvm.Cond.instanceMethod ({ cls := "ContourLabels$State", name := "isWithinBySpreading", desc := "(II)Z" } : Jvm.MethodName)) ∈ lw_all := lw_g (lw_at lw_m9 96 rfl) rfl
theorem q2095 : (Jvm.Cond.selects "ContourLabels$State" ({ cls := "ContourLabels$State", name := "isWithinBySpreading", desc := "(II)Z" } : Jvm.MethodName) ({ cls := "ContourLabels$State", name := "isWithinBySpreading", desc := "(II)Z" } : Jvm.MethodName)) ∈ lw_all := lw_g (lw_at lw_m9 97 rfl) rfl
theorem q2096 : (Jvm.Cond.code ({ cls := "ContourLabels$State", name := "isWithinBySpreading", desc := "(II)Z" } : Jvm.MethodName) prog_10_method_29_code (4 : Nat) (Option.some Jvm.ClassFile.FieldType.boolean)) ∈ lw_all := lw_g (lw_at lw_m9 98 rfl) rfl
theorem q2097 : (Jvm.Cond.methodLink "ContourLabels$State" (241 : Nat) ({ cls := "ContourLabels$State", name := "outside", desc := "(LContourLabels$Line;)[I" } : Jvm.MethodName)) ∈ lw_all := lw_g (lw_at lw_m9 99 rfl) rfl
theorem q2098 : (Jvm.Cond.static ({ cls := "ContourLabels$State", name := "outside", desc := "(LContourLabels$Line;)[I" } : Jvm.MethodName)) ∈ lw_all := lw_g (lw_at lw_m9 100 rfl) rfl
theorem q2099 : (Jvm.Cond.code ({ cls := "ContourLabels$State", name := "outside", desc := "(LContourLabels$Line;)[I" } : Jvm.MethodName) prog_10_method_25_code (12 : Nat) (Option.some (Jvm.ClassFile.FieldType.array Jvm.ClassFile.FieldType.int))) ∈ lw_all := lw_g (lw_at lw_m9 101 rfl) rfl
theorem q2100 : (Jvm.Cond.methodLink "ContourLabels$State" (226 : Nat) ({ cls := "ContourLabels$State", name := "fineMap", desc := "(LContourLabels$Line;)[I" } : Jvm.MethodName)) ∈ lw_all := lw_g (lw_at lw_m9 102 rfl) rfl
theorem q2101 : (Jvm.Cond.static ({ cls := "ContourLabels$State", name := "fineMap", desc := "(LContourLabels$Line;)[I" } : Jvm.MethodName)) ∈ lw_all := lw_g (lw_at lw_m9 103 rfl) rfl
theorem q2102 : (Jvm.Cond.code ({ cls := "ContourLabels$State", name := "fineMap", desc := "(LContourLabels$Line;)[I" } : Jvm.MethodName) prog_10_method_24_code (4 : Nat) (Option.some (Jvm.ClassFile.FieldType.array Jvm.ClassFile.FieldType.int))) ∈ lw_all := lw_g (lw_at lw_m9 104 rfl) rfl
theorem q2103 : (Jvm.Cond.methodLink "ContourLabels$State" (220 : Nat) ({ cls := "ContourLabels$State", name := "spot", desc := "(I)I" } : Jvm.MethodName)) ∈ lw_all := lw_g (lw_at lw_m9 105 rfl) rfl
theorem q2104 : (Jvm.Cond.static ({ cls := "ContourLabels$State", name := "spot", desc := "(I)I" } : Jvm.MethodName)) ∈ lw_all := lw_g (lw_at lw_m9 106 rfl) rfl
theorem q2105 : (Jvm.Cond.code ({ cls := "ContourLabels$State", name := "spot", desc := "(I)I" } : Jvm.MethodName) prog_10_method_23_code (1 : Nat) (Option.some Jvm.ClassFile.FieldType.int)) ∈ lw_all := lw_g (lw_at lw_m9 107 rfl) rfl
theorem q2106 : (Jvm.Cond.methodLinkNest "ContourLabels$State" (211 : Nat) ({ cls := "ContourLabels", name := "row", desc := "(I)I" } : Jvm.MethodName) "ContourLabels") ∈ lw_tbl := lw_at lw_m9 108 rfl
theorem q2107 : (Jvm.Cond.methodLinkNest "ContourLabels$State" (214 : Nat) ({ cls := "ContourLabels", name := "column", desc := "(I)I" } : Jvm.MethodName) "ContourLabels") ∈ lw_tbl := lw_at lw_m9 109 rfl
theorem q2108 : (Jvm.Cond.methodLink "ContourLabels$State" (230 : Nat) ({ cls := "ContourLabels$State", name := "isBarred", desc := "(LContourLabels$Line;III)Z" } : Jvm.MethodName)) ∈ lw_all := lw_g (lw_at lw_m9 110 rfl) rfl
theorem q2109 : (Jvm.Cond.static ({ cls := "ContourLabels$State", name := "isBarred", desc := "(LContourLabels$Line;III)Z" } : Jvm.MethodName)) ∈ lw_all := lw_g (lw_at lw_m9 111 rfl) rfl
theorem q2110 : (Jvm.Cond.code ({ cls := "ContourLabels$State", name := "isBarred", desc := "(LContourLabels$Line;III)Z" } : Jvm.MethodName) prog_10_method_28_code (8 : Nat) (Option.some Jvm.ClassFile.FieldType.boolean)) ∈ lw_all := lw_g (lw_at lw_m9 112 rfl) rfl
theorem q2111 : (Jvm.Cond.methodLink "ContourLabels$State" (234 : Nat) ({ cls := "ContourLabels$State", name := "pointAt", desc := "(II)I" } : Jvm.MethodName)) ∈ lw_all := lw_g (lw_at lw_m9 113 rfl) rfl
theorem q2112 : (Jvm.Cond.static ({ cls := "ContourLabels$State", name := "pointAt", desc := "(II)I" } : Jvm.MethodName)) ∈ lw_all := lw_g (lw_at lw_m9 114 rfl) rfl
theorem q2113 : (Jvm.Cond.code ({ cls := "ContourLabels$State", name := "pointAt", desc := "(II)I" } : Jvm.MethodName) prog_10_method_26_code (3 : Nat) (Option.some Jvm.ClassFile.FieldType.int)) ∈ lw_all := lw_g (lw_at lw_m9 115 rfl) rfl
theorem q2114 : (Jvm.Cond.methodLink "ContourLabels$State" (237 : Nat) ({ cls := "ContourLabels$State", name := "isStep", desc := "(LContourLabels$Line;II)Z" } : Jvm.MethodName)) ∈ lw_all := lw_g (lw_at lw_m9 116 rfl) rfl
theorem q2115 : (Jvm.Cond.static ({ cls := "ContourLabels$State", name := "isStep", desc := "(LContourLabels$Line;II)Z" } : Jvm.MethodName)) ∈ lw_all := lw_g (lw_at lw_m9 117 rfl) rfl
theorem q2116 : (Jvm.Cond.code ({ cls := "ContourLabels$State", name := "isStep", desc := "(LContourLabels$Line;II)Z" } : Jvm.MethodName) prog_10_method_27_code (3 : Nat) (Option.some Jvm.ClassFile.FieldType.boolean)) ∈ lw_all := lw_g (lw_at lw_m9 118 rfl) rfl
theorem q2125 : (Jvm.Cond.instanceMethod ({ cls := "ContourLabels$State", name := "pointsWithin", desc := "(I)I" } : Jvm.MethodName)) ∈ lw_all := lw_g (lw_at lw_m9 127 rfl) rfl
theorem q2126 : (Jvm.Cond.selects "ContourLabels$State" ({ cls := "ContourLabels$State", name := "pointsWithin", desc := "(I)I" } : Jvm.MethodName) ({ cls := "ContourLabels$State", name := "pointsWithin", desc := "(I)I" } : Jvm.MethodName)) ∈ lw_all := lw_g (lw_at lw_m9 128 rfl) rfl
theorem q2127 : (Jvm.Cond.code ({ cls := "ContourLabels$State", name := "pointsWithin", desc := "(I)I" } : Jvm.MethodName) prog_10_method_30_code (4 : Nat) (Option.some Jvm.ClassFile.FieldType.int)) ∈ lw_all := lw_g (lw_at lw_m9 129 rfl) rfl
theorem q2128 : (Jvm.Cond.methodLink "ContourLabels$State" (244 : Nat) ({ cls := "ContourLabels$State", name := "isWithin", desc := "(II)Z" } : Jvm.MethodName)) ∈ lw_all := lw_g (lw_at lw_m9 130 rfl) rfl
theorem q2137 : (Jvm.Cond.instanceMethod ({ cls := "ContourLabels$State", name := "lineRound", desc := "(I)I" } : Jvm.MethodName)) ∈ lw_all := lw_g (lw_at lw_m9 139 rfl) rfl
theorem q2138 : (Jvm.Cond.selects "ContourLabels$State" ({ cls := "ContourLabels$State", name := "lineRound", desc := "(I)I" } : Jvm.MethodName) ({ cls := "ContourLabels$State", name := "lineRound", desc := "(I)I" } : Jvm.MethodName)) ∈ lw_all := lw_g (lw_at lw_m9 140 rfl) rfl
theorem q2139 : (Jvm.Cond.code ({ cls := "ContourLabels$State", name := "lineRound", desc := "(I)I" } : Jvm.MethodName) prog_10_method_31_code (5 : Nat) (Option.some Jvm.ClassFile.FieldType.int)) ∈ lw_all := lw_g (lw_at lw_m9 141 rfl) rfl
theorem q2148 : (Jvm.Cond.instanceMethod ({ cls := "ContourLabels$State", name := "isSteady", desc := "(I)Z" } : Jvm.MethodName)) ∈ lw_all := lw_g (lw_at lw_m9 150 rfl) rfl
theorem q2149 : (Jvm.Cond.selects "ContourLabels$State" ({ cls := "ContourLabels$State", name := "isSteady", desc := "(I)Z" } : Jvm.MethodName) ({ cls := "ContourLabels$State", name := "isSteady", desc := "(I)Z" } : Jvm.MethodName)) ∈ lw_all := lw_g (lw_at lw_m9 151 rfl) rfl
theorem q2150 : (Jvm.Cond.code ({ cls := "ContourLabels$State", name := "isSteady", desc := "(I)Z" } : Jvm.MethodName) prog_10_method_32_code (3 : Nat) (Option.some Jvm.ClassFile.FieldType.boolean)) ∈ lw_all := lw_g (lw_at lw_m9 152 rfl) rfl
theorem q2151 : (Jvm.Cond.methodLink "ContourLabels$State" (247 : Nat) ({ cls := "ContourLabels$State", name := "lineRound", desc := "(I)I" } : Jvm.MethodName)) ∈ lw_all := lw_g (lw_at lw_m9 153 rfl) rfl
theorem q2152 : (Jvm.Cond.methodLinkNest "ContourLabels$State" (250 : Nat) ({ cls := "ContourLabels", name := "size", desc := "(I)I" } : Jvm.MethodName) "ContourLabels") ∈ lw_tbl := lw_at lw_m9 154 rfl
theorem q2161 : (Jvm.Cond.instanceMethod ({ cls := "ContourLabels$State", name := "lineByLevel", desc := "(I)I" } : Jvm.MethodName)) ∈ lw_all := lw_g (lw_at lw_m9 163 rfl) rfl
theorem q2162 : (Jvm.Cond.selects "ContourLabels$State" ({ cls := "ContourLabels$State", name := "lineByLevel", desc := "(I)I" } : Jvm.MethodName) ({ cls := "ContourLabels$State", name := "lineByLevel", desc := "(I)I" } : Jvm.MethodName)) ∈ lw_all := lw_g (lw_at lw_m9 164 rfl) rfl
theorem q2163 : (Jvm.Cond.code ({ cls := "ContourLabels$State", name := "lineByLevel", desc := "(I)I" } : Jvm.MethodName) prog_10_method_18_code (5 : Nat) (Option.some Jvm.ClassFile.FieldType.int)) ∈ lw_all := lw_g (lw_at lw_m9 165 rfl) rfl
theorem q2668 : (Jvm.Cond.castable "ContourLabels$State" "java/lang/Object") ∈ lw_tbl := lw_at lw_m11 190 rfl
theorem in_X2 : ∀ w ∈ wsX20, w ∈ lw_all := lw_in wsX20 [173, 175] (by decide +kernel) (by decide +kernel)

/-! ContourLabels$TextReader -/
set_option maxRecDepth 100000
def RX9 : String := "ContourLabels$TextReader"
def TX9 : u_T := fun k => match k with
  | 0 => ("ContourLabels$TextReader", "place", "I", false)
  | 1 => ("ContourLabels$TextReader", "isWrong", "Z", false)
  | 2 => ("ContourLabels$TextReader", "orders", "[LContourLabels$Order;", true)
  | 3 => ("ContourLabels$TextReader", "many", "I", false)
  | _ => ("ContourLabels$TextReader", "this$0", "LContourLabels;", true)
def tyX9 : Nat → FieldType := fun k => match k with
  | 0 => .int
  | 1 => .boolean
  | 2 => .array (.object "ContourLabels$Order")
  | 3 => .int
  | _ => .object "ContourLabels"
abbrev wsX90 : List Cond := u_ws RX9 TX9 5
theorem nmX9 : ∀ a, a < 5 → ∀ b, b < 5 → a ≠ b → (TX9 a).2.1 ≠ (TX9 b).2.1 := by decide +kernel
theorem tyX9_ok : ∀ k, k < 5 → parseFieldDescriptor (TX9 k).2.2.1 = some (tyX9 k) := by decide +kernel
abbrev cX9_init : ByteArray := prog_11_method_1_code
def yX9_init : MethodName := ⟨RX9, "<init>", "(LContourLabels;)V"⟩
def dkwX9_init_0 : List UInt8 := [42, 43, 181, 0, 3, 42, 183, 0, 9, 42, 16, 60, 189, 0, 15, 181, 0, 17, 177]
abbrev dktX9_init_0 : List UInt8 := dkwX9_init_0 ++ []
theorem dksX9_init_0 : cX9_init.data.toList.drop 0 = dktX9_init_0 := by decide +kernel
theorem dX9_init_0 : decode cX9_init 0 = .ok (.aload_n 0, 1) := dk_42 (dk_at dksX9_init_0 0 rfl rfl)
theorem dX9_init_1 : decode cX9_init 1 = .ok (.aload_n 1, 1) := dk_43 (dk_at dksX9_init_0 1 rfl rfl)
theorem dX9_init_2 : decode cX9_init 2 = .ok (.putfield 3, 3) := dk_181 0 3 (dk_at dksX9_init_0 2 rfl rfl)
theorem dX9_init_5 : decode cX9_init 5 = .ok (.aload_n 0, 1) := dk_42 (dk_at dksX9_init_0 5 rfl rfl)
theorem dX9_init_6 : decode cX9_init 6 = .ok (.invokespecial 9, 3) := dk_183 0 9 (dk_at dksX9_init_0 6 rfl rfl)
theorem dX9_init_9 : decode cX9_init 9 = .ok (.aload_n 0, 1) := dk_42 (dk_at dksX9_init_0 9 rfl rfl)
theorem dX9_init_10 : decode cX9_init 10 = .ok (.bipush 60, 2) := dk_16 60 (dk_at dksX9_init_0 10 rfl rfl)
theorem dX9_init_12 : decode cX9_init 12 = .ok (.anewarray 15, 3) := dk_189 0 15 (dk_at dksX9_init_0 12 rfl rfl)
theorem dX9_init_15 : decode cX9_init 15 = .ok (.putfield 17, 3) := dk_181 0 17 (dk_at dksX9_init_0 15 rfl rfl)
theorem dX9_init_18 : decode cX9_init 18 = .ok (.return_, 1) := dk_177 (dk_at dksX9_init_0 18 rfl rfl)
abbrev cX9_readAll : ByteArray := prog_11_method_2_code
def yX9_readAll : MethodName := ⟨RX9, "readAll", "()Z"⟩
def dkwX9_readAll_2 : List UInt8 := [167, 255, 215, 42, 180, 0, 24, 154, 0, 7, 4, 167, 0, 4, 3, 172]
abbrev dktX9_readAll_2 : List UInt8 := dkwX9_readAll_2 ++ []
def dkwX9_readAll_1 : List UInt8 := [182, 0, 36, 162, 0, 23, 42, 16, 59, 182, 0, 42, 42, 180, 0, 24, 154, 255, 222, 42, 182, 0, 21]
abbrev dktX9_readAll_1 : List UInt8 := dkwX9_readAll_1 ++ dktX9_readAll_2
def dkwX9_readAll_0 : List UInt8 := [42, 182, 0, 21, 42, 180, 0, 24, 154, 0, 40, 42, 180, 0, 28, 42, 180, 0, 3, 180, 0, 32]
abbrev dktX9_readAll_0 : List UInt8 := dkwX9_readAll_0 ++ dktX9_readAll_1
theorem dksX9_readAll_0 : cX9_readAll.data.toList.drop 0 = dktX9_readAll_0 := by decide +kernel
theorem dksX9_readAll_1 : cX9_readAll.data.toList.drop 22 = dktX9_readAll_1 := dk_seg dksX9_readAll_0 22 rfl rfl
theorem dksX9_readAll_2 : cX9_readAll.data.toList.drop 45 = dktX9_readAll_2 := dk_seg dksX9_readAll_1 23 rfl rfl
theorem dX9_readAll_0 : decode cX9_readAll 0 = .ok (.aload_n 0, 1) := dk_42 (dk_at dksX9_readAll_0 0 rfl rfl)
theorem dX9_readAll_1 : decode cX9_readAll 1 = .ok (.invokevirtual 21, 3) := dk_182 0 21 (dk_at dksX9_readAll_0 1 rfl rfl)
theorem dX9_readAll_4 : decode cX9_readAll 4 = .ok (.aload_n 0, 1) := dk_42 (dk_at dksX9_readAll_0 4 rfl rfl)
theorem dX9_readAll_5 : decode cX9_readAll 5 = .ok (.getfield 24, 3) := dk_180 0 24 (dk_at dksX9_readAll_0 5 rfl rfl)
theorem dX9_readAll_8 : decode cX9_readAll 8 = .ok (.ifCond .ne 40, 3) := dk_154 0 40 (dk_at dksX9_readAll_0 8 rfl rfl)
theorem dX9_readAll_11 : decode cX9_readAll 11 = .ok (.aload_n 0, 1) := dk_42 (dk_at dksX9_readAll_0 11 rfl rfl)
theorem dX9_readAll_12 : decode cX9_readAll 12 = .ok (.getfield 28, 3) := dk_180 0 28 (dk_at dksX9_readAll_0 12 rfl rfl)
theorem dX9_readAll_15 : decode cX9_readAll 15 = .ok (.aload_n 0, 1) := dk_42 (dk_at dksX9_readAll_0 15 rfl rfl)
theorem dX9_readAll_16 : decode cX9_readAll 16 = .ok (.getfield 3, 3) := dk_180 0 3 (dk_at dksX9_readAll_0 16 rfl rfl)
theorem dX9_readAll_19 : decode cX9_readAll 19 = .ok (.getfield 32, 3) := dk_180 0 32 (dk_at dksX9_readAll_0 19 rfl rfl)
theorem dX9_readAll_22 : decode cX9_readAll 22 = .ok (.invokevirtual 36, 3) := dk_182 0 36 (dk_at dksX9_readAll_1 0 rfl rfl)
theorem dX9_readAll_25 : decode cX9_readAll 25 = .ok (.if_icmp .ge 23, 3) := dk_162 0 23 (dk_at dksX9_readAll_1 3 rfl rfl)
theorem dX9_readAll_28 : decode cX9_readAll 28 = .ok (.aload_n 0, 1) := dk_42 (dk_at dksX9_readAll_1 6 rfl rfl)
theorem dX9_readAll_29 : decode cX9_readAll 29 = .ok (.bipush 59, 2) := dk_16 59 (dk_at dksX9_readAll_1 7 rfl rfl)
theorem dX9_readAll_31 : decode cX9_readAll 31 = .ok (.invokevirtual 42, 3) := dk_182 0 42 (dk_at dksX9_readAll_1 9 rfl rfl)
theorem dX9_readAll_34 : decode cX9_readAll 34 = .ok (.aload_n 0, 1) := dk_42 (dk_at dksX9_readAll_1 12 rfl rfl)
theorem dX9_readAll_35 : decode cX9_readAll 35 = .ok (.getfield 24, 3) := dk_180 0 24 (dk_at dksX9_readAll_1 13 rfl rfl)
theorem dX9_readAll_38 : decode cX9_readAll 38 = .ok (.ifCond .ne (-34), 3) := dk_154 255 222 (dk_at dksX9_readAll_1 16 rfl rfl)
theorem dX9_readAll_41 : decode cX9_readAll 41 = .ok (.aload_n 0, 1) := dk_42 (dk_at dksX9_readAll_1 19 rfl rfl)
theorem dX9_readAll_42 : decode cX9_readAll 42 = .ok (.invokevirtual 21, 3) := dk_182 0 21 (dk_at dksX9_readAll_1 20 rfl rfl)
theorem dX9_readAll_45 : decode cX9_readAll 45 = .ok (.goto (-41), 3) := dk_167 255 215 (dk_at dksX9_readAll_2 0 rfl rfl)
theorem dX9_readAll_48 : decode cX9_readAll 48 = .ok (.aload_n 0, 1) := dk_42 (dk_at dksX9_readAll_2 3 rfl rfl)
theorem dX9_readAll_49 : decode cX9_readAll 49 = .ok (.getfield 24, 3) := dk_180 0 24 (dk_at dksX9_readAll_2 4 rfl rfl)
theorem dX9_readAll_52 : decode cX9_readAll 52 = .ok (.ifCond .ne 7, 3) := dk_154 0 7 (dk_at dksX9_readAll_2 7 rfl rfl)
theorem dX9_readAll_55 : decode cX9_readAll 55 = .ok (.iconst 1, 1) := dk_4 (dk_at dksX9_readAll_2 10 rfl rfl)
theorem dX9_readAll_56 : decode cX9_readAll 56 = .ok (.goto 4, 3) := dk_167 0 4 (dk_at dksX9_readAll_2 11 rfl rfl)
theorem dX9_readAll_59 : decode cX9_readAll 59 = .ok (.iconst 0, 1) := dk_3 (dk_at dksX9_readAll_2 14 rfl rfl)
theorem dX9_readAll_60 : decode cX9_readAll 60 = .ok (.ireturn, 1) := dk_172 (dk_at dksX9_readAll_2 15 rfl rfl)
abbrev cX9_order : ByteArray := prog_11_method_7_code
def yX9_order : MethodName := ⟨RX9, "order", "()V"⟩
def dkwX9_order_9 : List UInt8 := [181, 0, 94, 177]
abbrev dktX9_order_9 : List UInt8 := dkwX9_order_9 ++ []
def dkwX9_order_8 : List UInt8 := [42, 180, 0, 24, 154, 0, 23, 42, 180, 0, 17, 42, 180, 0, 94, 44, 83, 42, 89, 180, 0, 94, 4, 96]
abbrev dktX9_order_8 : List UInt8 := dkwX9_order_8 ++ dktX9_order_9
def dkwX9_order_7 : List UInt8 := [77, 167, 0, 23, 42, 42, 4, 16, 6, 182, 0, 53, 182, 0, 91, 77, 167, 0, 8, 42, 4, 181, 0, 24]
abbrev dktX9_order_7 : List UInt8 := dkwX9_order_7 ++ dktX9_order_8
def dkwX9_order_6 : List UInt8 := [77, 167, 0, 47, 42, 42, 3, 16, 7, 182, 0, 53, 182, 0, 84, 77, 167, 0, 32, 186, 0, 87, 0, 0]
abbrev dktX9_order_6 : List UInt8 := dkwX9_order_6 ++ dktX9_order_7
def dkwX9_order_5 : List UInt8 := [3, 16, 7, 182, 0, 53, 182, 0, 78, 77, 167, 0, 62, 42, 42, 3, 16, 7, 182, 0, 53, 182, 0, 81]
abbrev dktX9_order_5 : List UInt8 := dkwX9_order_5 ++ dktX9_order_6
def dkwX9_order_4 : List UInt8 := [182, 0, 72, 77, 167, 0, 92, 42, 42, 3, 16, 7, 182, 0, 53, 182, 0, 75, 77, 167, 0, 77, 42, 42]
abbrev dktX9_order_4 : List UInt8 := dkwX9_order_4 ++ dktX9_order_5
def dkwX9_order_3 : List UInt8 := [42, 42, 16, 99, 182, 0, 65, 182, 0, 68, 77, 167, 0, 107, 42, 42, 3, 16, 7, 182, 0, 53]
abbrev dktX9_order_3 : List UInt8 := dkwX9_order_3 ++ dktX9_order_4
def dkwX9_order_2 : List UInt8 := [170, 0, 0, 0, 218, 0, 0, 0, 97, 0, 0, 0, 119, 0, 0, 0, 194, 0, 0, 0, 179, 0, 0, 0, 218, 0, 0, 0, 218, 0, 0, 0, 218, 0, 0, 0, 218, 0, 0, 0, 203, 0, 0, 0, 218, 0, 0, 0, 218, 0, 0, 0, 218, 0, 0, 0, 218, 0, 0, 0, 149, 0, 0, 0, 218, 0, 0, 0, 105, 0, 0, 0, 218, 0, 0, 0, 218, 0, 0, 0, 218, 0, 0, 0, 218, 0, 0, 0, 119, 0, 0, 0, 218, 0, 0, 0, 164, 0, 0, 0, 218, 0, 0, 0, 134]
abbrev dktX9_order_2 : List UInt8 := dkwX9_order_2 ++ dktX9_order_3
def dkwX9_order_1 : List UInt8 := [96, 181, 0, 28, 1, 77, 27]
abbrev dktX9_order_1 : List UInt8 := dkwX9_order_1 ++ dktX9_order_2
def dkwX9_order_0 : List UInt8 := [42, 182, 0, 50, 60, 42, 89, 180, 0, 28, 18, 57, 27, 182, 0, 59, 155, 0, 7, 4, 167, 0, 4, 3]
abbrev dktX9_order_0 : List UInt8 := dkwX9_order_0 ++ dktX9_order_1
theorem dksX9_order_0 : cX9_order.data.toList.drop 0 = dktX9_order_0 := by decide +kernel
theorem dksX9_order_1 : cX9_order.data.toList.drop 24 = dktX9_order_1 := dk_seg dksX9_order_0 24 rfl rfl
theorem dksX9_order_2 : cX9_order.data.toList.drop 31 = dktX9_order_2 := dk_seg dksX9_order_1 7 rfl rfl
theorem dksX9_order_3 : cX9_order.data.toList.drop 136 = dktX9_order_3 := dk_seg dksX9_order_2 105 rfl rfl
theorem dksX9_order_4 : cX9_order.data.toList.drop 158 = dktX9_order_4 := dk_seg dksX9_order_3 22 rfl rfl
theorem dksX9_order_5 : cX9_order.data.toList.drop 182 = dktX9_order_5 := dk_seg dksX9_order_4 24 rfl rfl
theorem dksX9_order_6 : cX9_order.data.toList.drop 206 = dktX9_order_6 := dk_seg dksX9_order_5 24 rfl rfl
theorem dksX9_order_7 : cX9_order.data.toList.drop 230 = dktX9_order_7 := dk_seg dksX9_order_6 24 rfl rfl
theorem dksX9_order_8 : cX9_order.data.toList.drop 254 = dktX9_order_8 := dk_seg dksX9_order_7 24 rfl rfl
theorem dksX9_order_9 : cX9_order.data.toList.drop 278 = dktX9_order_9 := dk_seg dksX9_order_8 24 rfl rfl
theorem dX9_order_0 : decode cX9_order 0 = .ok (.aload_n 0, 1) := dk_42 (dk_at dksX9_order_0 0 rfl rfl)
theorem dX9_order_1 : decode cX9_order 1 = .ok (.invokevirtual 50, 3) := dk_182 0 50 (dk_at dksX9_order_0 1 rfl rfl)
theorem dX9_order_4 : decode cX9_order 4 = .ok (.istore_n 1, 1) := dk_60 (dk_at dksX9_order_0 4 rfl rfl)
theorem dX9_order_5 : decode cX9_order 5 = .ok (.aload_n 0, 1) := dk_42 (dk_at dksX9_order_0 5 rfl rfl)
theorem dX9_order_6 : decode cX9_order 6 = .ok (.dup, 1) := dk_89 (dk_at dksX9_order_0 6 rfl rfl)
theorem dX9_order_7 : decode cX9_order 7 = .ok (.getfield 28, 3) := dk_180 0 28 (dk_at dksX9_order_0 7 rfl rfl)
theorem dX9_order_10 : decode cX9_order 10 = .ok (.ldc 57, 2) := dk_18 57 (dk_at dksX9_order_0 10 rfl rfl)
theorem dX9_order_12 : decode cX9_order 12 = .ok (.iload_n 1, 1) := dk_27 (dk_at dksX9_order_0 12 rfl rfl)
theorem dX9_order_13 : decode cX9_order 13 = .ok (.invokevirtual 59, 3) := dk_182 0 59 (dk_at dksX9_order_0 13 rfl rfl)
theorem dX9_order_16 : decode cX9_order 16 = .ok (.ifCond .lt 7, 3) := dk_155 0 7 (dk_at dksX9_order_0 16 rfl rfl)
theorem dX9_order_19 : decode cX9_order 19 = .ok (.iconst 1, 1) := dk_4 (dk_at dksX9_order_0 19 rfl rfl)
theorem dX9_order_20 : decode cX9_order 20 = .ok (.goto 4, 3) := dk_167 0 4 (dk_at dksX9_order_0 20 rfl rfl)
theorem dX9_order_23 : decode cX9_order 23 = .ok (.iconst 0, 1) := dk_3 (dk_at dksX9_order_0 23 rfl rfl)
theorem dX9_order_24 : decode cX9_order 24 = .ok (.iadd, 1) := dk_96 (dk_at dksX9_order_1 0 rfl rfl)
theorem dX9_order_25 : decode cX9_order 25 = .ok (.putfield 28, 3) := dk_181 0 28 (dk_at dksX9_order_1 1 rfl rfl)
theorem dX9_order_28 : decode cX9_order 28 = .ok (.aconst_null, 1) := dk_1 (dk_at dksX9_order_1 4 rfl rfl)
theorem dX9_order_29 : decode cX9_order 29 = .ok (.astore_n 2, 1) := dk_77 (dk_at dksX9_order_1 5 rfl rfl)
theorem dX9_order_30 : decode cX9_order 30 = .ok (.iload_n 1, 1) := dk_27 (dk_at dksX9_order_1 6 rfl rfl)
theorem dX9_order_31 : decode cX9_order 31 = .ok (.tableswitch 218 97 119 #[194, 179, 218, 218, 218, 218, 203, 218, 218, 218, 218, 149, 218, 105, 218, 218, 218, 218, 119, 218, 164, 218, 134], 105) := by decide +kernel
theorem dX9_order_136 : decode cX9_order 136 = .ok (.aload_n 0, 1) := dk_42 (dk_at dksX9_order_3 0 rfl rfl)
theorem dX9_order_137 : decode cX9_order 137 = .ok (.aload_n 0, 1) := dk_42 (dk_at dksX9_order_3 1 rfl rfl)
theorem dX9_order_138 : decode cX9_order 138 = .ok (.bipush 99, 2) := dk_16 99 (dk_at dksX9_order_3 2 rfl rfl)
theorem dX9_order_140 : decode cX9_order 140 = .ok (.invokevirtual 65, 3) := dk_182 0 65 (dk_at dksX9_order_3 4 rfl rfl)
theorem dX9_order_143 : decode cX9_order 143 = .ok (.invokevirtual 68, 3) := dk_182 0 68 (dk_at dksX9_order_3 7 rfl rfl)
theorem dX9_order_146 : decode cX9_order 146 = .ok (.astore_n 2, 1) := dk_77 (dk_at dksX9_order_3 10 rfl rfl)
theorem dX9_order_147 : decode cX9_order 147 = .ok (.goto 107, 3) := dk_167 0 107 (dk_at dksX9_order_3 11 rfl rfl)
theorem dX9_order_150 : decode cX9_order 150 = .ok (.aload_n 0, 1) := dk_42 (dk_at dksX9_order_3 14 rfl rfl)
theorem dX9_order_151 : decode cX9_order 151 = .ok (.aload_n 0, 1) := dk_42 (dk_at dksX9_order_3 15 rfl rfl)
theorem dX9_order_152 : decode cX9_order 152 = .ok (.iconst 0, 1) := dk_3 (dk_at dksX9_order_3 16 rfl rfl)
theorem dX9_order_153 : decode cX9_order 153 = .ok (.bipush 7, 2) := dk_16 7 (dk_at dksX9_order_3 17 rfl rfl)
theorem dX9_order_155 : decode cX9_order 155 = .ok (.invokevirtual 53, 3) := dk_182 0 53 (dk_at dksX9_order_3 19 rfl rfl)
theorem dX9_order_158 : decode cX9_order 158 = .ok (.invokevirtual 72, 3) := dk_182 0 72 (dk_at dksX9_order_4 0 rfl rfl)
theorem dX9_order_161 : decode cX9_order 161 = .ok (.astore_n 2, 1) := dk_77 (dk_at dksX9_order_4 3 rfl rfl)
theorem dX9_order_162 : decode cX9_order 162 = .ok (.goto 92, 3) := dk_167 0 92 (dk_at dksX9_order_4 4 rfl rfl)
theorem dX9_order_165 : decode cX9_order 165 = .ok (.aload_n 0, 1) := dk_42 (dk_at dksX9_order_4 7 rfl rfl)
theorem dX9_order_166 : decode cX9_order 166 = .ok (.aload_n 0, 1) := dk_42 (dk_at dksX9_order_4 8 rfl rfl)
theorem dX9_order_167 : decode cX9_order 167 = .ok (.iconst 0, 1) := dk_3 (dk_at dksX9_order_4 9 rfl rfl)
theorem dX9_order_168 : decode cX9_order 168 = .ok (.bipush 7, 2) := dk_16 7 (dk_at dksX9_order_4 10 rfl rfl)
theorem dX9_order_170 : decode cX9_order 170 = .ok (.invokevirtual 53, 3) := dk_182 0 53 (dk_at dksX9_order_4 12 rfl rfl)
theorem dX9_order_173 : decode cX9_order 173 = .ok (.invokevirtual 75, 3) := dk_182 0 75 (dk_at dksX9_order_4 15 rfl rfl)
theorem dX9_order_176 : decode cX9_order 176 = .ok (.astore_n 2, 1) := dk_77 (dk_at dksX9_order_4 18 rfl rfl)
theorem dX9_order_177 : decode cX9_order 177 = .ok (.goto 77, 3) := dk_167 0 77 (dk_at dksX9_order_4 19 rfl rfl)
theorem dX9_order_180 : decode cX9_order 180 = .ok (.aload_n 0, 1) := dk_42 (dk_at dksX9_order_4 22 rfl rfl)
theorem dX9_order_181 : decode cX9_order 181 = .ok (.aload_n 0, 1) := dk_42 (dk_at dksX9_order_4 23 rfl rfl)
theorem dX9_order_182 : decode cX9_order 182 = .ok (.iconst 0, 1) := dk_3 (dk_at dksX9_order_5 0 rfl rfl)
theorem dX9_order_183 : decode cX9_order 183 = .ok (.bipush 7, 2) := dk_16 7 (dk_at dksX9_order_5 1 rfl rfl)
theorem dX9_order_185 : decode cX9_order 185 = .ok (.invokevirtual 53, 3) := dk_182 0 53 (dk_at dksX9_order_5 3 rfl rfl)
theorem dX9_order_188 : decode cX9_order 188 = .ok (.invokevirtual 78, 3) := dk_182 0 78 (dk_at dksX9_order_5 6 rfl rfl)
theorem dX9_order_191 : decode cX9_order 191 = .ok (.astore_n 2, 1) := dk_77 (dk_at dksX9_order_5 9 rfl rfl)
theorem dX9_order_192 : decode cX9_order 192 = .ok (.goto 62, 3) := dk_167 0 62 (dk_at dksX9_order_5 10 rfl rfl)
theorem dX9_order_195 : decode cX9_order 195 = .ok (.aload_n 0, 1) := dk_42 (dk_at dksX9_order_5 13 rfl rfl)
theorem dX9_order_196 : decode cX9_order 196 = .ok (.aload_n 0, 1) := dk_42 (dk_at dksX9_order_5 14 rfl rfl)
theorem dX9_order_197 : decode cX9_order 197 = .ok (.iconst 0, 1) := dk_3 (dk_at dksX9_order_5 15 rfl rfl)
theorem dX9_order_198 : decode cX9_order 198 = .ok (.bipush 7, 2) := dk_16 7 (dk_at dksX9_order_5 16 rfl rfl)
theorem dX9_order_200 : decode cX9_order 200 = .ok (.invokevirtual 53, 3) := dk_182 0 53 (dk_at dksX9_order_5 18 rfl rfl)
theorem dX9_order_203 : decode cX9_order 203 = .ok (.invokevirtual 81, 3) := dk_182 0 81 (dk_at dksX9_order_5 21 rfl rfl)
theorem dX9_order_206 : decode cX9_order 206 = .ok (.astore_n 2, 1) := dk_77 (dk_at dksX9_order_6 0 rfl rfl)
theorem dX9_order_207 : decode cX9_order 207 = .ok (.goto 47, 3) := dk_167 0 47 (dk_at dksX9_order_6 1 rfl rfl)
theorem dX9_order_210 : decode cX9_order 210 = .ok (.aload_n 0, 1) := dk_42 (dk_at dksX9_order_6 4 rfl rfl)
theorem dX9_order_211 : decode cX9_order 211 = .ok (.aload_n 0, 1) := dk_42 (dk_at dksX9_order_6 5 rfl rfl)
theorem dX9_order_212 : decode cX9_order 212 = .ok (.iconst 0, 1) := dk_3 (dk_at dksX9_order_6 6 rfl rfl)
theorem dX9_order_213 : decode cX9_order 213 = .ok (.bipush 7, 2) := dk_16 7 (dk_at dksX9_order_6 7 rfl rfl)
theorem dX9_order_215 : decode cX9_order 215 = .ok (.invokevirtual 53, 3) := dk_182 0 53 (dk_at dksX9_order_6 9 rfl rfl)
theorem dX9_order_218 : decode cX9_order 218 = .ok (.invokevirtual 84, 3) := dk_182 0 84 (dk_at dksX9_order_6 12 rfl rfl)
theorem dX9_order_221 : decode cX9_order 221 = .ok (.astore_n 2, 1) := dk_77 (dk_at dksX9_order_6 15 rfl rfl)
theorem dX9_order_222 : decode cX9_order 222 = .ok (.goto 32, 3) := dk_167 0 32 (dk_at dksX9_order_6 16 rfl rfl)
theorem dX9_order_225 : decode cX9_order 225 = .ok (.invokedynamic 87, 5) := by decide +kernel
theorem dX9_order_230 : decode cX9_order 230 = .ok (.astore_n 2, 1) := dk_77 (dk_at dksX9_order_7 0 rfl rfl)
theorem dX9_order_231 : decode cX9_order 231 = .ok (.goto 23, 3) := dk_167 0 23 (dk_at dksX9_order_7 1 rfl rfl)
theorem dX9_order_234 : decode cX9_order 234 = .ok (.aload_n 0, 1) := dk_42 (dk_at dksX9_order_7 4 rfl rfl)
theorem dX9_order_235 : decode cX9_order 235 = .ok (.aload_n 0, 1) := dk_42 (dk_at dksX9_order_7 5 rfl rfl)
theorem dX9_order_236 : decode cX9_order 236 = .ok (.iconst 1, 1) := dk_4 (dk_at dksX9_order_7 6 rfl rfl)
theorem dX9_order_237 : decode cX9_order 237 = .ok (.bipush 6, 2) := dk_16 6 (dk_at dksX9_order_7 7 rfl rfl)
theorem dX9_order_239 : decode cX9_order 239 = .ok (.invokevirtual 53, 3) := dk_182 0 53 (dk_at dksX9_order_7 9 rfl rfl)
theorem dX9_order_242 : decode cX9_order 242 = .ok (.invokevirtual 91, 3) := dk_182 0 91 (dk_at dksX9_order_7 12 rfl rfl)
theorem dX9_order_245 : decode cX9_order 245 = .ok (.astore_n 2, 1) := dk_77 (dk_at dksX9_order_7 15 rfl rfl)
theorem dX9_order_246 : decode cX9_order 246 = .ok (.goto 8, 3) := dk_167 0 8 (dk_at dksX9_order_7 16 rfl rfl)
theorem dX9_order_249 : decode cX9_order 249 = .ok (.aload_n 0, 1) := dk_42 (dk_at dksX9_order_7 19 rfl rfl)
theorem dX9_order_250 : decode cX9_order 250 = .ok (.iconst 1, 1) := dk_4 (dk_at dksX9_order_7 20 rfl rfl)
theorem dX9_order_251 : decode cX9_order 251 = .ok (.putfield 24, 3) := dk_181 0 24 (dk_at dksX9_order_7 21 rfl rfl)
theorem dX9_order_254 : decode cX9_order 254 = .ok (.aload_n 0, 1) := dk_42 (dk_at dksX9_order_8 0 rfl rfl)
theorem dX9_order_255 : decode cX9_order 255 = .ok (.getfield 24, 3) := dk_180 0 24 (dk_at dksX9_order_8 1 rfl rfl)
theorem dX9_order_258 : decode cX9_order 258 = .ok (.ifCond .ne 23, 3) := dk_154 0 23 (dk_at dksX9_order_8 4 rfl rfl)
theorem dX9_order_261 : decode cX9_order 261 = .ok (.aload_n 0, 1) := dk_42 (dk_at dksX9_order_8 7 rfl rfl)
theorem dX9_order_262 : decode cX9_order 262 = .ok (.getfield 17, 3) := dk_180 0 17 (dk_at dksX9_order_8 8 rfl rfl)
theorem dX9_order_265 : decode cX9_order 265 = .ok (.aload_n 0, 1) := dk_42 (dk_at dksX9_order_8 11 rfl rfl)
theorem dX9_order_266 : decode cX9_order 266 = .ok (.getfield 94, 3) := dk_180 0 94 (dk_at dksX9_order_8 12 rfl rfl)
theorem dX9_order_269 : decode cX9_order 269 = .ok (.aload_n 2, 1) := dk_44 (dk_at dksX9_order_8 15 rfl rfl)
theorem dX9_order_270 : decode cX9_order 270 = .ok (.aastore, 1) := dk_83 (dk_at dksX9_order_8 16 rfl rfl)
theorem dX9_order_271 : decode cX9_order 271 = .ok (.aload_n 0, 1) := dk_42 (dk_at dksX9_order_8 17 rfl rfl)
theorem dX9_order_272 : decode cX9_order 272 = .ok (.dup, 1) := dk_89 (dk_at dksX9_order_8 18 rfl rfl)
theorem dX9_order_273 : decode cX9_order 273 = .ok (.getfield 94, 3) := dk_180 0 94 (dk_at dksX9_order_8 19 rfl rfl)
theorem dX9_order_276 : decode cX9_order 276 = .ok (.iconst 1, 1) := dk_4 (dk_at dksX9_order_8 22 rfl rfl)
theorem dX9_order_277 : decode cX9_order 277 = .ok (.iadd, 1) := dk_96 (dk_at dksX9_order_8 23 rfl rfl)
theorem dX9_order_278 : decode cX9_order 278 = .ok (.putfield 94, 3) := dk_181 0 94 (dk_at dksX9_order_9 0 rfl rfl)
theorem dX9_order_281 : decode cX9_order 281 = .ok (.return_, 1) := dk_177 (dk_at dksX9_order_9 3 rfl rfl)
abbrev cX9_sign : ByteArray := prog_11_method_3_code
def yX9_sign : MethodName := ⟨RX9, "sign", "()C"⟩
def dkwX9_sign_1 : List UInt8 := [42, 180, 0, 28, 182, 0, 46, 167, 0, 5, 16, 32, 172]
abbrev dktX9_sign_1 : List UInt8 := dkwX9_sign_1 ++ []
def dkwX9_sign_0 : List UInt8 := [42, 180, 0, 28, 42, 180, 0, 3, 180, 0, 32, 182, 0, 36, 162, 0, 20, 42, 180, 0, 3, 180, 0, 32]
abbrev dktX9_sign_0 : List UInt8 := dkwX9_sign_0 ++ dktX9_sign_1
theorem dksX9_sign_0 : cX9_sign.data.toList.drop 0 = dktX9_sign_0 := by decide +kernel
theorem dksX9_sign_1 : cX9_sign.data.toList.drop 24 = dktX9_sign_1 := dk_seg dksX9_sign_0 24 rfl rfl
theorem dX9_sign_0 : decode cX9_sign 0 = .ok (.aload_n 0, 1) := dk_42 (dk_at dksX9_sign_0 0 rfl rfl)
theorem dX9_sign_1 : decode cX9_sign 1 = .ok (.getfield 28, 3) := dk_180 0 28 (dk_at dksX9_sign_0 1 rfl rfl)
theorem dX9_sign_4 : decode cX9_sign 4 = .ok (.aload_n 0, 1) := dk_42 (dk_at dksX9_sign_0 4 rfl rfl)
theorem dX9_sign_5 : decode cX9_sign 5 = .ok (.getfield 3, 3) := dk_180 0 3 (dk_at dksX9_sign_0 5 rfl rfl)
theorem dX9_sign_8 : decode cX9_sign 8 = .ok (.getfield 32, 3) := dk_180 0 32 (dk_at dksX9_sign_0 8 rfl rfl)
theorem dX9_sign_11 : decode cX9_sign 11 = .ok (.invokevirtual 36, 3) := dk_182 0 36 (dk_at dksX9_sign_0 11 rfl rfl)
theorem dX9_sign_14 : decode cX9_sign 14 = .ok (.if_icmp .ge 20, 3) := dk_162 0 20 (dk_at dksX9_sign_0 14 rfl rfl)
theorem dX9_sign_17 : decode cX9_sign 17 = .ok (.aload_n 0, 1) := dk_42 (dk_at dksX9_sign_0 17 rfl rfl)
theorem dX9_sign_18 : decode cX9_sign 18 = .ok (.getfield 3, 3) := dk_180 0 3 (dk_at dksX9_sign_0 18 rfl rfl)
theorem dX9_sign_21 : decode cX9_sign 21 = .ok (.getfield 32, 3) := dk_180 0 32 (dk_at dksX9_sign_0 21 rfl rfl)
theorem dX9_sign_24 : decode cX9_sign 24 = .ok (.aload_n 0, 1) := dk_42 (dk_at dksX9_sign_1 0 rfl rfl)
theorem dX9_sign_25 : decode cX9_sign 25 = .ok (.getfield 28, 3) := dk_180 0 28 (dk_at dksX9_sign_1 1 rfl rfl)
theorem dX9_sign_28 : decode cX9_sign 28 = .ok (.invokevirtual 46, 3) := dk_182 0 46 (dk_at dksX9_sign_1 4 rfl rfl)
theorem dX9_sign_31 : decode cX9_sign 31 = .ok (.goto 5, 3) := dk_167 0 5 (dk_at dksX9_sign_1 7 rfl rfl)
theorem dX9_sign_34 : decode cX9_sign 34 = .ok (.bipush 32, 2) := dk_16 32 (dk_at dksX9_sign_1 10 rfl rfl)
theorem dX9_sign_36 : decode cX9_sign 36 = .ok (.ireturn, 1) := dk_172 (dk_at dksX9_sign_1 12 rfl rfl)
abbrev cX9_number : ByteArray := prog_11_method_6_code
def yX9_number : MethodName := ⟨RX9, "number", "(I)I"⟩
def dkwX9_number_3 : List UInt8 := [172]
abbrev dktX9_number_3 : List UInt8 := dkwX9_number_3 ++ []
def dkwX9_number_2 : List UInt8 := [16, 48, 100, 27, 163, 0, 19, 16, 10, 28, 104, 42, 3, 16, 9, 182, 0, 53, 96, 61, 167, 255, 198, 28]
abbrev dktX9_number_2 : List UInt8 := dkwX9_number_2 ++ dktX9_number_3
def dkwX9_number_1 : List UInt8 := [16, 48, 161, 0, 44, 42, 182, 0, 50, 16, 57, 163, 0, 35, 16, 10, 28, 104, 42, 182, 0, 50, 96]
abbrev dktX9_number_1 : List UInt8 := dkwX9_number_1 ++ dktX9_number_2
def dkwX9_number_0 : List UInt8 := [42, 3, 16, 9, 182, 0, 53, 61, 42, 180, 0, 24, 154, 0, 57, 28, 158, 0, 53, 42, 182, 0, 50]
abbrev dktX9_number_0 : List UInt8 := dkwX9_number_0 ++ dktX9_number_1
theorem dksX9_number_0 : cX9_number.data.toList.drop 0 = dktX9_number_0 := by decide +kernel
theorem dksX9_number_1 : cX9_number.data.toList.drop 23 = dktX9_number_1 := dk_seg dksX9_number_0 23 rfl rfl
theorem dksX9_number_2 : cX9_number.data.toList.drop 46 = dktX9_number_2 := dk_seg dksX9_number_1 23 rfl rfl
theorem dksX9_number_3 : cX9_number.data.toList.drop 70 = dktX9_number_3 := dk_seg dksX9_number_2 24 rfl rfl
theorem dX9_number_0 : decode cX9_number 0 = .ok (.aload_n 0, 1) := dk_42 (dk_at dksX9_number_0 0 rfl rfl)
theorem dX9_number_1 : decode cX9_number 1 = .ok (.iconst 0, 1) := dk_3 (dk_at dksX9_number_0 1 rfl rfl)
theorem dX9_number_2 : decode cX9_number 2 = .ok (.bipush 9, 2) := dk_16 9 (dk_at dksX9_number_0 2 rfl rfl)
theorem dX9_number_4 : decode cX9_number 4 = .ok (.invokevirtual 53, 3) := dk_182 0 53 (dk_at dksX9_number_0 4 rfl rfl)
theorem dX9_number_7 : decode cX9_number 7 = .ok (.istore_n 2, 1) := dk_61 (dk_at dksX9_number_0 7 rfl rfl)
theorem dX9_number_8 : decode cX9_number 8 = .ok (.aload_n 0, 1) := dk_42 (dk_at dksX9_number_0 8 rfl rfl)
theorem dX9_number_9 : decode cX9_number 9 = .ok (.getfield 24, 3) := dk_180 0 24 (dk_at dksX9_number_0 9 rfl rfl)
theorem dX9_number_12 : decode cX9_number 12 = .ok (.ifCond .ne 57, 3) := dk_154 0 57 (dk_at dksX9_number_0 12 rfl rfl)
theorem dX9_number_15 : decode cX9_number 15 = .ok (.iload_n 2, 1) := dk_28 (dk_at dksX9_number_0 15 rfl rfl)
theorem dX9_number_16 : decode cX9_number 16 = .ok (.ifCond .le 53, 3) := dk_158 0 53 (dk_at dksX9_number_0 16 rfl rfl)
theorem dX9_number_19 : decode cX9_number 19 = .ok (.aload_n 0, 1) := dk_42 (dk_at dksX9_number_0 19 rfl rfl)
theorem dX9_number_20 : decode cX9_number 20 = .ok (.invokevirtual 50, 3) := dk_182 0 50 (dk_at dksX9_number_0 20 rfl rfl)
theorem dX9_number_23 : decode cX9_number 23 = .ok (.bipush 48, 2) := dk_16 48 (dk_at dksX9_number_1 0 rfl rfl)
theorem dX9_number_25 : decode cX9_number 25 = .ok (.if_icmp .lt 44, 3) := dk_161 0 44 (dk_at dksX9_number_1 2 rfl rfl)
theorem dX9_number_28 : decode cX9_number 28 = .ok (.aload_n 0, 1) := dk_42 (dk_at dksX9_number_1 5 rfl rfl)
theorem dX9_number_29 : decode cX9_number 29 = .ok (.invokevirtual 50, 3) := dk_182 0 50 (dk_at dksX9_number_1 6 rfl rfl)
theorem dX9_number_32 : decode cX9_number 32 = .ok (.bipush 57, 2) := dk_16 57 (dk_at dksX9_number_1 9 rfl rfl)
theorem dX9_number_34 : decode cX9_number 34 = .ok (.if_icmp .gt 35, 3) := dk_163 0 35 (dk_at dksX9_number_1 11 rfl rfl)
theorem dX9_number_37 : decode cX9_number 37 = .ok (.bipush 10, 2) := dk_16 10 (dk_at dksX9_number_1 14 rfl rfl)
theorem dX9_number_39 : decode cX9_number 39 = .ok (.iload_n 2, 1) := dk_28 (dk_at dksX9_number_1 16 rfl rfl)
theorem dX9_number_40 : decode cX9_number 40 = .ok (.imul, 1) := dk_104 (dk_at dksX9_number_1 17 rfl rfl)
theorem dX9_number_41 : decode cX9_number 41 = .ok (.aload_n 0, 1) := dk_42 (dk_at dksX9_number_1 18 rfl rfl)
theorem dX9_number_42 : decode cX9_number 42 = .ok (.invokevirtual 50, 3) := dk_182 0 50 (dk_at dksX9_number_1 19 rfl rfl)
theorem dX9_number_45 : decode cX9_number 45 = .ok (.iadd, 1) := dk_96 (dk_at dksX9_number_1 22 rfl rfl)
theorem dX9_number_46 : decode cX9_number 46 = .ok (.bipush 48, 2) := dk_16 48 (dk_at dksX9_number_2 0 rfl rfl)
theorem dX9_number_48 : decode cX9_number 48 = .ok (.isub, 1) := dk_100 (dk_at dksX9_number_2 2 rfl rfl)
theorem dX9_number_49 : decode cX9_number 49 = .ok (.iload_n 1, 1) := dk_27 (dk_at dksX9_number_2 3 rfl rfl)
theorem dX9_number_50 : decode cX9_number 50 = .ok (.if_icmp .gt 19, 3) := dk_163 0 19 (dk_at dksX9_number_2 4 rfl rfl)
theorem dX9_number_53 : decode cX9_number 53 = .ok (.bipush 10, 2) := dk_16 10 (dk_at dksX9_number_2 7 rfl rfl)
theorem dX9_number_55 : decode cX9_number 55 = .ok (.iload_n 2, 1) := dk_28 (dk_at dksX9_number_2 9 rfl rfl)
theorem dX9_number_56 : decode cX9_number 56 = .ok (.imul, 1) := dk_104 (dk_at dksX9_number_2 10 rfl rfl)
theorem dX9_number_57 : decode cX9_number 57 = .ok (.aload_n 0, 1) := dk_42 (dk_at dksX9_number_2 11 rfl rfl)
theorem dX9_number_58 : decode cX9_number 58 = .ok (.iconst 0, 1) := dk_3 (dk_at dksX9_number_2 12 rfl rfl)
theorem dX9_number_59 : decode cX9_number 59 = .ok (.bipush 9, 2) := dk_16 9 (dk_at dksX9_number_2 13 rfl rfl)
theorem dX9_number_61 : decode cX9_number 61 = .ok (.invokevirtual 53, 3) := dk_182 0 53 (dk_at dksX9_number_2 15 rfl rfl)
theorem dX9_number_64 : decode cX9_number 64 = .ok (.iadd, 1) := dk_96 (dk_at dksX9_number_2 18 rfl rfl)
theorem dX9_number_65 : decode cX9_number 65 = .ok (.istore_n 2, 1) := dk_61 (dk_at dksX9_number_2 19 rfl rfl)
theorem dX9_number_66 : decode cX9_number 66 = .ok (.goto (-58), 3) := dk_167 255 198 (dk_at dksX9_number_2 20 rfl rfl)
theorem dX9_number_69 : decode cX9_number 69 = .ok (.iload_n 2, 1) := dk_28 (dk_at dksX9_number_2 23 rfl rfl)
theorem dX9_number_70 : decode cX9_number 70 = .ok (.ireturn, 1) := dk_172 (dk_at dksX9_number_3 0 rfl rfl)
abbrev cX9_digit : ByteArray := prog_11_method_5_code
def yX9_digit : MethodName := ⟨RX9, "digit", "(II)I"⟩
def dkwX9_digit_2 : List UInt8 := [4, 96, 181, 0, 28, 29, 172]
abbrev dktX9_digit_2 : List UInt8 := dkwX9_digit_2 ++ []
def dkwX9_digit_1 : List UInt8 := [167, 0, 4, 3, 128, 181, 0, 24, 42, 89, 180, 0, 28, 42, 180, 0, 24, 153, 0, 7, 3, 167, 0, 4]
abbrev dktX9_digit_1 : List UInt8 := dkwX9_digit_1 ++ dktX9_digit_2
def dkwX9_digit_0 : List UInt8 := [42, 182, 0, 50, 16, 48, 100, 62, 42, 89, 180, 0, 24, 29, 27, 161, 0, 8, 29, 28, 164, 0, 7, 4]
abbrev dktX9_digit_0 : List UInt8 := dkwX9_digit_0 ++ dktX9_digit_1
theorem dksX9_digit_0 : cX9_digit.data.toList.drop 0 = dktX9_digit_0 := by decide +kernel
theorem dksX9_digit_1 : cX9_digit.data.toList.drop 24 = dktX9_digit_1 := dk_seg dksX9_digit_0 24 rfl rfl
theorem dksX9_digit_2 : cX9_digit.data.toList.drop 48 = dktX9_digit_2 := dk_seg dksX9_digit_1 24 rfl rfl
theorem dX9_digit_0 : decode cX9_digit 0 = .ok (.aload_n 0, 1) := dk_42 (dk_at dksX9_digit_0 0 rfl rfl)
theorem dX9_digit_1 : decode cX9_digit 1 = .ok (.invokevirtual 50, 3) := dk_182 0 50 (dk_at dksX9_digit_0 1 rfl rfl)
theorem dX9_digit_4 : decode cX9_digit 4 = .ok (.bipush 48, 2) := dk_16 48 (dk_at dksX9_digit_0 4 rfl rfl)
theorem dX9_digit_6 : decode cX9_digit 6 = .ok (.isub, 1) := dk_100 (dk_at dksX9_digit_0 6 rfl rfl)
theorem dX9_digit_7 : decode cX9_digit 7 = .ok (.istore_n 3, 1) := dk_62 (dk_at dksX9_digit_0 7 rfl rfl)
theorem dX9_digit_8 : decode cX9_digit 8 = .ok (.aload_n 0, 1) := dk_42 (dk_at dksX9_digit_0 8 rfl rfl)
theorem dX9_digit_9 : decode cX9_digit 9 = .ok (.dup, 1) := dk_89 (dk_at dksX9_digit_0 9 rfl rfl)
theorem dX9_digit_10 : decode cX9_digit 10 = .ok (.getfield 24, 3) := dk_180 0 24 (dk_at dksX9_digit_0 10 rfl rfl)
theorem dX9_digit_13 : decode cX9_digit 13 = .ok (.iload_n 3, 1) := dk_29 (dk_at dksX9_digit_0 13 rfl rfl)
theorem dX9_digit_14 : decode cX9_digit 14 = .ok (.iload_n 1, 1) := dk_27 (dk_at dksX9_digit_0 14 rfl rfl)
theorem dX9_digit_15 : decode cX9_digit 15 = .ok (.if_icmp .lt 8, 3) := dk_161 0 8 (dk_at dksX9_digit_0 15 rfl rfl)
theorem dX9_digit_18 : decode cX9_digit 18 = .ok (.iload_n 3, 1) := dk_29 (dk_at dksX9_digit_0 18 rfl rfl)
theorem dX9_digit_19 : decode cX9_digit 19 = .ok (.iload_n 2, 1) := dk_28 (dk_at dksX9_digit_0 19 rfl rfl)
theorem dX9_digit_20 : decode cX9_digit 20 = .ok (.if_icmp .le 7, 3) := dk_164 0 7 (dk_at dksX9_digit_0 20 rfl rfl)
theorem dX9_digit_23 : decode cX9_digit 23 = .ok (.iconst 1, 1) := dk_4 (dk_at dksX9_digit_0 23 rfl rfl)
theorem dX9_digit_24 : decode cX9_digit 24 = .ok (.goto 4, 3) := dk_167 0 4 (dk_at dksX9_digit_1 0 rfl rfl)
theorem dX9_digit_27 : decode cX9_digit 27 = .ok (.iconst 0, 1) := dk_3 (dk_at dksX9_digit_1 3 rfl rfl)
theorem dX9_digit_28 : decode cX9_digit 28 = .ok (.ior, 1) := dk_128 (dk_at dksX9_digit_1 4 rfl rfl)
theorem dX9_digit_29 : decode cX9_digit 29 = .ok (.putfield 24, 3) := dk_181 0 24 (dk_at dksX9_digit_1 5 rfl rfl)
theorem dX9_digit_32 : decode cX9_digit 32 = .ok (.aload_n 0, 1) := dk_42 (dk_at dksX9_digit_1 8 rfl rfl)
theorem dX9_digit_33 : decode cX9_digit 33 = .ok (.dup, 1) := dk_89 (dk_at dksX9_digit_1 9 rfl rfl)
theorem dX9_digit_34 : decode cX9_digit 34 = .ok (.getfield 28, 3) := dk_180 0 28 (dk_at dksX9_digit_1 10 rfl rfl)
theorem dX9_digit_37 : decode cX9_digit 37 = .ok (.aload_n 0, 1) := dk_42 (dk_at dksX9_digit_1 13 rfl rfl)
theorem dX9_digit_38 : decode cX9_digit 38 = .ok (.getfield 24, 3) := dk_180 0 24 (dk_at dksX9_digit_1 14 rfl rfl)
theorem dX9_digit_41 : decode cX9_digit 41 = .ok (.ifCond .eq 7, 3) := dk_153 0 7 (dk_at dksX9_digit_1 17 rfl rfl)
theorem dX9_digit_44 : decode cX9_digit 44 = .ok (.iconst 0, 1) := dk_3 (dk_at dksX9_digit_1 20 rfl rfl)
theorem dX9_digit_45 : decode cX9_digit 45 = .ok (.goto 4, 3) := dk_167 0 4 (dk_at dksX9_digit_1 21 rfl rfl)
theorem dX9_digit_48 : decode cX9_digit 48 = .ok (.iconst 1, 1) := dk_4 (dk_at dksX9_digit_2 0 rfl rfl)
theorem dX9_digit_49 : decode cX9_digit 49 = .ok (.iadd, 1) := dk_96 (dk_at dksX9_digit_2 1 rfl rfl)
theorem dX9_digit_50 : decode cX9_digit 50 = .ok (.putfield 28, 3) := dk_181 0 28 (dk_at dksX9_digit_2 2 rfl rfl)
theorem dX9_digit_53 : decode cX9_digit 53 = .ok (.iload_n 3, 1) := dk_29 (dk_at dksX9_digit_2 5 rfl rfl)
theorem dX9_digit_54 : decode cX9_digit 54 = .ok (.ireturn, 1) := dk_172 (dk_at dksX9_digit_2 6 rfl rfl)
abbrev cX9_beginning : ByteArray := prog_11_method_8_code
def yX9_beginning : MethodName := ⟨RX9, "beginning", "(I)LContourLabels$Order;"⟩
def dkwX9_beginning_0 : List UInt8 := [42, 16, 64, 182, 0, 42, 42, 17, 1, 127, 182, 0, 65, 61, 27, 28, 186, 0, 97, 0, 0, 176]
abbrev dktX9_beginning_0 : List UInt8 := dkwX9_beginning_0 ++ []
theorem dksX9_beginning_0 : cX9_beginning.data.toList.drop 0 = dktX9_beginning_0 := by decide +kernel
theorem dX9_beginning_0 : decode cX9_beginning 0 = .ok (.aload_n 0, 1) := dk_42 (dk_at dksX9_beginning_0 0 rfl rfl)
theorem dX9_beginning_1 : decode cX9_beginning 1 = .ok (.bipush 64, 2) := dk_16 64 (dk_at dksX9_beginning_0 1 rfl rfl)
theorem dX9_beginning_3 : decode cX9_beginning 3 = .ok (.invokevirtual 42, 3) := dk_182 0 42 (dk_at dksX9_beginning_0 3 rfl rfl)
theorem dX9_beginning_6 : decode cX9_beginning 6 = .ok (.aload_n 0, 1) := dk_42 (dk_at dksX9_beginning_0 6 rfl rfl)
theorem dX9_beginning_7 : decode cX9_beginning 7 = .ok (.sipush 383, 3) := dk_17 1 127 (dk_at dksX9_beginning_0 7 rfl rfl)
theorem dX9_beginning_10 : decode cX9_beginning 10 = .ok (.invokevirtual 65, 3) := dk_182 0 65 (dk_at dksX9_beginning_0 10 rfl rfl)
theorem dX9_beginning_13 : decode cX9_beginning 13 = .ok (.istore_n 2, 1) := dk_61 (dk_at dksX9_beginning_0 13 rfl rfl)
theorem dX9_beginning_14 : decode cX9_beginning 14 = .ok (.iload_n 1, 1) := dk_27 (dk_at dksX9_beginning_0 14 rfl rfl)
theorem dX9_beginning_15 : decode cX9_beginning 15 = .ok (.iload_n 2, 1) := dk_28 (dk_at dksX9_beginning_0 15 rfl rfl)
theorem dX9_beginning_16 : decode cX9_beginning 16 = .ok (.invokedynamic 97, 5) := by decide +kernel
theorem dX9_beginning_21 : decode cX9_beginning 21 = .ok (.areturn, 1) := dk_176 (dk_at dksX9_beginning_0 21 rfl rfl)
abbrev cX9_sign_2 : ByteArray := prog_11_method_4_code
def yX9_sign_2 : MethodName := ⟨RX9, "sign", "(C)V"⟩
def dkwX9_sign_2_1 : List UInt8 := [180, 0, 28, 42, 180, 0, 24, 153, 0, 7, 3, 167, 0, 4, 4, 96, 181, 0, 28, 177]
abbrev dktX9_sign_2_1 : List UInt8 := dkwX9_sign_2_1 ++ []
def dkwX9_sign_2_0 : List UInt8 := [42, 89, 180, 0, 24, 42, 182, 0, 50, 27, 159, 0, 7, 4, 167, 0, 4, 3, 128, 181, 0, 24, 42, 89]
abbrev dktX9_sign_2_0 : List UInt8 := dkwX9_sign_2_0 ++ dktX9_sign_2_1
theorem dksX9_sign_2_0 : cX9_sign_2.data.toList.drop 0 = dktX9_sign_2_0 := by decide +kernel
theorem dksX9_sign_2_1 : cX9_sign_2.data.toList.drop 24 = dktX9_sign_2_1 := dk_seg dksX9_sign_2_0 24 rfl rfl
theorem dX9_sign_2_0 : decode cX9_sign_2 0 = .ok (.aload_n 0, 1) := dk_42 (dk_at dksX9_sign_2_0 0 rfl rfl)
theorem dX9_sign_2_1 : decode cX9_sign_2 1 = .ok (.dup, 1) := dk_89 (dk_at dksX9_sign_2_0 1 rfl rfl)
theorem dX9_sign_2_2 : decode cX9_sign_2 2 = .ok (.getfield 24, 3) := dk_180 0 24 (dk_at dksX9_sign_2_0 2 rfl rfl)
theorem dX9_sign_2_5 : decode cX9_sign_2 5 = .ok (.aload_n 0, 1) := dk_42 (dk_at dksX9_sign_2_0 5 rfl rfl)
theorem dX9_sign_2_6 : decode cX9_sign_2 6 = .ok (.invokevirtual 50, 3) := dk_182 0 50 (dk_at dksX9_sign_2_0 6 rfl rfl)
theorem dX9_sign_2_9 : decode cX9_sign_2 9 = .ok (.iload_n 1, 1) := dk_27 (dk_at dksX9_sign_2_0 9 rfl rfl)
theorem dX9_sign_2_10 : decode cX9_sign_2 10 = .ok (.if_icmp .eq 7, 3) := dk_159 0 7 (dk_at dksX9_sign_2_0 10 rfl rfl)
theorem dX9_sign_2_13 : decode cX9_sign_2 13 = .ok (.iconst 1, 1) := dk_4 (dk_at dksX9_sign_2_0 13 rfl rfl)
theorem dX9_sign_2_14 : decode cX9_sign_2 14 = .ok (.goto 4, 3) := dk_167 0 4 (dk_at dksX9_sign_2_0 14 rfl rfl)
theorem dX9_sign_2_17 : decode cX9_sign_2 17 = .ok (.iconst 0, 1) := dk_3 (dk_at dksX9_sign_2_0 17 rfl rfl)
theorem dX9_sign_2_18 : decode cX9_sign_2 18 = .ok (.ior, 1) := dk_128 (dk_at dksX9_sign_2_0 18 rfl rfl)
theorem dX9_sign_2_19 : decode cX9_sign_2 19 = .ok (.putfield 24, 3) := dk_181 0 24 (dk_at dksX9_sign_2_0 19 rfl rfl)
theorem dX9_sign_2_22 : decode cX9_sign_2 22 = .ok (.aload_n 0, 1) := dk_42 (dk_at dksX9_sign_2_0 22 rfl rfl)
theorem dX9_sign_2_23 : decode cX9_sign_2 23 = .ok (.dup, 1) := dk_89 (dk_at dksX9_sign_2_0 23 rfl rfl)
theorem dX9_sign_2_24 : decode cX9_sign_2 24 = .ok (.getfield 28, 3) := dk_180 0 28 (dk_at dksX9_sign_2_1 0 rfl rfl)
theorem dX9_sign_2_27 : decode cX9_sign_2 27 = .ok (.aload_n 0, 1) := dk_42 (dk_at dksX9_sign_2_1 3 rfl rfl)
theorem dX9_sign_2_28 : decode cX9_sign_2 28 = .ok (.getfield 24, 3) := dk_180 0 24 (dk_at dksX9_sign_2_1 4 rfl rfl)
theorem dX9_sign_2_31 : decode cX9_sign_2 31 = .ok (.ifCond .eq 7, 3) := dk_153 0 7 (dk_at dksX9_sign_2_1 7 rfl rfl)
theorem dX9_sign_2_34 : decode cX9_sign_2 34 = .ok (.iconst 0, 1) := dk_3 (dk_at dksX9_sign_2_1 10 rfl rfl)
theorem dX9_sign_2_35 : decode cX9_sign_2 35 = .ok (.goto 4, 3) := dk_167 0 4 (dk_at dksX9_sign_2_1 11 rfl rfl)
theorem dX9_sign_2_38 : decode cX9_sign_2 38 = .ok (.iconst 1, 1) := dk_4 (dk_at dksX9_sign_2_1 14 rfl rfl)
theorem dX9_sign_2_39 : decode cX9_sign_2 39 = .ok (.iadd, 1) := dk_96 (dk_at dksX9_sign_2_1 15 rfl rfl)
theorem dX9_sign_2_40 : decode cX9_sign_2 40 = .ok (.putfield 28, 3) := dk_181 0 28 (dk_at dksX9_sign_2_1 16 rfl rfl)
theorem dX9_sign_2_43 : decode cX9_sign_2 43 = .ok (.return_, 1) := dk_177 (dk_at dksX9_sign_2_1 19 rfl rfl)
abbrev cX9_lambda_beginning_1 : ByteArray := prog_11_method_22_code
def yX9_lambda_beginning_1 : MethodName := ⟨RX9, "lambda$beginning$1", "(IILContourLabels$State;)Z"⟩
def dkwX9_lambda_beginning_1_0 : List UInt8 := [44, 26, 27, 182, 0, 143, 172]
abbrev dktX9_lambda_beginning_1_0 : List UInt8 := dkwX9_lambda_beginning_1_0 ++ []
theorem dksX9_lambda_beginning_1_0 : cX9_lambda_beginning_1.data.toList.drop 0 = dktX9_lambda_beginning_1_0 := by decide +kernel
theorem dX9_lambda_beginning_1_0 : decode cX9_lambda_beginning_1 0 = .ok (.aload_n 2, 1) := dk_44 (dk_at dksX9_lambda_beginning_1_0 0 rfl rfl)
theorem dX9_lambda_beginning_1_1 : decode cX9_lambda_beginning_1 1 = .ok (.iload_n 0, 1) := dk_26 (dk_at dksX9_lambda_beginning_1_0 1 rfl rfl)
theorem dX9_lambda_beginning_1_2 : decode cX9_lambda_beginning_1 2 = .ok (.iload_n 1, 1) := dk_27 (dk_at dksX9_lambda_beginning_1_0 2 rfl rfl)
theorem dX9_lambda_beginning_1_3 : decode cX9_lambda_beginning_1 3 = .ok (.invokevirtual 143, 3) := dk_182 0 143 (dk_at dksX9_lambda_beginning_1_0 3 rfl rfl)
theorem dX9_lambda_beginning_1_6 : decode cX9_lambda_beginning_1 6 = .ok (.ireturn, 1) := dk_172 (dk_at dksX9_lambda_beginning_1_0 6 rfl rfl)
abbrev cX9_stepping : ByteArray := prog_11_method_9_code
def yX9_stepping : MethodName := ⟨RX9, "stepping", "(I)LContourLabels$Order;"⟩
def dkwX9_stepping_2 : List UInt8 := [182, 0, 53, 79, 132, 3, 1, 167, 255, 212, 29, 54, 4, 21, 4, 44, 186, 0, 100, 0, 0, 176]
abbrev dktX9_stepping_2 : List UInt8 := dkwX9_stepping_2 ++ []
def dkwX9_stepping_1 : List UInt8 := [42, 182, 0, 50, 16, 48, 161, 0, 28, 42, 182, 0, 50, 16, 56, 162, 0, 19, 44, 29, 42, 3, 16, 7]
abbrev dktX9_stepping_1 : List UInt8 := dkwX9_stepping_1 ++ dktX9_stepping_2
def dkwX9_stepping_0 : List UInt8 := [16, 20, 188, 10, 77, 4, 62, 44, 3, 27, 79, 42, 180, 0, 24, 154, 0, 43, 29, 16, 20, 162, 0, 37]
abbrev dktX9_stepping_0 : List UInt8 := dkwX9_stepping_0 ++ dktX9_stepping_1
theorem dksX9_stepping_0 : cX9_stepping.data.toList.drop 0 = dktX9_stepping_0 := by decide +kernel
theorem dksX9_stepping_1 : cX9_stepping.data.toList.drop 24 = dktX9_stepping_1 := dk_seg dksX9_stepping_0 24 rfl rfl
theorem dksX9_stepping_2 : cX9_stepping.data.toList.drop 48 = dktX9_stepping_2 := dk_seg dksX9_stepping_1 24 rfl rfl
theorem dX9_stepping_0 : decode cX9_stepping 0 = .ok (.bipush 20, 2) := dk_16 20 (dk_at dksX9_stepping_0 0 rfl rfl)
theorem dX9_stepping_2 : decode cX9_stepping 2 = .ok (.newarray .int, 2) := dk_188_10 (dk_at dksX9_stepping_0 2 rfl rfl)
theorem dX9_stepping_4 : decode cX9_stepping 4 = .ok (.astore_n 2, 1) := dk_77 (dk_at dksX9_stepping_0 4 rfl rfl)
theorem dX9_stepping_5 : decode cX9_stepping 5 = .ok (.iconst 1, 1) := dk_4 (dk_at dksX9_stepping_0 5 rfl rfl)
theorem dX9_stepping_6 : decode cX9_stepping 6 = .ok (.istore_n 3, 1) := dk_62 (dk_at dksX9_stepping_0 6 rfl rfl)
theorem dX9_stepping_7 : decode cX9_stepping 7 = .ok (.aload_n 2, 1) := dk_44 (dk_at dksX9_stepping_0 7 rfl rfl)
theorem dX9_stepping_8 : decode cX9_stepping 8 = .ok (.iconst 0, 1) := dk_3 (dk_at dksX9_stepping_0 8 rfl rfl)
theorem dX9_stepping_9 : decode cX9_stepping 9 = .ok (.iload_n 1, 1) := dk_27 (dk_at dksX9_stepping_0 9 rfl rfl)
theorem dX9_stepping_10 : decode cX9_stepping 10 = .ok (.iastore, 1) := dk_79 (dk_at dksX9_stepping_0 10 rfl rfl)
theorem dX9_stepping_11 : decode cX9_stepping 11 = .ok (.aload_n 0, 1) := dk_42 (dk_at dksX9_stepping_0 11 rfl rfl)
theorem dX9_stepping_12 : decode cX9_stepping 12 = .ok (.getfield 24, 3) := dk_180 0 24 (dk_at dksX9_stepping_0 12 rfl rfl)
theorem dX9_stepping_15 : decode cX9_stepping 15 = .ok (.ifCond .ne 43, 3) := dk_154 0 43 (dk_at dksX9_stepping_0 15 rfl rfl)
theorem dX9_stepping_18 : decode cX9_stepping 18 = .ok (.iload_n 3, 1) := dk_29 (dk_at dksX9_stepping_0 18 rfl rfl)
theorem dX9_stepping_19 : decode cX9_stepping 19 = .ok (.bipush 20, 2) := dk_16 20 (dk_at dksX9_stepping_0 19 rfl rfl)
theorem dX9_stepping_21 : decode cX9_stepping 21 = .ok (.if_icmp .ge 37, 3) := dk_162 0 37 (dk_at dksX9_stepping_0 21 rfl rfl)
theorem dX9_stepping_24 : decode cX9_stepping 24 = .ok (.aload_n 0, 1) := dk_42 (dk_at dksX9_stepping_1 0 rfl rfl)
theorem dX9_stepping_25 : decode cX9_stepping 25 = .ok (.invokevirtual 50, 3) := dk_182 0 50 (dk_at dksX9_stepping_1 1 rfl rfl)
theorem dX9_stepping_28 : decode cX9_stepping 28 = .ok (.bipush 48, 2) := dk_16 48 (dk_at dksX9_stepping_1 4 rfl rfl)
theorem dX9_stepping_30 : decode cX9_stepping 30 = .ok (.if_icmp .lt 28, 3) := dk_161 0 28 (dk_at dksX9_stepping_1 6 rfl rfl)
theorem dX9_stepping_33 : decode cX9_stepping 33 = .ok (.aload_n 0, 1) := dk_42 (dk_at dksX9_stepping_1 9 rfl rfl)
theorem dX9_stepping_34 : decode cX9_stepping 34 = .ok (.invokevirtual 50, 3) := dk_182 0 50 (dk_at dksX9_stepping_1 10 rfl rfl)
theorem dX9_stepping_37 : decode cX9_stepping 37 = .ok (.bipush 56, 2) := dk_16 56 (dk_at dksX9_stepping_1 13 rfl rfl)
theorem dX9_stepping_39 : decode cX9_stepping 39 = .ok (.if_icmp .ge 19, 3) := dk_162 0 19 (dk_at dksX9_stepping_1 15 rfl rfl)
theorem dX9_stepping_42 : decode cX9_stepping 42 = .ok (.aload_n 2, 1) := dk_44 (dk_at dksX9_stepping_1 18 rfl rfl)
theorem dX9_stepping_43 : decode cX9_stepping 43 = .ok (.iload_n 3, 1) := dk_29 (dk_at dksX9_stepping_1 19 rfl rfl)
theorem dX9_stepping_44 : decode cX9_stepping 44 = .ok (.aload_n 0, 1) := dk_42 (dk_at dksX9_stepping_1 20 rfl rfl)
theorem dX9_stepping_45 : decode cX9_stepping 45 = .ok (.iconst 0, 1) := dk_3 (dk_at dksX9_stepping_1 21 rfl rfl)
theorem dX9_stepping_46 : decode cX9_stepping 46 = .ok (.bipush 7, 2) := dk_16 7 (dk_at dksX9_stepping_1 22 rfl rfl)
theorem dX9_stepping_48 : decode cX9_stepping 48 = .ok (.invokevirtual 53, 3) := dk_182 0 53 (dk_at dksX9_stepping_2 0 rfl rfl)
theorem dX9_stepping_51 : decode cX9_stepping 51 = .ok (.iastore, 1) := dk_79 (dk_at dksX9_stepping_2 3 rfl rfl)
theorem dX9_stepping_52 : decode cX9_stepping 52 = .ok (.iinc 3 1, 3) := dk_132 3 1 (dk_at dksX9_stepping_2 4 rfl rfl)
theorem dX9_stepping_55 : decode cX9_stepping 55 = .ok (.goto (-44), 3) := dk_167 255 212 (dk_at dksX9_stepping_2 7 rfl rfl)
theorem dX9_stepping_58 : decode cX9_stepping 58 = .ok (.iload_n 3, 1) := dk_29 (dk_at dksX9_stepping_2 10 rfl rfl)
theorem dX9_stepping_59 : decode cX9_stepping 59 = .ok (.istore 4, 2) := dk_54 4 (dk_at dksX9_stepping_2 11 rfl rfl)
theorem dX9_stepping_61 : decode cX9_stepping 61 = .ok (.iload 4, 2) := dk_21 4 (dk_at dksX9_stepping_2 13 rfl rfl)
theorem dX9_stepping_63 : decode cX9_stepping 63 = .ok (.aload_n 2, 1) := dk_44 (dk_at dksX9_stepping_2 15 rfl rfl)
theorem dX9_stepping_64 : decode cX9_stepping 64 = .ok (.invokedynamic 100, 5) := by decide +kernel
theorem dX9_stepping_69 : decode cX9_stepping 69 = .ok (.areturn, 1) := dk_176 (dk_at dksX9_stepping_2 21 rfl rfl)
abbrev cX9_lambda_stepping_2 : ByteArray := prog_11_method_21_code
def yX9_lambda_stepping_2 : MethodName := ⟨RX9, "lambda$stepping$2", "(I[ILContourLabels$State;)Z"⟩
def dkwX9_lambda_stepping_2_2 : List UInt8 := [153, 0, 7, 4, 167, 0, 4, 3, 62, 132, 4, 1, 167, 255, 203, 29, 172]
abbrev dktX9_lambda_stepping_2_2 : List UInt8 := dkwX9_lambda_stepping_2_2 ++ []
def dkwX9_lambda_stepping_2_1 : List UInt8 := [158, 0, 29, 44, 44, 180, 0, 131, 185, 0, 135, 1, 0, 4, 100, 43, 21, 4, 46, 182, 0, 140]
abbrev dktX9_lambda_stepping_2_1 : List UInt8 := dkwX9_lambda_stepping_2_1 ++ dktX9_lambda_stepping_2_2
def dkwX9_lambda_stepping_2_0 : List UInt8 := [4, 62, 3, 54, 4, 21, 4, 26, 162, 0, 53, 29, 153, 0, 49, 44, 180, 0, 131, 185, 0, 135, 1, 0]
abbrev dktX9_lambda_stepping_2_0 : List UInt8 := dkwX9_lambda_stepping_2_0 ++ dktX9_lambda_stepping_2_1
theorem dksX9_lambda_stepping_2_0 : cX9_lambda_stepping_2.data.toList.drop 0 = dktX9_lambda_stepping_2_0 := by decide +kernel
theorem dksX9_lambda_stepping_2_1 : cX9_lambda_stepping_2.data.toList.drop 24 = dktX9_lambda_stepping_2_1 := dk_seg dksX9_lambda_stepping_2_0 24 rfl rfl
theorem dksX9_lambda_stepping_2_2 : cX9_lambda_stepping_2.data.toList.drop 46 = dktX9_lambda_stepping_2_2 := dk_seg dksX9_lambda_stepping_2_1 22 rfl rfl
theorem dX9_lambda_stepping_2_0 : decode cX9_lambda_stepping_2 0 = .ok (.iconst 1, 1) := dk_4 (dk_at dksX9_lambda_stepping_2_0 0 rfl rfl)
theorem dX9_lambda_stepping_2_1 : decode cX9_lambda_stepping_2 1 = .ok (.istore_n 3, 1) := dk_62 (dk_at dksX9_lambda_stepping_2_0 1 rfl rfl)
theorem dX9_lambda_stepping_2_2 : decode cX9_lambda_stepping_2 2 = .ok (.iconst 0, 1) := dk_3 (dk_at dksX9_lambda_stepping_2_0 2 rfl rfl)
theorem dX9_lambda_stepping_2_3 : decode cX9_lambda_stepping_2 3 = .ok (.istore 4, 2) := dk_54 4 (dk_at dksX9_lambda_stepping_2_0 3 rfl rfl)
theorem dX9_lambda_stepping_2_5 : decode cX9_lambda_stepping_2 5 = .ok (.iload 4, 2) := dk_21 4 (dk_at dksX9_lambda_stepping_2_0 5 rfl rfl)
theorem dX9_lambda_stepping_2_7 : decode cX9_lambda_stepping_2 7 = .ok (.iload_n 0, 1) := dk_26 (dk_at dksX9_lambda_stepping_2_0 7 rfl rfl)
theorem dX9_lambda_stepping_2_8 : decode cX9_lambda_stepping_2 8 = .ok (.if_icmp .ge 53, 3) := dk_162 0 53 (dk_at dksX9_lambda_stepping_2_0 8 rfl rfl)
theorem dX9_lambda_stepping_2_11 : decode cX9_lambda_stepping_2 11 = .ok (.iload_n 3, 1) := dk_29 (dk_at dksX9_lambda_stepping_2_0 11 rfl rfl)
theorem dX9_lambda_stepping_2_12 : decode cX9_lambda_stepping_2 12 = .ok (.ifCond .eq 49, 3) := dk_153 0 49 (dk_at dksX9_lambda_stepping_2_0 12 rfl rfl)
theorem dX9_lambda_stepping_2_15 : decode cX9_lambda_stepping_2 15 = .ok (.aload_n 2, 1) := dk_44 (dk_at dksX9_lambda_stepping_2_0 15 rfl rfl)
theorem dX9_lambda_stepping_2_16 : decode cX9_lambda_stepping_2 16 = .ok (.getfield 131, 3) := dk_180 0 131 (dk_at dksX9_lambda_stepping_2_0 16 rfl rfl)
theorem dX9_lambda_stepping_2_19 : decode cX9_lambda_stepping_2 19 = .ok (.invokeinterface 135 1, 5) := by decide +kernel
theorem dX9_lambda_stepping_2_24 : decode cX9_lambda_stepping_2 24 = .ok (.ifCond .le 29, 3) := dk_158 0 29 (dk_at dksX9_lambda_stepping_2_1 0 rfl rfl)
theorem dX9_lambda_stepping_2_27 : decode cX9_lambda_stepping_2 27 = .ok (.aload_n 2, 1) := dk_44 (dk_at dksX9_lambda_stepping_2_1 3 rfl rfl)
theorem dX9_lambda_stepping_2_28 : decode cX9_lambda_stepping_2 28 = .ok (.aload_n 2, 1) := dk_44 (dk_at dksX9_lambda_stepping_2_1 4 rfl rfl)
theorem dX9_lambda_stepping_2_29 : decode cX9_lambda_stepping_2 29 = .ok (.getfield 131, 3) := dk_180 0 131 (dk_at dksX9_lambda_stepping_2_1 5 rfl rfl)
theorem dX9_lambda_stepping_2_32 : decode cX9_lambda_stepping_2 32 = .ok (.invokeinterface 135 1, 5) := by decide +kernel
theorem dX9_lambda_stepping_2_37 : decode cX9_lambda_stepping_2 37 = .ok (.iconst 1, 1) := dk_4 (dk_at dksX9_lambda_stepping_2_1 13 rfl rfl)
theorem dX9_lambda_stepping_2_38 : decode cX9_lambda_stepping_2 38 = .ok (.isub, 1) := dk_100 (dk_at dksX9_lambda_stepping_2_1 14 rfl rfl)
theorem dX9_lambda_stepping_2_39 : decode cX9_lambda_stepping_2 39 = .ok (.aload_n 1, 1) := dk_43 (dk_at dksX9_lambda_stepping_2_1 15 rfl rfl)
theorem dX9_lambda_stepping_2_40 : decode cX9_lambda_stepping_2 40 = .ok (.iload 4, 2) := dk_21 4 (dk_at dksX9_lambda_stepping_2_1 16 rfl rfl)
theorem dX9_lambda_stepping_2_42 : decode cX9_lambda_stepping_2 42 = .ok (.iaload, 1) := dk_46 (dk_at dksX9_lambda_stepping_2_1 18 rfl rfl)
theorem dX9_lambda_stepping_2_43 : decode cX9_lambda_stepping_2 43 = .ok (.invokevirtual 140, 3) := dk_182 0 140 (dk_at dksX9_lambda_stepping_2_1 19 rfl rfl)
theorem dX9_lambda_stepping_2_46 : decode cX9_lambda_stepping_2 46 = .ok (.ifCond .eq 7, 3) := dk_153 0 7 (dk_at dksX9_lambda_stepping_2_2 0 rfl rfl)
theorem dX9_lambda_stepping_2_49 : decode cX9_lambda_stepping_2 49 = .ok (.iconst 1, 1) := dk_4 (dk_at dksX9_lambda_stepping_2_2 3 rfl rfl)
theorem dX9_lambda_stepping_2_50 : decode cX9_lambda_stepping_2 50 = .ok (.goto 4, 3) := dk_167 0 4 (dk_at dksX9_lambda_stepping_2_2 4 rfl rfl)
theorem dX9_lambda_stepping_2_53 : decode cX9_lambda_stepping_2 53 = .ok (.iconst 0, 1) := dk_3 (dk_at dksX9_lambda_stepping_2_2 7 rfl rfl)
theorem dX9_lambda_stepping_2_54 : decode cX9_lambda_stepping_2 54 = .ok (.istore_n 3, 1) := dk_62 (dk_at dksX9_lambda_stepping_2_2 8 rfl rfl)
theorem dX9_lambda_stepping_2_55 : decode cX9_lambda_stepping_2 55 = .ok (.iinc 4 1, 3) := dk_132 4 1 (dk_at dksX9_lambda_stepping_2_2 9 rfl rfl)
theorem dX9_lambda_stepping_2_58 : decode cX9_lambda_stepping_2 58 = .ok (.goto (-53), 3) := dk_167 255 203 (dk_at dksX9_lambda_stepping_2_2 12 rfl rfl)
theorem dX9_lambda_stepping_2_61 : decode cX9_lambda_stepping_2 61 = .ok (.iload_n 3, 1) := dk_29 (dk_at dksX9_lambda_stepping_2_2 15 rfl rfl)
theorem dX9_lambda_stepping_2_62 : decode cX9_lambda_stepping_2 62 = .ok (.ireturn, 1) := dk_172 (dk_at dksX9_lambda_stepping_2_2 16 rfl rfl)
abbrev cX9_wiping : ByteArray := prog_11_method_10_code
def yX9_wiping : MethodName := ⟨RX9, "wiping", "(I)LContourLabels$Order;"⟩
theorem dX9_wiping_0 : decode cX9_wiping 0 = .ok (.iload_n 1, 1) := by decide +kernel
theorem dX9_wiping_1 : decode cX9_wiping 1 = .ok (.invokedynamic 103, 5) := by decide +kernel
theorem dX9_wiping_6 : decode cX9_wiping 6 = .ok (.areturn, 1) := by decide +kernel
abbrev cX9_lambda_wiping_3 : ByteArray := prog_11_method_20_code
def yX9_lambda_wiping_3 : MethodName := ⟨RX9, "lambda$wiping$3", "(ILContourLabels$State;)Z"⟩
def dkwX9_lambda_wiping_3_0 : List UInt8 := [43, 26, 182, 0, 128, 172]
abbrev dktX9_lambda_wiping_3_0 : List UInt8 := dkwX9_lambda_wiping_3_0 ++ []
theorem dksX9_lambda_wiping_3_0 : cX9_lambda_wiping_3.data.toList.drop 0 = dktX9_lambda_wiping_3_0 := by decide +kernel
theorem dX9_lambda_wiping_3_0 : decode cX9_lambda_wiping_3 0 = .ok (.aload_n 1, 1) := dk_43 (dk_at dksX9_lambda_wiping_3_0 0 rfl rfl)
theorem dX9_lambda_wiping_3_1 : decode cX9_lambda_wiping_3 1 = .ok (.iload_n 0, 1) := dk_26 (dk_at dksX9_lambda_wiping_3_0 1 rfl rfl)
theorem dX9_lambda_wiping_3_2 : decode cX9_lambda_wiping_3 2 = .ok (.invokevirtual 128, 3) := dk_182 0 128 (dk_at dksX9_lambda_wiping_3_0 2 rfl rfl)
theorem dX9_lambda_wiping_3_5 : decode cX9_lambda_wiping_3 5 = .ok (.ireturn, 1) := dk_172 (dk_at dksX9_lambda_wiping_3_0 5 rfl rfl)
abbrev cX9_labelling : ByteArray := prog_11_method_11_code
def yX9_labelling : MethodName := ⟨RX9, "labelling", "(I)LContourLabels$Order;"⟩
def dkwX9_labelling_0 : List UInt8 := [42, 16, 46, 182, 0, 42, 42, 16, 59, 182, 0, 65, 61, 27, 28, 186, 0, 105, 0, 0, 176]
abbrev dktX9_labelling_0 : List UInt8 := dkwX9_labelling_0 ++ []
theorem dksX9_labelling_0 : cX9_labelling.data.toList.drop 0 = dktX9_labelling_0 := by decide +kernel
theorem dX9_labelling_0 : decode cX9_labelling 0 = .ok (.aload_n 0, 1) := dk_42 (dk_at dksX9_labelling_0 0 rfl rfl)
theorem dX9_labelling_1 : decode cX9_labelling 1 = .ok (.bipush 46, 2) := dk_16 46 (dk_at dksX9_labelling_0 1 rfl rfl)
theorem dX9_labelling_3 : decode cX9_labelling 3 = .ok (.invokevirtual 42, 3) := dk_182 0 42 (dk_at dksX9_labelling_0 3 rfl rfl)
theorem dX9_labelling_6 : decode cX9_labelling 6 = .ok (.aload_n 0, 1) := dk_42 (dk_at dksX9_labelling_0 6 rfl rfl)
theorem dX9_labelling_7 : decode cX9_labelling 7 = .ok (.bipush 59, 2) := dk_16 59 (dk_at dksX9_labelling_0 7 rfl rfl)
theorem dX9_labelling_9 : decode cX9_labelling 9 = .ok (.invokevirtual 65, 3) := dk_182 0 65 (dk_at dksX9_labelling_0 9 rfl rfl)
theorem dX9_labelling_12 : decode cX9_labelling 12 = .ok (.istore_n 2, 1) := dk_61 (dk_at dksX9_labelling_0 12 rfl rfl)
theorem dX9_labelling_13 : decode cX9_labelling 13 = .ok (.iload_n 1, 1) := dk_27 (dk_at dksX9_labelling_0 13 rfl rfl)
theorem dX9_labelling_14 : decode cX9_labelling 14 = .ok (.iload_n 2, 1) := dk_28 (dk_at dksX9_labelling_0 14 rfl rfl)
theorem dX9_labelling_15 : decode cX9_labelling 15 = .ok (.invokedynamic 105, 5) := by decide +kernel
theorem dX9_labelling_20 : decode cX9_labelling 20 = .ok (.areturn, 1) := dk_176 (dk_at dksX9_labelling_0 20 rfl rfl)
abbrev cX9_lambda_labelling_4 : ByteArray := prog_11_method_19_code
def yX9_lambda_labelling_4 : MethodName := ⟨RX9, "lambda$labelling$4", "(IILContourLabels$State;)Z"⟩
def dkwX9_lambda_labelling_4_0 : List UInt8 := [44, 26, 27, 182, 0, 124, 172]
abbrev dktX9_lambda_labelling_4_0 : List UInt8 := dkwX9_lambda_labelling_4_0 ++ []
theorem dksX9_lambda_labelling_4_0 : cX9_lambda_labelling_4.data.toList.drop 0 = dktX9_lambda_labelling_4_0 := by decide +kernel
theorem dX9_lambda_labelling_4_0 : decode cX9_lambda_labelling_4 0 = .ok (.aload_n 2, 1) := dk_44 (dk_at dksX9_lambda_labelling_4_0 0 rfl rfl)
theorem dX9_lambda_labelling_4_1 : decode cX9_lambda_labelling_4 1 = .ok (.iload_n 0, 1) := dk_26 (dk_at dksX9_lambda_labelling_4_0 1 rfl rfl)
theorem dX9_lambda_labelling_4_2 : decode cX9_lambda_labelling_4 2 = .ok (.iload_n 1, 1) := dk_27 (dk_at dksX9_lambda_labelling_4_0 2 rfl rfl)
theorem dX9_lambda_labelling_4_3 : decode cX9_lambda_labelling_4 3 = .ok (.invokevirtual 124, 3) := dk_182 0 124 (dk_at dksX9_lambda_labelling_4_0 3 rfl rfl)
theorem dX9_lambda_labelling_4_6 : decode cX9_lambda_labelling_4 6 = .ok (.ireturn, 1) := dk_172 (dk_at dksX9_lambda_labelling_4_0 6 rfl rfl)
abbrev cX9_unlabelling : ByteArray := prog_11_method_12_code
def yX9_unlabelling : MethodName := ⟨RX9, "unlabelling", "(I)LContourLabels$Order;"⟩
theorem dX9_unlabelling_0 : decode cX9_unlabelling 0 = .ok (.iload_n 1, 1) := by decide +kernel
theorem dX9_unlabelling_1 : decode cX9_unlabelling 1 = .ok (.invokedynamic 106, 5) := by decide +kernel
theorem dX9_unlabelling_6 : decode cX9_unlabelling 6 = .ok (.areturn, 1) := by decide +kernel
abbrev cX9_lambda_unlabelling_5 : ByteArray := prog_11_method_18_code
def yX9_lambda_unlabelling_5 : MethodName := ⟨RX9, "lambda$unlabelling$5", "(ILContourLabels$State;)Z"⟩
def dkwX9_lambda_unlabelling_5_0 : List UInt8 := [43, 26, 182, 0, 121, 172]
abbrev dktX9_lambda_unlabelling_5_0 : List UInt8 := dkwX9_lambda_unlabelling_5_0 ++ []
theorem dksX9_lambda_unlabelling_5_0 : cX9_lambda_unlabelling_5.data.toList.drop 0 = dktX9_lambda_unlabelling_5_0 := by decide +kernel
theorem dX9_lambda_unlabelling_5_0 : decode cX9_lambda_unlabelling_5 0 = .ok (.aload_n 1, 1) := dk_43 (dk_at dksX9_lambda_unlabelling_5_0 0 rfl rfl)
theorem dX9_lambda_unlabelling_5_1 : decode cX9_lambda_unlabelling_5 1 = .ok (.iload_n 0, 1) := dk_26 (dk_at dksX9_lambda_unlabelling_5_0 1 rfl rfl)
theorem dX9_lambda_unlabelling_5_2 : decode cX9_lambda_unlabelling_5 2 = .ok (.invokevirtual 121, 3) := dk_182 0 121 (dk_at dksX9_lambda_unlabelling_5_0 2 rfl rfl)
theorem dX9_lambda_unlabelling_5_5 : decode cX9_lambda_unlabelling_5 5 = .ok (.ireturn, 1) := dk_172 (dk_at dksX9_lambda_unlabelling_5_0 5 rfl rfl)
abbrev cX9_labellingBest : ByteArray := prog_11_method_13_code
def yX9_labellingBest : MethodName := ⟨RX9, "labellingBest", "(I)LContourLabels$Order;"⟩
theorem dX9_labellingBest_0 : decode cX9_labellingBest 0 = .ok (.iload_n 1, 1) := by decide +kernel
theorem dX9_labellingBest_1 : decode cX9_labellingBest 1 = .ok (.invokedynamic 107, 5) := by decide +kernel
theorem dX9_labellingBest_6 : decode cX9_labellingBest 6 = .ok (.areturn, 1) := by decide +kernel
abbrev cX9_lambda_labellingBest_6 : ByteArray := prog_11_method_17_code
def yX9_lambda_labellingBest_6 : MethodName := ⟨RX9, "lambda$labellingBest$6", "(ILContourLabels$State;)Z"⟩
def dkwX9_lambda_labellingBest_6_0 : List UInt8 := [43, 26, 182, 0, 117, 172]
abbrev dktX9_lambda_labellingBest_6_0 : List UInt8 := dkwX9_lambda_labellingBest_6_0 ++ []
theorem dksX9_lambda_labellingBest_6_0 : cX9_lambda_labellingBest_6.data.toList.drop 0 = dktX9_lambda_labellingBest_6_0 := by decide +kernel
theorem dX9_lambda_labellingBest_6_0 : decode cX9_lambda_labellingBest_6 0 = .ok (.aload_n 1, 1) := dk_43 (dk_at dksX9_lambda_labellingBest_6_0 0 rfl rfl)
theorem dX9_lambda_labellingBest_6_1 : decode cX9_lambda_labellingBest_6 1 = .ok (.iload_n 0, 1) := dk_26 (dk_at dksX9_lambda_labellingBest_6_0 1 rfl rfl)
theorem dX9_lambda_labellingBest_6_2 : decode cX9_lambda_labellingBest_6 2 = .ok (.invokevirtual 117, 3) := dk_182 0 117 (dk_at dksX9_lambda_labellingBest_6_0 2 rfl rfl)
theorem dX9_lambda_labellingBest_6_5 : decode cX9_lambda_labellingBest_6 5 = .ok (.ireturn, 1) := dk_172 (dk_at dksX9_lambda_labellingBest_6_0 5 rfl rfl)
abbrev cX9_lambda_order_0 : ByteArray := prog_11_method_23_code
def yX9_lambda_order_0 : MethodName := ⟨RX9, "lambda$order$0", "(LContourLabels$State;)Z"⟩
def dkwX9_lambda_order_0_0 : List UInt8 := [42, 182, 0, 146, 155, 0, 7, 4, 167, 0, 4, 3, 172]
abbrev dktX9_lambda_order_0_0 : List UInt8 := dkwX9_lambda_order_0_0 ++ []
theorem dksX9_lambda_order_0_0 : cX9_lambda_order_0.data.toList.drop 0 = dktX9_lambda_order_0_0 := by decide +kernel
theorem dX9_lambda_order_0_0 : decode cX9_lambda_order_0 0 = .ok (.aload_n 0, 1) := dk_42 (dk_at dksX9_lambda_order_0_0 0 rfl rfl)
theorem dX9_lambda_order_0_1 : decode cX9_lambda_order_0 1 = .ok (.invokevirtual 146, 3) := dk_182 0 146 (dk_at dksX9_lambda_order_0_0 1 rfl rfl)
theorem dX9_lambda_order_0_4 : decode cX9_lambda_order_0 4 = .ok (.ifCond .lt 7, 3) := dk_155 0 7 (dk_at dksX9_lambda_order_0_0 4 rfl rfl)
theorem dX9_lambda_order_0_7 : decode cX9_lambda_order_0 7 = .ok (.iconst 1, 1) := dk_4 (dk_at dksX9_lambda_order_0_0 7 rfl rfl)
theorem dX9_lambda_order_0_8 : decode cX9_lambda_order_0 8 = .ok (.goto 4, 3) := dk_167 0 4 (dk_at dksX9_lambda_order_0_0 8 rfl rfl)
theorem dX9_lambda_order_0_11 : decode cX9_lambda_order_0 11 = .ok (.iconst 0, 1) := dk_3 (dk_at dksX9_lambda_order_0_0 11 rfl rfl)
theorem dX9_lambda_order_0_12 : decode cX9_lambda_order_0 12 = .ok (.ireturn, 1) := dk_172 (dk_at dksX9_lambda_order_0_0 12 rfl rfl)
abbrev cX9_gapping : ByteArray := prog_11_method_14_code
def yX9_gapping : MethodName := ⟨RX9, "gapping", "(I)LContourLabels$Order;"⟩
theorem dX9_gapping_0 : decode cX9_gapping 0 = .ok (.iload_n 1, 1) := by decide +kernel
theorem dX9_gapping_1 : decode cX9_gapping 1 = .ok (.invokedynamic 108, 5) := by decide +kernel
theorem dX9_gapping_6 : decode cX9_gapping 6 = .ok (.areturn, 1) := by decide +kernel
abbrev cX9_lambda_gapping_7 : ByteArray := prog_11_method_16_code
def yX9_lambda_gapping_7 : MethodName := ⟨RX9, "lambda$gapping$7", "(ILContourLabels$State;)Z"⟩
def dkwX9_lambda_gapping_7_0 : List UInt8 := [43, 26, 181, 0, 112, 4, 172]
abbrev dktX9_lambda_gapping_7_0 : List UInt8 := dkwX9_lambda_gapping_7_0 ++ []
theorem dksX9_lambda_gapping_7_0 : cX9_lambda_gapping_7.data.toList.drop 0 = dktX9_lambda_gapping_7_0 := by decide +kernel
theorem dX9_lambda_gapping_7_0 : decode cX9_lambda_gapping_7 0 = .ok (.aload_n 1, 1) := dk_43 (dk_at dksX9_lambda_gapping_7_0 0 rfl rfl)
theorem dX9_lambda_gapping_7_1 : decode cX9_lambda_gapping_7 1 = .ok (.iload_n 0, 1) := dk_26 (dk_at dksX9_lambda_gapping_7_0 1 rfl rfl)
theorem dX9_lambda_gapping_7_2 : decode cX9_lambda_gapping_7 2 = .ok (.putfield 112, 3) := dk_181 0 112 (dk_at dksX9_lambda_gapping_7_0 2 rfl rfl)
theorem dX9_lambda_gapping_7_5 : decode cX9_lambda_gapping_7 5 = .ok (.iconst 1, 1) := dk_4 (dk_at dksX9_lambda_gapping_7_0 5 rfl rfl)
theorem dX9_lambda_gapping_7_6 : decode cX9_lambda_gapping_7 6 = .ok (.ireturn, 1) := dk_172 (dk_at dksX9_lambda_gapping_7_0 6 rfl rfl)
abbrev cX9_carryOut : ByteArray := prog_11_method_15_code
def yX9_carryOut : MethodName := ⟨RX9, "carryOut", "(LContourLabels$State;)I"⟩
def dkwX9_carryOut_1 : List UInt8 := [153, 0, 9, 132, 2, 1, 167, 255, 230, 28, 172]
abbrev dktX9_carryOut_1 : List UInt8 := dkwX9_carryOut_1 ++ []
def dkwX9_carryOut_0 : List UInt8 := [3, 61, 28, 42, 180, 0, 94, 162, 0, 24, 42, 180, 0, 17, 28, 50, 43, 185, 0, 109, 2, 0]
abbrev dktX9_carryOut_0 : List UInt8 := dkwX9_carryOut_0 ++ dktX9_carryOut_1
theorem dksX9_carryOut_0 : cX9_carryOut.data.toList.drop 0 = dktX9_carryOut_0 := by decide +kernel
theorem dksX9_carryOut_1 : cX9_carryOut.data.toList.drop 22 = dktX9_carryOut_1 := dk_seg dksX9_carryOut_0 22 rfl rfl
theorem dX9_carryOut_0 : decode cX9_carryOut 0 = .ok (.iconst 0, 1) := dk_3 (dk_at dksX9_carryOut_0 0 rfl rfl)
theorem dX9_carryOut_1 : decode cX9_carryOut 1 = .ok (.istore_n 2, 1) := dk_61 (dk_at dksX9_carryOut_0 1 rfl rfl)
theorem dX9_carryOut_2 : decode cX9_carryOut 2 = .ok (.iload_n 2, 1) := dk_28 (dk_at dksX9_carryOut_0 2 rfl rfl)
theorem dX9_carryOut_3 : decode cX9_carryOut 3 = .ok (.aload_n 0, 1) := dk_42 (dk_at dksX9_carryOut_0 3 rfl rfl)
theorem dX9_carryOut_4 : decode cX9_carryOut 4 = .ok (.getfield 94, 3) := dk_180 0 94 (dk_at dksX9_carryOut_0 4 rfl rfl)
theorem dX9_carryOut_7 : decode cX9_carryOut 7 = .ok (.if_icmp .ge 24, 3) := dk_162 0 24 (dk_at dksX9_carryOut_0 7 rfl rfl)
theorem dX9_carryOut_10 : decode cX9_carryOut 10 = .ok (.aload_n 0, 1) := dk_42 (dk_at dksX9_carryOut_0 10 rfl rfl)
theorem dX9_carryOut_11 : decode cX9_carryOut 11 = .ok (.getfield 17, 3) := dk_180 0 17 (dk_at dksX9_carryOut_0 11 rfl rfl)
theorem dX9_carryOut_14 : decode cX9_carryOut 14 = .ok (.iload_n 2, 1) := dk_28 (dk_at dksX9_carryOut_0 14 rfl rfl)
theorem dX9_carryOut_15 : decode cX9_carryOut 15 = .ok (.aaload, 1) := dk_50 (dk_at dksX9_carryOut_0 15 rfl rfl)
theorem dX9_carryOut_16 : decode cX9_carryOut 16 = .ok (.aload_n 1, 1) := dk_43 (dk_at dksX9_carryOut_0 16 rfl rfl)
theorem dX9_carryOut_17 : decode cX9_carryOut 17 = .ok (.invokeinterface 109 2, 5) := by decide +kernel
theorem dX9_carryOut_22 : decode cX9_carryOut 22 = .ok (.ifCond .eq 9, 3) := dk_153 0 9 (dk_at dksX9_carryOut_1 0 rfl rfl)
theorem dX9_carryOut_25 : decode cX9_carryOut 25 = .ok (.iinc 2 1, 3) := dk_132 2 1 (dk_at dksX9_carryOut_1 3 rfl rfl)
theorem dX9_carryOut_28 : decode cX9_carryOut 28 = .ok (.goto (-26), 3) := dk_167 255 230 (dk_at dksX9_carryOut_1 6 rfl rfl)
theorem dX9_carryOut_31 : decode cX9_carryOut 31 = .ok (.iload_n 2, 1) := dk_28 (dk_at dksX9_carryOut_1 9 rfl rfl)
theorem dX9_carryOut_32 : decode cX9_carryOut 32 = .ok (.ireturn, 1) := dk_172 (dk_at dksX9_carryOut_1 10 rfl rfl)
theorem q125 : (Jvm.Cond.initialized "ContourLabels$TextReader") ∈ lw_all := lw_g (lw_at lw_m1 47 rfl) rfl
theorem q169 : (Jvm.Cond.fieldLink "ContourLabels$TextReader" (131 : Nat) "ContourLabels$State" "lines" "Ljava/util/List;") ∈ lw_all := lw_g (lw_at lw_m1 91 rfl) rfl
theorem q171 : (Jvm.Cond.fieldLink "ContourLabels$TextReader" (112 : Nat) "ContourLabels$State" "gap" "I") ∈ lw_all := lw_g (lw_at lw_m1 93 rfl) rfl
theorem q232 : (Jvm.Cond.fieldLinkNest "ContourLabels$TextReader" (32 : Nat) "ContourLabels" "buffer" "Ljava/lang/StringBuilder;" "ContourLabels") ∈ lw_tbl := lw_at lw_m1 154 rfl
theorem q408 : (Jvm.Cond.selects "ContourLabels$TextReader" ({ cls := "java/lang/Object", name := "getClass", desc := "()Ljava/lang/Class;" } : Jvm.MethodName) ({ cls := "java/lang/Object", name := "getClass", desc := "()Ljava/lang/Class;" } : Jvm.MethodName)) ∈ lw_all := lw_g (lw_at lw_m2 90 rfl) rfl
theorem q1534 : (Jvm.Cond.instantiable "ContourLabels$TextReader" (5 : Nat)) ∈ lw_all := lw_g (lw_at lw_m7 16 rfl) rfl
theorem q1536 : (Jvm.Cond.instanceMethod ({ cls := "ContourLabels$TextReader", name := "<init>", desc := "(LContourLabels;)V" } : Jvm.MethodName)) ∈ lw_all := lw_g (lw_at lw_m7 18 rfl) rfl
theorem q1537 : (Jvm.Cond.code ({ cls := "ContourLabels$TextReader", name := "<init>", desc := "(LContourLabels;)V" } : Jvm.MethodName) prog_11_method_1_code (2 : Nat) (Option.none : Option Jvm.ClassFile.FieldType)) ∈ lw_all := lw_g (lw_at lw_m7 19 rfl) rfl
theorem q1538 : (Jvm.Cond.methodLink "ContourLabels$TextReader" (9 : Nat) ({ cls := "java/lang/Object", name := "<init>", desc := "()V" } : Jvm.MethodName)) ∈ lw_all := lw_g (lw_at lw_m7 20 rfl) rfl
theorem q1539 : (Jvm.Cond.classLink "ContourLabels$TextReader" (15 : Nat) "ContourLabels$Order") ∈ lw_all := lw_g (lw_at lw_m7 21 rfl) rfl
theorem q1541 : (Jvm.Cond.fieldLink "ContourLabels$TextReader" (28 : Nat) "ContourLabels$TextReader" "place" "I") ∈ lw_all := lw_g (lw_at lw_m7 23 rfl) rfl
theorem q1543 : (Jvm.Cond.fieldLink "ContourLabels$TextReader" (24 : Nat) "ContourLabels$TextReader" "isWrong" "Z") ∈ lw_all := lw_g (lw_at lw_m7 25 rfl) rfl
theorem q1544 : (Jvm.Cond.fieldLink "ContourLabels$TextReader" (17 : Nat) "ContourLabels$TextReader" "orders" "[LContourLabels$Order;") ∈ lw_all := lw_g (lw_at lw_m7 26 rfl) rfl
theorem q1545 : (Jvm.Cond.fieldLink "ContourLabels$TextReader" (94 : Nat) "ContourLabels$TextReader" "many" "I") ∈ lw_all := lw_g (lw_at lw_m7 27 rfl) rfl
theorem q1546 : (Jvm.Cond.fieldLink "ContourLabels$TextReader" (3 : Nat) "ContourLabels$TextReader" "this$0" "LContourLabels;") ∈ lw_all := lw_g (lw_at lw_m7 28 rfl) rfl
theorem q1547 : (Jvm.Cond.lays "ContourLabels$TextReader" "ContourLabels$TextReader" "place" "I") ∈ lw_all := lw_g (lw_at lw_m7 29 rfl) rfl
theorem q1548 : (Jvm.Cond.soleField "ContourLabels$TextReader" "place") ∈ lw_all := lw_g (lw_at lw_m7 30 rfl) rfl
theorem q1549 : (Jvm.Cond.lays "ContourLabels$TextReader" "ContourLabels$TextReader" "isWrong" "Z") ∈ lw_all := lw_g (lw_at lw_m7 31 rfl) rfl
theorem q1550 : (Jvm.Cond.soleField "ContourLabels$TextReader" "isWrong") ∈ lw_all := lw_g (lw_at lw_m7 32 rfl) rfl
theorem q1551 : (Jvm.Cond.laysFinal "ContourLabels$TextReader" "ContourLabels$TextReader" "orders" "[LContourLabels$Order;") ∈ lw_all := lw_g (lw_at lw_m7 33 rfl) rfl
theorem q1552 : (Jvm.Cond.soleField "ContourLabels$TextReader" "orders") ∈ lw_all := lw_g (lw_at lw_m7 34 rfl) rfl
theorem q1553 : (Jvm.Cond.lays "ContourLabels$TextReader" "ContourLabels$TextReader" "many" "I") ∈ lw_all := lw_g (lw_at lw_m7 35 rfl) rfl
theorem q1554 : (Jvm.Cond.soleField "ContourLabels$TextReader" "many") ∈ lw_all := lw_g (lw_at lw_m7 36 rfl) rfl
theorem q1555 : (Jvm.Cond.laysFinal "ContourLabels$TextReader" "ContourLabels$TextReader" "this$0" "LContourLabels;") ∈ lw_all := lw_g (lw_at lw_m7 37 rfl) rfl
theorem q1556 : (Jvm.Cond.soleField "ContourLabels$TextReader" "this$0") ∈ lw_all := lw_g (lw_at lw_m7 38 rfl) rfl
theorem q1557 : (Jvm.Cond.superclass "ContourLabels$TextReader" "java/lang/Object") ∈ lw_all := lw_g (lw_at lw_m7 39 rfl) rfl
theorem q1559 : (Jvm.Cond.instanceMethod ({ cls := "ContourLabels$TextReader", name := "readAll", desc := "()Z" } : Jvm.MethodName)) ∈ lw_all := lw_g (lw_at lw_m7 41 rfl) rfl
theorem q1560 : (Jvm.Cond.selects "ContourLabels$TextReader" ({ cls := "ContourLabels$TextReader", name := "readAll", desc := "()Z" } : Jvm.MethodName) ({ cls := "ContourLabels$TextReader", name := "readAll", desc := "()Z" } : Jvm.MethodName)) ∈ lw_all := lw_g (lw_at lw_m7 42 rfl) rfl
theorem q1561 : (Jvm.Cond.code ({ cls := "ContourLabels$TextReader", name := "readAll", desc := "()Z" } : Jvm.MethodName) prog_11_method_2_code (1 : Nat) (Option.some Jvm.ClassFile.FieldType.boolean)) ∈ lw_all := lw_g (lw_at lw_m7 43 rfl) rfl
theorem q1562 : (Jvm.Cond.methodLink "ContourLabels$TextReader" (21 : Nat) ({ cls := "ContourLabels$TextReader", name := "order", desc := "()V" } : Jvm.MethodName)) ∈ lw_all := lw_g (lw_at lw_m7 44 rfl) rfl
theorem q1563 : (Jvm.Cond.privateMethod ({ cls := "ContourLabels$TextReader", name := "order", desc := "()V" } : Jvm.MethodName)) ∈ lw_tbl := lw_at lw_m7 45 rfl
theorem q1564 : (Jvm.Cond.instanceMethod ({ cls := "ContourLabels$TextReader", name := "order", desc := "()V" } : Jvm.MethodName)) ∈ lw_all := lw_g (lw_at lw_m7 46 rfl) rfl
theorem q1565 : (Jvm.Cond.code ({ cls := "ContourLabels$TextReader", name := "order", desc := "()V" } : Jvm.MethodName) prog_11_method_7_code (3 : Nat) (Option.none : Option Jvm.ClassFile.FieldType)) ∈ lw_all := lw_g (lw_at lw_m7 47 rfl) rfl
theorem q1566 : (Jvm.Cond.methodLink "ContourLabels$TextReader" (50 : Nat) ({ cls := "ContourLabels$TextReader", name := "sign", desc := "()C" } : Jvm.MethodName)) ∈ lw_all := lw_g (lw_at lw_m7 48 rfl) rfl
theorem q1567 : (Jvm.Cond.privateMethod ({ cls := "ContourLabels$TextReader", name := "sign", desc := "()C" } : Jvm.MethodName)) ∈ lw_tbl := lw_at lw_m7 49 rfl
theorem q1568 : (Jvm.Cond.instanceMethod ({ cls := "ContourLabels$TextReader", name := "sign", desc := "()C" } : Jvm.MethodName)) ∈ lw_all := lw_g (lw_at lw_m7 50 rfl) rfl
theorem q1569 : (Jvm.Cond.code ({ cls := "ContourLabels$TextReader", name := "sign", desc := "()C" } : Jvm.MethodName) prog_11_method_3_code (1 : Nat) (Option.some Jvm.ClassFile.FieldType.char)) ∈ lw_all := lw_g (lw_at lw_m7 51 rfl) rfl
theorem q1570 : (Jvm.Cond.methodLink "ContourLabels$TextReader" (36 : Nat) ({ cls := "java/lang/StringBuilder", name := "length", desc := "()I" } : Jvm.MethodName)) ∈ lw_all := lw_g (lw_at lw_m7 52 rfl) rfl
theorem q1571 : (Jvm.Cond.methodLink "ContourLabels$TextReader" (46 : Nat) ({ cls := "java/lang/StringBuilder", name := "charAt", desc := "(I)C" } : Jvm.MethodName)) ∈ lw_all := lw_g (lw_at lw_m7 53 rfl) rfl
theorem q1584 : (Jvm.Cond.stringRef "ContourLabels$TextReader" (57 : Nat) "nswlubag") ∈ lw_tbl := lw_at lw_m7 66 rfl
theorem q1585 : (Jvm.Cond.methodLink "ContourLabels$TextReader" (59 : Nat) ({ cls := "java/lang/String", name := "indexOf", desc := "(I)I" } : Jvm.MethodName)) ∈ lw_all := lw_g (lw_at lw_m7 67 rfl) rfl
theorem q1633 : (Jvm.Cond.methodLink "ContourLabels$TextReader" (65 : Nat) ({ cls := "ContourLabels$TextReader", name := "number", desc := "(I)I" } : Jvm.MethodName)) ∈ lw_all := lw_g (lw_at lw_m7 115 rfl) rfl
theorem q1634 : (Jvm.Cond.privateMethod ({ cls := "ContourLabels$TextReader", name := "number", desc := "(I)I" } : Jvm.MethodName)) ∈ lw_tbl := lw_at lw_m7 116 rfl
theorem q1635 : (Jvm.Cond.instanceMethod ({ cls := "ContourLabels$TextReader", name := "number", desc := "(I)I" } : Jvm.MethodName)) ∈ lw_all := lw_g (lw_at lw_m7 117 rfl) rfl
theorem q1636 : (Jvm.Cond.code ({ cls := "ContourLabels$TextReader", name := "number", desc := "(I)I" } : Jvm.MethodName) prog_11_method_6_code (3 : Nat) (Option.some Jvm.ClassFile.FieldType.int)) ∈ lw_all := lw_g (lw_at lw_m7 118 rfl) rfl
theorem q1637 : (Jvm.Cond.methodLink "ContourLabels$TextReader" (53 : Nat) ({ cls := "ContourLabels$TextReader", name := "digit", desc := "(II)I" } : Jvm.MethodName)) ∈ lw_all := lw_g (lw_at lw_m7 119 rfl) rfl
theorem q1638 : (Jvm.Cond.privateMethod ({ cls := "ContourLabels$TextReader", name := "digit", desc := "(II)I" } : Jvm.MethodName)) ∈ lw_tbl := lw_at lw_m7 120 rfl
theorem q1639 : (Jvm.Cond.instanceMethod ({ cls := "ContourLabels$TextReader", name := "digit", desc := "(II)I" } : Jvm.MethodName)) ∈ lw_all := lw_g (lw_at lw_m7 121 rfl) rfl
theorem q1640 : (Jvm.Cond.code ({ cls := "ContourLabels$TextReader", name := "digit", desc := "(II)I" } : Jvm.MethodName) prog_11_method_5_code (4 : Nat) (Option.some Jvm.ClassFile.FieldType.int)) ∈ lw_all := lw_g (lw_at lw_m7 122 rfl) rfl
theorem q1641 : (Jvm.Cond.methodLink "ContourLabels$TextReader" (68 : Nat) ({ cls := "ContourLabels$TextReader", name := "beginning", desc := "(I)LContourLabels$Order;" } : Jvm.MethodName)) ∈ lw_all := lw_g (lw_at lw_m7 123 rfl) rfl
theorem q1642 : (Jvm.Cond.privateMethod ({ cls := "ContourLabels$TextReader", name := "beginning", desc := "(I)LContourLabels$Order;" } : Jvm.MethodName)) ∈ lw_tbl := lw_at lw_m7 124 rfl
theorem q1643 : (Jvm.Cond.instanceMethod ({ cls := "ContourLabels$TextReader", name := "beginning", desc := "(I)LContourLabels$Order;" } : Jvm.MethodName)) ∈ lw_all := lw_g (lw_at lw_m7 125 rfl) rfl
theorem q1644 : (Jvm.Cond.code ({ cls := "ContourLabels$TextReader", name := "beginning", desc := "(I)LContourLabels$Order;" } : Jvm.MethodName) prog_11_method_8_code (3 : Nat) (Option.some (Jvm.ClassFile.FieldType.object "ContourLabels$Order"))) ∈ lw_all := lw_g (lw_at lw_m7 126 rfl) rfl
theorem q1645 : (Jvm.Cond.methodLink "ContourLabels$TextReader" (42 : Nat) ({ cls := "ContourLabels$TextReader", name := "sign", desc := "(C)V" } : Jvm.MethodName)) ∈ lw_all := lw_g (lw_at lw_m7 127 rfl) rfl
theorem q1646 : (Jvm.Cond.privateMethod ({ cls := "ContourLabels$TextReader", name := "sign", desc := "(C)V" } : Jvm.MethodName)) ∈ lw_tbl := lw_at lw_m7 128 rfl
theorem q1647 : (Jvm.Cond.instanceMethod ({ cls := "ContourLabels$TextReader", name := "sign", desc := "(C)V" } : Jvm.MethodName)) ∈ lw_all := lw_g (lw_at lw_m7 129 rfl) rfl
theorem q1648 : (Jvm.Cond.code ({ cls := "ContourLabels$TextReader", name := "sign", desc := "(C)V" } : Jvm.MethodName) prog_11_method_4_code (2 : Nat) (Option.none : Option Jvm.ClassFile.FieldType)) ∈ lw_all := lw_g (lw_at lw_m7 130 rfl) rfl
theorem q1649 : (Jvm.Cond.static ({ cls := "ContourLabels$TextReader", name := "lambda$beginning$1", desc := "(IILContourLabels$State;)Z" } : Jvm.MethodName)) ∈ lw_all := lw_g (lw_at lw_m7 131 rfl) rfl
theorem q1650 : (Jvm.Cond.code ({ cls := "ContourLabels$TextReader", name := "lambda$beginning$1", desc := "(IILContourLabels$State;)Z" } : Jvm.MethodName) prog_11_method_22_code (3 : Nat) (Option.some Jvm.ClassFile.FieldType.boolean)) ∈ lw_all := lw_g (lw_at lw_m7 132 rfl) rfl
theorem q1651 : (Jvm.Cond.methodLink "ContourLabels$TextReader" (143 : Nat) ({ cls := "ContourLabels$State", name := "begin", desc := "(II)Z" } : Jvm.MethodName)) ∈ lw_all := lw_g (lw_at lw_m7 133 rfl) rfl
theorem q1666 : (Jvm.Cond.methodLink "ContourLabels$TextReader" (72 : Nat) ({ cls := "ContourLabels$TextReader", name := "stepping", desc := "(I)LContourLabels$Order;" } : Jvm.MethodName)) ∈ lw_all := lw_g (lw_at lw_m7 148 rfl) rfl
theorem q1667 : (Jvm.Cond.privateMethod ({ cls := "ContourLabels$TextReader", name := "stepping", desc := "(I)LContourLabels$Order;" } : Jvm.MethodName)) ∈ lw_tbl := lw_at lw_m7 149 rfl
theorem q1668 : (Jvm.Cond.instanceMethod ({ cls := "ContourLabels$TextReader", name := "stepping", desc := "(I)LContourLabels$Order;" } : Jvm.MethodName)) ∈ lw_all := lw_g (lw_at lw_m7 150 rfl) rfl
theorem q1669 : (Jvm.Cond.code ({ cls := "ContourLabels$TextReader", name := "stepping", desc := "(I)LContourLabels$Order;" } : Jvm.MethodName) prog_11_method_9_code (5 : Nat) (Option.some (Jvm.ClassFile.FieldType.object "ContourLabels$Order"))) ∈ lw_all := lw_g (lw_at lw_m7 151 rfl) rfl
theorem q1670 : (Jvm.Cond.static ({ cls := "ContourLabels$TextReader", name := "lambda$stepping$2", desc := "(I[ILContourLabels$State;)Z" } : Jvm.MethodName)) ∈ lw_all := lw_g (lw_at lw_m7 152 rfl) rfl
theorem q1671 : (Jvm.Cond.code ({ cls := "ContourLabels$TextReader", name := "lambda$stepping$2", desc := "(I[ILContourLabels$State;)Z" } : Jvm.MethodName) prog_11_method_21_code (5 : Nat) (Option.some Jvm.ClassFile.FieldType.boolean)) ∈ lw_all := lw_g (lw_at lw_m7 153 rfl) rfl
theorem q1672 : (Jvm.Cond.interfaceEntry "ContourLabels$TextReader" (135 : Nat)) ∈ lw_tbl := lw_at lw_m7 154 rfl
theorem q1673 : (Jvm.Cond.methodLink "ContourLabels$TextReader" (135 : Nat) ({ cls := "java/util/List", name := "size", desc := "()I" } : Jvm.MethodName)) ∈ lw_all := lw_g (lw_at lw_m7 155 rfl) rfl
theorem q1674 : (Jvm.Cond.methodLink "ContourLabels$TextReader" (140 : Nat) ({ cls := "ContourLabels$State", name := "step", desc := "(II)Z" } : Jvm.MethodName)) ∈ lw_all := lw_g (lw_at lw_m7 156 rfl) rfl
theorem q1740 : (Jvm.Cond.methodLink "ContourLabels$TextReader" (75 : Nat) ({ cls := "ContourLabels$TextReader", name := "wiping", desc := "(I)LContourLabels$Order;" } : Jvm.MethodName)) ∈ lw_all := lw_g (lw_at lw_m7 222 rfl) rfl
theorem q1741 : (Jvm.Cond.privateMethod ({ cls := "ContourLabels$TextReader", name := "wiping", desc := "(I)LContourLabels$Order;" } : Jvm.MethodName)) ∈ lw_tbl := lw_at lw_m7 223 rfl
theorem q1742 : (Jvm.Cond.instanceMethod ({ cls := "ContourLabels$TextReader", name := "wiping", desc := "(I)LContourLabels$Order;" } : Jvm.MethodName)) ∈ lw_all := lw_g (lw_at lw_m7 224 rfl) rfl
theorem q1743 : (Jvm.Cond.code ({ cls := "ContourLabels$TextReader", name := "wiping", desc := "(I)LContourLabels$Order;" } : Jvm.MethodName) prog_11_method_10_code (2 : Nat) (Option.some (Jvm.ClassFile.FieldType.object "ContourLabels$Order"))) ∈ lw_all := lw_g (lw_at lw_m7 225 rfl) rfl
theorem q1744 : (Jvm.Cond.static ({ cls := "ContourLabels$TextReader", name := "lambda$wiping$3", desc := "(ILContourLabels$State;)Z" } : Jvm.MethodName)) ∈ lw_all := lw_g (lw_at lw_m7 226 rfl) rfl
theorem q1745 : (Jvm.Cond.code ({ cls := "ContourLabels$TextReader", name := "lambda$wiping$3", desc := "(ILContourLabels$State;)Z" } : Jvm.MethodName) prog_11_method_20_code (2 : Nat) (Option.some Jvm.ClassFile.FieldType.boolean)) ∈ lw_all := lw_g (lw_at lw_m7 227 rfl) rfl
theorem q1746 : (Jvm.Cond.methodLink "ContourLabels$TextReader" (128 : Nat) ({ cls := "ContourLabels$State", name := "wipe", desc := "(I)Z" } : Jvm.MethodName)) ∈ lw_all := lw_g (lw_at lw_m7 228 rfl) rfl
theorem q1764 : (Jvm.Cond.methodLink "ContourLabels$TextReader" (78 : Nat) ({ cls := "ContourLabels$TextReader", name := "labelling", desc := "(I)LContourLabels$Order;" } : Jvm.MethodName)) ∈ lw_all := lw_g (lw_at lw_m8 6 rfl) rfl
theorem q1765 : (Jvm.Cond.privateMethod ({ cls := "ContourLabels$TextReader", name := "labelling", desc := "(I)LContourLabels$Order;" } : Jvm.MethodName)) ∈ lw_tbl := lw_at lw_m8 7 rfl
theorem q1766 : (Jvm.Cond.instanceMethod ({ cls := "ContourLabels$TextReader", name := "labelling", desc := "(I)LContourLabels$Order;" } : Jvm.MethodName)) ∈ lw_all := lw_g (lw_at lw_m8 8 rfl) rfl
theorem q1767 : (Jvm.Cond.code ({ cls := "ContourLabels$TextReader", name := "labelling", desc := "(I)LContourLabels$Order;" } : Jvm.MethodName) prog_11_method_11_code (3 : Nat) (Option.some (Jvm.ClassFile.FieldType.object "ContourLabels$Order"))) ∈ lw_all := lw_g (lw_at lw_m8 9 rfl) rfl
theorem q1768 : (Jvm.Cond.static ({ cls := "ContourLabels$TextReader", name := "lambda$labelling$4", desc := "(IILContourLabels$State;)Z" } : Jvm.MethodName)) ∈ lw_all := lw_g (lw_at lw_m8 10 rfl) rfl
theorem q1769 : (Jvm.Cond.code ({ cls := "ContourLabels$TextReader", name := "lambda$labelling$4", desc := "(IILContourLabels$State;)Z" } : Jvm.MethodName) prog_11_method_19_code (3 : Nat) (Option.some Jvm.ClassFile.FieldType.boolean)) ∈ lw_all := lw_g (lw_at lw_m8 11 rfl) rfl
theorem q1770 : (Jvm.Cond.methodLink "ContourLabels$TextReader" (124 : Nat) ({ cls := "ContourLabels$State", name := "label", desc := "(II)Z" } : Jvm.MethodName)) ∈ lw_all := lw_g (lw_at lw_m8 12 rfl) rfl
theorem q1771 : (Jvm.Cond.methodLink "ContourLabels$TextReader" (81 : Nat) ({ cls := "ContourLabels$TextReader", name := "unlabelling", desc := "(I)LContourLabels$Order;" } : Jvm.MethodName)) ∈ lw_all := lw_g (lw_at lw_m8 13 rfl) rfl
theorem q1772 : (Jvm.Cond.privateMethod ({ cls := "ContourLabels$TextReader", name := "unlabelling", desc := "(I)LContourLabels$Order;" } : Jvm.MethodName)) ∈ lw_tbl := lw_at lw_m8 14 rfl
theorem q1773 : (Jvm.Cond.instanceMethod ({ cls := "ContourLabels$TextReader", name := "unlabelling", desc := "(I)LContourLabels$Order;" } : Jvm.MethodName)) ∈ lw_all := lw_g (lw_at lw_m8 15 rfl) rfl
theorem q1774 : (Jvm.Cond.code ({ cls := "ContourLabels$TextReader", name := "unlabelling", desc := "(I)LContourLabels$Order;" } : Jvm.MethodName) prog_11_method_12_code (2 : Nat) (Option.some (Jvm.ClassFile.FieldType.object "ContourLabels$Order"))) ∈ lw_all := lw_g (lw_at lw_m8 16 rfl) rfl
theorem q1775 : (Jvm.Cond.static ({ cls := "ContourLabels$TextReader", name := "lambda$unlabelling$5", desc := "(ILContourLabels$State;)Z" } : Jvm.MethodName)) ∈ lw_all := lw_g (lw_at lw_m8 17 rfl) rfl
theorem q1776 : (Jvm.Cond.code ({ cls := "ContourLabels$TextReader", name := "lambda$unlabelling$5", desc := "(ILContourLabels$State;)Z" } : Jvm.MethodName) prog_11_method_18_code (2 : Nat) (Option.some Jvm.ClassFile.FieldType.boolean)) ∈ lw_all := lw_g (lw_at lw_m8 18 rfl) rfl
theorem q1777 : (Jvm.Cond.methodLink "ContourLabels$TextReader" (121 : Nat) ({ cls := "ContourLabels$State", name := "unlabel", desc := "(I)Z" } : Jvm.MethodName)) ∈ lw_all := lw_g (lw_at lw_m8 19 rfl) rfl
theorem q1781 : (Jvm.Cond.methodLink "ContourLabels$TextReader" (84 : Nat) ({ cls := "ContourLabels$TextReader", name := "labellingBest", desc := "(I)LContourLabels$Order;" } : Jvm.MethodName)) ∈ lw_all := lw_g (lw_at lw_m8 23 rfl) rfl
theorem q1782 : (Jvm.Cond.privateMethod ({ cls := "ContourLabels$TextReader", name := "labellingBest", desc := "(I)LContourLabels$Order;" } : Jvm.MethodName)) ∈ lw_tbl := lw_at lw_m8 24 rfl
theorem q1783 : (Jvm.Cond.instanceMethod ({ cls := "ContourLabels$TextReader", name := "labellingBest", desc := "(I)LContourLabels$Order;" } : Jvm.MethodName)) ∈ lw_all := lw_g (lw_at lw_m8 25 rfl) rfl
theorem q1784 : (Jvm.Cond.code ({ cls := "ContourLabels$TextReader", name := "labellingBest", desc := "(I)LContourLabels$Order;" } : Jvm.MethodName) prog_11_method_13_code (2 : Nat) (Option.some (Jvm.ClassFile.FieldType.object "ContourLabels$Order"))) ∈ lw_all := lw_g (lw_at lw_m8 26 rfl) rfl
theorem q1785 : (Jvm.Cond.static ({ cls := "ContourLabels$TextReader", name := "lambda$labellingBest$6", desc := "(ILContourLabels$State;)Z" } : Jvm.MethodName)) ∈ lw_all := lw_g (lw_at lw_m8 27 rfl) rfl
theorem q1786 : (Jvm.Cond.code ({ cls := "ContourLabels$TextReader", name := "lambda$labellingBest$6", desc := "(ILContourLabels$State;)Z" } : Jvm.MethodName) prog_11_method_17_code (2 : Nat) (Option.some Jvm.ClassFile.FieldType.boolean)) ∈ lw_all := lw_g (lw_at lw_m8 28 rfl) rfl
theorem q1787 : (Jvm.Cond.methodLink "ContourLabels$TextReader" (117 : Nat) ({ cls := "ContourLabels$State", name := "labelBest", desc := "(I)Z" } : Jvm.MethodName)) ∈ lw_all := lw_g (lw_at lw_m8 29 rfl) rfl
theorem q1788 : (Jvm.Cond.static ({ cls := "ContourLabels$TextReader", name := "lambda$order$0", desc := "(LContourLabels$State;)Z" } : Jvm.MethodName)) ∈ lw_all := lw_g (lw_at lw_m8 30 rfl) rfl
theorem q1789 : (Jvm.Cond.code ({ cls := "ContourLabels$TextReader", name := "lambda$order$0", desc := "(LContourLabels$State;)Z" } : Jvm.MethodName) prog_11_method_23_code (1 : Nat) (Option.some Jvm.ClassFile.FieldType.boolean)) ∈ lw_all := lw_g (lw_at lw_m8 31 rfl) rfl
theorem q1790 : (Jvm.Cond.methodLink "ContourLabels$TextReader" (146 : Nat) ({ cls := "ContourLabels$State", name := "labelAll", desc := "()I" } : Jvm.MethodName)) ∈ lw_all := lw_g (lw_at lw_m8 32 rfl) rfl
theorem q1791 : (Jvm.Cond.methodLink "ContourLabels$TextReader" (91 : Nat) ({ cls := "ContourLabels$TextReader", name := "gapping", desc := "(I)LContourLabels$Order;" } : Jvm.MethodName)) ∈ lw_all := lw_g (lw_at lw_m8 33 rfl) rfl
theorem q1792 : (Jvm.Cond.privateMethod ({ cls := "ContourLabels$TextReader", name := "gapping", desc := "(I)LContourLabels$Order;" } : Jvm.MethodName)) ∈ lw_tbl := lw_at lw_m8 34 rfl
theorem q1793 : (Jvm.Cond.instanceMethod ({ cls := "ContourLabels$TextReader", name := "gapping", desc := "(I)LContourLabels$Order;" } : Jvm.MethodName)) ∈ lw_all := lw_g (lw_at lw_m8 35 rfl) rfl
theorem q1794 : (Jvm.Cond.code ({ cls := "ContourLabels$TextReader", name := "gapping", desc := "(I)LContourLabels$Order;" } : Jvm.MethodName) prog_11_method_14_code (2 : Nat) (Option.some (Jvm.ClassFile.FieldType.object "ContourLabels$Order"))) ∈ lw_all := lw_g (lw_at lw_m8 36 rfl) rfl
theorem q1795 : (Jvm.Cond.static ({ cls := "ContourLabels$TextReader", name := "lambda$gapping$7", desc := "(ILContourLabels$State;)Z" } : Jvm.MethodName)) ∈ lw_all := lw_g (lw_at lw_m8 37 rfl) rfl
theorem q1796 : (Jvm.Cond.code ({ cls := "ContourLabels$TextReader", name := "lambda$gapping$7", desc := "(ILContourLabels$State;)Z" } : Jvm.MethodName) prog_11_method_16_code (2 : Nat) (Option.some Jvm.ClassFile.FieldType.boolean)) ∈ lw_all := lw_g (lw_at lw_m8 38 rfl) rfl
theorem q2196 : (Jvm.Cond.instanceMethod ({ cls := "ContourLabels$TextReader", name := "carryOut", desc := "(LContourLabels$State;)I" } : Jvm.MethodName)) ∈ lw_all := lw_g (lw_at lw_m9 198 rfl) rfl
theorem q2197 : (Jvm.Cond.selects "ContourLabels$TextReader" ({ cls := "ContourLabels$TextReader", name := "carryOut", desc := "(LContourLabels$State;)I" } : Jvm.MethodName) ({ cls := "ContourLabels$TextReader", name := "carryOut", desc := "(LContourLabels$State;)I" } : Jvm.MethodName)) ∈ lw_all := lw_g (lw_at lw_m9 199 rfl) rfl
theorem q2198 : (Jvm.Cond.code ({ cls := "ContourLabels$TextReader", name := "carryOut", desc := "(LContourLabels$State;)I" } : Jvm.MethodName) prog_11_method_15_code (3 : Nat) (Option.some Jvm.ClassFile.FieldType.int)) ∈ lw_all := lw_g (lw_at lw_m9 200 rfl) rfl
theorem q2199 : (Jvm.Cond.interfaceEntry "ContourLabels$TextReader" (109 : Nat)) ∈ lw_tbl := lw_at lw_m9 201 rfl
theorem q2200 : (Jvm.Cond.methodLink "ContourLabels$TextReader" (109 : Nat) ({ cls := "ContourLabels$Order", name := "carryOut", desc := "(LContourLabels$State;)Z" } : Jvm.MethodName)) ∈ lw_all := lw_g (lw_at lw_m9 202 rfl) rfl
theorem q2691 : (Jvm.Cond.castable "ContourLabels$TextReader" "java/lang/Object") ∈ lw_tbl := lw_at lw_m11 213 rfl
theorem in_X9 : ∀ w ∈ wsX90, w ∈ lw_all := lw_in wsX90 [1547, 1549, 1551, 1553, 1555] (by decide +kernel) (by decide +kernel)


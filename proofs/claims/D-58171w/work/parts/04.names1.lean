/-! ContourLabelsModel -/
set_option maxRecDepth 100000
def RX3 : String := "ContourLabelsModel"
def TX3 : u_T := fun k => match k with
  | 0 => ("ContourLabelsModel", "row", "[I", true)
  | 1 => ("ContourLabelsModel", "saved", "[I", true)
  | 2 => ("ContourLabelsModel", "savedMany", "I", false)
  | 3 => ("ContourLabelsModel", "kept", "[I", true)
  | 4 => ("ContourLabelsModel", "isKept", "Z", false)
  | 5 => ("ContourLabelsModel", "text", "[I", true)
  | 6 => ("ContourLabelsModel", "length", "I", false)
  | 7 => ("ContourLabelsModel", "thrown", "I", false)
  | 8 => ("ContourLabelsModel", "spot", "I", false)
  | 9 => ("ContourLabelsModel", "isWell", "Z", false)
  | 10 => ("ContourLabelsModel", "letter", "I", false)
  | 11 => ("ContourLabelsModel", "first", "I", false)
  | _ => ("ContourLabelsModel", "second", "I", false)
def tyX3 : Nat → FieldType := fun k => match k with
  | 0 => .array .int
  | 1 => .array .int
  | 2 => .int
  | 3 => .array .int
  | 4 => .boolean
  | 5 => .array .int
  | 6 => .int
  | 7 => .int
  | 8 => .int
  | 9 => .boolean
  | 10 => .int
  | 11 => .int
  | _ => .int
abbrev wsX30 : List Cond := u_ws RX3 TX3 13
set_option maxRecDepth 100000 in
theorem nmX3 : ∀ a, a < 13 → ∀ b, b < 13 → a ≠ b → (TX3 a).2.1 ≠ (TX3 b).2.1 := by decide +kernel
set_option maxRecDepth 100000 in
theorem tyX3_ok : ∀ k, k < 13 → parseFieldDescriptor (TX3 k).2.2.1 = some (tyX3 k) := by decide +kernel
abbrev cX3_init : ByteArray := prog_13_method_1_code
def yX3_init : MethodName := ⟨RX3, "<init>", "()V"⟩
def dkwX3_init_1 : List UInt8 := [17, 2, 2, 188, 10, 181, 0, 16, 42, 16, 60, 188, 10, 181, 0, 19, 42, 180, 0, 7, 4, 5, 79, 177]
abbrev dktX3_init_1 : List UInt8 := dkwX3_init_1 ++ []
def dkwX3_init_0 : List UInt8 := [42, 183, 0, 1, 42, 17, 2, 2, 188, 10, 181, 0, 7, 42, 17, 10, 10, 188, 10, 181, 0, 13, 42]
abbrev dktX3_init_0 : List UInt8 := dkwX3_init_0 ++ dktX3_init_1
theorem dksX3_init_0 : cX3_init.data.toList.drop 0 = dktX3_init_0 := by decide +kernel
theorem dksX3_init_1 : cX3_init.data.toList.drop 23 = dktX3_init_1 := dk_seg dksX3_init_0 23 rfl rfl
theorem dX3_init_0 : decode cX3_init 0 = .ok (.aload_n 0, 1) := dk_42 (dk_at dksX3_init_0 0 rfl rfl)
theorem dX3_init_1 : decode cX3_init 1 = .ok (.invokespecial 1, 3) := dk_183 0 1 (dk_at dksX3_init_0 1 rfl rfl)
theorem dX3_init_4 : decode cX3_init 4 = .ok (.aload_n 0, 1) := dk_42 (dk_at dksX3_init_0 4 rfl rfl)
theorem dX3_init_5 : decode cX3_init 5 = .ok (.sipush 514, 3) := dk_17 2 2 (dk_at dksX3_init_0 5 rfl rfl)
theorem dX3_init_8 : decode cX3_init 8 = .ok (.newarray .int, 2) := dk_188_10 (dk_at dksX3_init_0 8 rfl rfl)
theorem dX3_init_10 : decode cX3_init 10 = .ok (.putfield 7, 3) := dk_181 0 7 (dk_at dksX3_init_0 10 rfl rfl)
theorem dX3_init_13 : decode cX3_init 13 = .ok (.aload_n 0, 1) := dk_42 (dk_at dksX3_init_0 13 rfl rfl)
theorem dX3_init_14 : decode cX3_init 14 = .ok (.sipush 2570, 3) := dk_17 10 10 (dk_at dksX3_init_0 14 rfl rfl)
theorem dX3_init_17 : decode cX3_init 17 = .ok (.newarray .int, 2) := dk_188_10 (dk_at dksX3_init_0 17 rfl rfl)
theorem dX3_init_19 : decode cX3_init 19 = .ok (.putfield 13, 3) := dk_181 0 13 (dk_at dksX3_init_0 19 rfl rfl)
theorem dX3_init_22 : decode cX3_init 22 = .ok (.aload_n 0, 1) := dk_42 (dk_at dksX3_init_0 22 rfl rfl)
theorem dX3_init_23 : decode cX3_init 23 = .ok (.sipush 514, 3) := dk_17 2 2 (dk_at dksX3_init_1 0 rfl rfl)
theorem dX3_init_26 : decode cX3_init 26 = .ok (.newarray .int, 2) := dk_188_10 (dk_at dksX3_init_1 3 rfl rfl)
theorem dX3_init_28 : decode cX3_init 28 = .ok (.putfield 16, 3) := dk_181 0 16 (dk_at dksX3_init_1 5 rfl rfl)
theorem dX3_init_31 : decode cX3_init 31 = .ok (.aload_n 0, 1) := dk_42 (dk_at dksX3_init_1 8 rfl rfl)
theorem dX3_init_32 : decode cX3_init 32 = .ok (.bipush 60, 2) := dk_16 60 (dk_at dksX3_init_1 9 rfl rfl)
theorem dX3_init_34 : decode cX3_init 34 = .ok (.newarray .int, 2) := dk_188_10 (dk_at dksX3_init_1 11 rfl rfl)
theorem dX3_init_36 : decode cX3_init 36 = .ok (.putfield 19, 3) := dk_181 0 19 (dk_at dksX3_init_1 13 rfl rfl)
theorem dX3_init_39 : decode cX3_init 39 = .ok (.aload_n 0, 1) := dk_42 (dk_at dksX3_init_1 16 rfl rfl)
theorem dX3_init_40 : decode cX3_init 40 = .ok (.getfield 7, 3) := dk_180 0 7 (dk_at dksX3_init_1 17 rfl rfl)
theorem dX3_init_43 : decode cX3_init 43 = .ok (.iconst 1, 1) := dk_4 (dk_at dksX3_init_1 20 rfl rfl)
theorem dX3_init_44 : decode cX3_init 44 = .ok (.iconst 2, 1) := dk_5 (dk_at dksX3_init_1 21 rfl rfl)
theorem dX3_init_45 : decode cX3_init 45 = .ok (.iastore, 1) := dk_79 (dk_at dksX3_init_1 22 rfl rfl)
theorem dX3_init_46 : decode cX3_init 46 = .ok (.return_, 1) := dk_177 (dk_at dksX3_init_1 23 rfl rfl)
abbrev cX3_thrown : ByteArray := prog_13_method_2_code
def yX3_thrown : MethodName := ⟨RX3, "thrown", "()I"⟩
theorem dX3_thrown_0 : decode cX3_thrown 0 = .ok (.aload_n 0, 1) := by decide +kernel
theorem dX3_thrown_1 : decode cX3_thrown 1 = .ok (.getfield 22, 3) := by decide +kernel
theorem dX3_thrown_4 : decode cX3_thrown 4 = .ok (.ireturn, 1) := by decide +kernel
abbrev cX3_begin : ByteArray := prog_13_method_37_code
def yX3_begin : MethodName := ⟨RX3, "begin", "(II)I"⟩
def dkwX3_begin_0 : List UInt8 := [42, 16, 110, 27, 28, 182, 0, 134, 172]
abbrev dktX3_begin_0 : List UInt8 := dkwX3_begin_0 ++ []
theorem dksX3_begin_0 : cX3_begin.data.toList.drop 0 = dktX3_begin_0 := by decide +kernel
theorem dX3_begin_0 : decode cX3_begin 0 = .ok (.aload_n 0, 1) := dk_42 (dk_at dksX3_begin_0 0 rfl rfl)
theorem dX3_begin_1 : decode cX3_begin 1 = .ok (.bipush 110, 2) := dk_16 110 (dk_at dksX3_begin_0 1 rfl rfl)
theorem dX3_begin_3 : decode cX3_begin 3 = .ok (.iload_n 1, 1) := dk_27 (dk_at dksX3_begin_0 3 rfl rfl)
theorem dX3_begin_4 : decode cX3_begin 4 = .ok (.iload_n 2, 1) := dk_28 (dk_at dksX3_begin_0 4 rfl rfl)
theorem dX3_begin_5 : decode cX3_begin 5 = .ok (.invokevirtual 134, 3) := dk_182 0 134 (dk_at dksX3_begin_0 5 rfl rfl)
theorem dX3_begin_8 : decode cX3_begin 8 = .ok (.ireturn, 1) := dk_172 (dk_at dksX3_begin_0 8 rfl rfl)
abbrev cX3_acts : ByteArray := prog_13_method_36_code
def yX3_acts : MethodName := ⟨RX3, "acts", "(III)I"⟩
def dkwX3_acts_1 : List UInt8 := [42, 27, 28, 29, 182, 0, 131, 172]
abbrev dktX3_acts_1 : List UInt8 := dkwX3_acts_1 ++ []
def dkwX3_acts_0 : List UInt8 := [42, 42, 27, 28, 29, 182, 0, 124, 181, 0, 22, 42, 180, 0, 22, 158, 0, 5, 3, 172, 42, 182, 0, 128]
abbrev dktX3_acts_0 : List UInt8 := dkwX3_acts_0 ++ dktX3_acts_1
theorem dksX3_acts_0 : cX3_acts.data.toList.drop 0 = dktX3_acts_0 := by decide +kernel
theorem dksX3_acts_1 : cX3_acts.data.toList.drop 24 = dktX3_acts_1 := dk_seg dksX3_acts_0 24 rfl rfl
theorem dX3_acts_0 : decode cX3_acts 0 = .ok (.aload_n 0, 1) := dk_42 (dk_at dksX3_acts_0 0 rfl rfl)
theorem dX3_acts_1 : decode cX3_acts 1 = .ok (.aload_n 0, 1) := dk_42 (dk_at dksX3_acts_0 1 rfl rfl)
theorem dX3_acts_2 : decode cX3_acts 2 = .ok (.iload_n 1, 1) := dk_27 (dk_at dksX3_acts_0 2 rfl rfl)
theorem dX3_acts_3 : decode cX3_acts 3 = .ok (.iload_n 2, 1) := dk_28 (dk_at dksX3_acts_0 3 rfl rfl)
theorem dX3_acts_4 : decode cX3_acts 4 = .ok (.iload_n 3, 1) := dk_29 (dk_at dksX3_acts_0 4 rfl rfl)
theorem dX3_acts_5 : decode cX3_acts 5 = .ok (.invokevirtual 124, 3) := dk_182 0 124 (dk_at dksX3_acts_0 5 rfl rfl)
theorem dX3_acts_8 : decode cX3_acts 8 = .ok (.putfield 22, 3) := dk_181 0 22 (dk_at dksX3_acts_0 8 rfl rfl)
theorem dX3_acts_11 : decode cX3_acts 11 = .ok (.aload_n 0, 1) := dk_42 (dk_at dksX3_acts_0 11 rfl rfl)
theorem dX3_acts_12 : decode cX3_acts 12 = .ok (.getfield 22, 3) := dk_180 0 22 (dk_at dksX3_acts_0 12 rfl rfl)
theorem dX3_acts_15 : decode cX3_acts 15 = .ok (.ifCond .le 5, 3) := dk_158 0 5 (dk_at dksX3_acts_0 15 rfl rfl)
theorem dX3_acts_18 : decode cX3_acts 18 = .ok (.iconst 0, 1) := dk_3 (dk_at dksX3_acts_0 18 rfl rfl)
theorem dX3_acts_19 : decode cX3_acts 19 = .ok (.ireturn, 1) := dk_172 (dk_at dksX3_acts_0 19 rfl rfl)
theorem dX3_acts_20 : decode cX3_acts 20 = .ok (.aload_n 0, 1) := dk_42 (dk_at dksX3_acts_0 20 rfl rfl)
theorem dX3_acts_21 : decode cX3_acts 21 = .ok (.invokevirtual 128, 3) := dk_182 0 128 (dk_at dksX3_acts_0 21 rfl rfl)
theorem dX3_acts_24 : decode cX3_acts 24 = .ok (.aload_n 0, 1) := dk_42 (dk_at dksX3_acts_1 0 rfl rfl)
theorem dX3_acts_25 : decode cX3_acts 25 = .ok (.iload_n 1, 1) := dk_27 (dk_at dksX3_acts_1 1 rfl rfl)
theorem dX3_acts_26 : decode cX3_acts 26 = .ok (.iload_n 2, 1) := dk_28 (dk_at dksX3_acts_1 2 rfl rfl)
theorem dX3_acts_27 : decode cX3_acts 27 = .ok (.iload_n 3, 1) := dk_29 (dk_at dksX3_acts_1 3 rfl rfl)
theorem dX3_acts_28 : decode cX3_acts 28 = .ok (.invokevirtual 131, 3) := dk_182 0 131 (dk_at dksX3_acts_1 4 rfl rfl)
theorem dX3_acts_31 : decode cX3_acts 31 = .ok (.ireturn, 1) := dk_172 (dk_at dksX3_acts_1 7 rfl rfl)
abbrev cX3_refusal : ByteArray := prog_13_method_32_code
def yX3_refusal : MethodName := ⟨RX3, "refusal", "(III)I"⟩
def dkwX3_refusal_11 : List UInt8 := [167, 0, 4, 4, 172, 3, 172]
abbrev dktX3_refusal_11 : List UInt8 := dkwX3_refusal_11 ++ []
def dkwX3_refusal_10 : List UInt8 := [182, 0, 104, 2, 160, 0, 7, 5, 167, 0, 4, 3, 172, 28, 4, 16, 6, 184, 0, 26, 153, 0, 7, 3]
abbrev dktX3_refusal_10 : List UInt8 := dkwX3_refusal_10 ++ dktX3_refusal_11
def dkwX3_refusal_9 : List UInt8 := [160, 0, 7, 5, 167, 0, 4, 3, 172, 42, 28, 182, 0, 98, 154, 0, 7, 4, 167, 0, 17, 42, 28]
abbrev dktX3_refusal_9 : List UInt8 := dkwX3_refusal_9 ++ dktX3_refusal_10
def dkwX3_refusal_8 : List UInt8 := [167, 0, 4, 3, 172, 42, 28, 182, 0, 98, 154, 0, 7, 4, 167, 0, 18, 42, 28, 6, 182, 0, 37, 2]
abbrev dktX3_refusal_8 : List UInt8 := dkwX3_refusal_8 ++ dktX3_refusal_9
def dkwX3_refusal_7 : List UInt8 := [5, 182, 0, 37, 184, 0, 26, 154, 0, 7, 4, 167, 0, 17, 42, 28, 29, 182, 0, 89, 158, 0, 7, 5]
abbrev dktX3_refusal_7 : List UInt8 := dkwX3_refusal_7 ++ dktX3_refusal_8
def dkwX3_refusal_6 : List UInt8 := [182, 0, 98, 153, 0, 7, 3, 167, 0, 4, 4, 172, 42, 28, 182, 0, 98, 153, 0, 17, 29, 3, 42, 28]
abbrev dktX3_refusal_6 : List UInt8 := dkwX3_refusal_6 ++ dktX3_refusal_7
def dkwX3_refusal_5 : List UInt8 := [154, 0, 7, 5, 167, 0, 17, 42, 28, 29, 182, 0, 101, 158, 0, 7, 6, 167, 0, 4, 3, 172, 42, 28]
abbrev dktX3_refusal_5 : List UInt8 := dkwX3_refusal_5 ++ dktX3_refusal_6
def dkwX3_refusal_4 : List UInt8 := [167, 0, 4, 3, 172, 42, 28, 182, 0, 98, 154, 0, 7, 4, 167, 0, 31, 29, 3, 16, 7, 184, 0, 26]
abbrev dktX3_refusal_4 : List UInt8 := dkwX3_refusal_4 ++ dktX3_refusal_5
def dkwX3_refusal_3 : List UInt8 := [167, 0, 28, 42, 180, 0, 7, 3, 46, 16, 8, 159, 0, 12, 42, 29, 182, 0, 54, 2, 159, 0, 7, 6]
abbrev dktX3_refusal_3 : List UInt8 := dkwX3_refusal_3 ++ dktX3_refusal_4
def dkwX3_refusal_2 : List UInt8 := [29, 184, 0, 95, 154, 0, 7, 4, 167, 0, 42, 28, 3, 16, 99, 184, 0, 26, 154, 0, 7, 5]
abbrev dktX3_refusal_2 : List UInt8 := dkwX3_refusal_2 ++ dktX3_refusal_3
def dkwX3_refusal_1 : List UInt8 := [170, 0, 0, 0, 0, 1, 65, 0, 0, 0, 98, 0, 0, 0, 119, 0, 0, 1, 22, 0, 0, 1, 65, 0, 0, 1, 65, 0, 0, 1, 65, 0, 0, 1, 65, 0, 0, 1, 49, 0, 0, 1, 65, 0, 0, 1, 65, 0, 0, 1, 65, 0, 0, 1, 65, 0, 0, 0, 209, 0, 0, 1, 65, 0, 0, 0, 103, 0, 0, 1, 65, 0, 0, 1, 65, 0, 0, 1, 65, 0, 0, 1, 65, 0, 0, 0, 154, 0, 0, 1, 65, 0, 0, 0, 250, 0, 0, 1, 65, 0, 0, 0, 195]
abbrev dktX3_refusal_1 : List UInt8 := dkwX3_refusal_1 ++ dktX3_refusal_2
def dkwX3_refusal_0 : List UInt8 := [27]
abbrev dktX3_refusal_0 : List UInt8 := dkwX3_refusal_0 ++ dktX3_refusal_1
theorem dksX3_refusal_0 : cX3_refusal.data.toList.drop 0 = dktX3_refusal_0 := by decide +kernel
theorem dksX3_refusal_1 : cX3_refusal.data.toList.drop 1 = dktX3_refusal_1 := dk_seg dksX3_refusal_0 1 rfl rfl
theorem dksX3_refusal_2 : cX3_refusal.data.toList.drop 104 = dktX3_refusal_2 := dk_seg dksX3_refusal_1 103 rfl rfl
theorem dksX3_refusal_3 : cX3_refusal.data.toList.drop 126 = dktX3_refusal_3 := dk_seg dksX3_refusal_2 22 rfl rfl
theorem dksX3_refusal_4 : cX3_refusal.data.toList.drop 150 = dktX3_refusal_4 := dk_seg dksX3_refusal_3 24 rfl rfl
theorem dksX3_refusal_5 : cX3_refusal.data.toList.drop 174 = dktX3_refusal_5 := dk_seg dksX3_refusal_4 24 rfl rfl
theorem dksX3_refusal_6 : cX3_refusal.data.toList.drop 198 = dktX3_refusal_6 := dk_seg dksX3_refusal_5 24 rfl rfl
theorem dksX3_refusal_7 : cX3_refusal.data.toList.drop 222 = dktX3_refusal_7 := dk_seg dksX3_refusal_6 24 rfl rfl
theorem dksX3_refusal_8 : cX3_refusal.data.toList.drop 246 = dktX3_refusal_8 := dk_seg dksX3_refusal_7 24 rfl rfl
theorem dksX3_refusal_9 : cX3_refusal.data.toList.drop 270 = dktX3_refusal_9 := dk_seg dksX3_refusal_8 24 rfl rfl
theorem dksX3_refusal_10 : cX3_refusal.data.toList.drop 293 = dktX3_refusal_10 := dk_seg dksX3_refusal_9 23 rfl rfl
theorem dksX3_refusal_11 : cX3_refusal.data.toList.drop 317 = dktX3_refusal_11 := dk_seg dksX3_refusal_10 24 rfl rfl
theorem dX3_refusal_0 : decode cX3_refusal 0 = .ok (.iload_n 1, 1) := dk_27 (dk_at dksX3_refusal_0 0 rfl rfl)
theorem dX3_refusal_1 : decode cX3_refusal 1 = .ok (.tableswitch 321 98 119 #[278, 321, 321, 321, 321, 305, 321, 321, 321, 321, 209, 321, 103, 321, 321, 321, 321, 154, 321, 250, 321, 195], 103) := by decide +kernel
theorem dX3_refusal_104 : decode cX3_refusal 104 = .ok (.iload_n 3, 1) := dk_29 (dk_at dksX3_refusal_2 0 rfl rfl)
theorem dX3_refusal_105 : decode cX3_refusal 105 = .ok (.invokestatic 95, 3) := dk_184 0 95 (dk_at dksX3_refusal_2 1 rfl rfl)
theorem dX3_refusal_108 : decode cX3_refusal 108 = .ok (.ifCond .ne 7, 3) := dk_154 0 7 (dk_at dksX3_refusal_2 4 rfl rfl)
theorem dX3_refusal_111 : decode cX3_refusal 111 = .ok (.iconst 1, 1) := dk_4 (dk_at dksX3_refusal_2 7 rfl rfl)
theorem dX3_refusal_112 : decode cX3_refusal 112 = .ok (.goto 42, 3) := dk_167 0 42 (dk_at dksX3_refusal_2 8 rfl rfl)
theorem dX3_refusal_115 : decode cX3_refusal 115 = .ok (.iload_n 2, 1) := dk_28 (dk_at dksX3_refusal_2 11 rfl rfl)
theorem dX3_refusal_116 : decode cX3_refusal 116 = .ok (.iconst 0, 1) := dk_3 (dk_at dksX3_refusal_2 12 rfl rfl)
theorem dX3_refusal_117 : decode cX3_refusal 117 = .ok (.bipush 99, 2) := dk_16 99 (dk_at dksX3_refusal_2 13 rfl rfl)
theorem dX3_refusal_119 : decode cX3_refusal 119 = .ok (.invokestatic 26, 3) := dk_184 0 26 (dk_at dksX3_refusal_2 15 rfl rfl)
theorem dX3_refusal_122 : decode cX3_refusal 122 = .ok (.ifCond .ne 7, 3) := dk_154 0 7 (dk_at dksX3_refusal_2 18 rfl rfl)
theorem dX3_refusal_125 : decode cX3_refusal 125 = .ok (.iconst 2, 1) := dk_5 (dk_at dksX3_refusal_2 21 rfl rfl)
theorem dX3_refusal_126 : decode cX3_refusal 126 = .ok (.goto 28, 3) := dk_167 0 28 (dk_at dksX3_refusal_3 0 rfl rfl)
theorem dX3_refusal_129 : decode cX3_refusal 129 = .ok (.aload_n 0, 1) := dk_42 (dk_at dksX3_refusal_3 3 rfl rfl)
theorem dX3_refusal_130 : decode cX3_refusal 130 = .ok (.getfield 7, 3) := dk_180 0 7 (dk_at dksX3_refusal_3 4 rfl rfl)
theorem dX3_refusal_133 : decode cX3_refusal 133 = .ok (.iconst 0, 1) := dk_3 (dk_at dksX3_refusal_3 7 rfl rfl)
theorem dX3_refusal_134 : decode cX3_refusal 134 = .ok (.iaload, 1) := dk_46 (dk_at dksX3_refusal_3 8 rfl rfl)
theorem dX3_refusal_135 : decode cX3_refusal 135 = .ok (.bipush 8, 2) := dk_16 8 (dk_at dksX3_refusal_3 9 rfl rfl)
theorem dX3_refusal_137 : decode cX3_refusal 137 = .ok (.if_icmp .eq 12, 3) := dk_159 0 12 (dk_at dksX3_refusal_3 11 rfl rfl)
theorem dX3_refusal_140 : decode cX3_refusal 140 = .ok (.aload_n 0, 1) := dk_42 (dk_at dksX3_refusal_3 14 rfl rfl)
theorem dX3_refusal_141 : decode cX3_refusal 141 = .ok (.iload_n 3, 1) := dk_29 (dk_at dksX3_refusal_3 15 rfl rfl)
theorem dX3_refusal_142 : decode cX3_refusal 142 = .ok (.invokevirtual 54, 3) := dk_182 0 54 (dk_at dksX3_refusal_3 16 rfl rfl)
theorem dX3_refusal_145 : decode cX3_refusal 145 = .ok (.iconst (-1), 1) := dk_2 (dk_at dksX3_refusal_3 19 rfl rfl)
theorem dX3_refusal_146 : decode cX3_refusal 146 = .ok (.if_icmp .eq 7, 3) := dk_159 0 7 (dk_at dksX3_refusal_3 20 rfl rfl)
theorem dX3_refusal_149 : decode cX3_refusal 149 = .ok (.iconst 3, 1) := dk_6 (dk_at dksX3_refusal_3 23 rfl rfl)
theorem dX3_refusal_150 : decode cX3_refusal 150 = .ok (.goto 4, 3) := dk_167 0 4 (dk_at dksX3_refusal_4 0 rfl rfl)
theorem dX3_refusal_153 : decode cX3_refusal 153 = .ok (.iconst 0, 1) := dk_3 (dk_at dksX3_refusal_4 3 rfl rfl)
theorem dX3_refusal_154 : decode cX3_refusal 154 = .ok (.ireturn, 1) := dk_172 (dk_at dksX3_refusal_4 4 rfl rfl)
theorem dX3_refusal_155 : decode cX3_refusal 155 = .ok (.aload_n 0, 1) := dk_42 (dk_at dksX3_refusal_4 5 rfl rfl)
theorem dX3_refusal_156 : decode cX3_refusal 156 = .ok (.iload_n 2, 1) := dk_28 (dk_at dksX3_refusal_4 6 rfl rfl)
theorem dX3_refusal_157 : decode cX3_refusal 157 = .ok (.invokevirtual 98, 3) := dk_182 0 98 (dk_at dksX3_refusal_4 7 rfl rfl)
theorem dX3_refusal_160 : decode cX3_refusal 160 = .ok (.ifCond .ne 7, 3) := dk_154 0 7 (dk_at dksX3_refusal_4 10 rfl rfl)
theorem dX3_refusal_163 : decode cX3_refusal 163 = .ok (.iconst 1, 1) := dk_4 (dk_at dksX3_refusal_4 13 rfl rfl)
theorem dX3_refusal_164 : decode cX3_refusal 164 = .ok (.goto 31, 3) := dk_167 0 31 (dk_at dksX3_refusal_4 14 rfl rfl)
theorem dX3_refusal_167 : decode cX3_refusal 167 = .ok (.iload_n 3, 1) := dk_29 (dk_at dksX3_refusal_4 17 rfl rfl)
theorem dX3_refusal_168 : decode cX3_refusal 168 = .ok (.iconst 0, 1) := dk_3 (dk_at dksX3_refusal_4 18 rfl rfl)
theorem dX3_refusal_169 : decode cX3_refusal 169 = .ok (.bipush 7, 2) := dk_16 7 (dk_at dksX3_refusal_4 19 rfl rfl)
theorem dX3_refusal_171 : decode cX3_refusal 171 = .ok (.invokestatic 26, 3) := dk_184 0 26 (dk_at dksX3_refusal_4 21 rfl rfl)
theorem dX3_refusal_174 : decode cX3_refusal 174 = .ok (.ifCond .ne 7, 3) := dk_154 0 7 (dk_at dksX3_refusal_5 0 rfl rfl)
theorem dX3_refusal_177 : decode cX3_refusal 177 = .ok (.iconst 2, 1) := dk_5 (dk_at dksX3_refusal_5 3 rfl rfl)
theorem dX3_refusal_178 : decode cX3_refusal 178 = .ok (.goto 17, 3) := dk_167 0 17 (dk_at dksX3_refusal_5 4 rfl rfl)
theorem dX3_refusal_181 : decode cX3_refusal 181 = .ok (.aload_n 0, 1) := dk_42 (dk_at dksX3_refusal_5 7 rfl rfl)
theorem dX3_refusal_182 : decode cX3_refusal 182 = .ok (.iload_n 2, 1) := dk_28 (dk_at dksX3_refusal_5 8 rfl rfl)
theorem dX3_refusal_183 : decode cX3_refusal 183 = .ok (.iload_n 3, 1) := dk_29 (dk_at dksX3_refusal_5 9 rfl rfl)
theorem dX3_refusal_184 : decode cX3_refusal 184 = .ok (.invokevirtual 101, 3) := dk_182 0 101 (dk_at dksX3_refusal_5 10 rfl rfl)
theorem dX3_refusal_187 : decode cX3_refusal 187 = .ok (.ifCond .le 7, 3) := dk_158 0 7 (dk_at dksX3_refusal_5 13 rfl rfl)
theorem dX3_refusal_190 : decode cX3_refusal 190 = .ok (.iconst 3, 1) := dk_6 (dk_at dksX3_refusal_5 16 rfl rfl)
theorem dX3_refusal_191 : decode cX3_refusal 191 = .ok (.goto 4, 3) := dk_167 0 4 (dk_at dksX3_refusal_5 17 rfl rfl)
theorem dX3_refusal_194 : decode cX3_refusal 194 = .ok (.iconst 0, 1) := dk_3 (dk_at dksX3_refusal_5 20 rfl rfl)
theorem dX3_refusal_195 : decode cX3_refusal 195 = .ok (.ireturn, 1) := dk_172 (dk_at dksX3_refusal_5 21 rfl rfl)
theorem dX3_refusal_196 : decode cX3_refusal 196 = .ok (.aload_n 0, 1) := dk_42 (dk_at dksX3_refusal_5 22 rfl rfl)
theorem dX3_refusal_197 : decode cX3_refusal 197 = .ok (.iload_n 2, 1) := dk_28 (dk_at dksX3_refusal_5 23 rfl rfl)
theorem dX3_refusal_198 : decode cX3_refusal 198 = .ok (.invokevirtual 98, 3) := dk_182 0 98 (dk_at dksX3_refusal_6 0 rfl rfl)
theorem dX3_refusal_201 : decode cX3_refusal 201 = .ok (.ifCond .eq 7, 3) := dk_153 0 7 (dk_at dksX3_refusal_6 3 rfl rfl)
theorem dX3_refusal_204 : decode cX3_refusal 204 = .ok (.iconst 0, 1) := dk_3 (dk_at dksX3_refusal_6 6 rfl rfl)
theorem dX3_refusal_205 : decode cX3_refusal 205 = .ok (.goto 4, 3) := dk_167 0 4 (dk_at dksX3_refusal_6 7 rfl rfl)
theorem dX3_refusal_208 : decode cX3_refusal 208 = .ok (.iconst 1, 1) := dk_4 (dk_at dksX3_refusal_6 10 rfl rfl)
theorem dX3_refusal_209 : decode cX3_refusal 209 = .ok (.ireturn, 1) := dk_172 (dk_at dksX3_refusal_6 11 rfl rfl)
theorem dX3_refusal_210 : decode cX3_refusal 210 = .ok (.aload_n 0, 1) := dk_42 (dk_at dksX3_refusal_6 12 rfl rfl)
theorem dX3_refusal_211 : decode cX3_refusal 211 = .ok (.iload_n 2, 1) := dk_28 (dk_at dksX3_refusal_6 13 rfl rfl)
theorem dX3_refusal_212 : decode cX3_refusal 212 = .ok (.invokevirtual 98, 3) := dk_182 0 98 (dk_at dksX3_refusal_6 14 rfl rfl)
theorem dX3_refusal_215 : decode cX3_refusal 215 = .ok (.ifCond .eq 17, 3) := dk_153 0 17 (dk_at dksX3_refusal_6 17 rfl rfl)
theorem dX3_refusal_218 : decode cX3_refusal 218 = .ok (.iload_n 3, 1) := dk_29 (dk_at dksX3_refusal_6 20 rfl rfl)
theorem dX3_refusal_219 : decode cX3_refusal 219 = .ok (.iconst 0, 1) := dk_3 (dk_at dksX3_refusal_6 21 rfl rfl)
theorem dX3_refusal_220 : decode cX3_refusal 220 = .ok (.aload_n 0, 1) := dk_42 (dk_at dksX3_refusal_6 22 rfl rfl)
theorem dX3_refusal_221 : decode cX3_refusal 221 = .ok (.iload_n 2, 1) := dk_28 (dk_at dksX3_refusal_6 23 rfl rfl)
theorem dX3_refusal_222 : decode cX3_refusal 222 = .ok (.iconst 2, 1) := dk_5 (dk_at dksX3_refusal_7 0 rfl rfl)
theorem dX3_refusal_223 : decode cX3_refusal 223 = .ok (.invokevirtual 37, 3) := dk_182 0 37 (dk_at dksX3_refusal_7 1 rfl rfl)
theorem dX3_refusal_226 : decode cX3_refusal 226 = .ok (.invokestatic 26, 3) := dk_184 0 26 (dk_at dksX3_refusal_7 4 rfl rfl)
theorem dX3_refusal_229 : decode cX3_refusal 229 = .ok (.ifCond .ne 7, 3) := dk_154 0 7 (dk_at dksX3_refusal_7 7 rfl rfl)
theorem dX3_refusal_232 : decode cX3_refusal 232 = .ok (.iconst 1, 1) := dk_4 (dk_at dksX3_refusal_7 10 rfl rfl)
theorem dX3_refusal_233 : decode cX3_refusal 233 = .ok (.goto 17, 3) := dk_167 0 17 (dk_at dksX3_refusal_7 11 rfl rfl)
theorem dX3_refusal_236 : decode cX3_refusal 236 = .ok (.aload_n 0, 1) := dk_42 (dk_at dksX3_refusal_7 14 rfl rfl)
theorem dX3_refusal_237 : decode cX3_refusal 237 = .ok (.iload_n 2, 1) := dk_28 (dk_at dksX3_refusal_7 15 rfl rfl)
theorem dX3_refusal_238 : decode cX3_refusal 238 = .ok (.iload_n 3, 1) := dk_29 (dk_at dksX3_refusal_7 16 rfl rfl)
theorem dX3_refusal_239 : decode cX3_refusal 239 = .ok (.invokevirtual 89, 3) := dk_182 0 89 (dk_at dksX3_refusal_7 17 rfl rfl)
theorem dX3_refusal_242 : decode cX3_refusal 242 = .ok (.ifCond .le 7, 3) := dk_158 0 7 (dk_at dksX3_refusal_7 20 rfl rfl)
theorem dX3_refusal_245 : decode cX3_refusal 245 = .ok (.iconst 2, 1) := dk_5 (dk_at dksX3_refusal_7 23 rfl rfl)
theorem dX3_refusal_246 : decode cX3_refusal 246 = .ok (.goto 4, 3) := dk_167 0 4 (dk_at dksX3_refusal_8 0 rfl rfl)
theorem dX3_refusal_249 : decode cX3_refusal 249 = .ok (.iconst 0, 1) := dk_3 (dk_at dksX3_refusal_8 3 rfl rfl)
theorem dX3_refusal_250 : decode cX3_refusal 250 = .ok (.ireturn, 1) := dk_172 (dk_at dksX3_refusal_8 4 rfl rfl)
theorem dX3_refusal_251 : decode cX3_refusal 251 = .ok (.aload_n 0, 1) := dk_42 (dk_at dksX3_refusal_8 5 rfl rfl)
theorem dX3_refusal_252 : decode cX3_refusal 252 = .ok (.iload_n 2, 1) := dk_28 (dk_at dksX3_refusal_8 6 rfl rfl)
theorem dX3_refusal_253 : decode cX3_refusal 253 = .ok (.invokevirtual 98, 3) := dk_182 0 98 (dk_at dksX3_refusal_8 7 rfl rfl)
theorem dX3_refusal_256 : decode cX3_refusal 256 = .ok (.ifCond .ne 7, 3) := dk_154 0 7 (dk_at dksX3_refusal_8 10 rfl rfl)
theorem dX3_refusal_259 : decode cX3_refusal 259 = .ok (.iconst 1, 1) := dk_4 (dk_at dksX3_refusal_8 13 rfl rfl)
theorem dX3_refusal_260 : decode cX3_refusal 260 = .ok (.goto 18, 3) := dk_167 0 18 (dk_at dksX3_refusal_8 14 rfl rfl)
theorem dX3_refusal_263 : decode cX3_refusal 263 = .ok (.aload_n 0, 1) := dk_42 (dk_at dksX3_refusal_8 17 rfl rfl)
theorem dX3_refusal_264 : decode cX3_refusal 264 = .ok (.iload_n 2, 1) := dk_28 (dk_at dksX3_refusal_8 18 rfl rfl)
theorem dX3_refusal_265 : decode cX3_refusal 265 = .ok (.iconst 3, 1) := dk_6 (dk_at dksX3_refusal_8 19 rfl rfl)
theorem dX3_refusal_266 : decode cX3_refusal 266 = .ok (.invokevirtual 37, 3) := dk_182 0 37 (dk_at dksX3_refusal_8 20 rfl rfl)
theorem dX3_refusal_269 : decode cX3_refusal 269 = .ok (.iconst (-1), 1) := dk_2 (dk_at dksX3_refusal_8 23 rfl rfl)
theorem dX3_refusal_270 : decode cX3_refusal 270 = .ok (.if_icmp .ne 7, 3) := dk_160 0 7 (dk_at dksX3_refusal_9 0 rfl rfl)
theorem dX3_refusal_273 : decode cX3_refusal 273 = .ok (.iconst 2, 1) := dk_5 (dk_at dksX3_refusal_9 3 rfl rfl)
theorem dX3_refusal_274 : decode cX3_refusal 274 = .ok (.goto 4, 3) := dk_167 0 4 (dk_at dksX3_refusal_9 4 rfl rfl)
theorem dX3_refusal_277 : decode cX3_refusal 277 = .ok (.iconst 0, 1) := dk_3 (dk_at dksX3_refusal_9 7 rfl rfl)
theorem dX3_refusal_278 : decode cX3_refusal 278 = .ok (.ireturn, 1) := dk_172 (dk_at dksX3_refusal_9 8 rfl rfl)
theorem dX3_refusal_279 : decode cX3_refusal 279 = .ok (.aload_n 0, 1) := dk_42 (dk_at dksX3_refusal_9 9 rfl rfl)
theorem dX3_refusal_280 : decode cX3_refusal 280 = .ok (.iload_n 2, 1) := dk_28 (dk_at dksX3_refusal_9 10 rfl rfl)
theorem dX3_refusal_281 : decode cX3_refusal 281 = .ok (.invokevirtual 98, 3) := dk_182 0 98 (dk_at dksX3_refusal_9 11 rfl rfl)
theorem dX3_refusal_284 : decode cX3_refusal 284 = .ok (.ifCond .ne 7, 3) := dk_154 0 7 (dk_at dksX3_refusal_9 14 rfl rfl)
theorem dX3_refusal_287 : decode cX3_refusal 287 = .ok (.iconst 1, 1) := dk_4 (dk_at dksX3_refusal_9 17 rfl rfl)
theorem dX3_refusal_288 : decode cX3_refusal 288 = .ok (.goto 17, 3) := dk_167 0 17 (dk_at dksX3_refusal_9 18 rfl rfl)
theorem dX3_refusal_291 : decode cX3_refusal 291 = .ok (.aload_n 0, 1) := dk_42 (dk_at dksX3_refusal_9 21 rfl rfl)
theorem dX3_refusal_292 : decode cX3_refusal 292 = .ok (.iload_n 2, 1) := dk_28 (dk_at dksX3_refusal_9 22 rfl rfl)
theorem dX3_refusal_293 : decode cX3_refusal 293 = .ok (.invokevirtual 104, 3) := dk_182 0 104 (dk_at dksX3_refusal_10 0 rfl rfl)
theorem dX3_refusal_296 : decode cX3_refusal 296 = .ok (.iconst (-1), 1) := dk_2 (dk_at dksX3_refusal_10 3 rfl rfl)
theorem dX3_refusal_297 : decode cX3_refusal 297 = .ok (.if_icmp .ne 7, 3) := dk_160 0 7 (dk_at dksX3_refusal_10 4 rfl rfl)
theorem dX3_refusal_300 : decode cX3_refusal 300 = .ok (.iconst 2, 1) := dk_5 (dk_at dksX3_refusal_10 7 rfl rfl)
theorem dX3_refusal_301 : decode cX3_refusal 301 = .ok (.goto 4, 3) := dk_167 0 4 (dk_at dksX3_refusal_10 8 rfl rfl)
theorem dX3_refusal_304 : decode cX3_refusal 304 = .ok (.iconst 0, 1) := dk_3 (dk_at dksX3_refusal_10 11 rfl rfl)
theorem dX3_refusal_305 : decode cX3_refusal 305 = .ok (.ireturn, 1) := dk_172 (dk_at dksX3_refusal_10 12 rfl rfl)
theorem dX3_refusal_306 : decode cX3_refusal 306 = .ok (.iload_n 2, 1) := dk_28 (dk_at dksX3_refusal_10 13 rfl rfl)
theorem dX3_refusal_307 : decode cX3_refusal 307 = .ok (.iconst 1, 1) := dk_4 (dk_at dksX3_refusal_10 14 rfl rfl)
theorem dX3_refusal_308 : decode cX3_refusal 308 = .ok (.bipush 6, 2) := dk_16 6 (dk_at dksX3_refusal_10 15 rfl rfl)
theorem dX3_refusal_310 : decode cX3_refusal 310 = .ok (.invokestatic 26, 3) := dk_184 0 26 (dk_at dksX3_refusal_10 17 rfl rfl)
theorem dX3_refusal_313 : decode cX3_refusal 313 = .ok (.ifCond .eq 7, 3) := dk_153 0 7 (dk_at dksX3_refusal_10 20 rfl rfl)
theorem dX3_refusal_316 : decode cX3_refusal 316 = .ok (.iconst 0, 1) := dk_3 (dk_at dksX3_refusal_10 23 rfl rfl)
theorem dX3_refusal_317 : decode cX3_refusal 317 = .ok (.goto 4, 3) := dk_167 0 4 (dk_at dksX3_refusal_11 0 rfl rfl)
theorem dX3_refusal_320 : decode cX3_refusal 320 = .ok (.iconst 1, 1) := dk_4 (dk_at dksX3_refusal_11 3 rfl rfl)
theorem dX3_refusal_321 : decode cX3_refusal 321 = .ok (.ireturn, 1) := dk_172 (dk_at dksX3_refusal_11 4 rfl rfl)
theorem dX3_refusal_322 : decode cX3_refusal 322 = .ok (.iconst 0, 1) := dk_3 (dk_at dksX3_refusal_11 5 rfl rfl)
theorem dX3_refusal_323 : decode cX3_refusal 323 = .ok (.ireturn, 1) := dk_172 (dk_at dksX3_refusal_11 6 rfl rfl)
abbrev cX3_isPoint : ByteArray := prog_13_method_7_code
def yX3_isPoint : MethodName := ⟨RX3, "isPoint", "(I)Z"⟩
def dkwX3_isPoint_0 : List UInt8 := [26, 3, 17, 1, 127, 184, 0, 26, 172]
abbrev dktX3_isPoint_0 : List UInt8 := dkwX3_isPoint_0 ++ []
theorem dksX3_isPoint_0 : cX3_isPoint.data.toList.drop 0 = dktX3_isPoint_0 := by decide +kernel
theorem dX3_isPoint_0 : decode cX3_isPoint 0 = .ok (.iload_n 0, 1) := dk_26 (dk_at dksX3_isPoint_0 0 rfl rfl)
theorem dX3_isPoint_1 : decode cX3_isPoint 1 = .ok (.iconst 0, 1) := dk_3 (dk_at dksX3_isPoint_0 1 rfl rfl)
theorem dX3_isPoint_2 : decode cX3_isPoint 2 = .ok (.sipush 383, 3) := dk_17 1 127 (dk_at dksX3_isPoint_0 2 rfl rfl)
theorem dX3_isPoint_5 : decode cX3_isPoint 5 = .ok (.invokestatic 26, 3) := dk_184 0 26 (dk_at dksX3_isPoint_0 5 rfl rfl)
theorem dX3_isPoint_8 : decode cX3_isPoint 8 = .ok (.ireturn, 1) := dk_172 (dk_at dksX3_isPoint_0 8 rfl rfl)
abbrev cX3_in : ByteArray := prog_13_method_4_code
def yX3_in : MethodName := ⟨RX3, "in", "(III)Z"⟩
def dkwX3_in_0 : List UInt8 := [26, 27, 161, 0, 12, 26, 28, 163, 0, 7, 4, 167, 0, 4, 3, 172]
abbrev dktX3_in_0 : List UInt8 := dkwX3_in_0 ++ []
theorem dksX3_in_0 : cX3_in.data.toList.drop 0 = dktX3_in_0 := by decide +kernel
theorem dX3_in_0 : decode cX3_in 0 = .ok (.iload_n 0, 1) := dk_26 (dk_at dksX3_in_0 0 rfl rfl)
theorem dX3_in_1 : decode cX3_in 1 = .ok (.iload_n 1, 1) := dk_27 (dk_at dksX3_in_0 1 rfl rfl)
theorem dX3_in_2 : decode cX3_in 2 = .ok (.if_icmp .lt 12, 3) := dk_161 0 12 (dk_at dksX3_in_0 2 rfl rfl)
theorem dX3_in_5 : decode cX3_in 5 = .ok (.iload_n 0, 1) := dk_26 (dk_at dksX3_in_0 5 rfl rfl)
theorem dX3_in_6 : decode cX3_in 6 = .ok (.iload_n 2, 1) := dk_28 (dk_at dksX3_in_0 6 rfl rfl)
theorem dX3_in_7 : decode cX3_in 7 = .ok (.if_icmp .gt 7, 3) := dk_163 0 7 (dk_at dksX3_in_0 7 rfl rfl)
theorem dX3_in_10 : decode cX3_in 10 = .ok (.iconst 1, 1) := dk_4 (dk_at dksX3_in_0 10 rfl rfl)
theorem dX3_in_11 : decode cX3_in 11 = .ok (.goto 4, 3) := dk_167 0 4 (dk_at dksX3_in_0 11 rfl rfl)
theorem dX3_in_14 : decode cX3_in 14 = .ok (.iconst 0, 1) := dk_3 (dk_at dksX3_in_0 14 rfl rfl)
theorem dX3_in_15 : decode cX3_in 15 = .ok (.ireturn, 1) := dk_172 (dk_at dksX3_in_0 15 rfl rfl)
abbrev cX3_owner : ByteArray := prog_13_method_16_code
def yX3_owner : MethodName := ⟨RX3, "owner", "(I)I"⟩
def dkwX3_owner_4 : List UInt8 := [132, 5, 1, 167, 255, 194, 21, 4, 153, 0, 5, 28, 172, 132, 2, 1, 167, 255, 149, 2, 172]
abbrev dktX3_owner_4 : List UInt8 := dkwX3_owner_4 ++ []
def dkwX3_owner_3 : List UInt8 := [184, 0, 30, 96, 96, 62, 21, 4, 154, 0, 8, 29, 27, 160, 0, 7, 4, 167, 0, 4, 3, 54, 4]
abbrev dktX3_owner_3 : List UInt8 := dkwX3_owner_3 ++ dktX3_owner_4
def dkwX3_owner_2 : List UInt8 := [42, 28, 7, 21, 5, 96, 182, 0, 37, 184, 0, 34, 104, 42, 28, 7, 21, 5, 96, 182, 0, 37]
abbrev dktX3_owner_2 : List UInt8 := dkwX3_owner_2 ++ dktX3_owner_3
def dkwX3_owner_1 : List UInt8 := [4, 167, 0, 4, 3, 54, 4, 3, 54, 5, 21, 5, 42, 28, 5, 182, 0, 37, 162, 0, 57, 29, 16, 24]
abbrev dktX3_owner_1 : List UInt8 := dkwX3_owner_1 ++ dktX3_owner_2
def dkwX3_owner_0 : List UInt8 := [3, 61, 28, 42, 180, 0, 7, 3, 46, 162, 0, 103, 42, 28, 4, 182, 0, 37, 62, 29, 27, 160, 0, 7]
abbrev dktX3_owner_0 : List UInt8 := dkwX3_owner_0 ++ dktX3_owner_1
theorem dksX3_owner_0 : cX3_owner.data.toList.drop 0 = dktX3_owner_0 := by decide +kernel
theorem dksX3_owner_1 : cX3_owner.data.toList.drop 24 = dktX3_owner_1 := dk_seg dksX3_owner_0 24 rfl rfl
theorem dksX3_owner_2 : cX3_owner.data.toList.drop 48 = dktX3_owner_2 := dk_seg dksX3_owner_1 24 rfl rfl
theorem dksX3_owner_3 : cX3_owner.data.toList.drop 70 = dktX3_owner_3 := dk_seg dksX3_owner_2 22 rfl rfl
theorem dksX3_owner_4 : cX3_owner.data.toList.drop 93 = dktX3_owner_4 := dk_seg dksX3_owner_3 23 rfl rfl
theorem dX3_owner_0 : decode cX3_owner 0 = .ok (.iconst 0, 1) := dk_3 (dk_at dksX3_owner_0 0 rfl rfl)
theorem dX3_owner_1 : decode cX3_owner 1 = .ok (.istore_n 2, 1) := dk_61 (dk_at dksX3_owner_0 1 rfl rfl)
theorem dX3_owner_2 : decode cX3_owner 2 = .ok (.iload_n 2, 1) := dk_28 (dk_at dksX3_owner_0 2 rfl rfl)
theorem dX3_owner_3 : decode cX3_owner 3 = .ok (.aload_n 0, 1) := dk_42 (dk_at dksX3_owner_0 3 rfl rfl)
theorem dX3_owner_4 : decode cX3_owner 4 = .ok (.getfield 7, 3) := dk_180 0 7 (dk_at dksX3_owner_0 4 rfl rfl)
theorem dX3_owner_7 : decode cX3_owner 7 = .ok (.iconst 0, 1) := dk_3 (dk_at dksX3_owner_0 7 rfl rfl)
theorem dX3_owner_8 : decode cX3_owner 8 = .ok (.iaload, 1) := dk_46 (dk_at dksX3_owner_0 8 rfl rfl)
theorem dX3_owner_9 : decode cX3_owner 9 = .ok (.if_icmp .ge 103, 3) := dk_162 0 103 (dk_at dksX3_owner_0 9 rfl rfl)
theorem dX3_owner_12 : decode cX3_owner 12 = .ok (.aload_n 0, 1) := dk_42 (dk_at dksX3_owner_0 12 rfl rfl)
theorem dX3_owner_13 : decode cX3_owner 13 = .ok (.iload_n 2, 1) := dk_28 (dk_at dksX3_owner_0 13 rfl rfl)
theorem dX3_owner_14 : decode cX3_owner 14 = .ok (.iconst 1, 1) := dk_4 (dk_at dksX3_owner_0 14 rfl rfl)
theorem dX3_owner_15 : decode cX3_owner 15 = .ok (.invokevirtual 37, 3) := dk_182 0 37 (dk_at dksX3_owner_0 15 rfl rfl)
theorem dX3_owner_18 : decode cX3_owner 18 = .ok (.istore_n 3, 1) := dk_62 (dk_at dksX3_owner_0 18 rfl rfl)
theorem dX3_owner_19 : decode cX3_owner 19 = .ok (.iload_n 3, 1) := dk_29 (dk_at dksX3_owner_0 19 rfl rfl)
theorem dX3_owner_20 : decode cX3_owner 20 = .ok (.iload_n 1, 1) := dk_27 (dk_at dksX3_owner_0 20 rfl rfl)
theorem dX3_owner_21 : decode cX3_owner 21 = .ok (.if_icmp .ne 7, 3) := dk_160 0 7 (dk_at dksX3_owner_0 21 rfl rfl)
theorem dX3_owner_24 : decode cX3_owner 24 = .ok (.iconst 1, 1) := dk_4 (dk_at dksX3_owner_1 0 rfl rfl)
theorem dX3_owner_25 : decode cX3_owner 25 = .ok (.goto 4, 3) := dk_167 0 4 (dk_at dksX3_owner_1 1 rfl rfl)
theorem dX3_owner_28 : decode cX3_owner 28 = .ok (.iconst 0, 1) := dk_3 (dk_at dksX3_owner_1 4 rfl rfl)
theorem dX3_owner_29 : decode cX3_owner 29 = .ok (.istore 4, 2) := dk_54 4 (dk_at dksX3_owner_1 5 rfl rfl)
theorem dX3_owner_31 : decode cX3_owner 31 = .ok (.iconst 0, 1) := dk_3 (dk_at dksX3_owner_1 7 rfl rfl)
theorem dX3_owner_32 : decode cX3_owner 32 = .ok (.istore 5, 2) := dk_54 5 (dk_at dksX3_owner_1 8 rfl rfl)
theorem dX3_owner_34 : decode cX3_owner 34 = .ok (.iload 5, 2) := dk_21 5 (dk_at dksX3_owner_1 10 rfl rfl)
theorem dX3_owner_36 : decode cX3_owner 36 = .ok (.aload_n 0, 1) := dk_42 (dk_at dksX3_owner_1 12 rfl rfl)
theorem dX3_owner_37 : decode cX3_owner 37 = .ok (.iload_n 2, 1) := dk_28 (dk_at dksX3_owner_1 13 rfl rfl)
theorem dX3_owner_38 : decode cX3_owner 38 = .ok (.iconst 2, 1) := dk_5 (dk_at dksX3_owner_1 14 rfl rfl)
theorem dX3_owner_39 : decode cX3_owner 39 = .ok (.invokevirtual 37, 3) := dk_182 0 37 (dk_at dksX3_owner_1 15 rfl rfl)
theorem dX3_owner_42 : decode cX3_owner 42 = .ok (.if_icmp .ge 57, 3) := dk_162 0 57 (dk_at dksX3_owner_1 18 rfl rfl)
theorem dX3_owner_45 : decode cX3_owner 45 = .ok (.iload_n 3, 1) := dk_29 (dk_at dksX3_owner_1 21 rfl rfl)
theorem dX3_owner_46 : decode cX3_owner 46 = .ok (.bipush 24, 2) := dk_16 24 (dk_at dksX3_owner_1 22 rfl rfl)
theorem dX3_owner_48 : decode cX3_owner 48 = .ok (.aload_n 0, 1) := dk_42 (dk_at dksX3_owner_2 0 rfl rfl)
theorem dX3_owner_49 : decode cX3_owner 49 = .ok (.iload_n 2, 1) := dk_28 (dk_at dksX3_owner_2 1 rfl rfl)
theorem dX3_owner_50 : decode cX3_owner 50 = .ok (.iconst 4, 1) := dk_7 (dk_at dksX3_owner_2 2 rfl rfl)
theorem dX3_owner_51 : decode cX3_owner 51 = .ok (.iload 5, 2) := dk_21 5 (dk_at dksX3_owner_2 3 rfl rfl)
theorem dX3_owner_53 : decode cX3_owner 53 = .ok (.iadd, 1) := dk_96 (dk_at dksX3_owner_2 5 rfl rfl)
theorem dX3_owner_54 : decode cX3_owner 54 = .ok (.invokevirtual 37, 3) := dk_182 0 37 (dk_at dksX3_owner_2 6 rfl rfl)
theorem dX3_owner_57 : decode cX3_owner 57 = .ok (.invokestatic 34, 3) := dk_184 0 34 (dk_at dksX3_owner_2 9 rfl rfl)
theorem dX3_owner_60 : decode cX3_owner 60 = .ok (.imul, 1) := dk_104 (dk_at dksX3_owner_2 12 rfl rfl)
theorem dX3_owner_61 : decode cX3_owner 61 = .ok (.aload_n 0, 1) := dk_42 (dk_at dksX3_owner_2 13 rfl rfl)
theorem dX3_owner_62 : decode cX3_owner 62 = .ok (.iload_n 2, 1) := dk_28 (dk_at dksX3_owner_2 14 rfl rfl)
theorem dX3_owner_63 : decode cX3_owner 63 = .ok (.iconst 4, 1) := dk_7 (dk_at dksX3_owner_2 15 rfl rfl)
theorem dX3_owner_64 : decode cX3_owner 64 = .ok (.iload 5, 2) := dk_21 5 (dk_at dksX3_owner_2 16 rfl rfl)
theorem dX3_owner_66 : decode cX3_owner 66 = .ok (.iadd, 1) := dk_96 (dk_at dksX3_owner_2 18 rfl rfl)
theorem dX3_owner_67 : decode cX3_owner 67 = .ok (.invokevirtual 37, 3) := dk_182 0 37 (dk_at dksX3_owner_2 19 rfl rfl)
theorem dX3_owner_70 : decode cX3_owner 70 = .ok (.invokestatic 30, 3) := dk_184 0 30 (dk_at dksX3_owner_3 0 rfl rfl)
theorem dX3_owner_73 : decode cX3_owner 73 = .ok (.iadd, 1) := dk_96 (dk_at dksX3_owner_3 3 rfl rfl)
theorem dX3_owner_74 : decode cX3_owner 74 = .ok (.iadd, 1) := dk_96 (dk_at dksX3_owner_3 4 rfl rfl)
theorem dX3_owner_75 : decode cX3_owner 75 = .ok (.istore_n 3, 1) := dk_62 (dk_at dksX3_owner_3 5 rfl rfl)
theorem dX3_owner_76 : decode cX3_owner 76 = .ok (.iload 4, 2) := dk_21 4 (dk_at dksX3_owner_3 6 rfl rfl)
theorem dX3_owner_78 : decode cX3_owner 78 = .ok (.ifCond .ne 8, 3) := dk_154 0 8 (dk_at dksX3_owner_3 8 rfl rfl)
theorem dX3_owner_81 : decode cX3_owner 81 = .ok (.iload_n 3, 1) := dk_29 (dk_at dksX3_owner_3 11 rfl rfl)
theorem dX3_owner_82 : decode cX3_owner 82 = .ok (.iload_n 1, 1) := dk_27 (dk_at dksX3_owner_3 12 rfl rfl)
theorem dX3_owner_83 : decode cX3_owner 83 = .ok (.if_icmp .ne 7, 3) := dk_160 0 7 (dk_at dksX3_owner_3 13 rfl rfl)
theorem dX3_owner_86 : decode cX3_owner 86 = .ok (.iconst 1, 1) := dk_4 (dk_at dksX3_owner_3 16 rfl rfl)
theorem dX3_owner_87 : decode cX3_owner 87 = .ok (.goto 4, 3) := dk_167 0 4 (dk_at dksX3_owner_3 17 rfl rfl)
theorem dX3_owner_90 : decode cX3_owner 90 = .ok (.iconst 0, 1) := dk_3 (dk_at dksX3_owner_3 20 rfl rfl)
theorem dX3_owner_91 : decode cX3_owner 91 = .ok (.istore 4, 2) := dk_54 4 (dk_at dksX3_owner_3 21 rfl rfl)
theorem dX3_owner_93 : decode cX3_owner 93 = .ok (.iinc 5 1, 3) := dk_132 5 1 (dk_at dksX3_owner_4 0 rfl rfl)
theorem dX3_owner_96 : decode cX3_owner 96 = .ok (.goto (-62), 3) := dk_167 255 194 (dk_at dksX3_owner_4 3 rfl rfl)
theorem dX3_owner_99 : decode cX3_owner 99 = .ok (.iload 4, 2) := dk_21 4 (dk_at dksX3_owner_4 6 rfl rfl)
theorem dX3_owner_101 : decode cX3_owner 101 = .ok (.ifCond .eq 5, 3) := dk_153 0 5 (dk_at dksX3_owner_4 8 rfl rfl)
theorem dX3_owner_104 : decode cX3_owner 104 = .ok (.iload_n 2, 1) := dk_28 (dk_at dksX3_owner_4 11 rfl rfl)
theorem dX3_owner_105 : decode cX3_owner 105 = .ok (.ireturn, 1) := dk_172 (dk_at dksX3_owner_4 12 rfl rfl)
theorem dX3_owner_106 : decode cX3_owner 106 = .ok (.iinc 2 1, 3) := dk_132 2 1 (dk_at dksX3_owner_4 13 rfl rfl)
theorem dX3_owner_109 : decode cX3_owner 109 = .ok (.goto (-107), 3) := dk_167 255 149 (dk_at dksX3_owner_4 16 rfl rfl)
theorem dX3_owner_112 : decode cX3_owner 112 = .ok (.iconst (-1), 1) := dk_2 (dk_at dksX3_owner_4 19 rfl rfl)
theorem dX3_owner_113 : decode cX3_owner 113 = .ok (.ireturn, 1) := dk_172 (dk_at dksX3_owner_4 20 rfl rfl)
abbrev cX3_of : ByteArray := prog_13_method_8_code
def yX3_of : MethodName := ⟨RX3, "of", "(II)I"⟩
def dkwX3_of_0 : List UInt8 := [42, 180, 0, 7, 5, 16, 64, 27, 104, 96, 28, 96, 46, 172]
abbrev dktX3_of_0 : List UInt8 := dkwX3_of_0 ++ []
theorem dksX3_of_0 : cX3_of.data.toList.drop 0 = dktX3_of_0 := by decide +kernel
theorem dX3_of_0 : decode cX3_of 0 = .ok (.aload_n 0, 1) := dk_42 (dk_at dksX3_of_0 0 rfl rfl)
theorem dX3_of_1 : decode cX3_of 1 = .ok (.getfield 7, 3) := dk_180 0 7 (dk_at dksX3_of_0 1 rfl rfl)
theorem dX3_of_4 : decode cX3_of 4 = .ok (.iconst 2, 1) := dk_5 (dk_at dksX3_of_0 4 rfl rfl)
theorem dX3_of_5 : decode cX3_of 5 = .ok (.bipush 64, 2) := dk_16 64 (dk_at dksX3_of_0 5 rfl rfl)
theorem dX3_of_7 : decode cX3_of 7 = .ok (.iload_n 1, 1) := dk_27 (dk_at dksX3_of_0 7 rfl rfl)
theorem dX3_of_8 : decode cX3_of 8 = .ok (.imul, 1) := dk_104 (dk_at dksX3_of_0 8 rfl rfl)
theorem dX3_of_9 : decode cX3_of 9 = .ok (.iadd, 1) := dk_96 (dk_at dksX3_of_0 9 rfl rfl)
theorem dX3_of_10 : decode cX3_of 10 = .ok (.iload_n 2, 1) := dk_28 (dk_at dksX3_of_0 10 rfl rfl)
theorem dX3_of_11 : decode cX3_of 11 = .ok (.iadd, 1) := dk_96 (dk_at dksX3_of_0 11 rfl rfl)
theorem dX3_of_12 : decode cX3_of 12 = .ok (.iaload, 1) := dk_46 (dk_at dksX3_of_0 12 rfl rfl)
theorem dX3_of_13 : decode cX3_of 13 = .ok (.ireturn, 1) := dk_172 (dk_at dksX3_of_0 13 rfl rfl)
abbrev cX3_down : ByteArray := prog_13_method_11_code
def yX3_down : MethodName := ⟨RX3, "down", "(I)I"⟩
def dkwX3_down_0 : List UInt8 := [26, 4, 6, 184, 0, 26, 153, 0, 7, 4, 167, 0, 13, 26, 7, 164, 0, 7, 2, 167, 0, 4, 3, 172]
abbrev dktX3_down_0 : List UInt8 := dkwX3_down_0 ++ []
theorem dksX3_down_0 : cX3_down.data.toList.drop 0 = dktX3_down_0 := by decide +kernel
theorem dX3_down_0 : decode cX3_down 0 = .ok (.iload_n 0, 1) := dk_26 (dk_at dksX3_down_0 0 rfl rfl)
theorem dX3_down_1 : decode cX3_down 1 = .ok (.iconst 1, 1) := dk_4 (dk_at dksX3_down_0 1 rfl rfl)
theorem dX3_down_2 : decode cX3_down 2 = .ok (.iconst 3, 1) := dk_6 (dk_at dksX3_down_0 2 rfl rfl)
theorem dX3_down_3 : decode cX3_down 3 = .ok (.invokestatic 26, 3) := dk_184 0 26 (dk_at dksX3_down_0 3 rfl rfl)
theorem dX3_down_6 : decode cX3_down 6 = .ok (.ifCond .eq 7, 3) := dk_153 0 7 (dk_at dksX3_down_0 6 rfl rfl)
theorem dX3_down_9 : decode cX3_down 9 = .ok (.iconst 1, 1) := dk_4 (dk_at dksX3_down_0 9 rfl rfl)
theorem dX3_down_10 : decode cX3_down 10 = .ok (.goto 13, 3) := dk_167 0 13 (dk_at dksX3_down_0 10 rfl rfl)
theorem dX3_down_13 : decode cX3_down 13 = .ok (.iload_n 0, 1) := dk_26 (dk_at dksX3_down_0 13 rfl rfl)
theorem dX3_down_14 : decode cX3_down 14 = .ok (.iconst 4, 1) := dk_7 (dk_at dksX3_down_0 14 rfl rfl)
theorem dX3_down_15 : decode cX3_down 15 = .ok (.if_icmp .le 7, 3) := dk_164 0 7 (dk_at dksX3_down_0 15 rfl rfl)
theorem dX3_down_18 : decode cX3_down 18 = .ok (.iconst (-1), 1) := dk_2 (dk_at dksX3_down_0 18 rfl rfl)
theorem dX3_down_19 : decode cX3_down 19 = .ok (.goto 4, 3) := dk_167 0 4 (dk_at dksX3_down_0 19 rfl rfl)
theorem dX3_down_22 : decode cX3_down 22 = .ok (.iconst 0, 1) := dk_3 (dk_at dksX3_down_0 22 rfl rfl)
theorem dX3_down_23 : decode cX3_down 23 = .ok (.ireturn, 1) := dk_172 (dk_at dksX3_down_0 23 rfl rfl)
abbrev cX3_across : ByteArray := prog_13_method_10_code
def yX3_across : MethodName := ⟨RX3, "across", "(I)I"⟩
def dkwX3_across_1 : List UInt8 := [160, 0, 7, 3, 167, 0, 4, 2, 172]
abbrev dktX3_across_1 : List UInt8 := dkwX3_across_1 ++ []
def dkwX3_across_0 : List UInt8 := [26, 5, 161, 0, 9, 26, 16, 7, 160, 0, 7, 4, 167, 0, 19, 26, 5, 159, 0, 9, 26, 16, 6]
abbrev dktX3_across_0 : List UInt8 := dkwX3_across_0 ++ dktX3_across_1
theorem dksX3_across_0 : cX3_across.data.toList.drop 0 = dktX3_across_0 := by decide +kernel
theorem dksX3_across_1 : cX3_across.data.toList.drop 23 = dktX3_across_1 := dk_seg dksX3_across_0 23 rfl rfl
theorem dX3_across_0 : decode cX3_across 0 = .ok (.iload_n 0, 1) := dk_26 (dk_at dksX3_across_0 0 rfl rfl)
theorem dX3_across_1 : decode cX3_across 1 = .ok (.iconst 2, 1) := dk_5 (dk_at dksX3_across_0 1 rfl rfl)
theorem dX3_across_2 : decode cX3_across 2 = .ok (.if_icmp .lt 9, 3) := dk_161 0 9 (dk_at dksX3_across_0 2 rfl rfl)
theorem dX3_across_5 : decode cX3_across 5 = .ok (.iload_n 0, 1) := dk_26 (dk_at dksX3_across_0 5 rfl rfl)
theorem dX3_across_6 : decode cX3_across 6 = .ok (.bipush 7, 2) := dk_16 7 (dk_at dksX3_across_0 6 rfl rfl)
theorem dX3_across_8 : decode cX3_across 8 = .ok (.if_icmp .ne 7, 3) := dk_160 0 7 (dk_at dksX3_across_0 8 rfl rfl)
theorem dX3_across_11 : decode cX3_across 11 = .ok (.iconst 1, 1) := dk_4 (dk_at dksX3_across_0 11 rfl rfl)
theorem dX3_across_12 : decode cX3_across 12 = .ok (.goto 19, 3) := dk_167 0 19 (dk_at dksX3_across_0 12 rfl rfl)
theorem dX3_across_15 : decode cX3_across 15 = .ok (.iload_n 0, 1) := dk_26 (dk_at dksX3_across_0 15 rfl rfl)
theorem dX3_across_16 : decode cX3_across 16 = .ok (.iconst 2, 1) := dk_5 (dk_at dksX3_across_0 16 rfl rfl)
theorem dX3_across_17 : decode cX3_across 17 = .ok (.if_icmp .eq 9, 3) := dk_159 0 9 (dk_at dksX3_across_0 17 rfl rfl)
theorem dX3_across_20 : decode cX3_across 20 = .ok (.iload_n 0, 1) := dk_26 (dk_at dksX3_across_0 20 rfl rfl)
theorem dX3_across_21 : decode cX3_across 21 = .ok (.bipush 6, 2) := dk_16 6 (dk_at dksX3_across_0 21 rfl rfl)
theorem dX3_across_23 : decode cX3_across 23 = .ok (.if_icmp .ne 7, 3) := dk_160 0 7 (dk_at dksX3_across_1 0 rfl rfl)
theorem dX3_across_26 : decode cX3_across 26 = .ok (.iconst 0, 1) := dk_3 (dk_at dksX3_across_1 3 rfl rfl)
theorem dX3_across_27 : decode cX3_across 27 = .ok (.goto 4, 3) := dk_167 0 4 (dk_at dksX3_across_1 4 rfl rfl)
theorem dX3_across_30 : decode cX3_across 30 = .ok (.iconst (-1), 1) := dk_2 (dk_at dksX3_across_1 7 rfl rfl)
theorem dX3_across_31 : decode cX3_across 31 = .ok (.ireturn, 1) := dk_172 (dk_at dksX3_across_1 8 rfl rfl)
abbrev cX3_isLine : ByteArray := prog_13_method_6_code
def yX3_isLine : MethodName := ⟨RX3, "isLine", "(I)Z"⟩
def dkwX3_isLine_0 : List UInt8 := [27, 3, 42, 180, 0, 7, 3, 46, 4, 100, 184, 0, 26, 172]
abbrev dktX3_isLine_0 : List UInt8 := dkwX3_isLine_0 ++ []
theorem dksX3_isLine_0 : cX3_isLine.data.toList.drop 0 = dktX3_isLine_0 := by decide +kernel
theorem dX3_isLine_0 : decode cX3_isLine 0 = .ok (.iload_n 1, 1) := dk_27 (dk_at dksX3_isLine_0 0 rfl rfl)
theorem dX3_isLine_1 : decode cX3_isLine 1 = .ok (.iconst 0, 1) := dk_3 (dk_at dksX3_isLine_0 1 rfl rfl)
theorem dX3_isLine_2 : decode cX3_isLine 2 = .ok (.aload_n 0, 1) := dk_42 (dk_at dksX3_isLine_0 2 rfl rfl)
theorem dX3_isLine_3 : decode cX3_isLine 3 = .ok (.getfield 7, 3) := dk_180 0 7 (dk_at dksX3_isLine_0 3 rfl rfl)
theorem dX3_isLine_6 : decode cX3_isLine 6 = .ok (.iconst 0, 1) := dk_3 (dk_at dksX3_isLine_0 6 rfl rfl)
theorem dX3_isLine_7 : decode cX3_isLine 7 = .ok (.iaload, 1) := dk_46 (dk_at dksX3_isLine_0 7 rfl rfl)
theorem dX3_isLine_8 : decode cX3_isLine 8 = .ok (.iconst 1, 1) := dk_4 (dk_at dksX3_isLine_0 8 rfl rfl)
theorem dX3_isLine_9 : decode cX3_isLine 9 = .ok (.isub, 1) := dk_100 (dk_at dksX3_isLine_0 9 rfl rfl)
theorem dX3_isLine_10 : decode cX3_isLine 10 = .ok (.invokestatic 26, 3) := dk_184 0 26 (dk_at dksX3_isLine_0 10 rfl rfl)
theorem dX3_isLine_13 : decode cX3_isLine 13 = .ok (.ireturn, 1) := dk_172 (dk_at dksX3_isLine_0 13 rfl rfl)
abbrev cX3_whyNot : ByteArray := prog_13_method_18_code
def yX3_whyNot : MethodName := ⟨RX3, "whyNot", "(II)I"⟩
def dkwX3_whyNot_5 : List UInt8 := [167, 0, 4, 3, 172]
abbrev dktX3_whyNot_5 : List UInt8 := dkwX3_whyNot_5 ++ []
def dkwX3_whyNot_4 : List UInt8 := [42, 29, 28, 184, 0, 30, 96, 29, 16, 24, 28, 184, 0, 34, 104, 96, 182, 0, 57, 153, 0, 7, 8]
abbrev dktX3_whyNot_4 : List UInt8 := dkwX3_whyNot_4 ++ dktX3_whyNot_5
def dkwX3_whyNot_3 : List UInt8 := [42, 21, 4, 182, 0, 54, 2, 159, 0, 10, 21, 5, 154, 0, 5, 7, 172, 28, 5, 112, 4, 160, 0, 29]
abbrev dktX3_whyNot_3 : List UInt8 := dkwX3_whyNot_3 ++ dktX3_whyNot_4
def dkwX3_whyNot_2 : List UInt8 := [4, 182, 0, 37, 160, 0, 17, 42, 27, 5, 182, 0, 37, 6, 161, 0, 7, 4, 167, 0, 4, 3, 54, 5]
abbrev dktX3_whyNot_2 : List UInt8 := dkwX3_whyNot_2 ++ dktX3_whyNot_3
def dkwX3_whyNot_1 : List UInt8 := [27, 182, 0, 44, 62, 29, 28, 184, 0, 51, 54, 4, 21, 4, 2, 160, 0, 5, 6, 172, 21, 4, 42, 27]
abbrev dktX3_whyNot_1 : List UInt8 := dkwX3_whyNot_1 ++ dktX3_whyNot_2
def dkwX3_whyNot_0 : List UInt8 := [42, 27, 182, 0, 47, 153, 0, 5, 4, 172, 42, 27, 5, 182, 0, 37, 16, 60, 160, 0, 5, 5, 172, 42]
abbrev dktX3_whyNot_0 : List UInt8 := dkwX3_whyNot_0 ++ dktX3_whyNot_1
theorem dksX3_whyNot_0 : cX3_whyNot.data.toList.drop 0 = dktX3_whyNot_0 := by decide +kernel
theorem dksX3_whyNot_1 : cX3_whyNot.data.toList.drop 24 = dktX3_whyNot_1 := dk_seg dksX3_whyNot_0 24 rfl rfl
theorem dksX3_whyNot_2 : cX3_whyNot.data.toList.drop 48 = dktX3_whyNot_2 := dk_seg dksX3_whyNot_1 24 rfl rfl
theorem dksX3_whyNot_3 : cX3_whyNot.data.toList.drop 72 = dktX3_whyNot_3 := dk_seg dksX3_whyNot_2 24 rfl rfl
theorem dksX3_whyNot_4 : cX3_whyNot.data.toList.drop 96 = dktX3_whyNot_4 := dk_seg dksX3_whyNot_3 24 rfl rfl
theorem dksX3_whyNot_5 : cX3_whyNot.data.toList.drop 119 = dktX3_whyNot_5 := dk_seg dksX3_whyNot_4 23 rfl rfl
theorem dX3_whyNot_0 : decode cX3_whyNot 0 = .ok (.aload_n 0, 1) := dk_42 (dk_at dksX3_whyNot_0 0 rfl rfl)
theorem dX3_whyNot_1 : decode cX3_whyNot 1 = .ok (.iload_n 1, 1) := dk_27 (dk_at dksX3_whyNot_0 1 rfl rfl)
theorem dX3_whyNot_2 : decode cX3_whyNot 2 = .ok (.invokevirtual 47, 3) := dk_182 0 47 (dk_at dksX3_whyNot_0 2 rfl rfl)
theorem dX3_whyNot_5 : decode cX3_whyNot 5 = .ok (.ifCond .eq 5, 3) := dk_153 0 5 (dk_at dksX3_whyNot_0 5 rfl rfl)
theorem dX3_whyNot_8 : decode cX3_whyNot 8 = .ok (.iconst 1, 1) := dk_4 (dk_at dksX3_whyNot_0 8 rfl rfl)
theorem dX3_whyNot_9 : decode cX3_whyNot 9 = .ok (.ireturn, 1) := dk_172 (dk_at dksX3_whyNot_0 9 rfl rfl)
theorem dX3_whyNot_10 : decode cX3_whyNot 10 = .ok (.aload_n 0, 1) := dk_42 (dk_at dksX3_whyNot_0 10 rfl rfl)
theorem dX3_whyNot_11 : decode cX3_whyNot 11 = .ok (.iload_n 1, 1) := dk_27 (dk_at dksX3_whyNot_0 11 rfl rfl)
theorem dX3_whyNot_12 : decode cX3_whyNot 12 = .ok (.iconst 2, 1) := dk_5 (dk_at dksX3_whyNot_0 12 rfl rfl)
theorem dX3_whyNot_13 : decode cX3_whyNot 13 = .ok (.invokevirtual 37, 3) := dk_182 0 37 (dk_at dksX3_whyNot_0 13 rfl rfl)
theorem dX3_whyNot_16 : decode cX3_whyNot 16 = .ok (.bipush 60, 2) := dk_16 60 (dk_at dksX3_whyNot_0 16 rfl rfl)
theorem dX3_whyNot_18 : decode cX3_whyNot 18 = .ok (.if_icmp .ne 5, 3) := dk_160 0 5 (dk_at dksX3_whyNot_0 18 rfl rfl)
theorem dX3_whyNot_21 : decode cX3_whyNot 21 = .ok (.iconst 2, 1) := dk_5 (dk_at dksX3_whyNot_0 21 rfl rfl)
theorem dX3_whyNot_22 : decode cX3_whyNot 22 = .ok (.ireturn, 1) := dk_172 (dk_at dksX3_whyNot_0 22 rfl rfl)
theorem dX3_whyNot_23 : decode cX3_whyNot 23 = .ok (.aload_n 0, 1) := dk_42 (dk_at dksX3_whyNot_0 23 rfl rfl)
theorem dX3_whyNot_24 : decode cX3_whyNot 24 = .ok (.iload_n 1, 1) := dk_27 (dk_at dksX3_whyNot_1 0 rfl rfl)
theorem dX3_whyNot_25 : decode cX3_whyNot 25 = .ok (.invokevirtual 44, 3) := dk_182 0 44 (dk_at dksX3_whyNot_1 1 rfl rfl)
theorem dX3_whyNot_28 : decode cX3_whyNot 28 = .ok (.istore_n 3, 1) := dk_62 (dk_at dksX3_whyNot_1 4 rfl rfl)
theorem dX3_whyNot_29 : decode cX3_whyNot 29 = .ok (.iload_n 3, 1) := dk_29 (dk_at dksX3_whyNot_1 5 rfl rfl)
theorem dX3_whyNot_30 : decode cX3_whyNot 30 = .ok (.iload_n 2, 1) := dk_28 (dk_at dksX3_whyNot_1 6 rfl rfl)
theorem dX3_whyNot_31 : decode cX3_whyNot 31 = .ok (.invokestatic 51, 3) := dk_184 0 51 (dk_at dksX3_whyNot_1 7 rfl rfl)
theorem dX3_whyNot_34 : decode cX3_whyNot 34 = .ok (.istore 4, 2) := dk_54 4 (dk_at dksX3_whyNot_1 10 rfl rfl)
theorem dX3_whyNot_36 : decode cX3_whyNot 36 = .ok (.iload 4, 2) := dk_21 4 (dk_at dksX3_whyNot_1 12 rfl rfl)
theorem dX3_whyNot_38 : decode cX3_whyNot 38 = .ok (.iconst (-1), 1) := dk_2 (dk_at dksX3_whyNot_1 14 rfl rfl)
theorem dX3_whyNot_39 : decode cX3_whyNot 39 = .ok (.if_icmp .ne 5, 3) := dk_160 0 5 (dk_at dksX3_whyNot_1 15 rfl rfl)
theorem dX3_whyNot_42 : decode cX3_whyNot 42 = .ok (.iconst 3, 1) := dk_6 (dk_at dksX3_whyNot_1 18 rfl rfl)
theorem dX3_whyNot_43 : decode cX3_whyNot 43 = .ok (.ireturn, 1) := dk_172 (dk_at dksX3_whyNot_1 19 rfl rfl)
theorem dX3_whyNot_44 : decode cX3_whyNot 44 = .ok (.iload 4, 2) := dk_21 4 (dk_at dksX3_whyNot_1 20 rfl rfl)
theorem dX3_whyNot_46 : decode cX3_whyNot 46 = .ok (.aload_n 0, 1) := dk_42 (dk_at dksX3_whyNot_1 22 rfl rfl)
theorem dX3_whyNot_47 : decode cX3_whyNot 47 = .ok (.iload_n 1, 1) := dk_27 (dk_at dksX3_whyNot_1 23 rfl rfl)
theorem dX3_whyNot_48 : decode cX3_whyNot 48 = .ok (.iconst 1, 1) := dk_4 (dk_at dksX3_whyNot_2 0 rfl rfl)
theorem dX3_whyNot_49 : decode cX3_whyNot 49 = .ok (.invokevirtual 37, 3) := dk_182 0 37 (dk_at dksX3_whyNot_2 1 rfl rfl)
theorem dX3_whyNot_52 : decode cX3_whyNot 52 = .ok (.if_icmp .ne 17, 3) := dk_160 0 17 (dk_at dksX3_whyNot_2 4 rfl rfl)
theorem dX3_whyNot_55 : decode cX3_whyNot 55 = .ok (.aload_n 0, 1) := dk_42 (dk_at dksX3_whyNot_2 7 rfl rfl)
theorem dX3_whyNot_56 : decode cX3_whyNot 56 = .ok (.iload_n 1, 1) := dk_27 (dk_at dksX3_whyNot_2 8 rfl rfl)
theorem dX3_whyNot_57 : decode cX3_whyNot 57 = .ok (.iconst 2, 1) := dk_5 (dk_at dksX3_whyNot_2 9 rfl rfl)
theorem dX3_whyNot_58 : decode cX3_whyNot 58 = .ok (.invokevirtual 37, 3) := dk_182 0 37 (dk_at dksX3_whyNot_2 10 rfl rfl)
theorem dX3_whyNot_61 : decode cX3_whyNot 61 = .ok (.iconst 3, 1) := dk_6 (dk_at dksX3_whyNot_2 13 rfl rfl)
theorem dX3_whyNot_62 : decode cX3_whyNot 62 = .ok (.if_icmp .lt 7, 3) := dk_161 0 7 (dk_at dksX3_whyNot_2 14 rfl rfl)
theorem dX3_whyNot_65 : decode cX3_whyNot 65 = .ok (.iconst 1, 1) := dk_4 (dk_at dksX3_whyNot_2 17 rfl rfl)
theorem dX3_whyNot_66 : decode cX3_whyNot 66 = .ok (.goto 4, 3) := dk_167 0 4 (dk_at dksX3_whyNot_2 18 rfl rfl)
theorem dX3_whyNot_69 : decode cX3_whyNot 69 = .ok (.iconst 0, 1) := dk_3 (dk_at dksX3_whyNot_2 21 rfl rfl)
theorem dX3_whyNot_70 : decode cX3_whyNot 70 = .ok (.istore 5, 2) := dk_54 5 (dk_at dksX3_whyNot_2 22 rfl rfl)
theorem dX3_whyNot_72 : decode cX3_whyNot 72 = .ok (.aload_n 0, 1) := dk_42 (dk_at dksX3_whyNot_3 0 rfl rfl)
theorem dX3_whyNot_73 : decode cX3_whyNot 73 = .ok (.iload 4, 2) := dk_21 4 (dk_at dksX3_whyNot_3 1 rfl rfl)
theorem dX3_whyNot_75 : decode cX3_whyNot 75 = .ok (.invokevirtual 54, 3) := dk_182 0 54 (dk_at dksX3_whyNot_3 3 rfl rfl)
theorem dX3_whyNot_78 : decode cX3_whyNot 78 = .ok (.iconst (-1), 1) := dk_2 (dk_at dksX3_whyNot_3 6 rfl rfl)
theorem dX3_whyNot_79 : decode cX3_whyNot 79 = .ok (.if_icmp .eq 10, 3) := dk_159 0 10 (dk_at dksX3_whyNot_3 7 rfl rfl)
theorem dX3_whyNot_82 : decode cX3_whyNot 82 = .ok (.iload 5, 2) := dk_21 5 (dk_at dksX3_whyNot_3 10 rfl rfl)
theorem dX3_whyNot_84 : decode cX3_whyNot 84 = .ok (.ifCond .ne 5, 3) := dk_154 0 5 (dk_at dksX3_whyNot_3 12 rfl rfl)
theorem dX3_whyNot_87 : decode cX3_whyNot 87 = .ok (.iconst 4, 1) := dk_7 (dk_at dksX3_whyNot_3 15 rfl rfl)
theorem dX3_whyNot_88 : decode cX3_whyNot 88 = .ok (.ireturn, 1) := dk_172 (dk_at dksX3_whyNot_3 16 rfl rfl)
theorem dX3_whyNot_89 : decode cX3_whyNot 89 = .ok (.iload_n 2, 1) := dk_28 (dk_at dksX3_whyNot_3 17 rfl rfl)
theorem dX3_whyNot_90 : decode cX3_whyNot 90 = .ok (.iconst 2, 1) := dk_5 (dk_at dksX3_whyNot_3 18 rfl rfl)
theorem dX3_whyNot_91 : decode cX3_whyNot 91 = .ok (.irem, 1) := dk_112 (dk_at dksX3_whyNot_3 19 rfl rfl)
theorem dX3_whyNot_92 : decode cX3_whyNot 92 = .ok (.iconst 1, 1) := dk_4 (dk_at dksX3_whyNot_3 20 rfl rfl)
theorem dX3_whyNot_93 : decode cX3_whyNot 93 = .ok (.if_icmp .ne 29, 3) := dk_160 0 29 (dk_at dksX3_whyNot_3 21 rfl rfl)
theorem dX3_whyNot_96 : decode cX3_whyNot 96 = .ok (.aload_n 0, 1) := dk_42 (dk_at dksX3_whyNot_4 0 rfl rfl)
theorem dX3_whyNot_97 : decode cX3_whyNot 97 = .ok (.iload_n 3, 1) := dk_29 (dk_at dksX3_whyNot_4 1 rfl rfl)
theorem dX3_whyNot_98 : decode cX3_whyNot 98 = .ok (.iload_n 2, 1) := dk_28 (dk_at dksX3_whyNot_4 2 rfl rfl)
theorem dX3_whyNot_99 : decode cX3_whyNot 99 = .ok (.invokestatic 30, 3) := dk_184 0 30 (dk_at dksX3_whyNot_4 3 rfl rfl)
theorem dX3_whyNot_102 : decode cX3_whyNot 102 = .ok (.iadd, 1) := dk_96 (dk_at dksX3_whyNot_4 6 rfl rfl)
theorem dX3_whyNot_103 : decode cX3_whyNot 103 = .ok (.iload_n 3, 1) := dk_29 (dk_at dksX3_whyNot_4 7 rfl rfl)
theorem dX3_whyNot_104 : decode cX3_whyNot 104 = .ok (.bipush 24, 2) := dk_16 24 (dk_at dksX3_whyNot_4 8 rfl rfl)
theorem dX3_whyNot_106 : decode cX3_whyNot 106 = .ok (.iload_n 2, 1) := dk_28 (dk_at dksX3_whyNot_4 10 rfl rfl)
theorem dX3_whyNot_107 : decode cX3_whyNot 107 = .ok (.invokestatic 34, 3) := dk_184 0 34 (dk_at dksX3_whyNot_4 11 rfl rfl)
theorem dX3_whyNot_110 : decode cX3_whyNot 110 = .ok (.imul, 1) := dk_104 (dk_at dksX3_whyNot_4 14 rfl rfl)
theorem dX3_whyNot_111 : decode cX3_whyNot 111 = .ok (.iadd, 1) := dk_96 (dk_at dksX3_whyNot_4 15 rfl rfl)
theorem dX3_whyNot_112 : decode cX3_whyNot 112 = .ok (.invokevirtual 57, 3) := dk_182 0 57 (dk_at dksX3_whyNot_4 16 rfl rfl)
theorem dX3_whyNot_115 : decode cX3_whyNot 115 = .ok (.ifCond .eq 7, 3) := dk_153 0 7 (dk_at dksX3_whyNot_4 19 rfl rfl)
theorem dX3_whyNot_118 : decode cX3_whyNot 118 = .ok (.iconst 5, 1) := dk_8 (dk_at dksX3_whyNot_4 22 rfl rfl)
theorem dX3_whyNot_119 : decode cX3_whyNot 119 = .ok (.goto 4, 3) := dk_167 0 4 (dk_at dksX3_whyNot_5 0 rfl rfl)
theorem dX3_whyNot_122 : decode cX3_whyNot 122 = .ok (.iconst 0, 1) := dk_3 (dk_at dksX3_whyNot_5 3 rfl rfl)
theorem dX3_whyNot_123 : decode cX3_whyNot 123 = .ok (.ireturn, 1) := dk_172 (dk_at dksX3_whyNot_5 4 rfl rfl)
abbrev cX3_closes : ByteArray := prog_13_method_15_code
def yX3_closes : MethodName := ⟨RX3, "closes", "(I)Z"⟩
def dkwX3_closes_1 : List UInt8 := [167, 0, 4, 3, 172]
abbrev dktX3_closes_1 : List UInt8 := dkwX3_closes_1 ++ []
def dkwX3_closes_0 : List UInt8 := [42, 27, 5, 182, 0, 37, 158, 0, 21, 42, 27, 182, 0, 44, 42, 27, 4, 182, 0, 37, 160, 0, 7, 4]
abbrev dktX3_closes_0 : List UInt8 := dkwX3_closes_0 ++ dktX3_closes_1
theorem dksX3_closes_0 : cX3_closes.data.toList.drop 0 = dktX3_closes_0 := by decide +kernel
theorem dksX3_closes_1 : cX3_closes.data.toList.drop 24 = dktX3_closes_1 := dk_seg dksX3_closes_0 24 rfl rfl
theorem dX3_closes_0 : decode cX3_closes 0 = .ok (.aload_n 0, 1) := dk_42 (dk_at dksX3_closes_0 0 rfl rfl)
theorem dX3_closes_1 : decode cX3_closes 1 = .ok (.iload_n 1, 1) := dk_27 (dk_at dksX3_closes_0 1 rfl rfl)
theorem dX3_closes_2 : decode cX3_closes 2 = .ok (.iconst 2, 1) := dk_5 (dk_at dksX3_closes_0 2 rfl rfl)
theorem dX3_closes_3 : decode cX3_closes 3 = .ok (.invokevirtual 37, 3) := dk_182 0 37 (dk_at dksX3_closes_0 3 rfl rfl)
theorem dX3_closes_6 : decode cX3_closes 6 = .ok (.ifCond .le 21, 3) := dk_158 0 21 (dk_at dksX3_closes_0 6 rfl rfl)
theorem dX3_closes_9 : decode cX3_closes 9 = .ok (.aload_n 0, 1) := dk_42 (dk_at dksX3_closes_0 9 rfl rfl)
theorem dX3_closes_10 : decode cX3_closes 10 = .ok (.iload_n 1, 1) := dk_27 (dk_at dksX3_closes_0 10 rfl rfl)
theorem dX3_closes_11 : decode cX3_closes 11 = .ok (.invokevirtual 44, 3) := dk_182 0 44 (dk_at dksX3_closes_0 11 rfl rfl)
theorem dX3_closes_14 : decode cX3_closes 14 = .ok (.aload_n 0, 1) := dk_42 (dk_at dksX3_closes_0 14 rfl rfl)
theorem dX3_closes_15 : decode cX3_closes 15 = .ok (.iload_n 1, 1) := dk_27 (dk_at dksX3_closes_0 15 rfl rfl)
theorem dX3_closes_16 : decode cX3_closes 16 = .ok (.iconst 1, 1) := dk_4 (dk_at dksX3_closes_0 16 rfl rfl)
theorem dX3_closes_17 : decode cX3_closes 17 = .ok (.invokevirtual 37, 3) := dk_182 0 37 (dk_at dksX3_closes_0 17 rfl rfl)
theorem dX3_closes_20 : decode cX3_closes 20 = .ok (.if_icmp .ne 7, 3) := dk_160 0 7 (dk_at dksX3_closes_0 20 rfl rfl)
theorem dX3_closes_23 : decode cX3_closes 23 = .ok (.iconst 1, 1) := dk_4 (dk_at dksX3_closes_0 23 rfl rfl)
theorem dX3_closes_24 : decode cX3_closes 24 = .ok (.goto 4, 3) := dk_167 0 4 (dk_at dksX3_closes_1 0 rfl rfl)
theorem dX3_closes_27 : decode cX3_closes 27 = .ok (.iconst 0, 1) := dk_3 (dk_at dksX3_closes_1 3 rfl rfl)
theorem dX3_closes_28 : decode cX3_closes 28 = .ok (.ireturn, 1) := dk_172 (dk_at dksX3_closes_1 4 rfl rfl)
abbrev cX3_last : ByteArray := prog_13_method_14_code
def yX3_last : MethodName := ⟨RX3, "last", "(I)I"⟩
def dkwX3_last_0 : List UInt8 := [42, 27, 42, 27, 5, 182, 0, 37, 182, 0, 41, 172]
abbrev dktX3_last_0 : List UInt8 := dkwX3_last_0 ++ []
theorem dksX3_last_0 : cX3_last.data.toList.drop 0 = dktX3_last_0 := by decide +kernel
theorem dX3_last_0 : decode cX3_last 0 = .ok (.aload_n 0, 1) := dk_42 (dk_at dksX3_last_0 0 rfl rfl)
theorem dX3_last_1 : decode cX3_last 1 = .ok (.iload_n 1, 1) := dk_27 (dk_at dksX3_last_0 1 rfl rfl)
theorem dX3_last_2 : decode cX3_last 2 = .ok (.aload_n 0, 1) := dk_42 (dk_at dksX3_last_0 2 rfl rfl)
theorem dX3_last_3 : decode cX3_last 3 = .ok (.iload_n 1, 1) := dk_27 (dk_at dksX3_last_0 3 rfl rfl)
theorem dX3_last_4 : decode cX3_last 4 = .ok (.iconst 2, 1) := dk_5 (dk_at dksX3_last_0 4 rfl rfl)
theorem dX3_last_5 : decode cX3_last 5 = .ok (.invokevirtual 37, 3) := dk_182 0 37 (dk_at dksX3_last_0 5 rfl rfl)
theorem dX3_last_8 : decode cX3_last 8 = .ok (.invokevirtual 41, 3) := dk_182 0 41 (dk_at dksX3_last_0 8 rfl rfl)
theorem dX3_last_11 : decode cX3_last 11 = .ok (.ireturn, 1) := dk_172 (dk_at dksX3_last_0 11 rfl rfl)
abbrev cX3_at : ByteArray := prog_13_method_13_code
def yX3_at : MethodName := ⟨RX3, "at", "(II)I"⟩
def dkwX3_at_2 : List UInt8 := [132, 4, 1, 167, 255, 216, 29, 172]
abbrev dktX3_at_2 : List UInt8 := dkwX3_at_2 ++ []
def dkwX3_at_1 : List UInt8 := [96, 182, 0, 37, 184, 0, 34, 104, 42, 27, 7, 21, 4, 96, 182, 0, 37, 184, 0, 30, 96, 96, 62]
abbrev dktX3_at_1 : List UInt8 := dkwX3_at_1 ++ dktX3_at_2
def dkwX3_at_0 : List UInt8 := [42, 27, 4, 182, 0, 37, 62, 3, 54, 4, 21, 4, 28, 162, 0, 40, 29, 16, 24, 42, 27, 7, 21, 4]
abbrev dktX3_at_0 : List UInt8 := dkwX3_at_0 ++ dktX3_at_1
theorem dksX3_at_0 : cX3_at.data.toList.drop 0 = dktX3_at_0 := by decide +kernel
theorem dksX3_at_1 : cX3_at.data.toList.drop 24 = dktX3_at_1 := dk_seg dksX3_at_0 24 rfl rfl
theorem dksX3_at_2 : cX3_at.data.toList.drop 47 = dktX3_at_2 := dk_seg dksX3_at_1 23 rfl rfl
theorem dX3_at_0 : decode cX3_at 0 = .ok (.aload_n 0, 1) := dk_42 (dk_at dksX3_at_0 0 rfl rfl)
theorem dX3_at_1 : decode cX3_at 1 = .ok (.iload_n 1, 1) := dk_27 (dk_at dksX3_at_0 1 rfl rfl)
theorem dX3_at_2 : decode cX3_at 2 = .ok (.iconst 1, 1) := dk_4 (dk_at dksX3_at_0 2 rfl rfl)
theorem dX3_at_3 : decode cX3_at 3 = .ok (.invokevirtual 37, 3) := dk_182 0 37 (dk_at dksX3_at_0 3 rfl rfl)
theorem dX3_at_6 : decode cX3_at 6 = .ok (.istore_n 3, 1) := dk_62 (dk_at dksX3_at_0 6 rfl rfl)
theorem dX3_at_7 : decode cX3_at 7 = .ok (.iconst 0, 1) := dk_3 (dk_at dksX3_at_0 7 rfl rfl)
theorem dX3_at_8 : decode cX3_at 8 = .ok (.istore 4, 2) := dk_54 4 (dk_at dksX3_at_0 8 rfl rfl)
theorem dX3_at_10 : decode cX3_at 10 = .ok (.iload 4, 2) := dk_21 4 (dk_at dksX3_at_0 10 rfl rfl)
theorem dX3_at_12 : decode cX3_at 12 = .ok (.iload_n 2, 1) := dk_28 (dk_at dksX3_at_0 12 rfl rfl)
theorem dX3_at_13 : decode cX3_at 13 = .ok (.if_icmp .ge 40, 3) := dk_162 0 40 (dk_at dksX3_at_0 13 rfl rfl)
theorem dX3_at_16 : decode cX3_at 16 = .ok (.iload_n 3, 1) := dk_29 (dk_at dksX3_at_0 16 rfl rfl)
theorem dX3_at_17 : decode cX3_at 17 = .ok (.bipush 24, 2) := dk_16 24 (dk_at dksX3_at_0 17 rfl rfl)
theorem dX3_at_19 : decode cX3_at 19 = .ok (.aload_n 0, 1) := dk_42 (dk_at dksX3_at_0 19 rfl rfl)
theorem dX3_at_20 : decode cX3_at 20 = .ok (.iload_n 1, 1) := dk_27 (dk_at dksX3_at_0 20 rfl rfl)
theorem dX3_at_21 : decode cX3_at 21 = .ok (.iconst 4, 1) := dk_7 (dk_at dksX3_at_0 21 rfl rfl)
theorem dX3_at_22 : decode cX3_at 22 = .ok (.iload 4, 2) := dk_21 4 (dk_at dksX3_at_0 22 rfl rfl)
theorem dX3_at_24 : decode cX3_at 24 = .ok (.iadd, 1) := dk_96 (dk_at dksX3_at_1 0 rfl rfl)
theorem dX3_at_25 : decode cX3_at 25 = .ok (.invokevirtual 37, 3) := dk_182 0 37 (dk_at dksX3_at_1 1 rfl rfl)
theorem dX3_at_28 : decode cX3_at 28 = .ok (.invokestatic 34, 3) := dk_184 0 34 (dk_at dksX3_at_1 4 rfl rfl)
theorem dX3_at_31 : decode cX3_at 31 = .ok (.imul, 1) := dk_104 (dk_at dksX3_at_1 7 rfl rfl)
theorem dX3_at_32 : decode cX3_at 32 = .ok (.aload_n 0, 1) := dk_42 (dk_at dksX3_at_1 8 rfl rfl)
theorem dX3_at_33 : decode cX3_at 33 = .ok (.iload_n 1, 1) := dk_27 (dk_at dksX3_at_1 9 rfl rfl)
theorem dX3_at_34 : decode cX3_at 34 = .ok (.iconst 4, 1) := dk_7 (dk_at dksX3_at_1 10 rfl rfl)
theorem dX3_at_35 : decode cX3_at 35 = .ok (.iload 4, 2) := dk_21 4 (dk_at dksX3_at_1 11 rfl rfl)
theorem dX3_at_37 : decode cX3_at 37 = .ok (.iadd, 1) := dk_96 (dk_at dksX3_at_1 13 rfl rfl)
theorem dX3_at_38 : decode cX3_at 38 = .ok (.invokevirtual 37, 3) := dk_182 0 37 (dk_at dksX3_at_1 14 rfl rfl)
theorem dX3_at_41 : decode cX3_at 41 = .ok (.invokestatic 30, 3) := dk_184 0 30 (dk_at dksX3_at_1 17 rfl rfl)
theorem dX3_at_44 : decode cX3_at 44 = .ok (.iadd, 1) := dk_96 (dk_at dksX3_at_1 20 rfl rfl)
theorem dX3_at_45 : decode cX3_at 45 = .ok (.iadd, 1) := dk_96 (dk_at dksX3_at_1 21 rfl rfl)
theorem dX3_at_46 : decode cX3_at 46 = .ok (.istore_n 3, 1) := dk_62 (dk_at dksX3_at_1 22 rfl rfl)
theorem dX3_at_47 : decode cX3_at 47 = .ok (.iinc 4 1, 3) := dk_132 4 1 (dk_at dksX3_at_2 0 rfl rfl)
theorem dX3_at_50 : decode cX3_at 50 = .ok (.goto (-40), 3) := dk_167 255 216 (dk_at dksX3_at_2 3 rfl rfl)
theorem dX3_at_53 : decode cX3_at 53 = .ok (.iload_n 3, 1) := dk_29 (dk_at dksX3_at_2 6 rfl rfl)
theorem dX3_at_54 : decode cX3_at 54 = .ok (.ireturn, 1) := dk_172 (dk_at dksX3_at_2 7 rfl rfl)
abbrev cX3_next : ByteArray := prog_13_method_12_code
def yX3_next : MethodName := ⟨RX3, "next", "(II)I"⟩
def dkwX3_next_2 : List UInt8 := [167, 0, 4, 2, 172]
abbrev dktX3_next_2 : List UInt8 := dkwX3_next_2 ++ []
def dkwX3_next_1 : List UInt8 := [184, 0, 26, 153, 0, 22, 29, 3, 16, 15, 184, 0, 26, 153, 0, 12, 16, 24, 29, 104, 28, 96]
abbrev dktX3_next_1 : List UInt8 := dkwX3_next_1 ++ dktX3_next_2
def dkwX3_next_0 : List UInt8 := [26, 16, 24, 112, 27, 184, 0, 30, 96, 61, 26, 16, 24, 108, 27, 184, 0, 34, 96, 62, 28, 3, 16, 23]
abbrev dktX3_next_0 : List UInt8 := dkwX3_next_0 ++ dktX3_next_1
theorem dksX3_next_0 : cX3_next.data.toList.drop 0 = dktX3_next_0 := by decide +kernel
theorem dksX3_next_1 : cX3_next.data.toList.drop 24 = dktX3_next_1 := dk_seg dksX3_next_0 24 rfl rfl
theorem dksX3_next_2 : cX3_next.data.toList.drop 46 = dktX3_next_2 := dk_seg dksX3_next_1 22 rfl rfl
theorem dX3_next_0 : decode cX3_next 0 = .ok (.iload_n 0, 1) := dk_26 (dk_at dksX3_next_0 0 rfl rfl)
theorem dX3_next_1 : decode cX3_next 1 = .ok (.bipush 24, 2) := dk_16 24 (dk_at dksX3_next_0 1 rfl rfl)
theorem dX3_next_3 : decode cX3_next 3 = .ok (.irem, 1) := dk_112 (dk_at dksX3_next_0 3 rfl rfl)
theorem dX3_next_4 : decode cX3_next 4 = .ok (.iload_n 1, 1) := dk_27 (dk_at dksX3_next_0 4 rfl rfl)
theorem dX3_next_5 : decode cX3_next 5 = .ok (.invokestatic 30, 3) := dk_184 0 30 (dk_at dksX3_next_0 5 rfl rfl)
theorem dX3_next_8 : decode cX3_next 8 = .ok (.iadd, 1) := dk_96 (dk_at dksX3_next_0 8 rfl rfl)
theorem dX3_next_9 : decode cX3_next 9 = .ok (.istore_n 2, 1) := dk_61 (dk_at dksX3_next_0 9 rfl rfl)
theorem dX3_next_10 : decode cX3_next 10 = .ok (.iload_n 0, 1) := dk_26 (dk_at dksX3_next_0 10 rfl rfl)
theorem dX3_next_11 : decode cX3_next 11 = .ok (.bipush 24, 2) := dk_16 24 (dk_at dksX3_next_0 11 rfl rfl)
theorem dX3_next_13 : decode cX3_next 13 = .ok (.idiv, 1) := dk_108 (dk_at dksX3_next_0 13 rfl rfl)
theorem dX3_next_14 : decode cX3_next 14 = .ok (.iload_n 1, 1) := dk_27 (dk_at dksX3_next_0 14 rfl rfl)
theorem dX3_next_15 : decode cX3_next 15 = .ok (.invokestatic 34, 3) := dk_184 0 34 (dk_at dksX3_next_0 15 rfl rfl)
theorem dX3_next_18 : decode cX3_next 18 = .ok (.iadd, 1) := dk_96 (dk_at dksX3_next_0 18 rfl rfl)
theorem dX3_next_19 : decode cX3_next 19 = .ok (.istore_n 3, 1) := dk_62 (dk_at dksX3_next_0 19 rfl rfl)
theorem dX3_next_20 : decode cX3_next 20 = .ok (.iload_n 2, 1) := dk_28 (dk_at dksX3_next_0 20 rfl rfl)
theorem dX3_next_21 : decode cX3_next 21 = .ok (.iconst 0, 1) := dk_3 (dk_at dksX3_next_0 21 rfl rfl)
theorem dX3_next_22 : decode cX3_next 22 = .ok (.bipush 23, 2) := dk_16 23 (dk_at dksX3_next_0 22 rfl rfl)
theorem dX3_next_24 : decode cX3_next 24 = .ok (.invokestatic 26, 3) := dk_184 0 26 (dk_at dksX3_next_1 0 rfl rfl)
theorem dX3_next_27 : decode cX3_next 27 = .ok (.ifCond .eq 22, 3) := dk_153 0 22 (dk_at dksX3_next_1 3 rfl rfl)
theorem dX3_next_30 : decode cX3_next 30 = .ok (.iload_n 3, 1) := dk_29 (dk_at dksX3_next_1 6 rfl rfl)
theorem dX3_next_31 : decode cX3_next 31 = .ok (.iconst 0, 1) := dk_3 (dk_at dksX3_next_1 7 rfl rfl)
theorem dX3_next_32 : decode cX3_next 32 = .ok (.bipush 15, 2) := dk_16 15 (dk_at dksX3_next_1 8 rfl rfl)
theorem dX3_next_34 : decode cX3_next 34 = .ok (.invokestatic 26, 3) := dk_184 0 26 (dk_at dksX3_next_1 10 rfl rfl)
theorem dX3_next_37 : decode cX3_next 37 = .ok (.ifCond .eq 12, 3) := dk_153 0 12 (dk_at dksX3_next_1 13 rfl rfl)
theorem dX3_next_40 : decode cX3_next 40 = .ok (.bipush 24, 2) := dk_16 24 (dk_at dksX3_next_1 16 rfl rfl)
theorem dX3_next_42 : decode cX3_next 42 = .ok (.iload_n 3, 1) := dk_29 (dk_at dksX3_next_1 18 rfl rfl)
theorem dX3_next_43 : decode cX3_next 43 = .ok (.imul, 1) := dk_104 (dk_at dksX3_next_1 19 rfl rfl)
theorem dX3_next_44 : decode cX3_next 44 = .ok (.iload_n 2, 1) := dk_28 (dk_at dksX3_next_1 20 rfl rfl)
theorem dX3_next_45 : decode cX3_next 45 = .ok (.iadd, 1) := dk_96 (dk_at dksX3_next_1 21 rfl rfl)
theorem dX3_next_46 : decode cX3_next 46 = .ok (.goto 4, 3) := dk_167 0 4 (dk_at dksX3_next_2 0 rfl rfl)
theorem dX3_next_49 : decode cX3_next 49 = .ok (.iconst (-1), 1) := dk_2 (dk_at dksX3_next_2 3 rfl rfl)
theorem dX3_next_50 : decode cX3_next 50 = .ok (.ireturn, 1) := dk_172 (dk_at dksX3_next_2 4 rfl rfl)
abbrev cX3_isStep : ByteArray := prog_13_method_17_code
def yX3_isStep : MethodName := ⟨RX3, "isStep", "(II)Z"⟩
def dkwX3_isStep_5 : List UInt8 := [167, 255, 168, 132, 4, 1, 167, 255, 139, 29, 172]
abbrev dktX3_isStep_5 : List UInt8 := dkwX3_isStep_5 ++ []
def dkwX3_isStep_4 : List UInt8 := [28, 160, 0, 13, 21, 7, 27, 160, 0, 7, 4, 167, 0, 4, 3, 62, 21, 7, 54, 5, 132, 6, 1]
abbrev dktX3_isStep_4 : List UInt8 := dkwX3_isStep_4 ++ dktX3_isStep_5
def dkwX3_isStep_3 : List UInt8 := [184, 0, 30, 96, 54, 7, 29, 154, 0, 27, 21, 5, 27, 160, 0, 9, 21, 7, 28, 159, 0, 15, 21, 5]
abbrev dktX3_isStep_3 : List UInt8 := dkwX3_isStep_3 ++ dktX3_isStep_4
def dkwX3_isStep_2 : List UInt8 := [7, 21, 6, 96, 182, 0, 37, 184, 0, 34, 104, 96, 42, 21, 4, 7, 21, 6, 96, 182, 0, 37]
abbrev dktX3_isStep_2 : List UInt8 := dkwX3_isStep_2 ++ dktX3_isStep_3
def dkwX3_isStep_1 : List UInt8 := [54, 5, 3, 54, 6, 21, 6, 42, 21, 4, 5, 182, 0, 37, 162, 0, 82, 21, 5, 16, 24, 42, 21, 4]
abbrev dktX3_isStep_1 : List UInt8 := dkwX3_isStep_1 ++ dktX3_isStep_2
def dkwX3_isStep_0 : List UInt8 := [3, 62, 3, 54, 4, 21, 4, 42, 180, 0, 7, 3, 46, 162, 0, 112, 42, 21, 4, 4, 182, 0, 37]
abbrev dktX3_isStep_0 : List UInt8 := dkwX3_isStep_0 ++ dktX3_isStep_1
theorem dksX3_isStep_0 : cX3_isStep.data.toList.drop 0 = dktX3_isStep_0 := by decide +kernel
theorem dksX3_isStep_1 : cX3_isStep.data.toList.drop 23 = dktX3_isStep_1 := dk_seg dksX3_isStep_0 23 rfl rfl
theorem dksX3_isStep_2 : cX3_isStep.data.toList.drop 47 = dktX3_isStep_2 := dk_seg dksX3_isStep_1 24 rfl rfl
theorem dksX3_isStep_3 : cX3_isStep.data.toList.drop 69 = dktX3_isStep_3 := dk_seg dksX3_isStep_2 22 rfl rfl
theorem dksX3_isStep_4 : cX3_isStep.data.toList.drop 93 = dktX3_isStep_4 := dk_seg dksX3_isStep_3 24 rfl rfl
theorem dksX3_isStep_5 : cX3_isStep.data.toList.drop 116 = dktX3_isStep_5 := dk_seg dksX3_isStep_4 23 rfl rfl
theorem dX3_isStep_0 : decode cX3_isStep 0 = .ok (.iconst 0, 1) := dk_3 (dk_at dksX3_isStep_0 0 rfl rfl)
theorem dX3_isStep_1 : decode cX3_isStep 1 = .ok (.istore_n 3, 1) := dk_62 (dk_at dksX3_isStep_0 1 rfl rfl)
theorem dX3_isStep_2 : decode cX3_isStep 2 = .ok (.iconst 0, 1) := dk_3 (dk_at dksX3_isStep_0 2 rfl rfl)
theorem dX3_isStep_3 : decode cX3_isStep 3 = .ok (.istore 4, 2) := dk_54 4 (dk_at dksX3_isStep_0 3 rfl rfl)
theorem dX3_isStep_5 : decode cX3_isStep 5 = .ok (.iload 4, 2) := dk_21 4 (dk_at dksX3_isStep_0 5 rfl rfl)
theorem dX3_isStep_7 : decode cX3_isStep 7 = .ok (.aload_n 0, 1) := dk_42 (dk_at dksX3_isStep_0 7 rfl rfl)
theorem dX3_isStep_8 : decode cX3_isStep 8 = .ok (.getfield 7, 3) := dk_180 0 7 (dk_at dksX3_isStep_0 8 rfl rfl)
theorem dX3_isStep_11 : decode cX3_isStep 11 = .ok (.iconst 0, 1) := dk_3 (dk_at dksX3_isStep_0 11 rfl rfl)
theorem dX3_isStep_12 : decode cX3_isStep 12 = .ok (.iaload, 1) := dk_46 (dk_at dksX3_isStep_0 12 rfl rfl)
theorem dX3_isStep_13 : decode cX3_isStep 13 = .ok (.if_icmp .ge 112, 3) := dk_162 0 112 (dk_at dksX3_isStep_0 13 rfl rfl)
theorem dX3_isStep_16 : decode cX3_isStep 16 = .ok (.aload_n 0, 1) := dk_42 (dk_at dksX3_isStep_0 16 rfl rfl)
theorem dX3_isStep_17 : decode cX3_isStep 17 = .ok (.iload 4, 2) := dk_21 4 (dk_at dksX3_isStep_0 17 rfl rfl)
theorem dX3_isStep_19 : decode cX3_isStep 19 = .ok (.iconst 1, 1) := dk_4 (dk_at dksX3_isStep_0 19 rfl rfl)
theorem dX3_isStep_20 : decode cX3_isStep 20 = .ok (.invokevirtual 37, 3) := dk_182 0 37 (dk_at dksX3_isStep_0 20 rfl rfl)
theorem dX3_isStep_23 : decode cX3_isStep 23 = .ok (.istore 5, 2) := dk_54 5 (dk_at dksX3_isStep_1 0 rfl rfl)
theorem dX3_isStep_25 : decode cX3_isStep 25 = .ok (.iconst 0, 1) := dk_3 (dk_at dksX3_isStep_1 2 rfl rfl)
theorem dX3_isStep_26 : decode cX3_isStep 26 = .ok (.istore 6, 2) := dk_54 6 (dk_at dksX3_isStep_1 3 rfl rfl)
theorem dX3_isStep_28 : decode cX3_isStep 28 = .ok (.iload 6, 2) := dk_21 6 (dk_at dksX3_isStep_1 5 rfl rfl)
theorem dX3_isStep_30 : decode cX3_isStep 30 = .ok (.aload_n 0, 1) := dk_42 (dk_at dksX3_isStep_1 7 rfl rfl)
theorem dX3_isStep_31 : decode cX3_isStep 31 = .ok (.iload 4, 2) := dk_21 4 (dk_at dksX3_isStep_1 8 rfl rfl)
theorem dX3_isStep_33 : decode cX3_isStep 33 = .ok (.iconst 2, 1) := dk_5 (dk_at dksX3_isStep_1 10 rfl rfl)
theorem dX3_isStep_34 : decode cX3_isStep 34 = .ok (.invokevirtual 37, 3) := dk_182 0 37 (dk_at dksX3_isStep_1 11 rfl rfl)
theorem dX3_isStep_37 : decode cX3_isStep 37 = .ok (.if_icmp .ge 82, 3) := dk_162 0 82 (dk_at dksX3_isStep_1 14 rfl rfl)
theorem dX3_isStep_40 : decode cX3_isStep 40 = .ok (.iload 5, 2) := dk_21 5 (dk_at dksX3_isStep_1 17 rfl rfl)
theorem dX3_isStep_42 : decode cX3_isStep 42 = .ok (.bipush 24, 2) := dk_16 24 (dk_at dksX3_isStep_1 19 rfl rfl)
theorem dX3_isStep_44 : decode cX3_isStep 44 = .ok (.aload_n 0, 1) := dk_42 (dk_at dksX3_isStep_1 21 rfl rfl)
theorem dX3_isStep_45 : decode cX3_isStep 45 = .ok (.iload 4, 2) := dk_21 4 (dk_at dksX3_isStep_1 22 rfl rfl)
theorem dX3_isStep_47 : decode cX3_isStep 47 = .ok (.iconst 4, 1) := dk_7 (dk_at dksX3_isStep_2 0 rfl rfl)
theorem dX3_isStep_48 : decode cX3_isStep 48 = .ok (.iload 6, 2) := dk_21 6 (dk_at dksX3_isStep_2 1 rfl rfl)
theorem dX3_isStep_50 : decode cX3_isStep 50 = .ok (.iadd, 1) := dk_96 (dk_at dksX3_isStep_2 3 rfl rfl)
theorem dX3_isStep_51 : decode cX3_isStep 51 = .ok (.invokevirtual 37, 3) := dk_182 0 37 (dk_at dksX3_isStep_2 4 rfl rfl)
theorem dX3_isStep_54 : decode cX3_isStep 54 = .ok (.invokestatic 34, 3) := dk_184 0 34 (dk_at dksX3_isStep_2 7 rfl rfl)
theorem dX3_isStep_57 : decode cX3_isStep 57 = .ok (.imul, 1) := dk_104 (dk_at dksX3_isStep_2 10 rfl rfl)
theorem dX3_isStep_58 : decode cX3_isStep 58 = .ok (.iadd, 1) := dk_96 (dk_at dksX3_isStep_2 11 rfl rfl)
theorem dX3_isStep_59 : decode cX3_isStep 59 = .ok (.aload_n 0, 1) := dk_42 (dk_at dksX3_isStep_2 12 rfl rfl)
theorem dX3_isStep_60 : decode cX3_isStep 60 = .ok (.iload 4, 2) := dk_21 4 (dk_at dksX3_isStep_2 13 rfl rfl)
theorem dX3_isStep_62 : decode cX3_isStep 62 = .ok (.iconst 4, 1) := dk_7 (dk_at dksX3_isStep_2 15 rfl rfl)
theorem dX3_isStep_63 : decode cX3_isStep 63 = .ok (.iload 6, 2) := dk_21 6 (dk_at dksX3_isStep_2 16 rfl rfl)
theorem dX3_isStep_65 : decode cX3_isStep 65 = .ok (.iadd, 1) := dk_96 (dk_at dksX3_isStep_2 18 rfl rfl)
theorem dX3_isStep_66 : decode cX3_isStep 66 = .ok (.invokevirtual 37, 3) := dk_182 0 37 (dk_at dksX3_isStep_2 19 rfl rfl)
theorem dX3_isStep_69 : decode cX3_isStep 69 = .ok (.invokestatic 30, 3) := dk_184 0 30 (dk_at dksX3_isStep_3 0 rfl rfl)
theorem dX3_isStep_72 : decode cX3_isStep 72 = .ok (.iadd, 1) := dk_96 (dk_at dksX3_isStep_3 3 rfl rfl)
theorem dX3_isStep_73 : decode cX3_isStep 73 = .ok (.istore 7, 2) := dk_54 7 (dk_at dksX3_isStep_3 4 rfl rfl)
theorem dX3_isStep_75 : decode cX3_isStep 75 = .ok (.iload_n 3, 1) := dk_29 (dk_at dksX3_isStep_3 6 rfl rfl)
theorem dX3_isStep_76 : decode cX3_isStep 76 = .ok (.ifCond .ne 27, 3) := dk_154 0 27 (dk_at dksX3_isStep_3 7 rfl rfl)
theorem dX3_isStep_79 : decode cX3_isStep 79 = .ok (.iload 5, 2) := dk_21 5 (dk_at dksX3_isStep_3 10 rfl rfl)
theorem dX3_isStep_81 : decode cX3_isStep 81 = .ok (.iload_n 1, 1) := dk_27 (dk_at dksX3_isStep_3 12 rfl rfl)
theorem dX3_isStep_82 : decode cX3_isStep 82 = .ok (.if_icmp .ne 9, 3) := dk_160 0 9 (dk_at dksX3_isStep_3 13 rfl rfl)
theorem dX3_isStep_85 : decode cX3_isStep 85 = .ok (.iload 7, 2) := dk_21 7 (dk_at dksX3_isStep_3 16 rfl rfl)
theorem dX3_isStep_87 : decode cX3_isStep 87 = .ok (.iload_n 2, 1) := dk_28 (dk_at dksX3_isStep_3 18 rfl rfl)
theorem dX3_isStep_88 : decode cX3_isStep 88 = .ok (.if_icmp .eq 15, 3) := dk_159 0 15 (dk_at dksX3_isStep_3 19 rfl rfl)
theorem dX3_isStep_91 : decode cX3_isStep 91 = .ok (.iload 5, 2) := dk_21 5 (dk_at dksX3_isStep_3 22 rfl rfl)
theorem dX3_isStep_93 : decode cX3_isStep 93 = .ok (.iload_n 2, 1) := dk_28 (dk_at dksX3_isStep_4 0 rfl rfl)
theorem dX3_isStep_94 : decode cX3_isStep 94 = .ok (.if_icmp .ne 13, 3) := dk_160 0 13 (dk_at dksX3_isStep_4 1 rfl rfl)
theorem dX3_isStep_97 : decode cX3_isStep 97 = .ok (.iload 7, 2) := dk_21 7 (dk_at dksX3_isStep_4 4 rfl rfl)
theorem dX3_isStep_99 : decode cX3_isStep 99 = .ok (.iload_n 1, 1) := dk_27 (dk_at dksX3_isStep_4 6 rfl rfl)
theorem dX3_isStep_100 : decode cX3_isStep 100 = .ok (.if_icmp .ne 7, 3) := dk_160 0 7 (dk_at dksX3_isStep_4 7 rfl rfl)
theorem dX3_isStep_103 : decode cX3_isStep 103 = .ok (.iconst 1, 1) := dk_4 (dk_at dksX3_isStep_4 10 rfl rfl)
theorem dX3_isStep_104 : decode cX3_isStep 104 = .ok (.goto 4, 3) := dk_167 0 4 (dk_at dksX3_isStep_4 11 rfl rfl)
theorem dX3_isStep_107 : decode cX3_isStep 107 = .ok (.iconst 0, 1) := dk_3 (dk_at dksX3_isStep_4 14 rfl rfl)
theorem dX3_isStep_108 : decode cX3_isStep 108 = .ok (.istore_n 3, 1) := dk_62 (dk_at dksX3_isStep_4 15 rfl rfl)
theorem dX3_isStep_109 : decode cX3_isStep 109 = .ok (.iload 7, 2) := dk_21 7 (dk_at dksX3_isStep_4 16 rfl rfl)
theorem dX3_isStep_111 : decode cX3_isStep 111 = .ok (.istore 5, 2) := dk_54 5 (dk_at dksX3_isStep_4 18 rfl rfl)
theorem dX3_isStep_113 : decode cX3_isStep 113 = .ok (.iinc 6 1, 3) := dk_132 6 1 (dk_at dksX3_isStep_4 20 rfl rfl)
theorem dX3_isStep_116 : decode cX3_isStep 116 = .ok (.goto (-88), 3) := dk_167 255 168 (dk_at dksX3_isStep_5 0 rfl rfl)
theorem dX3_isStep_119 : decode cX3_isStep 119 = .ok (.iinc 4 1, 3) := dk_132 4 1 (dk_at dksX3_isStep_5 3 rfl rfl)
theorem dX3_isStep_122 : decode cX3_isStep 122 = .ok (.goto (-117), 3) := dk_167 255 139 (dk_at dksX3_isStep_5 6 rfl rfl)
theorem dX3_isStep_125 : decode cX3_isStep 125 = .ok (.iload_n 3, 1) := dk_29 (dk_at dksX3_isStep_5 9 rfl rfl)
theorem dX3_isStep_126 : decode cX3_isStep 126 = .ok (.ireturn, 1) := dk_172 (dk_at dksX3_isStep_5 10 rfl rfl)
abbrev cX3_whyNoLabel : ByteArray := prog_13_method_27_code
def yX3_whyNoLabel : MethodName := ⟨RX3, "whyNoLabel", "(II)I"⟩
def dkwX3_whyNoLabel_4 : List UInt8 := [3, 172]
abbrev dktX3_whyNoLabel_4 : List UInt8 := dkwX3_whyNoLabel_4 ++ []
def dkwX3_whyNoLabel_3 : List UInt8 := [164, 0, 5, 6, 172, 42, 27, 28, 182, 0, 86, 42, 180, 0, 7, 4, 46, 162, 0, 7, 7, 167, 0, 4]
abbrev dktX3_whyNoLabel_3 : List UInt8 := dkwX3_whyNoLabel_3 ++ dktX3_whyNoLabel_4
def dkwX3_whyNoLabel_2 : List UInt8 := [16, 24, 108, 21, 4, 16, 24, 108, 184, 0, 61, 29, 16, 24, 112, 21, 4, 16, 24, 112, 184, 0, 61]
abbrev dktX3_whyNoLabel_2 : List UInt8 := dkwX3_whyNoLabel_2 ++ dktX3_whyNoLabel_3
def dkwX3_whyNoLabel_1 : List UInt8 := [27, 28, 182, 0, 41, 62, 42, 27, 28, 42, 27, 182, 0, 67, 96, 4, 100, 182, 0, 41, 54, 4, 29]
abbrev dktX3_whyNoLabel_1 : List UInt8 := dkwX3_whyNoLabel_1 ++ dktX3_whyNoLabel_2
def dkwX3_whyNoLabel_0 : List UInt8 := [42, 27, 28, 182, 0, 80, 154, 0, 5, 4, 172, 42, 27, 28, 182, 0, 83, 4, 164, 0, 5, 5, 172, 42]
abbrev dktX3_whyNoLabel_0 : List UInt8 := dkwX3_whyNoLabel_0 ++ dktX3_whyNoLabel_1
theorem dksX3_whyNoLabel_0 : cX3_whyNoLabel.data.toList.drop 0 = dktX3_whyNoLabel_0 := by decide +kernel
theorem dksX3_whyNoLabel_1 : cX3_whyNoLabel.data.toList.drop 24 = dktX3_whyNoLabel_1 := dk_seg dksX3_whyNoLabel_0 24 rfl rfl
theorem dksX3_whyNoLabel_2 : cX3_whyNoLabel.data.toList.drop 47 = dktX3_whyNoLabel_2 := dk_seg dksX3_whyNoLabel_1 23 rfl rfl
theorem dksX3_whyNoLabel_3 : cX3_whyNoLabel.data.toList.drop 70 = dktX3_whyNoLabel_3 := dk_seg dksX3_whyNoLabel_2 23 rfl rfl
theorem dksX3_whyNoLabel_4 : cX3_whyNoLabel.data.toList.drop 94 = dktX3_whyNoLabel_4 := dk_seg dksX3_whyNoLabel_3 24 rfl rfl
theorem dX3_whyNoLabel_0 : decode cX3_whyNoLabel 0 = .ok (.aload_n 0, 1) := dk_42 (dk_at dksX3_whyNoLabel_0 0 rfl rfl)
theorem dX3_whyNoLabel_1 : decode cX3_whyNoLabel 1 = .ok (.iload_n 1, 1) := dk_27 (dk_at dksX3_whyNoLabel_0 1 rfl rfl)
theorem dX3_whyNoLabel_2 : decode cX3_whyNoLabel 2 = .ok (.iload_n 2, 1) := dk_28 (dk_at dksX3_whyNoLabel_0 2 rfl rfl)
theorem dX3_whyNoLabel_3 : decode cX3_whyNoLabel 3 = .ok (.invokevirtual 80, 3) := dk_182 0 80 (dk_at dksX3_whyNoLabel_0 3 rfl rfl)
theorem dX3_whyNoLabel_6 : decode cX3_whyNoLabel 6 = .ok (.ifCond .ne 5, 3) := dk_154 0 5 (dk_at dksX3_whyNoLabel_0 6 rfl rfl)
theorem dX3_whyNoLabel_9 : decode cX3_whyNoLabel 9 = .ok (.iconst 1, 1) := dk_4 (dk_at dksX3_whyNoLabel_0 9 rfl rfl)
theorem dX3_whyNoLabel_10 : decode cX3_whyNoLabel 10 = .ok (.ireturn, 1) := dk_172 (dk_at dksX3_whyNoLabel_0 10 rfl rfl)
theorem dX3_whyNoLabel_11 : decode cX3_whyNoLabel 11 = .ok (.aload_n 0, 1) := dk_42 (dk_at dksX3_whyNoLabel_0 11 rfl rfl)
theorem dX3_whyNoLabel_12 : decode cX3_whyNoLabel 12 = .ok (.iload_n 1, 1) := dk_27 (dk_at dksX3_whyNoLabel_0 12 rfl rfl)
theorem dX3_whyNoLabel_13 : decode cX3_whyNoLabel 13 = .ok (.iload_n 2, 1) := dk_28 (dk_at dksX3_whyNoLabel_0 13 rfl rfl)
theorem dX3_whyNoLabel_14 : decode cX3_whyNoLabel 14 = .ok (.invokevirtual 83, 3) := dk_182 0 83 (dk_at dksX3_whyNoLabel_0 14 rfl rfl)
theorem dX3_whyNoLabel_17 : decode cX3_whyNoLabel 17 = .ok (.iconst 1, 1) := dk_4 (dk_at dksX3_whyNoLabel_0 17 rfl rfl)
theorem dX3_whyNoLabel_18 : decode cX3_whyNoLabel 18 = .ok (.if_icmp .le 5, 3) := dk_164 0 5 (dk_at dksX3_whyNoLabel_0 18 rfl rfl)
theorem dX3_whyNoLabel_21 : decode cX3_whyNoLabel 21 = .ok (.iconst 2, 1) := dk_5 (dk_at dksX3_whyNoLabel_0 21 rfl rfl)
theorem dX3_whyNoLabel_22 : decode cX3_whyNoLabel 22 = .ok (.ireturn, 1) := dk_172 (dk_at dksX3_whyNoLabel_0 22 rfl rfl)
theorem dX3_whyNoLabel_23 : decode cX3_whyNoLabel 23 = .ok (.aload_n 0, 1) := dk_42 (dk_at dksX3_whyNoLabel_0 23 rfl rfl)
theorem dX3_whyNoLabel_24 : decode cX3_whyNoLabel 24 = .ok (.iload_n 1, 1) := dk_27 (dk_at dksX3_whyNoLabel_1 0 rfl rfl)
theorem dX3_whyNoLabel_25 : decode cX3_whyNoLabel 25 = .ok (.iload_n 2, 1) := dk_28 (dk_at dksX3_whyNoLabel_1 1 rfl rfl)
theorem dX3_whyNoLabel_26 : decode cX3_whyNoLabel 26 = .ok (.invokevirtual 41, 3) := dk_182 0 41 (dk_at dksX3_whyNoLabel_1 2 rfl rfl)
theorem dX3_whyNoLabel_29 : decode cX3_whyNoLabel 29 = .ok (.istore_n 3, 1) := dk_62 (dk_at dksX3_whyNoLabel_1 5 rfl rfl)
theorem dX3_whyNoLabel_30 : decode cX3_whyNoLabel 30 = .ok (.aload_n 0, 1) := dk_42 (dk_at dksX3_whyNoLabel_1 6 rfl rfl)
theorem dX3_whyNoLabel_31 : decode cX3_whyNoLabel 31 = .ok (.iload_n 1, 1) := dk_27 (dk_at dksX3_whyNoLabel_1 7 rfl rfl)
theorem dX3_whyNoLabel_32 : decode cX3_whyNoLabel 32 = .ok (.iload_n 2, 1) := dk_28 (dk_at dksX3_whyNoLabel_1 8 rfl rfl)
theorem dX3_whyNoLabel_33 : decode cX3_whyNoLabel 33 = .ok (.aload_n 0, 1) := dk_42 (dk_at dksX3_whyNoLabel_1 9 rfl rfl)
theorem dX3_whyNoLabel_34 : decode cX3_whyNoLabel 34 = .ok (.iload_n 1, 1) := dk_27 (dk_at dksX3_whyNoLabel_1 10 rfl rfl)
theorem dX3_whyNoLabel_35 : decode cX3_whyNoLabel 35 = .ok (.invokevirtual 67, 3) := dk_182 0 67 (dk_at dksX3_whyNoLabel_1 11 rfl rfl)
theorem dX3_whyNoLabel_38 : decode cX3_whyNoLabel 38 = .ok (.iadd, 1) := dk_96 (dk_at dksX3_whyNoLabel_1 14 rfl rfl)
theorem dX3_whyNoLabel_39 : decode cX3_whyNoLabel 39 = .ok (.iconst 1, 1) := dk_4 (dk_at dksX3_whyNoLabel_1 15 rfl rfl)
theorem dX3_whyNoLabel_40 : decode cX3_whyNoLabel 40 = .ok (.isub, 1) := dk_100 (dk_at dksX3_whyNoLabel_1 16 rfl rfl)
theorem dX3_whyNoLabel_41 : decode cX3_whyNoLabel 41 = .ok (.invokevirtual 41, 3) := dk_182 0 41 (dk_at dksX3_whyNoLabel_1 17 rfl rfl)
theorem dX3_whyNoLabel_44 : decode cX3_whyNoLabel 44 = .ok (.istore 4, 2) := dk_54 4 (dk_at dksX3_whyNoLabel_1 20 rfl rfl)
theorem dX3_whyNoLabel_46 : decode cX3_whyNoLabel 46 = .ok (.iload_n 3, 1) := dk_29 (dk_at dksX3_whyNoLabel_1 22 rfl rfl)
theorem dX3_whyNoLabel_47 : decode cX3_whyNoLabel 47 = .ok (.bipush 24, 2) := dk_16 24 (dk_at dksX3_whyNoLabel_2 0 rfl rfl)
theorem dX3_whyNoLabel_49 : decode cX3_whyNoLabel 49 = .ok (.idiv, 1) := dk_108 (dk_at dksX3_whyNoLabel_2 2 rfl rfl)
theorem dX3_whyNoLabel_50 : decode cX3_whyNoLabel 50 = .ok (.iload 4, 2) := dk_21 4 (dk_at dksX3_whyNoLabel_2 3 rfl rfl)
theorem dX3_whyNoLabel_52 : decode cX3_whyNoLabel 52 = .ok (.bipush 24, 2) := dk_16 24 (dk_at dksX3_whyNoLabel_2 5 rfl rfl)
theorem dX3_whyNoLabel_54 : decode cX3_whyNoLabel 54 = .ok (.idiv, 1) := dk_108 (dk_at dksX3_whyNoLabel_2 7 rfl rfl)
theorem dX3_whyNoLabel_55 : decode cX3_whyNoLabel 55 = .ok (.invokestatic 61, 3) := dk_184 0 61 (dk_at dksX3_whyNoLabel_2 8 rfl rfl)
theorem dX3_whyNoLabel_58 : decode cX3_whyNoLabel 58 = .ok (.iload_n 3, 1) := dk_29 (dk_at dksX3_whyNoLabel_2 11 rfl rfl)
theorem dX3_whyNoLabel_59 : decode cX3_whyNoLabel 59 = .ok (.bipush 24, 2) := dk_16 24 (dk_at dksX3_whyNoLabel_2 12 rfl rfl)
theorem dX3_whyNoLabel_61 : decode cX3_whyNoLabel 61 = .ok (.irem, 1) := dk_112 (dk_at dksX3_whyNoLabel_2 14 rfl rfl)
theorem dX3_whyNoLabel_62 : decode cX3_whyNoLabel 62 = .ok (.iload 4, 2) := dk_21 4 (dk_at dksX3_whyNoLabel_2 15 rfl rfl)
theorem dX3_whyNoLabel_64 : decode cX3_whyNoLabel 64 = .ok (.bipush 24, 2) := dk_16 24 (dk_at dksX3_whyNoLabel_2 17 rfl rfl)
theorem dX3_whyNoLabel_66 : decode cX3_whyNoLabel 66 = .ok (.irem, 1) := dk_112 (dk_at dksX3_whyNoLabel_2 19 rfl rfl)
theorem dX3_whyNoLabel_67 : decode cX3_whyNoLabel 67 = .ok (.invokestatic 61, 3) := dk_184 0 61 (dk_at dksX3_whyNoLabel_2 20 rfl rfl)
theorem dX3_whyNoLabel_70 : decode cX3_whyNoLabel 70 = .ok (.if_icmp .le 5, 3) := dk_164 0 5 (dk_at dksX3_whyNoLabel_3 0 rfl rfl)
theorem dX3_whyNoLabel_73 : decode cX3_whyNoLabel 73 = .ok (.iconst 3, 1) := dk_6 (dk_at dksX3_whyNoLabel_3 3 rfl rfl)
theorem dX3_whyNoLabel_74 : decode cX3_whyNoLabel 74 = .ok (.ireturn, 1) := dk_172 (dk_at dksX3_whyNoLabel_3 4 rfl rfl)
theorem dX3_whyNoLabel_75 : decode cX3_whyNoLabel 75 = .ok (.aload_n 0, 1) := dk_42 (dk_at dksX3_whyNoLabel_3 5 rfl rfl)
theorem dX3_whyNoLabel_76 : decode cX3_whyNoLabel 76 = .ok (.iload_n 1, 1) := dk_27 (dk_at dksX3_whyNoLabel_3 6 rfl rfl)
theorem dX3_whyNoLabel_77 : decode cX3_whyNoLabel 77 = .ok (.iload_n 2, 1) := dk_28 (dk_at dksX3_whyNoLabel_3 7 rfl rfl)
theorem dX3_whyNoLabel_78 : decode cX3_whyNoLabel 78 = .ok (.invokevirtual 86, 3) := dk_182 0 86 (dk_at dksX3_whyNoLabel_3 8 rfl rfl)
theorem dX3_whyNoLabel_81 : decode cX3_whyNoLabel 81 = .ok (.aload_n 0, 1) := dk_42 (dk_at dksX3_whyNoLabel_3 11 rfl rfl)
theorem dX3_whyNoLabel_82 : decode cX3_whyNoLabel 82 = .ok (.getfield 7, 3) := dk_180 0 7 (dk_at dksX3_whyNoLabel_3 12 rfl rfl)
theorem dX3_whyNoLabel_85 : decode cX3_whyNoLabel 85 = .ok (.iconst 1, 1) := dk_4 (dk_at dksX3_whyNoLabel_3 15 rfl rfl)
theorem dX3_whyNoLabel_86 : decode cX3_whyNoLabel 86 = .ok (.iaload, 1) := dk_46 (dk_at dksX3_whyNoLabel_3 16 rfl rfl)
theorem dX3_whyNoLabel_87 : decode cX3_whyNoLabel 87 = .ok (.if_icmp .ge 7, 3) := dk_162 0 7 (dk_at dksX3_whyNoLabel_3 17 rfl rfl)
theorem dX3_whyNoLabel_90 : decode cX3_whyNoLabel 90 = .ok (.iconst 4, 1) := dk_7 (dk_at dksX3_whyNoLabel_3 20 rfl rfl)
theorem dX3_whyNoLabel_91 : decode cX3_whyNoLabel 91 = .ok (.goto 4, 3) := dk_167 0 4 (dk_at dksX3_whyNoLabel_3 21 rfl rfl)
theorem dX3_whyNoLabel_94 : decode cX3_whyNoLabel 94 = .ok (.iconst 0, 1) := dk_3 (dk_at dksX3_whyNoLabel_4 0 rfl rfl)
theorem dX3_whyNoLabel_95 : decode cX3_whyNoLabel 95 = .ok (.ireturn, 1) := dk_172 (dk_at dksX3_whyNoLabel_4 1 rfl rfl)
abbrev cX3_isPlace : ByteArray := prog_13_method_22_code
def yX3_isPlace : MethodName := ⟨RX3, "isPlace", "(II)Z"⟩
def dkwX3_isPlace_1 : List UInt8 := [167, 0, 4, 3, 100, 163, 0, 7, 4, 167, 0, 4, 3, 172]
abbrev dktX3_isPlace_1 : List UInt8 := dkwX3_isPlace_1 ++ []
def dkwX3_isPlace_0 : List UInt8 := [28, 42, 27, 182, 0, 67, 96, 4, 100, 42, 27, 5, 182, 0, 37, 42, 27, 182, 0, 47, 153, 0, 7, 4]
abbrev dktX3_isPlace_0 : List UInt8 := dkwX3_isPlace_0 ++ dktX3_isPlace_1
theorem dksX3_isPlace_0 : cX3_isPlace.data.toList.drop 0 = dktX3_isPlace_0 := by decide +kernel
theorem dksX3_isPlace_1 : cX3_isPlace.data.toList.drop 24 = dktX3_isPlace_1 := dk_seg dksX3_isPlace_0 24 rfl rfl
theorem dX3_isPlace_0 : decode cX3_isPlace 0 = .ok (.iload_n 2, 1) := dk_28 (dk_at dksX3_isPlace_0 0 rfl rfl)
theorem dX3_isPlace_1 : decode cX3_isPlace 1 = .ok (.aload_n 0, 1) := dk_42 (dk_at dksX3_isPlace_0 1 rfl rfl)
theorem dX3_isPlace_2 : decode cX3_isPlace 2 = .ok (.iload_n 1, 1) := dk_27 (dk_at dksX3_isPlace_0 2 rfl rfl)
theorem dX3_isPlace_3 : decode cX3_isPlace 3 = .ok (.invokevirtual 67, 3) := dk_182 0 67 (dk_at dksX3_isPlace_0 3 rfl rfl)
theorem dX3_isPlace_6 : decode cX3_isPlace 6 = .ok (.iadd, 1) := dk_96 (dk_at dksX3_isPlace_0 6 rfl rfl)
theorem dX3_isPlace_7 : decode cX3_isPlace 7 = .ok (.iconst 1, 1) := dk_4 (dk_at dksX3_isPlace_0 7 rfl rfl)
theorem dX3_isPlace_8 : decode cX3_isPlace 8 = .ok (.isub, 1) := dk_100 (dk_at dksX3_isPlace_0 8 rfl rfl)
theorem dX3_isPlace_9 : decode cX3_isPlace 9 = .ok (.aload_n 0, 1) := dk_42 (dk_at dksX3_isPlace_0 9 rfl rfl)
theorem dX3_isPlace_10 : decode cX3_isPlace 10 = .ok (.iload_n 1, 1) := dk_27 (dk_at dksX3_isPlace_0 10 rfl rfl)
theorem dX3_isPlace_11 : decode cX3_isPlace 11 = .ok (.iconst 2, 1) := dk_5 (dk_at dksX3_isPlace_0 11 rfl rfl)
theorem dX3_isPlace_12 : decode cX3_isPlace 12 = .ok (.invokevirtual 37, 3) := dk_182 0 37 (dk_at dksX3_isPlace_0 12 rfl rfl)
theorem dX3_isPlace_15 : decode cX3_isPlace 15 = .ok (.aload_n 0, 1) := dk_42 (dk_at dksX3_isPlace_0 15 rfl rfl)
theorem dX3_isPlace_16 : decode cX3_isPlace 16 = .ok (.iload_n 1, 1) := dk_27 (dk_at dksX3_isPlace_0 16 rfl rfl)
theorem dX3_isPlace_17 : decode cX3_isPlace 17 = .ok (.invokevirtual 47, 3) := dk_182 0 47 (dk_at dksX3_isPlace_0 17 rfl rfl)
theorem dX3_isPlace_20 : decode cX3_isPlace 20 = .ok (.ifCond .eq 7, 3) := dk_153 0 7 (dk_at dksX3_isPlace_0 20 rfl rfl)
theorem dX3_isPlace_23 : decode cX3_isPlace 23 = .ok (.iconst 1, 1) := dk_4 (dk_at dksX3_isPlace_0 23 rfl rfl)
theorem dX3_isPlace_24 : decode cX3_isPlace 24 = .ok (.goto 4, 3) := dk_167 0 4 (dk_at dksX3_isPlace_1 0 rfl rfl)
theorem dX3_isPlace_27 : decode cX3_isPlace 27 = .ok (.iconst 0, 1) := dk_3 (dk_at dksX3_isPlace_1 3 rfl rfl)
theorem dX3_isPlace_28 : decode cX3_isPlace 28 = .ok (.isub, 1) := dk_100 (dk_at dksX3_isPlace_1 4 rfl rfl)
theorem dX3_isPlace_29 : decode cX3_isPlace 29 = .ok (.if_icmp .gt 7, 3) := dk_163 0 7 (dk_at dksX3_isPlace_1 5 rfl rfl)
theorem dX3_isPlace_32 : decode cX3_isPlace 32 = .ok (.iconst 1, 1) := dk_4 (dk_at dksX3_isPlace_1 8 rfl rfl)
theorem dX3_isPlace_33 : decode cX3_isPlace 33 = .ok (.goto 4, 3) := dk_167 0 4 (dk_at dksX3_isPlace_1 9 rfl rfl)
theorem dX3_isPlace_36 : decode cX3_isPlace 36 = .ok (.iconst 0, 1) := dk_3 (dk_at dksX3_isPlace_1 12 rfl rfl)
theorem dX3_isPlace_37 : decode cX3_isPlace 37 = .ok (.ireturn, 1) := dk_172 (dk_at dksX3_isPlace_1 13 rfl rfl)
abbrev cX3_size : ByteArray := prog_13_method_21_code
def yX3_size : MethodName := ⟨RX3, "size", "(I)I"⟩
def dkwX3_size_0 : List UInt8 := [42, 27, 3, 182, 0, 37, 16, 10, 162, 0, 7, 5, 167, 0, 4, 6, 172]
abbrev dktX3_size_0 : List UInt8 := dkwX3_size_0 ++ []
theorem dksX3_size_0 : cX3_size.data.toList.drop 0 = dktX3_size_0 := by decide +kernel
theorem dX3_size_0 : decode cX3_size 0 = .ok (.aload_n 0, 1) := dk_42 (dk_at dksX3_size_0 0 rfl rfl)
theorem dX3_size_1 : decode cX3_size 1 = .ok (.iload_n 1, 1) := dk_27 (dk_at dksX3_size_0 1 rfl rfl)
theorem dX3_size_2 : decode cX3_size 2 = .ok (.iconst 0, 1) := dk_3 (dk_at dksX3_size_0 2 rfl rfl)
theorem dX3_size_3 : decode cX3_size 3 = .ok (.invokevirtual 37, 3) := dk_182 0 37 (dk_at dksX3_size_0 3 rfl rfl)
theorem dX3_size_6 : decode cX3_size 6 = .ok (.bipush 10, 2) := dk_16 10 (dk_at dksX3_size_0 6 rfl rfl)
theorem dX3_size_8 : decode cX3_size 8 = .ok (.if_icmp .ge 7, 3) := dk_162 0 7 (dk_at dksX3_size_0 8 rfl rfl)
theorem dX3_size_11 : decode cX3_size 11 = .ok (.iconst 2, 1) := dk_5 (dk_at dksX3_size_0 11 rfl rfl)
theorem dX3_size_12 : decode cX3_size 12 = .ok (.goto 4, 3) := dk_167 0 4 (dk_at dksX3_size_0 12 rfl rfl)
theorem dX3_size_15 : decode cX3_size 15 = .ok (.iconst 3, 1) := dk_6 (dk_at dksX3_size_0 15 rfl rfl)
theorem dX3_size_16 : decode cX3_size 16 = .ok (.ireturn, 1) := dk_172 (dk_at dksX3_size_0 16 rfl rfl)
abbrev cX3_bends : ByteArray := prog_13_method_23_code
def yX3_bends : MethodName := ⟨RX3, "bends", "(II)I"⟩
def dkwX3_bends_2 : List UInt8 := [132, 4, 1, 167, 255, 212, 29, 172]
abbrev dktX3_bends_2 : List UInt8 := dkwX3_bends_2 ++ []
def dkwX3_bends_1 : List UInt8 := [27, 5, 182, 0, 37, 184, 0, 26, 153, 0, 13, 42, 27, 21, 4, 182, 0, 70, 167, 0, 4, 3, 96, 62]
abbrev dktX3_bends_1 : List UInt8 := dkwX3_bends_1 ++ dktX3_bends_2
def dkwX3_bends_0 : List UInt8 := [3, 62, 28, 4, 100, 54, 4, 21, 4, 28, 42, 27, 182, 0, 67, 96, 163, 0, 38, 29, 21, 4, 3, 42]
abbrev dktX3_bends_0 : List UInt8 := dkwX3_bends_0 ++ dktX3_bends_1
theorem dksX3_bends_0 : cX3_bends.data.toList.drop 0 = dktX3_bends_0 := by decide +kernel
theorem dksX3_bends_1 : cX3_bends.data.toList.drop 24 = dktX3_bends_1 := dk_seg dksX3_bends_0 24 rfl rfl
theorem dksX3_bends_2 : cX3_bends.data.toList.drop 48 = dktX3_bends_2 := dk_seg dksX3_bends_1 24 rfl rfl
theorem dX3_bends_0 : decode cX3_bends 0 = .ok (.iconst 0, 1) := dk_3 (dk_at dksX3_bends_0 0 rfl rfl)
theorem dX3_bends_1 : decode cX3_bends 1 = .ok (.istore_n 3, 1) := dk_62 (dk_at dksX3_bends_0 1 rfl rfl)
theorem dX3_bends_2 : decode cX3_bends 2 = .ok (.iload_n 2, 1) := dk_28 (dk_at dksX3_bends_0 2 rfl rfl)
theorem dX3_bends_3 : decode cX3_bends 3 = .ok (.iconst 1, 1) := dk_4 (dk_at dksX3_bends_0 3 rfl rfl)
theorem dX3_bends_4 : decode cX3_bends 4 = .ok (.isub, 1) := dk_100 (dk_at dksX3_bends_0 4 rfl rfl)
theorem dX3_bends_5 : decode cX3_bends 5 = .ok (.istore 4, 2) := dk_54 4 (dk_at dksX3_bends_0 5 rfl rfl)
theorem dX3_bends_7 : decode cX3_bends 7 = .ok (.iload 4, 2) := dk_21 4 (dk_at dksX3_bends_0 7 rfl rfl)
theorem dX3_bends_9 : decode cX3_bends 9 = .ok (.iload_n 2, 1) := dk_28 (dk_at dksX3_bends_0 9 rfl rfl)
theorem dX3_bends_10 : decode cX3_bends 10 = .ok (.aload_n 0, 1) := dk_42 (dk_at dksX3_bends_0 10 rfl rfl)
theorem dX3_bends_11 : decode cX3_bends 11 = .ok (.iload_n 1, 1) := dk_27 (dk_at dksX3_bends_0 11 rfl rfl)
theorem dX3_bends_12 : decode cX3_bends 12 = .ok (.invokevirtual 67, 3) := dk_182 0 67 (dk_at dksX3_bends_0 12 rfl rfl)
theorem dX3_bends_15 : decode cX3_bends 15 = .ok (.iadd, 1) := dk_96 (dk_at dksX3_bends_0 15 rfl rfl)
theorem dX3_bends_16 : decode cX3_bends 16 = .ok (.if_icmp .gt 38, 3) := dk_163 0 38 (dk_at dksX3_bends_0 16 rfl rfl)
theorem dX3_bends_19 : decode cX3_bends 19 = .ok (.iload_n 3, 1) := dk_29 (dk_at dksX3_bends_0 19 rfl rfl)
theorem dX3_bends_20 : decode cX3_bends 20 = .ok (.iload 4, 2) := dk_21 4 (dk_at dksX3_bends_0 20 rfl rfl)
theorem dX3_bends_22 : decode cX3_bends 22 = .ok (.iconst 0, 1) := dk_3 (dk_at dksX3_bends_0 22 rfl rfl)
theorem dX3_bends_23 : decode cX3_bends 23 = .ok (.aload_n 0, 1) := dk_42 (dk_at dksX3_bends_0 23 rfl rfl)
theorem dX3_bends_24 : decode cX3_bends 24 = .ok (.iload_n 1, 1) := dk_27 (dk_at dksX3_bends_1 0 rfl rfl)
theorem dX3_bends_25 : decode cX3_bends 25 = .ok (.iconst 2, 1) := dk_5 (dk_at dksX3_bends_1 1 rfl rfl)
theorem dX3_bends_26 : decode cX3_bends 26 = .ok (.invokevirtual 37, 3) := dk_182 0 37 (dk_at dksX3_bends_1 2 rfl rfl)
theorem dX3_bends_29 : decode cX3_bends 29 = .ok (.invokestatic 26, 3) := dk_184 0 26 (dk_at dksX3_bends_1 5 rfl rfl)
theorem dX3_bends_32 : decode cX3_bends 32 = .ok (.ifCond .eq 13, 3) := dk_153 0 13 (dk_at dksX3_bends_1 8 rfl rfl)
theorem dX3_bends_35 : decode cX3_bends 35 = .ok (.aload_n 0, 1) := dk_42 (dk_at dksX3_bends_1 11 rfl rfl)
theorem dX3_bends_36 : decode cX3_bends 36 = .ok (.iload_n 1, 1) := dk_27 (dk_at dksX3_bends_1 12 rfl rfl)
theorem dX3_bends_37 : decode cX3_bends 37 = .ok (.iload 4, 2) := dk_21 4 (dk_at dksX3_bends_1 13 rfl rfl)
theorem dX3_bends_39 : decode cX3_bends 39 = .ok (.invokevirtual 70, 3) := dk_182 0 70 (dk_at dksX3_bends_1 15 rfl rfl)
theorem dX3_bends_42 : decode cX3_bends 42 = .ok (.goto 4, 3) := dk_167 0 4 (dk_at dksX3_bends_1 18 rfl rfl)
theorem dX3_bends_45 : decode cX3_bends 45 = .ok (.iconst 0, 1) := dk_3 (dk_at dksX3_bends_1 21 rfl rfl)
theorem dX3_bends_46 : decode cX3_bends 46 = .ok (.iadd, 1) := dk_96 (dk_at dksX3_bends_1 22 rfl rfl)
theorem dX3_bends_47 : decode cX3_bends 47 = .ok (.istore_n 3, 1) := dk_62 (dk_at dksX3_bends_1 23 rfl rfl)
theorem dX3_bends_48 : decode cX3_bends 48 = .ok (.iinc 4 1, 3) := dk_132 4 1 (dk_at dksX3_bends_2 0 rfl rfl)
theorem dX3_bends_51 : decode cX3_bends 51 = .ok (.goto (-44), 3) := dk_167 255 212 (dk_at dksX3_bends_2 3 rfl rfl)
theorem dX3_bends_54 : decode cX3_bends 54 = .ok (.iload_n 3, 1) := dk_29 (dk_at dksX3_bends_2 6 rfl rfl)
theorem dX3_bends_55 : decode cX3_bends 55 = .ok (.ireturn, 1) := dk_172 (dk_at dksX3_bends_2 7 rfl rfl)
abbrev cX3_bend : ByteArray := prog_13_method_20_code
def yX3_bend : MethodName := ⟨RX3, "bend", "(II)I"⟩
def dkwX3_bend_2 : List UInt8 := [27, 7, 29, 96, 4, 100, 182, 0, 37, 42, 27, 7, 182, 0, 37, 184, 0, 64, 167, 0, 4, 3, 172]
abbrev dktX3_bend_2 : List UInt8 := dkwX3_bend_2 ++ []
def dkwX3_bend_1 : List UInt8 := [182, 0, 37, 42, 27, 7, 28, 96, 182, 0, 37, 184, 0, 64, 172, 42, 27, 182, 0, 47, 153, 0, 25, 42]
abbrev dktX3_bend_1 : List UInt8 := dkwX3_bend_1 ++ dktX3_bend_2
def dkwX3_bend_0 : List UInt8 := [42, 27, 5, 182, 0, 37, 62, 28, 158, 0, 30, 28, 29, 162, 0, 25, 42, 27, 7, 28, 96, 4, 100]
abbrev dktX3_bend_0 : List UInt8 := dkwX3_bend_0 ++ dktX3_bend_1
theorem dksX3_bend_0 : cX3_bend.data.toList.drop 0 = dktX3_bend_0 := by decide +kernel
theorem dksX3_bend_1 : cX3_bend.data.toList.drop 23 = dktX3_bend_1 := dk_seg dksX3_bend_0 23 rfl rfl
theorem dksX3_bend_2 : cX3_bend.data.toList.drop 47 = dktX3_bend_2 := dk_seg dksX3_bend_1 24 rfl rfl
theorem dX3_bend_0 : decode cX3_bend 0 = .ok (.aload_n 0, 1) := dk_42 (dk_at dksX3_bend_0 0 rfl rfl)
theorem dX3_bend_1 : decode cX3_bend 1 = .ok (.iload_n 1, 1) := dk_27 (dk_at dksX3_bend_0 1 rfl rfl)
theorem dX3_bend_2 : decode cX3_bend 2 = .ok (.iconst 2, 1) := dk_5 (dk_at dksX3_bend_0 2 rfl rfl)
theorem dX3_bend_3 : decode cX3_bend 3 = .ok (.invokevirtual 37, 3) := dk_182 0 37 (dk_at dksX3_bend_0 3 rfl rfl)
theorem dX3_bend_6 : decode cX3_bend 6 = .ok (.istore_n 3, 1) := dk_62 (dk_at dksX3_bend_0 6 rfl rfl)
theorem dX3_bend_7 : decode cX3_bend 7 = .ok (.iload_n 2, 1) := dk_28 (dk_at dksX3_bend_0 7 rfl rfl)
theorem dX3_bend_8 : decode cX3_bend 8 = .ok (.ifCond .le 30, 3) := dk_158 0 30 (dk_at dksX3_bend_0 8 rfl rfl)
theorem dX3_bend_11 : decode cX3_bend 11 = .ok (.iload_n 2, 1) := dk_28 (dk_at dksX3_bend_0 11 rfl rfl)
theorem dX3_bend_12 : decode cX3_bend 12 = .ok (.iload_n 3, 1) := dk_29 (dk_at dksX3_bend_0 12 rfl rfl)
theorem dX3_bend_13 : decode cX3_bend 13 = .ok (.if_icmp .ge 25, 3) := dk_162 0 25 (dk_at dksX3_bend_0 13 rfl rfl)
theorem dX3_bend_16 : decode cX3_bend 16 = .ok (.aload_n 0, 1) := dk_42 (dk_at dksX3_bend_0 16 rfl rfl)
theorem dX3_bend_17 : decode cX3_bend 17 = .ok (.iload_n 1, 1) := dk_27 (dk_at dksX3_bend_0 17 rfl rfl)
theorem dX3_bend_18 : decode cX3_bend 18 = .ok (.iconst 4, 1) := dk_7 (dk_at dksX3_bend_0 18 rfl rfl)
theorem dX3_bend_19 : decode cX3_bend 19 = .ok (.iload_n 2, 1) := dk_28 (dk_at dksX3_bend_0 19 rfl rfl)
theorem dX3_bend_20 : decode cX3_bend 20 = .ok (.iadd, 1) := dk_96 (dk_at dksX3_bend_0 20 rfl rfl)
theorem dX3_bend_21 : decode cX3_bend 21 = .ok (.iconst 1, 1) := dk_4 (dk_at dksX3_bend_0 21 rfl rfl)
theorem dX3_bend_22 : decode cX3_bend 22 = .ok (.isub, 1) := dk_100 (dk_at dksX3_bend_0 22 rfl rfl)
theorem dX3_bend_23 : decode cX3_bend 23 = .ok (.invokevirtual 37, 3) := dk_182 0 37 (dk_at dksX3_bend_1 0 rfl rfl)
theorem dX3_bend_26 : decode cX3_bend 26 = .ok (.aload_n 0, 1) := dk_42 (dk_at dksX3_bend_1 3 rfl rfl)
theorem dX3_bend_27 : decode cX3_bend 27 = .ok (.iload_n 1, 1) := dk_27 (dk_at dksX3_bend_1 4 rfl rfl)
theorem dX3_bend_28 : decode cX3_bend 28 = .ok (.iconst 4, 1) := dk_7 (dk_at dksX3_bend_1 5 rfl rfl)
theorem dX3_bend_29 : decode cX3_bend 29 = .ok (.iload_n 2, 1) := dk_28 (dk_at dksX3_bend_1 6 rfl rfl)
theorem dX3_bend_30 : decode cX3_bend 30 = .ok (.iadd, 1) := dk_96 (dk_at dksX3_bend_1 7 rfl rfl)
theorem dX3_bend_31 : decode cX3_bend 31 = .ok (.invokevirtual 37, 3) := dk_182 0 37 (dk_at dksX3_bend_1 8 rfl rfl)
theorem dX3_bend_34 : decode cX3_bend 34 = .ok (.invokestatic 64, 3) := dk_184 0 64 (dk_at dksX3_bend_1 11 rfl rfl)
theorem dX3_bend_37 : decode cX3_bend 37 = .ok (.ireturn, 1) := dk_172 (dk_at dksX3_bend_1 14 rfl rfl)
theorem dX3_bend_38 : decode cX3_bend 38 = .ok (.aload_n 0, 1) := dk_42 (dk_at dksX3_bend_1 15 rfl rfl)
theorem dX3_bend_39 : decode cX3_bend 39 = .ok (.iload_n 1, 1) := dk_27 (dk_at dksX3_bend_1 16 rfl rfl)
theorem dX3_bend_40 : decode cX3_bend 40 = .ok (.invokevirtual 47, 3) := dk_182 0 47 (dk_at dksX3_bend_1 17 rfl rfl)
theorem dX3_bend_43 : decode cX3_bend 43 = .ok (.ifCond .eq 25, 3) := dk_153 0 25 (dk_at dksX3_bend_1 20 rfl rfl)
theorem dX3_bend_46 : decode cX3_bend 46 = .ok (.aload_n 0, 1) := dk_42 (dk_at dksX3_bend_1 23 rfl rfl)
theorem dX3_bend_47 : decode cX3_bend 47 = .ok (.iload_n 1, 1) := dk_27 (dk_at dksX3_bend_2 0 rfl rfl)
theorem dX3_bend_48 : decode cX3_bend 48 = .ok (.iconst 4, 1) := dk_7 (dk_at dksX3_bend_2 1 rfl rfl)
theorem dX3_bend_49 : decode cX3_bend 49 = .ok (.iload_n 3, 1) := dk_29 (dk_at dksX3_bend_2 2 rfl rfl)
theorem dX3_bend_50 : decode cX3_bend 50 = .ok (.iadd, 1) := dk_96 (dk_at dksX3_bend_2 3 rfl rfl)
theorem dX3_bend_51 : decode cX3_bend 51 = .ok (.iconst 1, 1) := dk_4 (dk_at dksX3_bend_2 4 rfl rfl)
theorem dX3_bend_52 : decode cX3_bend 52 = .ok (.isub, 1) := dk_100 (dk_at dksX3_bend_2 5 rfl rfl)
theorem dX3_bend_53 : decode cX3_bend 53 = .ok (.invokevirtual 37, 3) := dk_182 0 37 (dk_at dksX3_bend_2 6 rfl rfl)
theorem dX3_bend_56 : decode cX3_bend 56 = .ok (.aload_n 0, 1) := dk_42 (dk_at dksX3_bend_2 9 rfl rfl)
theorem dX3_bend_57 : decode cX3_bend 57 = .ok (.iload_n 1, 1) := dk_27 (dk_at dksX3_bend_2 10 rfl rfl)
theorem dX3_bend_58 : decode cX3_bend 58 = .ok (.iconst 4, 1) := dk_7 (dk_at dksX3_bend_2 11 rfl rfl)
theorem dX3_bend_59 : decode cX3_bend 59 = .ok (.invokevirtual 37, 3) := dk_182 0 37 (dk_at dksX3_bend_2 12 rfl rfl)
theorem dX3_bend_62 : decode cX3_bend 62 = .ok (.invokestatic 64, 3) := dk_184 0 64 (dk_at dksX3_bend_2 15 rfl rfl)
theorem dX3_bend_65 : decode cX3_bend 65 = .ok (.goto 4, 3) := dk_167 0 4 (dk_at dksX3_bend_2 18 rfl rfl)
theorem dX3_bend_68 : decode cX3_bend 68 = .ok (.iconst 0, 1) := dk_3 (dk_at dksX3_bend_2 21 rfl rfl)
theorem dX3_bend_69 : decode cX3_bend 69 = .ok (.ireturn, 1) := dk_172 (dk_at dksX3_bend_2 22 rfl rfl)
abbrev cX3_turn : ByteArray := prog_13_method_19_code
def yX3_turn : MethodName := ⟨RX3, "turn", "(II)I"⟩
def dkwX3_turn_0 : List UInt8 := [26, 27, 184, 0, 61, 61, 28, 16, 8, 28, 100, 162, 0, 7, 28, 167, 0, 7, 16, 8, 28, 100, 172]
abbrev dktX3_turn_0 : List UInt8 := dkwX3_turn_0 ++ []
theorem dksX3_turn_0 : cX3_turn.data.toList.drop 0 = dktX3_turn_0 := by decide +kernel
theorem dX3_turn_0 : decode cX3_turn 0 = .ok (.iload_n 0, 1) := dk_26 (dk_at dksX3_turn_0 0 rfl rfl)
theorem dX3_turn_1 : decode cX3_turn 1 = .ok (.iload_n 1, 1) := dk_27 (dk_at dksX3_turn_0 1 rfl rfl)
theorem dX3_turn_2 : decode cX3_turn 2 = .ok (.invokestatic 61, 3) := dk_184 0 61 (dk_at dksX3_turn_0 2 rfl rfl)
theorem dX3_turn_5 : decode cX3_turn 5 = .ok (.istore_n 2, 1) := dk_61 (dk_at dksX3_turn_0 5 rfl rfl)
theorem dX3_turn_6 : decode cX3_turn 6 = .ok (.iload_n 2, 1) := dk_28 (dk_at dksX3_turn_0 6 rfl rfl)
theorem dX3_turn_7 : decode cX3_turn 7 = .ok (.bipush 8, 2) := dk_16 8 (dk_at dksX3_turn_0 7 rfl rfl)
theorem dX3_turn_9 : decode cX3_turn 9 = .ok (.iload_n 2, 1) := dk_28 (dk_at dksX3_turn_0 9 rfl rfl)
theorem dX3_turn_10 : decode cX3_turn 10 = .ok (.isub, 1) := dk_100 (dk_at dksX3_turn_0 10 rfl rfl)
theorem dX3_turn_11 : decode cX3_turn 11 = .ok (.if_icmp .ge 7, 3) := dk_162 0 7 (dk_at dksX3_turn_0 11 rfl rfl)
theorem dX3_turn_14 : decode cX3_turn 14 = .ok (.iload_n 2, 1) := dk_28 (dk_at dksX3_turn_0 14 rfl rfl)
theorem dX3_turn_15 : decode cX3_turn 15 = .ok (.goto 7, 3) := dk_167 0 7 (dk_at dksX3_turn_0 15 rfl rfl)
theorem dX3_turn_18 : decode cX3_turn 18 = .ok (.bipush 8, 2) := dk_16 8 (dk_at dksX3_turn_0 18 rfl rfl)
theorem dX3_turn_20 : decode cX3_turn 20 = .ok (.iload_n 2, 1) := dk_28 (dk_at dksX3_turn_0 20 rfl rfl)
theorem dX3_turn_21 : decode cX3_turn 21 = .ok (.isub, 1) := dk_100 (dk_at dksX3_turn_0 21 rfl rfl)
theorem dX3_turn_22 : decode cX3_turn 22 = .ok (.ireturn, 1) := dk_172 (dk_at dksX3_turn_0 22 rfl rfl)
abbrev cX3_apart : ByteArray := prog_13_method_5_code
def yX3_apart : MethodName := ⟨RX3, "apart", "(II)I"⟩
def dkwX3_apart_0 : List UInt8 := [26, 27, 162, 0, 9, 27, 26, 100, 167, 0, 6, 26, 27, 100, 172]
abbrev dktX3_apart_0 : List UInt8 := dkwX3_apart_0 ++ []
theorem dksX3_apart_0 : cX3_apart.data.toList.drop 0 = dktX3_apart_0 := by decide +kernel
theorem dX3_apart_0 : decode cX3_apart 0 = .ok (.iload_n 0, 1) := dk_26 (dk_at dksX3_apart_0 0 rfl rfl)
theorem dX3_apart_1 : decode cX3_apart 1 = .ok (.iload_n 1, 1) := dk_27 (dk_at dksX3_apart_0 1 rfl rfl)
theorem dX3_apart_2 : decode cX3_apart 2 = .ok (.if_icmp .ge 9, 3) := dk_162 0 9 (dk_at dksX3_apart_0 2 rfl rfl)
theorem dX3_apart_5 : decode cX3_apart 5 = .ok (.iload_n 1, 1) := dk_27 (dk_at dksX3_apart_0 5 rfl rfl)
theorem dX3_apart_6 : decode cX3_apart 6 = .ok (.iload_n 0, 1) := dk_26 (dk_at dksX3_apart_0 6 rfl rfl)
theorem dX3_apart_7 : decode cX3_apart 7 = .ok (.isub, 1) := dk_100 (dk_at dksX3_apart_0 7 rfl rfl)
theorem dX3_apart_8 : decode cX3_apart 8 = .ok (.goto 6, 3) := dk_167 0 6 (dk_at dksX3_apart_0 8 rfl rfl)
theorem dX3_apart_11 : decode cX3_apart 11 = .ok (.iload_n 0, 1) := dk_26 (dk_at dksX3_apart_0 11 rfl rfl)
theorem dX3_apart_12 : decode cX3_apart 12 = .ok (.iload_n 1, 1) := dk_27 (dk_at dksX3_apart_0 12 rfl rfl)
theorem dX3_apart_13 : decode cX3_apart 13 = .ok (.isub, 1) := dk_100 (dk_at dksX3_apart_0 13 rfl rfl)
theorem dX3_apart_14 : decode cX3_apart 14 = .ok (.ireturn, 1) := dk_172 (dk_at dksX3_apart_0 14 rfl rfl)
abbrev cX3_free : ByteArray := prog_13_method_26_code
def yX3_free : MethodName := ⟨RX3, "free", "(II)I"⟩
def dkwX3_free_3 : List UInt8 := [162, 0, 8, 21, 6, 167, 0, 4, 29, 62, 132, 4, 1, 167, 255, 178, 29, 172]
abbrev dktX3_free_3 : List UInt8 := dkwX3_free_3 ++ []
def dkwX3_free_2 : List UInt8 := [28, 21, 4, 42, 21, 4, 6, 182, 0, 37, 182, 0, 76, 167, 0, 5, 16, 99, 54, 6, 21, 6, 29]
abbrev dktX3_free_2 : List UInt8 := dkwX3_free_2 ++ dktX3_free_3
def dkwX3_free_1 : List UInt8 := [21, 4, 6, 182, 0, 37, 2, 159, 0, 7, 4, 167, 0, 4, 3, 54, 5, 21, 5, 153, 0, 21, 42, 27]
abbrev dktX3_free_1 : List UInt8 := dkwX3_free_1 ++ dktX3_free_2
def dkwX3_free_0 : List UInt8 := [16, 99, 62, 3, 54, 4, 21, 4, 42, 180, 0, 7, 3, 46, 162, 0, 73, 21, 4, 27, 159, 0, 18, 42]
abbrev dktX3_free_0 : List UInt8 := dkwX3_free_0 ++ dktX3_free_1
theorem dksX3_free_0 : cX3_free.data.toList.drop 0 = dktX3_free_0 := by decide +kernel
theorem dksX3_free_1 : cX3_free.data.toList.drop 24 = dktX3_free_1 := dk_seg dksX3_free_0 24 rfl rfl
theorem dksX3_free_2 : cX3_free.data.toList.drop 48 = dktX3_free_2 := dk_seg dksX3_free_1 24 rfl rfl
theorem dksX3_free_3 : cX3_free.data.toList.drop 71 = dktX3_free_3 := dk_seg dksX3_free_2 23 rfl rfl
theorem dX3_free_0 : decode cX3_free 0 = .ok (.bipush 99, 2) := dk_16 99 (dk_at dksX3_free_0 0 rfl rfl)
theorem dX3_free_2 : decode cX3_free 2 = .ok (.istore_n 3, 1) := dk_62 (dk_at dksX3_free_0 2 rfl rfl)
theorem dX3_free_3 : decode cX3_free 3 = .ok (.iconst 0, 1) := dk_3 (dk_at dksX3_free_0 3 rfl rfl)
theorem dX3_free_4 : decode cX3_free 4 = .ok (.istore 4, 2) := dk_54 4 (dk_at dksX3_free_0 4 rfl rfl)
theorem dX3_free_6 : decode cX3_free 6 = .ok (.iload 4, 2) := dk_21 4 (dk_at dksX3_free_0 6 rfl rfl)
theorem dX3_free_8 : decode cX3_free 8 = .ok (.aload_n 0, 1) := dk_42 (dk_at dksX3_free_0 8 rfl rfl)
theorem dX3_free_9 : decode cX3_free 9 = .ok (.getfield 7, 3) := dk_180 0 7 (dk_at dksX3_free_0 9 rfl rfl)
theorem dX3_free_12 : decode cX3_free 12 = .ok (.iconst 0, 1) := dk_3 (dk_at dksX3_free_0 12 rfl rfl)
theorem dX3_free_13 : decode cX3_free 13 = .ok (.iaload, 1) := dk_46 (dk_at dksX3_free_0 13 rfl rfl)
theorem dX3_free_14 : decode cX3_free 14 = .ok (.if_icmp .ge 73, 3) := dk_162 0 73 (dk_at dksX3_free_0 14 rfl rfl)
theorem dX3_free_17 : decode cX3_free 17 = .ok (.iload 4, 2) := dk_21 4 (dk_at dksX3_free_0 17 rfl rfl)
theorem dX3_free_19 : decode cX3_free 19 = .ok (.iload_n 1, 1) := dk_27 (dk_at dksX3_free_0 19 rfl rfl)
theorem dX3_free_20 : decode cX3_free 20 = .ok (.if_icmp .eq 18, 3) := dk_159 0 18 (dk_at dksX3_free_0 20 rfl rfl)
theorem dX3_free_23 : decode cX3_free 23 = .ok (.aload_n 0, 1) := dk_42 (dk_at dksX3_free_0 23 rfl rfl)
theorem dX3_free_24 : decode cX3_free 24 = .ok (.iload 4, 2) := dk_21 4 (dk_at dksX3_free_1 0 rfl rfl)
theorem dX3_free_26 : decode cX3_free 26 = .ok (.iconst 3, 1) := dk_6 (dk_at dksX3_free_1 2 rfl rfl)
theorem dX3_free_27 : decode cX3_free 27 = .ok (.invokevirtual 37, 3) := dk_182 0 37 (dk_at dksX3_free_1 3 rfl rfl)
theorem dX3_free_30 : decode cX3_free 30 = .ok (.iconst (-1), 1) := dk_2 (dk_at dksX3_free_1 6 rfl rfl)
theorem dX3_free_31 : decode cX3_free 31 = .ok (.if_icmp .eq 7, 3) := dk_159 0 7 (dk_at dksX3_free_1 7 rfl rfl)
theorem dX3_free_34 : decode cX3_free 34 = .ok (.iconst 1, 1) := dk_4 (dk_at dksX3_free_1 10 rfl rfl)
theorem dX3_free_35 : decode cX3_free 35 = .ok (.goto 4, 3) := dk_167 0 4 (dk_at dksX3_free_1 11 rfl rfl)
theorem dX3_free_38 : decode cX3_free 38 = .ok (.iconst 0, 1) := dk_3 (dk_at dksX3_free_1 14 rfl rfl)
theorem dX3_free_39 : decode cX3_free 39 = .ok (.istore 5, 2) := dk_54 5 (dk_at dksX3_free_1 15 rfl rfl)
theorem dX3_free_41 : decode cX3_free 41 = .ok (.iload 5, 2) := dk_21 5 (dk_at dksX3_free_1 17 rfl rfl)
theorem dX3_free_43 : decode cX3_free 43 = .ok (.ifCond .eq 21, 3) := dk_153 0 21 (dk_at dksX3_free_1 19 rfl rfl)
theorem dX3_free_46 : decode cX3_free 46 = .ok (.aload_n 0, 1) := dk_42 (dk_at dksX3_free_1 22 rfl rfl)
theorem dX3_free_47 : decode cX3_free 47 = .ok (.iload_n 1, 1) := dk_27 (dk_at dksX3_free_1 23 rfl rfl)
theorem dX3_free_48 : decode cX3_free 48 = .ok (.iload_n 2, 1) := dk_28 (dk_at dksX3_free_2 0 rfl rfl)
theorem dX3_free_49 : decode cX3_free 49 = .ok (.iload 4, 2) := dk_21 4 (dk_at dksX3_free_2 1 rfl rfl)
theorem dX3_free_51 : decode cX3_free 51 = .ok (.aload_n 0, 1) := dk_42 (dk_at dksX3_free_2 3 rfl rfl)
theorem dX3_free_52 : decode cX3_free 52 = .ok (.iload 4, 2) := dk_21 4 (dk_at dksX3_free_2 4 rfl rfl)
theorem dX3_free_54 : decode cX3_free 54 = .ok (.iconst 3, 1) := dk_6 (dk_at dksX3_free_2 6 rfl rfl)
theorem dX3_free_55 : decode cX3_free 55 = .ok (.invokevirtual 37, 3) := dk_182 0 37 (dk_at dksX3_free_2 7 rfl rfl)
theorem dX3_free_58 : decode cX3_free 58 = .ok (.invokevirtual 76, 3) := dk_182 0 76 (dk_at dksX3_free_2 10 rfl rfl)
theorem dX3_free_61 : decode cX3_free 61 = .ok (.goto 5, 3) := dk_167 0 5 (dk_at dksX3_free_2 13 rfl rfl)
theorem dX3_free_64 : decode cX3_free 64 = .ok (.bipush 99, 2) := dk_16 99 (dk_at dksX3_free_2 16 rfl rfl)
theorem dX3_free_66 : decode cX3_free 66 = .ok (.istore 6, 2) := dk_54 6 (dk_at dksX3_free_2 18 rfl rfl)
theorem dX3_free_68 : decode cX3_free 68 = .ok (.iload 6, 2) := dk_21 6 (dk_at dksX3_free_2 20 rfl rfl)
theorem dX3_free_70 : decode cX3_free 70 = .ok (.iload_n 3, 1) := dk_29 (dk_at dksX3_free_2 22 rfl rfl)
theorem dX3_free_71 : decode cX3_free 71 = .ok (.if_icmp .ge 8, 3) := dk_162 0 8 (dk_at dksX3_free_3 0 rfl rfl)
theorem dX3_free_74 : decode cX3_free 74 = .ok (.iload 6, 2) := dk_21 6 (dk_at dksX3_free_3 3 rfl rfl)
theorem dX3_free_76 : decode cX3_free 76 = .ok (.goto 4, 3) := dk_167 0 4 (dk_at dksX3_free_3 5 rfl rfl)
theorem dX3_free_79 : decode cX3_free 79 = .ok (.iload_n 3, 1) := dk_29 (dk_at dksX3_free_3 8 rfl rfl)
theorem dX3_free_80 : decode cX3_free 80 = .ok (.istore_n 3, 1) := dk_62 (dk_at dksX3_free_3 9 rfl rfl)
theorem dX3_free_81 : decode cX3_free 81 = .ok (.iinc 4 1, 3) := dk_132 4 1 (dk_at dksX3_free_3 10 rfl rfl)
theorem dX3_free_84 : decode cX3_free 84 = .ok (.goto (-78), 3) := dk_167 255 178 (dk_at dksX3_free_3 13 rfl rfl)
theorem dX3_free_87 : decode cX3_free 87 = .ok (.iload_n 3, 1) := dk_29 (dk_at dksX3_free_3 16 rfl rfl)
theorem dX3_free_88 : decode cX3_free 88 = .ok (.ireturn, 1) := dk_172 (dk_at dksX3_free_3 17 rfl rfl)
abbrev cX3_between : ByteArray := prog_13_method_25_code
def yX3_between : MethodName := ⟨RX3, "between", "(IIII)I"⟩
def dkwX3_between_3 : List UInt8 := [54, 5, 132, 7, 1, 167, 255, 204, 132, 6, 1, 167, 255, 182, 21, 5, 172]
abbrev dktX3_between_3 : List UInt8 := dkwX3_between_3 ++ []
def dkwX3_between_2 : List UInt8 := [21, 7, 182, 0, 41, 182, 0, 73, 54, 8, 21, 8, 21, 5, 162, 0, 8, 21, 8, 167, 0, 5, 21, 5]
abbrev dktX3_between_2 : List UInt8 := dkwX3_between_2 ++ dktX3_between_3
def dkwX3_between_1 : List UInt8 := [21, 7, 21, 4, 42, 29, 182, 0, 67, 96, 162, 0, 45, 42, 42, 27, 21, 6, 182, 0, 41, 42, 29]
abbrev dktX3_between_1 : List UInt8 := dkwX3_between_1 ++ dktX3_between_2
def dkwX3_between_0 : List UInt8 := [16, 99, 54, 5, 28, 54, 6, 21, 6, 28, 42, 27, 182, 0, 67, 96, 162, 0, 68, 21, 4, 54, 7]
abbrev dktX3_between_0 : List UInt8 := dkwX3_between_0 ++ dktX3_between_1
theorem dksX3_between_0 : cX3_between.data.toList.drop 0 = dktX3_between_0 := by decide +kernel
theorem dksX3_between_1 : cX3_between.data.toList.drop 23 = dktX3_between_1 := dk_seg dksX3_between_0 23 rfl rfl
theorem dksX3_between_2 : cX3_between.data.toList.drop 46 = dktX3_between_2 := dk_seg dksX3_between_1 23 rfl rfl
theorem dksX3_between_3 : cX3_between.data.toList.drop 70 = dktX3_between_3 := dk_seg dksX3_between_2 24 rfl rfl
theorem dX3_between_0 : decode cX3_between 0 = .ok (.bipush 99, 2) := dk_16 99 (dk_at dksX3_between_0 0 rfl rfl)
theorem dX3_between_2 : decode cX3_between 2 = .ok (.istore 5, 2) := dk_54 5 (dk_at dksX3_between_0 2 rfl rfl)
theorem dX3_between_4 : decode cX3_between 4 = .ok (.iload_n 2, 1) := dk_28 (dk_at dksX3_between_0 4 rfl rfl)
theorem dX3_between_5 : decode cX3_between 5 = .ok (.istore 6, 2) := dk_54 6 (dk_at dksX3_between_0 5 rfl rfl)
theorem dX3_between_7 : decode cX3_between 7 = .ok (.iload 6, 2) := dk_21 6 (dk_at dksX3_between_0 7 rfl rfl)
theorem dX3_between_9 : decode cX3_between 9 = .ok (.iload_n 2, 1) := dk_28 (dk_at dksX3_between_0 9 rfl rfl)
theorem dX3_between_10 : decode cX3_between 10 = .ok (.aload_n 0, 1) := dk_42 (dk_at dksX3_between_0 10 rfl rfl)
theorem dX3_between_11 : decode cX3_between 11 = .ok (.iload_n 1, 1) := dk_27 (dk_at dksX3_between_0 11 rfl rfl)
theorem dX3_between_12 : decode cX3_between 12 = .ok (.invokevirtual 67, 3) := dk_182 0 67 (dk_at dksX3_between_0 12 rfl rfl)
theorem dX3_between_15 : decode cX3_between 15 = .ok (.iadd, 1) := dk_96 (dk_at dksX3_between_0 15 rfl rfl)
theorem dX3_between_16 : decode cX3_between 16 = .ok (.if_icmp .ge 68, 3) := dk_162 0 68 (dk_at dksX3_between_0 16 rfl rfl)
theorem dX3_between_19 : decode cX3_between 19 = .ok (.iload 4, 2) := dk_21 4 (dk_at dksX3_between_0 19 rfl rfl)
theorem dX3_between_21 : decode cX3_between 21 = .ok (.istore 7, 2) := dk_54 7 (dk_at dksX3_between_0 21 rfl rfl)
theorem dX3_between_23 : decode cX3_between 23 = .ok (.iload 7, 2) := dk_21 7 (dk_at dksX3_between_1 0 rfl rfl)
theorem dX3_between_25 : decode cX3_between 25 = .ok (.iload 4, 2) := dk_21 4 (dk_at dksX3_between_1 2 rfl rfl)
theorem dX3_between_27 : decode cX3_between 27 = .ok (.aload_n 0, 1) := dk_42 (dk_at dksX3_between_1 4 rfl rfl)
theorem dX3_between_28 : decode cX3_between 28 = .ok (.iload_n 3, 1) := dk_29 (dk_at dksX3_between_1 5 rfl rfl)
theorem dX3_between_29 : decode cX3_between 29 = .ok (.invokevirtual 67, 3) := dk_182 0 67 (dk_at dksX3_between_1 6 rfl rfl)
theorem dX3_between_32 : decode cX3_between 32 = .ok (.iadd, 1) := dk_96 (dk_at dksX3_between_1 9 rfl rfl)
theorem dX3_between_33 : decode cX3_between 33 = .ok (.if_icmp .ge 45, 3) := dk_162 0 45 (dk_at dksX3_between_1 10 rfl rfl)
theorem dX3_between_36 : decode cX3_between 36 = .ok (.aload_n 0, 1) := dk_42 (dk_at dksX3_between_1 13 rfl rfl)
theorem dX3_between_37 : decode cX3_between 37 = .ok (.aload_n 0, 1) := dk_42 (dk_at dksX3_between_1 14 rfl rfl)
theorem dX3_between_38 : decode cX3_between 38 = .ok (.iload_n 1, 1) := dk_27 (dk_at dksX3_between_1 15 rfl rfl)
theorem dX3_between_39 : decode cX3_between 39 = .ok (.iload 6, 2) := dk_21 6 (dk_at dksX3_between_1 16 rfl rfl)
theorem dX3_between_41 : decode cX3_between 41 = .ok (.invokevirtual 41, 3) := dk_182 0 41 (dk_at dksX3_between_1 18 rfl rfl)
theorem dX3_between_44 : decode cX3_between 44 = .ok (.aload_n 0, 1) := dk_42 (dk_at dksX3_between_1 21 rfl rfl)
theorem dX3_between_45 : decode cX3_between 45 = .ok (.iload_n 3, 1) := dk_29 (dk_at dksX3_between_1 22 rfl rfl)
theorem dX3_between_46 : decode cX3_between 46 = .ok (.iload 7, 2) := dk_21 7 (dk_at dksX3_between_2 0 rfl rfl)
theorem dX3_between_48 : decode cX3_between 48 = .ok (.invokevirtual 41, 3) := dk_182 0 41 (dk_at dksX3_between_2 2 rfl rfl)
theorem dX3_between_51 : decode cX3_between 51 = .ok (.invokevirtual 73, 3) := dk_182 0 73 (dk_at dksX3_between_2 5 rfl rfl)
theorem dX3_between_54 : decode cX3_between 54 = .ok (.istore 8, 2) := dk_54 8 (dk_at dksX3_between_2 8 rfl rfl)
theorem dX3_between_56 : decode cX3_between 56 = .ok (.iload 8, 2) := dk_21 8 (dk_at dksX3_between_2 10 rfl rfl)
theorem dX3_between_58 : decode cX3_between 58 = .ok (.iload 5, 2) := dk_21 5 (dk_at dksX3_between_2 12 rfl rfl)
theorem dX3_between_60 : decode cX3_between 60 = .ok (.if_icmp .ge 8, 3) := dk_162 0 8 (dk_at dksX3_between_2 14 rfl rfl)
theorem dX3_between_63 : decode cX3_between 63 = .ok (.iload 8, 2) := dk_21 8 (dk_at dksX3_between_2 17 rfl rfl)
theorem dX3_between_65 : decode cX3_between 65 = .ok (.goto 5, 3) := dk_167 0 5 (dk_at dksX3_between_2 19 rfl rfl)
theorem dX3_between_68 : decode cX3_between 68 = .ok (.iload 5, 2) := dk_21 5 (dk_at dksX3_between_2 22 rfl rfl)
theorem dX3_between_70 : decode cX3_between 70 = .ok (.istore 5, 2) := dk_54 5 (dk_at dksX3_between_3 0 rfl rfl)
theorem dX3_between_72 : decode cX3_between 72 = .ok (.iinc 7 1, 3) := dk_132 7 1 (dk_at dksX3_between_3 2 rfl rfl)
theorem dX3_between_75 : decode cX3_between 75 = .ok (.goto (-52), 3) := dk_167 255 204 (dk_at dksX3_between_3 5 rfl rfl)
theorem dX3_between_78 : decode cX3_between 78 = .ok (.iinc 6 1, 3) := dk_132 6 1 (dk_at dksX3_between_3 8 rfl rfl)
theorem dX3_between_81 : decode cX3_between 81 = .ok (.goto (-74), 3) := dk_167 255 182 (dk_at dksX3_between_3 11 rfl rfl)
theorem dX3_between_84 : decode cX3_between 84 = .ok (.iload 5, 2) := dk_21 5 (dk_at dksX3_between_3 14 rfl rfl)
theorem dX3_between_86 : decode cX3_between 86 = .ok (.ireturn, 1) := dk_172 (dk_at dksX3_between_3 16 rfl rfl)
abbrev cX3_far : ByteArray := prog_13_method_24_code
def yX3_far : MethodName := ⟨RX3, "far", "(II)I"⟩
def dkwX3_far_1 : List UInt8 := [54, 4, 29, 21, 4, 164, 0, 7, 29, 167, 0, 5, 21, 4, 172]
abbrev dktX3_far_1 : List UInt8 := dkwX3_far_1 ++ []
def dkwX3_far_0 : List UInt8 := [27, 16, 24, 112, 28, 16, 24, 112, 184, 0, 61, 62, 27, 16, 24, 108, 28, 16, 24, 108, 184, 0, 61]
abbrev dktX3_far_0 : List UInt8 := dkwX3_far_0 ++ dktX3_far_1
theorem dksX3_far_0 : cX3_far.data.toList.drop 0 = dktX3_far_0 := by decide +kernel
theorem dksX3_far_1 : cX3_far.data.toList.drop 23 = dktX3_far_1 := dk_seg dksX3_far_0 23 rfl rfl
theorem dX3_far_0 : decode cX3_far 0 = .ok (.iload_n 1, 1) := dk_27 (dk_at dksX3_far_0 0 rfl rfl)
theorem dX3_far_1 : decode cX3_far 1 = .ok (.bipush 24, 2) := dk_16 24 (dk_at dksX3_far_0 1 rfl rfl)
theorem dX3_far_3 : decode cX3_far 3 = .ok (.irem, 1) := dk_112 (dk_at dksX3_far_0 3 rfl rfl)
theorem dX3_far_4 : decode cX3_far 4 = .ok (.iload_n 2, 1) := dk_28 (dk_at dksX3_far_0 4 rfl rfl)
theorem dX3_far_5 : decode cX3_far 5 = .ok (.bipush 24, 2) := dk_16 24 (dk_at dksX3_far_0 5 rfl rfl)
theorem dX3_far_7 : decode cX3_far 7 = .ok (.irem, 1) := dk_112 (dk_at dksX3_far_0 7 rfl rfl)
theorem dX3_far_8 : decode cX3_far 8 = .ok (.invokestatic 61, 3) := dk_184 0 61 (dk_at dksX3_far_0 8 rfl rfl)
theorem dX3_far_11 : decode cX3_far 11 = .ok (.istore_n 3, 1) := dk_62 (dk_at dksX3_far_0 11 rfl rfl)
theorem dX3_far_12 : decode cX3_far 12 = .ok (.iload_n 1, 1) := dk_27 (dk_at dksX3_far_0 12 rfl rfl)
theorem dX3_far_13 : decode cX3_far 13 = .ok (.bipush 24, 2) := dk_16 24 (dk_at dksX3_far_0 13 rfl rfl)
theorem dX3_far_15 : decode cX3_far 15 = .ok (.idiv, 1) := dk_108 (dk_at dksX3_far_0 15 rfl rfl)
theorem dX3_far_16 : decode cX3_far 16 = .ok (.iload_n 2, 1) := dk_28 (dk_at dksX3_far_0 16 rfl rfl)
theorem dX3_far_17 : decode cX3_far 17 = .ok (.bipush 24, 2) := dk_16 24 (dk_at dksX3_far_0 17 rfl rfl)
theorem dX3_far_19 : decode cX3_far 19 = .ok (.idiv, 1) := dk_108 (dk_at dksX3_far_0 19 rfl rfl)
theorem dX3_far_20 : decode cX3_far 20 = .ok (.invokestatic 61, 3) := dk_184 0 61 (dk_at dksX3_far_0 20 rfl rfl)
theorem dX3_far_23 : decode cX3_far 23 = .ok (.istore 4, 2) := dk_54 4 (dk_at dksX3_far_1 0 rfl rfl)
theorem dX3_far_25 : decode cX3_far 25 = .ok (.iload_n 3, 1) := dk_29 (dk_at dksX3_far_1 2 rfl rfl)
theorem dX3_far_26 : decode cX3_far 26 = .ok (.iload 4, 2) := dk_21 4 (dk_at dksX3_far_1 3 rfl rfl)
theorem dX3_far_28 : decode cX3_far 28 = .ok (.if_icmp .le 7, 3) := dk_164 0 7 (dk_at dksX3_far_1 5 rfl rfl)
theorem dX3_far_31 : decode cX3_far 31 = .ok (.iload_n 3, 1) := dk_29 (dk_at dksX3_far_1 8 rfl rfl)
theorem dX3_far_32 : decode cX3_far 32 = .ok (.goto 5, 3) := dk_167 0 5 (dk_at dksX3_far_1 9 rfl rfl)
theorem dX3_far_35 : decode cX3_far 35 = .ok (.iload 4, 2) := dk_21 4 (dk_at dksX3_far_1 12 rfl rfl)
theorem dX3_far_37 : decode cX3_far 37 = .ok (.ireturn, 1) := dk_172 (dk_at dksX3_far_1 14 rfl rfl)
abbrev cX3_best : ByteArray := prog_13_method_28_code
def yX3_best : MethodName := ⟨RX3, "best", "(I)I"⟩
def dkwX3_best_5 : List UInt8 := [132, 5, 1, 167, 255, 145, 28, 172]
abbrev dktX3_best_5 : List UInt8 := dkwX3_best_5 ++ []
def dkwX3_best_4 : List UInt8 := [153, 0, 8, 21, 6, 167, 0, 4, 29, 62, 21, 8, 153, 0, 8, 21, 7, 167, 0, 5, 21, 4, 54, 4]
abbrev dktX3_best_4 : List UInt8 := dkwX3_best_4 ++ dktX3_best_5
def dkwX3_best_3 : List UInt8 := [164, 0, 7, 4, 167, 0, 4, 3, 54, 8, 21, 8, 153, 0, 8, 21, 5, 167, 0, 4, 28, 61, 21, 8]
abbrev dktX3_best_3 : List UInt8 := dkwX3_best_3 ++ dktX3_best_4
def dkwX3_best_2 : List UInt8 := [54, 7, 28, 2, 159, 0, 22, 21, 6, 29, 161, 0, 16, 21, 6, 29, 160, 0, 14, 21, 7, 21, 4]
abbrev dktX3_best_2 : List UInt8 := dkwX3_best_2 ++ dktX3_best_3
def dkwX3_best_1 : List UInt8 := [21, 5, 182, 0, 89, 154, 0, 90, 42, 27, 21, 5, 182, 0, 83, 54, 6, 42, 27, 21, 5, 182, 0, 86]
abbrev dktX3_best_1 : List UInt8 := dkwX3_best_1 ++ dktX3_best_2
def dkwX3_best_0 : List UInt8 := [2, 61, 3, 62, 3, 54, 4, 3, 54, 5, 21, 5, 42, 27, 5, 182, 0, 37, 163, 0, 106, 42, 27]
abbrev dktX3_best_0 : List UInt8 := dkwX3_best_0 ++ dktX3_best_1
theorem dksX3_best_0 : cX3_best.data.toList.drop 0 = dktX3_best_0 := by decide +kernel
theorem dksX3_best_1 : cX3_best.data.toList.drop 23 = dktX3_best_1 := dk_seg dksX3_best_0 23 rfl rfl
theorem dksX3_best_2 : cX3_best.data.toList.drop 47 = dktX3_best_2 := dk_seg dksX3_best_1 24 rfl rfl
theorem dksX3_best_3 : cX3_best.data.toList.drop 70 = dktX3_best_3 := dk_seg dksX3_best_2 23 rfl rfl
theorem dksX3_best_4 : cX3_best.data.toList.drop 94 = dktX3_best_4 := dk_seg dksX3_best_3 24 rfl rfl
theorem dksX3_best_5 : cX3_best.data.toList.drop 118 = dktX3_best_5 := dk_seg dksX3_best_4 24 rfl rfl
theorem dX3_best_0 : decode cX3_best 0 = .ok (.iconst (-1), 1) := dk_2 (dk_at dksX3_best_0 0 rfl rfl)
theorem dX3_best_1 : decode cX3_best 1 = .ok (.istore_n 2, 1) := dk_61 (dk_at dksX3_best_0 1 rfl rfl)
theorem dX3_best_2 : decode cX3_best 2 = .ok (.iconst 0, 1) := dk_3 (dk_at dksX3_best_0 2 rfl rfl)
theorem dX3_best_3 : decode cX3_best 3 = .ok (.istore_n 3, 1) := dk_62 (dk_at dksX3_best_0 3 rfl rfl)
theorem dX3_best_4 : decode cX3_best 4 = .ok (.iconst 0, 1) := dk_3 (dk_at dksX3_best_0 4 rfl rfl)
theorem dX3_best_5 : decode cX3_best 5 = .ok (.istore 4, 2) := dk_54 4 (dk_at dksX3_best_0 5 rfl rfl)
theorem dX3_best_7 : decode cX3_best 7 = .ok (.iconst 0, 1) := dk_3 (dk_at dksX3_best_0 7 rfl rfl)
theorem dX3_best_8 : decode cX3_best 8 = .ok (.istore 5, 2) := dk_54 5 (dk_at dksX3_best_0 8 rfl rfl)
theorem dX3_best_10 : decode cX3_best 10 = .ok (.iload 5, 2) := dk_21 5 (dk_at dksX3_best_0 10 rfl rfl)
theorem dX3_best_12 : decode cX3_best 12 = .ok (.aload_n 0, 1) := dk_42 (dk_at dksX3_best_0 12 rfl rfl)
theorem dX3_best_13 : decode cX3_best 13 = .ok (.iload_n 1, 1) := dk_27 (dk_at dksX3_best_0 13 rfl rfl)
theorem dX3_best_14 : decode cX3_best 14 = .ok (.iconst 2, 1) := dk_5 (dk_at dksX3_best_0 14 rfl rfl)
theorem dX3_best_15 : decode cX3_best 15 = .ok (.invokevirtual 37, 3) := dk_182 0 37 (dk_at dksX3_best_0 15 rfl rfl)
theorem dX3_best_18 : decode cX3_best 18 = .ok (.if_icmp .gt 106, 3) := dk_163 0 106 (dk_at dksX3_best_0 18 rfl rfl)
theorem dX3_best_21 : decode cX3_best 21 = .ok (.aload_n 0, 1) := dk_42 (dk_at dksX3_best_0 21 rfl rfl)
theorem dX3_best_22 : decode cX3_best 22 = .ok (.iload_n 1, 1) := dk_27 (dk_at dksX3_best_0 22 rfl rfl)
theorem dX3_best_23 : decode cX3_best 23 = .ok (.iload 5, 2) := dk_21 5 (dk_at dksX3_best_1 0 rfl rfl)
theorem dX3_best_25 : decode cX3_best 25 = .ok (.invokevirtual 89, 3) := dk_182 0 89 (dk_at dksX3_best_1 2 rfl rfl)
theorem dX3_best_28 : decode cX3_best 28 = .ok (.ifCond .ne 90, 3) := dk_154 0 90 (dk_at dksX3_best_1 5 rfl rfl)
theorem dX3_best_31 : decode cX3_best 31 = .ok (.aload_n 0, 1) := dk_42 (dk_at dksX3_best_1 8 rfl rfl)
theorem dX3_best_32 : decode cX3_best 32 = .ok (.iload_n 1, 1) := dk_27 (dk_at dksX3_best_1 9 rfl rfl)
theorem dX3_best_33 : decode cX3_best 33 = .ok (.iload 5, 2) := dk_21 5 (dk_at dksX3_best_1 10 rfl rfl)
theorem dX3_best_35 : decode cX3_best 35 = .ok (.invokevirtual 83, 3) := dk_182 0 83 (dk_at dksX3_best_1 12 rfl rfl)
theorem dX3_best_38 : decode cX3_best 38 = .ok (.istore 6, 2) := dk_54 6 (dk_at dksX3_best_1 15 rfl rfl)
theorem dX3_best_40 : decode cX3_best 40 = .ok (.aload_n 0, 1) := dk_42 (dk_at dksX3_best_1 17 rfl rfl)
theorem dX3_best_41 : decode cX3_best 41 = .ok (.iload_n 1, 1) := dk_27 (dk_at dksX3_best_1 18 rfl rfl)
theorem dX3_best_42 : decode cX3_best 42 = .ok (.iload 5, 2) := dk_21 5 (dk_at dksX3_best_1 19 rfl rfl)
theorem dX3_best_44 : decode cX3_best 44 = .ok (.invokevirtual 86, 3) := dk_182 0 86 (dk_at dksX3_best_1 21 rfl rfl)
theorem dX3_best_47 : decode cX3_best 47 = .ok (.istore 7, 2) := dk_54 7 (dk_at dksX3_best_2 0 rfl rfl)
theorem dX3_best_49 : decode cX3_best 49 = .ok (.iload_n 2, 1) := dk_28 (dk_at dksX3_best_2 2 rfl rfl)
theorem dX3_best_50 : decode cX3_best 50 = .ok (.iconst (-1), 1) := dk_2 (dk_at dksX3_best_2 3 rfl rfl)
theorem dX3_best_51 : decode cX3_best 51 = .ok (.if_icmp .eq 22, 3) := dk_159 0 22 (dk_at dksX3_best_2 4 rfl rfl)
theorem dX3_best_54 : decode cX3_best 54 = .ok (.iload 6, 2) := dk_21 6 (dk_at dksX3_best_2 7 rfl rfl)
theorem dX3_best_56 : decode cX3_best 56 = .ok (.iload_n 3, 1) := dk_29 (dk_at dksX3_best_2 9 rfl rfl)
theorem dX3_best_57 : decode cX3_best 57 = .ok (.if_icmp .lt 16, 3) := dk_161 0 16 (dk_at dksX3_best_2 10 rfl rfl)
theorem dX3_best_60 : decode cX3_best 60 = .ok (.iload 6, 2) := dk_21 6 (dk_at dksX3_best_2 13 rfl rfl)
theorem dX3_best_62 : decode cX3_best 62 = .ok (.iload_n 3, 1) := dk_29 (dk_at dksX3_best_2 15 rfl rfl)
theorem dX3_best_63 : decode cX3_best 63 = .ok (.if_icmp .ne 14, 3) := dk_160 0 14 (dk_at dksX3_best_2 16 rfl rfl)
theorem dX3_best_66 : decode cX3_best 66 = .ok (.iload 7, 2) := dk_21 7 (dk_at dksX3_best_2 19 rfl rfl)
theorem dX3_best_68 : decode cX3_best 68 = .ok (.iload 4, 2) := dk_21 4 (dk_at dksX3_best_2 21 rfl rfl)
theorem dX3_best_70 : decode cX3_best 70 = .ok (.if_icmp .le 7, 3) := dk_164 0 7 (dk_at dksX3_best_3 0 rfl rfl)
theorem dX3_best_73 : decode cX3_best 73 = .ok (.iconst 1, 1) := dk_4 (dk_at dksX3_best_3 3 rfl rfl)
theorem dX3_best_74 : decode cX3_best 74 = .ok (.goto 4, 3) := dk_167 0 4 (dk_at dksX3_best_3 4 rfl rfl)
theorem dX3_best_77 : decode cX3_best 77 = .ok (.iconst 0, 1) := dk_3 (dk_at dksX3_best_3 7 rfl rfl)
theorem dX3_best_78 : decode cX3_best 78 = .ok (.istore 8, 2) := dk_54 8 (dk_at dksX3_best_3 8 rfl rfl)
theorem dX3_best_80 : decode cX3_best 80 = .ok (.iload 8, 2) := dk_21 8 (dk_at dksX3_best_3 10 rfl rfl)
theorem dX3_best_82 : decode cX3_best 82 = .ok (.ifCond .eq 8, 3) := dk_153 0 8 (dk_at dksX3_best_3 12 rfl rfl)
theorem dX3_best_85 : decode cX3_best 85 = .ok (.iload 5, 2) := dk_21 5 (dk_at dksX3_best_3 15 rfl rfl)
theorem dX3_best_87 : decode cX3_best 87 = .ok (.goto 4, 3) := dk_167 0 4 (dk_at dksX3_best_3 17 rfl rfl)
theorem dX3_best_90 : decode cX3_best 90 = .ok (.iload_n 2, 1) := dk_28 (dk_at dksX3_best_3 20 rfl rfl)
theorem dX3_best_91 : decode cX3_best 91 = .ok (.istore_n 2, 1) := dk_61 (dk_at dksX3_best_3 21 rfl rfl)
theorem dX3_best_92 : decode cX3_best 92 = .ok (.iload 8, 2) := dk_21 8 (dk_at dksX3_best_3 22 rfl rfl)
theorem dX3_best_94 : decode cX3_best 94 = .ok (.ifCond .eq 8, 3) := dk_153 0 8 (dk_at dksX3_best_4 0 rfl rfl)
theorem dX3_best_97 : decode cX3_best 97 = .ok (.iload 6, 2) := dk_21 6 (dk_at dksX3_best_4 3 rfl rfl)
theorem dX3_best_99 : decode cX3_best 99 = .ok (.goto 4, 3) := dk_167 0 4 (dk_at dksX3_best_4 5 rfl rfl)
theorem dX3_best_102 : decode cX3_best 102 = .ok (.iload_n 3, 1) := dk_29 (dk_at dksX3_best_4 8 rfl rfl)
theorem dX3_best_103 : decode cX3_best 103 = .ok (.istore_n 3, 1) := dk_62 (dk_at dksX3_best_4 9 rfl rfl)
theorem dX3_best_104 : decode cX3_best 104 = .ok (.iload 8, 2) := dk_21 8 (dk_at dksX3_best_4 10 rfl rfl)
theorem dX3_best_106 : decode cX3_best 106 = .ok (.ifCond .eq 8, 3) := dk_153 0 8 (dk_at dksX3_best_4 12 rfl rfl)
theorem dX3_best_109 : decode cX3_best 109 = .ok (.iload 7, 2) := dk_21 7 (dk_at dksX3_best_4 15 rfl rfl)
theorem dX3_best_111 : decode cX3_best 111 = .ok (.goto 5, 3) := dk_167 0 5 (dk_at dksX3_best_4 17 rfl rfl)
theorem dX3_best_114 : decode cX3_best 114 = .ok (.iload 4, 2) := dk_21 4 (dk_at dksX3_best_4 20 rfl rfl)
theorem dX3_best_116 : decode cX3_best 116 = .ok (.istore 4, 2) := dk_54 4 (dk_at dksX3_best_4 22 rfl rfl)
theorem dX3_best_118 : decode cX3_best 118 = .ok (.iinc 5 1, 3) := dk_132 5 1 (dk_at dksX3_best_5 0 rfl rfl)
theorem dX3_best_121 : decode cX3_best 121 = .ok (.goto (-111), 3) := dk_167 255 145 (dk_at dksX3_best_5 3 rfl rfl)
theorem dX3_best_124 : decode cX3_best 124 = .ok (.iload_n 2, 1) := dk_28 (dk_at dksX3_best_5 6 rfl rfl)
theorem dX3_best_125 : decode cX3_best 125 = .ok (.ireturn, 1) := dk_172 (dk_at dksX3_best_5 7 rfl rfl)
abbrev cX3_records : ByteArray := prog_13_method_31_code
def yX3_records : MethodName := ⟨RX3, "records", "()V"⟩
def dkwX3_records_4 : List UInt8 := [181, 0, 92, 177]
abbrev dktX3_records_4 : List UInt8 := dkwX3_records_4 ++ []
def dkwX3_records_3 : List UInt8 := [27, 96, 42, 180, 0, 7, 27, 46, 79, 132, 1, 1, 167, 255, 225, 42, 89, 180, 0, 92, 4, 96]
abbrev dktX3_records_3 : List UInt8 := dkwX3_records_3 ++ dktX3_records_4
def dkwX3_records_2 : List UInt8 := [181, 0, 92, 3, 60, 27, 17, 2, 2, 162, 0, 30, 42, 180, 0, 13, 17, 2, 2, 42, 180, 0, 92, 104]
abbrev dktX3_records_2 : List UInt8 := dkwX3_records_2 ++ dktX3_records_3
def dkwX3_records_1 : List UInt8 := [180, 0, 13, 17, 2, 2, 27, 96, 46, 79, 132, 1, 1, 167, 255, 230, 42, 89, 180, 0, 92, 4, 100]
abbrev dktX3_records_1 : List UInt8 := dkwX3_records_1 ++ dktX3_records_2
def dkwX3_records_0 : List UInt8 := [42, 180, 0, 92, 8, 160, 0, 44, 3, 60, 27, 17, 8, 8, 162, 0, 25, 42, 180, 0, 13, 27, 42]
abbrev dktX3_records_0 : List UInt8 := dkwX3_records_0 ++ dktX3_records_1
theorem dksX3_records_0 : cX3_records.data.toList.drop 0 = dktX3_records_0 := by decide +kernel
theorem dksX3_records_1 : cX3_records.data.toList.drop 23 = dktX3_records_1 := dk_seg dksX3_records_0 23 rfl rfl
theorem dksX3_records_2 : cX3_records.data.toList.drop 46 = dktX3_records_2 := dk_seg dksX3_records_1 23 rfl rfl
theorem dksX3_records_3 : cX3_records.data.toList.drop 70 = dktX3_records_3 := dk_seg dksX3_records_2 24 rfl rfl
theorem dksX3_records_4 : cX3_records.data.toList.drop 92 = dktX3_records_4 := dk_seg dksX3_records_3 22 rfl rfl
theorem dX3_records_0 : decode cX3_records 0 = .ok (.aload_n 0, 1) := dk_42 (dk_at dksX3_records_0 0 rfl rfl)
theorem dX3_records_1 : decode cX3_records 1 = .ok (.getfield 92, 3) := dk_180 0 92 (dk_at dksX3_records_0 1 rfl rfl)
theorem dX3_records_4 : decode cX3_records 4 = .ok (.iconst 5, 1) := dk_8 (dk_at dksX3_records_0 4 rfl rfl)
theorem dX3_records_5 : decode cX3_records 5 = .ok (.if_icmp .ne 44, 3) := dk_160 0 44 (dk_at dksX3_records_0 5 rfl rfl)
theorem dX3_records_8 : decode cX3_records 8 = .ok (.iconst 0, 1) := dk_3 (dk_at dksX3_records_0 8 rfl rfl)
theorem dX3_records_9 : decode cX3_records 9 = .ok (.istore_n 1, 1) := dk_60 (dk_at dksX3_records_0 9 rfl rfl)
theorem dX3_records_10 : decode cX3_records 10 = .ok (.iload_n 1, 1) := dk_27 (dk_at dksX3_records_0 10 rfl rfl)
theorem dX3_records_11 : decode cX3_records 11 = .ok (.sipush 2056, 3) := dk_17 8 8 (dk_at dksX3_records_0 11 rfl rfl)
theorem dX3_records_14 : decode cX3_records 14 = .ok (.if_icmp .ge 25, 3) := dk_162 0 25 (dk_at dksX3_records_0 14 rfl rfl)
theorem dX3_records_17 : decode cX3_records 17 = .ok (.aload_n 0, 1) := dk_42 (dk_at dksX3_records_0 17 rfl rfl)
theorem dX3_records_18 : decode cX3_records 18 = .ok (.getfield 13, 3) := dk_180 0 13 (dk_at dksX3_records_0 18 rfl rfl)
theorem dX3_records_21 : decode cX3_records 21 = .ok (.iload_n 1, 1) := dk_27 (dk_at dksX3_records_0 21 rfl rfl)
theorem dX3_records_22 : decode cX3_records 22 = .ok (.aload_n 0, 1) := dk_42 (dk_at dksX3_records_0 22 rfl rfl)
theorem dX3_records_23 : decode cX3_records 23 = .ok (.getfield 13, 3) := dk_180 0 13 (dk_at dksX3_records_1 0 rfl rfl)
theorem dX3_records_26 : decode cX3_records 26 = .ok (.sipush 514, 3) := dk_17 2 2 (dk_at dksX3_records_1 3 rfl rfl)
theorem dX3_records_29 : decode cX3_records 29 = .ok (.iload_n 1, 1) := dk_27 (dk_at dksX3_records_1 6 rfl rfl)
theorem dX3_records_30 : decode cX3_records 30 = .ok (.iadd, 1) := dk_96 (dk_at dksX3_records_1 7 rfl rfl)
theorem dX3_records_31 : decode cX3_records 31 = .ok (.iaload, 1) := dk_46 (dk_at dksX3_records_1 8 rfl rfl)
theorem dX3_records_32 : decode cX3_records 32 = .ok (.iastore, 1) := dk_79 (dk_at dksX3_records_1 9 rfl rfl)
theorem dX3_records_33 : decode cX3_records 33 = .ok (.iinc 1 1, 3) := dk_132 1 1 (dk_at dksX3_records_1 10 rfl rfl)
theorem dX3_records_36 : decode cX3_records 36 = .ok (.goto (-26), 3) := dk_167 255 230 (dk_at dksX3_records_1 13 rfl rfl)
theorem dX3_records_39 : decode cX3_records 39 = .ok (.aload_n 0, 1) := dk_42 (dk_at dksX3_records_1 16 rfl rfl)
theorem dX3_records_40 : decode cX3_records 40 = .ok (.dup, 1) := dk_89 (dk_at dksX3_records_1 17 rfl rfl)
theorem dX3_records_41 : decode cX3_records 41 = .ok (.getfield 92, 3) := dk_180 0 92 (dk_at dksX3_records_1 18 rfl rfl)
theorem dX3_records_44 : decode cX3_records 44 = .ok (.iconst 1, 1) := dk_4 (dk_at dksX3_records_1 21 rfl rfl)
theorem dX3_records_45 : decode cX3_records 45 = .ok (.isub, 1) := dk_100 (dk_at dksX3_records_1 22 rfl rfl)
theorem dX3_records_46 : decode cX3_records 46 = .ok (.putfield 92, 3) := dk_181 0 92 (dk_at dksX3_records_2 0 rfl rfl)
theorem dX3_records_49 : decode cX3_records 49 = .ok (.iconst 0, 1) := dk_3 (dk_at dksX3_records_2 3 rfl rfl)
theorem dX3_records_50 : decode cX3_records 50 = .ok (.istore_n 1, 1) := dk_60 (dk_at dksX3_records_2 4 rfl rfl)
theorem dX3_records_51 : decode cX3_records 51 = .ok (.iload_n 1, 1) := dk_27 (dk_at dksX3_records_2 5 rfl rfl)
theorem dX3_records_52 : decode cX3_records 52 = .ok (.sipush 514, 3) := dk_17 2 2 (dk_at dksX3_records_2 6 rfl rfl)
theorem dX3_records_55 : decode cX3_records 55 = .ok (.if_icmp .ge 30, 3) := dk_162 0 30 (dk_at dksX3_records_2 9 rfl rfl)
theorem dX3_records_58 : decode cX3_records 58 = .ok (.aload_n 0, 1) := dk_42 (dk_at dksX3_records_2 12 rfl rfl)
theorem dX3_records_59 : decode cX3_records 59 = .ok (.getfield 13, 3) := dk_180 0 13 (dk_at dksX3_records_2 13 rfl rfl)
theorem dX3_records_62 : decode cX3_records 62 = .ok (.sipush 514, 3) := dk_17 2 2 (dk_at dksX3_records_2 16 rfl rfl)
theorem dX3_records_65 : decode cX3_records 65 = .ok (.aload_n 0, 1) := dk_42 (dk_at dksX3_records_2 19 rfl rfl)
theorem dX3_records_66 : decode cX3_records 66 = .ok (.getfield 92, 3) := dk_180 0 92 (dk_at dksX3_records_2 20 rfl rfl)
theorem dX3_records_69 : decode cX3_records 69 = .ok (.imul, 1) := dk_104 (dk_at dksX3_records_2 23 rfl rfl)
theorem dX3_records_70 : decode cX3_records 70 = .ok (.iload_n 1, 1) := dk_27 (dk_at dksX3_records_3 0 rfl rfl)
theorem dX3_records_71 : decode cX3_records 71 = .ok (.iadd, 1) := dk_96 (dk_at dksX3_records_3 1 rfl rfl)
theorem dX3_records_72 : decode cX3_records 72 = .ok (.aload_n 0, 1) := dk_42 (dk_at dksX3_records_3 2 rfl rfl)
theorem dX3_records_73 : decode cX3_records 73 = .ok (.getfield 7, 3) := dk_180 0 7 (dk_at dksX3_records_3 3 rfl rfl)
theorem dX3_records_76 : decode cX3_records 76 = .ok (.iload_n 1, 1) := dk_27 (dk_at dksX3_records_3 6 rfl rfl)
theorem dX3_records_77 : decode cX3_records 77 = .ok (.iaload, 1) := dk_46 (dk_at dksX3_records_3 7 rfl rfl)
theorem dX3_records_78 : decode cX3_records 78 = .ok (.iastore, 1) := dk_79 (dk_at dksX3_records_3 8 rfl rfl)
theorem dX3_records_79 : decode cX3_records 79 = .ok (.iinc 1 1, 3) := dk_132 1 1 (dk_at dksX3_records_3 9 rfl rfl)
theorem dX3_records_82 : decode cX3_records 82 = .ok (.goto (-31), 3) := dk_167 255 225 (dk_at dksX3_records_3 12 rfl rfl)
theorem dX3_records_85 : decode cX3_records 85 = .ok (.aload_n 0, 1) := dk_42 (dk_at dksX3_records_3 15 rfl rfl)
theorem dX3_records_86 : decode cX3_records 86 = .ok (.dup, 1) := dk_89 (dk_at dksX3_records_3 16 rfl rfl)
theorem dX3_records_87 : decode cX3_records 87 = .ok (.getfield 92, 3) := dk_180 0 92 (dk_at dksX3_records_3 17 rfl rfl)
theorem dX3_records_90 : decode cX3_records 90 = .ok (.iconst 1, 1) := dk_4 (dk_at dksX3_records_3 20 rfl rfl)
theorem dX3_records_91 : decode cX3_records 91 = .ok (.iadd, 1) := dk_96 (dk_at dksX3_records_3 21 rfl rfl)
theorem dX3_records_92 : decode cX3_records 92 = .ok (.putfield 92, 3) := dk_181 0 92 (dk_at dksX3_records_4 0 rfl rfl)
theorem dX3_records_95 : decode cX3_records 95 = .ok (.return_, 1) := dk_177 (dk_at dksX3_records_4 3 rfl rfl)
abbrev cX3_does : ByteArray := prog_13_method_35_code
def yX3_does : MethodName := ⟨RX3, "does", "(III)I"⟩
def dkwX3_does_9 : List UInt8 := [180, 0, 7, 4, 28, 79, 21, 4, 172]
abbrev dktX3_does_9 : List UInt8 := dkwX3_does_9 ++ []
def dkwX3_does_8 : List UInt8 := [182, 0, 107, 42, 28, 6, 182, 0, 37, 172, 42, 182, 0, 121, 172, 42, 180, 0, 7, 4, 46, 54, 4, 42]
abbrev dktX3_does_8 : List UInt8 := dkwX3_does_8 ++ dktX3_does_9
def dkwX3_does_7 : List UInt8 := [182, 0, 37, 54, 4, 42, 28, 6, 2, 182, 0, 107, 21, 4, 172, 42, 28, 6, 42, 28, 182, 0, 104]
abbrev dktX3_does_7 : List UInt8 := dkwX3_does_7 ++ dktX3_does_8
def dkwX3_does_6 : List UInt8 := [42, 28, 182, 0, 118, 172, 42, 28, 6, 29, 182, 0, 107, 42, 28, 29, 182, 0, 83, 172, 42, 28, 6]
abbrev dktX3_does_6 : List UInt8 := dkwX3_does_6 ++ dktX3_does_7
def dkwX3_does_5 : List UInt8 := [28, 5, 182, 0, 37, 4, 96, 182, 0, 107, 42, 28, 182, 0, 47, 153, 0, 7, 4, 167, 0, 4, 3, 172]
abbrev dktX3_does_5 : List UInt8 := dkwX3_does_5 ++ dktX3_does_6
def dkwX3_does_4 : List UInt8 := [182, 0, 107, 21, 5, 172, 42, 28, 7, 42, 28, 5, 182, 0, 37, 96, 29, 182, 0, 107, 42, 28, 5, 42]
abbrev dktX3_does_4 : List UInt8 := dkwX3_does_4 ++ dktX3_does_5
def dkwX3_does_3 : List UInt8 := [182, 0, 107, 42, 21, 5, 4, 29, 182, 0, 107, 42, 21, 5, 5, 3, 182, 0, 107, 42, 21, 5, 6, 2]
abbrev dktX3_does_3 : List UInt8 := dkwX3_does_3 ++ dktX3_does_4
def dkwX3_does_2 : List UInt8 := [42, 180, 0, 7, 3, 46, 54, 5, 42, 180, 0, 7, 3, 92, 46, 4, 96, 79, 42, 21, 5, 3, 28]
abbrev dktX3_does_2 : List UInt8 := dkwX3_does_2 ++ dktX3_does_3
def dkwX3_does_1 : List UInt8 := [170, 0, 0, 0, 0, 0, 1, 8, 0, 0, 0, 97, 0, 0, 0, 119, 0, 0, 1, 3, 0, 0, 0, 241, 0, 0, 1, 8, 0, 0, 1, 8, 0, 0, 1, 8, 0, 0, 1, 8, 0, 0, 1, 8, 0, 0, 1, 8, 0, 0, 1, 8, 0, 0, 1, 8, 0, 0, 1, 8, 0, 0, 0, 209, 0, 0, 1, 8, 0, 0, 0, 108, 0, 0, 1, 8, 0, 0, 1, 8, 0, 0, 1, 8, 0, 0, 1, 8, 0, 0, 0, 161, 0, 0, 1, 8, 0, 0, 0, 223, 0, 0, 1, 8, 0, 0, 0, 203]
abbrev dktX3_does_1 : List UInt8 := dkwX3_does_1 ++ dktX3_does_2
def dkwX3_does_0 : List UInt8 := [3, 54, 4, 27]
abbrev dktX3_does_0 : List UInt8 := dkwX3_does_0 ++ dktX3_does_1
theorem dksX3_does_0 : cX3_does.data.toList.drop 0 = dktX3_does_0 := by decide +kernel
theorem dksX3_does_1 : cX3_does.data.toList.drop 4 = dktX3_does_1 := dk_seg dksX3_does_0 4 rfl rfl
theorem dksX3_does_2 : cX3_does.data.toList.drop 112 = dktX3_does_2 := dk_seg dksX3_does_1 108 rfl rfl
theorem dksX3_does_3 : cX3_does.data.toList.drop 135 = dktX3_does_3 := dk_seg dksX3_does_2 23 rfl rfl
theorem dksX3_does_4 : cX3_does.data.toList.drop 159 = dktX3_does_4 := dk_seg dksX3_does_3 24 rfl rfl
theorem dksX3_does_5 : cX3_does.data.toList.drop 183 = dktX3_does_5 := dk_seg dksX3_does_4 24 rfl rfl
theorem dksX3_does_6 : cX3_does.data.toList.drop 207 = dktX3_does_6 := dk_seg dksX3_does_5 24 rfl rfl
theorem dksX3_does_7 : cX3_does.data.toList.drop 230 = dktX3_does_7 := dk_seg dksX3_does_6 23 rfl rfl
theorem dksX3_does_8 : cX3_does.data.toList.drop 253 = dktX3_does_8 := dk_seg dksX3_does_7 23 rfl rfl
theorem dksX3_does_9 : cX3_does.data.toList.drop 277 = dktX3_does_9 := dk_seg dksX3_does_8 24 rfl rfl
theorem dX3_does_0 : decode cX3_does 0 = .ok (.iconst 0, 1) := dk_3 (dk_at dksX3_does_0 0 rfl rfl)
theorem dX3_does_1 : decode cX3_does 1 = .ok (.istore 4, 2) := dk_54 4 (dk_at dksX3_does_0 1 rfl rfl)
theorem dX3_does_3 : decode cX3_does 3 = .ok (.iload_n 1, 1) := dk_27 (dk_at dksX3_does_0 3 rfl rfl)
theorem dX3_does_4 : decode cX3_does 4 = .ok (.tableswitch 264 97 119 #[259, 241, 264, 264, 264, 264, 264, 264, 264, 264, 264, 209, 264, 108, 264, 264, 264, 264, 161, 264, 223, 264, 203], 108) := by decide +kernel
theorem dX3_does_112 : decode cX3_does 112 = .ok (.aload_n 0, 1) := dk_42 (dk_at dksX3_does_2 0 rfl rfl)
theorem dX3_does_113 : decode cX3_does 113 = .ok (.getfield 7, 3) := dk_180 0 7 (dk_at dksX3_does_2 1 rfl rfl)
theorem dX3_does_116 : decode cX3_does 116 = .ok (.iconst 0, 1) := dk_3 (dk_at dksX3_does_2 4 rfl rfl)
theorem dX3_does_117 : decode cX3_does 117 = .ok (.iaload, 1) := dk_46 (dk_at dksX3_does_2 5 rfl rfl)
theorem dX3_does_118 : decode cX3_does 118 = .ok (.istore 5, 2) := dk_54 5 (dk_at dksX3_does_2 6 rfl rfl)
theorem dX3_does_120 : decode cX3_does 120 = .ok (.aload_n 0, 1) := dk_42 (dk_at dksX3_does_2 8 rfl rfl)
theorem dX3_does_121 : decode cX3_does 121 = .ok (.getfield 7, 3) := dk_180 0 7 (dk_at dksX3_does_2 9 rfl rfl)
theorem dX3_does_124 : decode cX3_does 124 = .ok (.iconst 0, 1) := dk_3 (dk_at dksX3_does_2 12 rfl rfl)
theorem dX3_does_125 : decode cX3_does 125 = .ok (.dup2, 1) := dk_92 (dk_at dksX3_does_2 13 rfl rfl)
theorem dX3_does_126 : decode cX3_does 126 = .ok (.iaload, 1) := dk_46 (dk_at dksX3_does_2 14 rfl rfl)
theorem dX3_does_127 : decode cX3_does 127 = .ok (.iconst 1, 1) := dk_4 (dk_at dksX3_does_2 15 rfl rfl)
theorem dX3_does_128 : decode cX3_does 128 = .ok (.iadd, 1) := dk_96 (dk_at dksX3_does_2 16 rfl rfl)
theorem dX3_does_129 : decode cX3_does 129 = .ok (.iastore, 1) := dk_79 (dk_at dksX3_does_2 17 rfl rfl)
theorem dX3_does_130 : decode cX3_does 130 = .ok (.aload_n 0, 1) := dk_42 (dk_at dksX3_does_2 18 rfl rfl)
theorem dX3_does_131 : decode cX3_does 131 = .ok (.iload 5, 2) := dk_21 5 (dk_at dksX3_does_2 19 rfl rfl)
theorem dX3_does_133 : decode cX3_does 133 = .ok (.iconst 0, 1) := dk_3 (dk_at dksX3_does_2 21 rfl rfl)
theorem dX3_does_134 : decode cX3_does 134 = .ok (.iload_n 2, 1) := dk_28 (dk_at dksX3_does_2 22 rfl rfl)
theorem dX3_does_135 : decode cX3_does 135 = .ok (.invokevirtual 107, 3) := dk_182 0 107 (dk_at dksX3_does_3 0 rfl rfl)
theorem dX3_does_138 : decode cX3_does 138 = .ok (.aload_n 0, 1) := dk_42 (dk_at dksX3_does_3 3 rfl rfl)
theorem dX3_does_139 : decode cX3_does 139 = .ok (.iload 5, 2) := dk_21 5 (dk_at dksX3_does_3 4 rfl rfl)
theorem dX3_does_141 : decode cX3_does 141 = .ok (.iconst 1, 1) := dk_4 (dk_at dksX3_does_3 6 rfl rfl)
theorem dX3_does_142 : decode cX3_does 142 = .ok (.iload_n 3, 1) := dk_29 (dk_at dksX3_does_3 7 rfl rfl)
theorem dX3_does_143 : decode cX3_does 143 = .ok (.invokevirtual 107, 3) := dk_182 0 107 (dk_at dksX3_does_3 8 rfl rfl)
theorem dX3_does_146 : decode cX3_does 146 = .ok (.aload_n 0, 1) := dk_42 (dk_at dksX3_does_3 11 rfl rfl)
theorem dX3_does_147 : decode cX3_does 147 = .ok (.iload 5, 2) := dk_21 5 (dk_at dksX3_does_3 12 rfl rfl)
theorem dX3_does_149 : decode cX3_does 149 = .ok (.iconst 2, 1) := dk_5 (dk_at dksX3_does_3 14 rfl rfl)
theorem dX3_does_150 : decode cX3_does 150 = .ok (.iconst 0, 1) := dk_3 (dk_at dksX3_does_3 15 rfl rfl)
theorem dX3_does_151 : decode cX3_does 151 = .ok (.invokevirtual 107, 3) := dk_182 0 107 (dk_at dksX3_does_3 16 rfl rfl)
theorem dX3_does_154 : decode cX3_does 154 = .ok (.aload_n 0, 1) := dk_42 (dk_at dksX3_does_3 19 rfl rfl)
theorem dX3_does_155 : decode cX3_does 155 = .ok (.iload 5, 2) := dk_21 5 (dk_at dksX3_does_3 20 rfl rfl)
theorem dX3_does_157 : decode cX3_does 157 = .ok (.iconst 3, 1) := dk_6 (dk_at dksX3_does_3 22 rfl rfl)
theorem dX3_does_158 : decode cX3_does 158 = .ok (.iconst (-1), 1) := dk_2 (dk_at dksX3_does_3 23 rfl rfl)
theorem dX3_does_159 : decode cX3_does 159 = .ok (.invokevirtual 107, 3) := dk_182 0 107 (dk_at dksX3_does_4 0 rfl rfl)
theorem dX3_does_162 : decode cX3_does 162 = .ok (.iload 5, 2) := dk_21 5 (dk_at dksX3_does_4 3 rfl rfl)
theorem dX3_does_164 : decode cX3_does 164 = .ok (.ireturn, 1) := dk_172 (dk_at dksX3_does_4 5 rfl rfl)
theorem dX3_does_165 : decode cX3_does 165 = .ok (.aload_n 0, 1) := dk_42 (dk_at dksX3_does_4 6 rfl rfl)
theorem dX3_does_166 : decode cX3_does 166 = .ok (.iload_n 2, 1) := dk_28 (dk_at dksX3_does_4 7 rfl rfl)
theorem dX3_does_167 : decode cX3_does 167 = .ok (.iconst 4, 1) := dk_7 (dk_at dksX3_does_4 8 rfl rfl)
theorem dX3_does_168 : decode cX3_does 168 = .ok (.aload_n 0, 1) := dk_42 (dk_at dksX3_does_4 9 rfl rfl)
theorem dX3_does_169 : decode cX3_does 169 = .ok (.iload_n 2, 1) := dk_28 (dk_at dksX3_does_4 10 rfl rfl)
theorem dX3_does_170 : decode cX3_does 170 = .ok (.iconst 2, 1) := dk_5 (dk_at dksX3_does_4 11 rfl rfl)
theorem dX3_does_171 : decode cX3_does 171 = .ok (.invokevirtual 37, 3) := dk_182 0 37 (dk_at dksX3_does_4 12 rfl rfl)
theorem dX3_does_174 : decode cX3_does 174 = .ok (.iadd, 1) := dk_96 (dk_at dksX3_does_4 15 rfl rfl)
theorem dX3_does_175 : decode cX3_does 175 = .ok (.iload_n 3, 1) := dk_29 (dk_at dksX3_does_4 16 rfl rfl)
theorem dX3_does_176 : decode cX3_does 176 = .ok (.invokevirtual 107, 3) := dk_182 0 107 (dk_at dksX3_does_4 17 rfl rfl)
theorem dX3_does_179 : decode cX3_does 179 = .ok (.aload_n 0, 1) := dk_42 (dk_at dksX3_does_4 20 rfl rfl)
theorem dX3_does_180 : decode cX3_does 180 = .ok (.iload_n 2, 1) := dk_28 (dk_at dksX3_does_4 21 rfl rfl)
theorem dX3_does_181 : decode cX3_does 181 = .ok (.iconst 2, 1) := dk_5 (dk_at dksX3_does_4 22 rfl rfl)
theorem dX3_does_182 : decode cX3_does 182 = .ok (.aload_n 0, 1) := dk_42 (dk_at dksX3_does_4 23 rfl rfl)
theorem dX3_does_183 : decode cX3_does 183 = .ok (.iload_n 2, 1) := dk_28 (dk_at dksX3_does_5 0 rfl rfl)
theorem dX3_does_184 : decode cX3_does 184 = .ok (.iconst 2, 1) := dk_5 (dk_at dksX3_does_5 1 rfl rfl)
theorem dX3_does_185 : decode cX3_does 185 = .ok (.invokevirtual 37, 3) := dk_182 0 37 (dk_at dksX3_does_5 2 rfl rfl)
theorem dX3_does_188 : decode cX3_does 188 = .ok (.iconst 1, 1) := dk_4 (dk_at dksX3_does_5 5 rfl rfl)
theorem dX3_does_189 : decode cX3_does 189 = .ok (.iadd, 1) := dk_96 (dk_at dksX3_does_5 6 rfl rfl)
theorem dX3_does_190 : decode cX3_does 190 = .ok (.invokevirtual 107, 3) := dk_182 0 107 (dk_at dksX3_does_5 7 rfl rfl)
theorem dX3_does_193 : decode cX3_does 193 = .ok (.aload_n 0, 1) := dk_42 (dk_at dksX3_does_5 10 rfl rfl)
theorem dX3_does_194 : decode cX3_does 194 = .ok (.iload_n 2, 1) := dk_28 (dk_at dksX3_does_5 11 rfl rfl)
theorem dX3_does_195 : decode cX3_does 195 = .ok (.invokevirtual 47, 3) := dk_182 0 47 (dk_at dksX3_does_5 12 rfl rfl)
theorem dX3_does_198 : decode cX3_does 198 = .ok (.ifCond .eq 7, 3) := dk_153 0 7 (dk_at dksX3_does_5 15 rfl rfl)
theorem dX3_does_201 : decode cX3_does 201 = .ok (.iconst 1, 1) := dk_4 (dk_at dksX3_does_5 18 rfl rfl)
theorem dX3_does_202 : decode cX3_does 202 = .ok (.goto 4, 3) := dk_167 0 4 (dk_at dksX3_does_5 19 rfl rfl)
theorem dX3_does_205 : decode cX3_does 205 = .ok (.iconst 0, 1) := dk_3 (dk_at dksX3_does_5 22 rfl rfl)
theorem dX3_does_206 : decode cX3_does 206 = .ok (.ireturn, 1) := dk_172 (dk_at dksX3_does_5 23 rfl rfl)
theorem dX3_does_207 : decode cX3_does 207 = .ok (.aload_n 0, 1) := dk_42 (dk_at dksX3_does_6 0 rfl rfl)
theorem dX3_does_208 : decode cX3_does 208 = .ok (.iload_n 2, 1) := dk_28 (dk_at dksX3_does_6 1 rfl rfl)
theorem dX3_does_209 : decode cX3_does 209 = .ok (.invokevirtual 118, 3) := dk_182 0 118 (dk_at dksX3_does_6 2 rfl rfl)
theorem dX3_does_212 : decode cX3_does 212 = .ok (.ireturn, 1) := dk_172 (dk_at dksX3_does_6 5 rfl rfl)
theorem dX3_does_213 : decode cX3_does 213 = .ok (.aload_n 0, 1) := dk_42 (dk_at dksX3_does_6 6 rfl rfl)
theorem dX3_does_214 : decode cX3_does 214 = .ok (.iload_n 2, 1) := dk_28 (dk_at dksX3_does_6 7 rfl rfl)
theorem dX3_does_215 : decode cX3_does 215 = .ok (.iconst 3, 1) := dk_6 (dk_at dksX3_does_6 8 rfl rfl)
theorem dX3_does_216 : decode cX3_does 216 = .ok (.iload_n 3, 1) := dk_29 (dk_at dksX3_does_6 9 rfl rfl)
theorem dX3_does_217 : decode cX3_does 217 = .ok (.invokevirtual 107, 3) := dk_182 0 107 (dk_at dksX3_does_6 10 rfl rfl)
theorem dX3_does_220 : decode cX3_does 220 = .ok (.aload_n 0, 1) := dk_42 (dk_at dksX3_does_6 13 rfl rfl)
theorem dX3_does_221 : decode cX3_does 221 = .ok (.iload_n 2, 1) := dk_28 (dk_at dksX3_does_6 14 rfl rfl)
theorem dX3_does_222 : decode cX3_does 222 = .ok (.iload_n 3, 1) := dk_29 (dk_at dksX3_does_6 15 rfl rfl)
theorem dX3_does_223 : decode cX3_does 223 = .ok (.invokevirtual 83, 3) := dk_182 0 83 (dk_at dksX3_does_6 16 rfl rfl)
theorem dX3_does_226 : decode cX3_does 226 = .ok (.ireturn, 1) := dk_172 (dk_at dksX3_does_6 19 rfl rfl)
theorem dX3_does_227 : decode cX3_does 227 = .ok (.aload_n 0, 1) := dk_42 (dk_at dksX3_does_6 20 rfl rfl)
theorem dX3_does_228 : decode cX3_does 228 = .ok (.iload_n 2, 1) := dk_28 (dk_at dksX3_does_6 21 rfl rfl)
theorem dX3_does_229 : decode cX3_does 229 = .ok (.iconst 3, 1) := dk_6 (dk_at dksX3_does_6 22 rfl rfl)
theorem dX3_does_230 : decode cX3_does 230 = .ok (.invokevirtual 37, 3) := dk_182 0 37 (dk_at dksX3_does_7 0 rfl rfl)
theorem dX3_does_233 : decode cX3_does 233 = .ok (.istore 4, 2) := dk_54 4 (dk_at dksX3_does_7 3 rfl rfl)
theorem dX3_does_235 : decode cX3_does 235 = .ok (.aload_n 0, 1) := dk_42 (dk_at dksX3_does_7 5 rfl rfl)
theorem dX3_does_236 : decode cX3_does 236 = .ok (.iload_n 2, 1) := dk_28 (dk_at dksX3_does_7 6 rfl rfl)
theorem dX3_does_237 : decode cX3_does 237 = .ok (.iconst 3, 1) := dk_6 (dk_at dksX3_does_7 7 rfl rfl)
theorem dX3_does_238 : decode cX3_does 238 = .ok (.iconst (-1), 1) := dk_2 (dk_at dksX3_does_7 8 rfl rfl)
theorem dX3_does_239 : decode cX3_does 239 = .ok (.invokevirtual 107, 3) := dk_182 0 107 (dk_at dksX3_does_7 9 rfl rfl)
theorem dX3_does_242 : decode cX3_does 242 = .ok (.iload 4, 2) := dk_21 4 (dk_at dksX3_does_7 12 rfl rfl)
theorem dX3_does_244 : decode cX3_does 244 = .ok (.ireturn, 1) := dk_172 (dk_at dksX3_does_7 14 rfl rfl)
theorem dX3_does_245 : decode cX3_does 245 = .ok (.aload_n 0, 1) := dk_42 (dk_at dksX3_does_7 15 rfl rfl)
theorem dX3_does_246 : decode cX3_does 246 = .ok (.iload_n 2, 1) := dk_28 (dk_at dksX3_does_7 16 rfl rfl)
theorem dX3_does_247 : decode cX3_does 247 = .ok (.iconst 3, 1) := dk_6 (dk_at dksX3_does_7 17 rfl rfl)
theorem dX3_does_248 : decode cX3_does 248 = .ok (.aload_n 0, 1) := dk_42 (dk_at dksX3_does_7 18 rfl rfl)
theorem dX3_does_249 : decode cX3_does 249 = .ok (.iload_n 2, 1) := dk_28 (dk_at dksX3_does_7 19 rfl rfl)
theorem dX3_does_250 : decode cX3_does 250 = .ok (.invokevirtual 104, 3) := dk_182 0 104 (dk_at dksX3_does_7 20 rfl rfl)
theorem dX3_does_253 : decode cX3_does 253 = .ok (.invokevirtual 107, 3) := dk_182 0 107 (dk_at dksX3_does_8 0 rfl rfl)
theorem dX3_does_256 : decode cX3_does 256 = .ok (.aload_n 0, 1) := dk_42 (dk_at dksX3_does_8 3 rfl rfl)
theorem dX3_does_257 : decode cX3_does 257 = .ok (.iload_n 2, 1) := dk_28 (dk_at dksX3_does_8 4 rfl rfl)
theorem dX3_does_258 : decode cX3_does 258 = .ok (.iconst 3, 1) := dk_6 (dk_at dksX3_does_8 5 rfl rfl)
theorem dX3_does_259 : decode cX3_does 259 = .ok (.invokevirtual 37, 3) := dk_182 0 37 (dk_at dksX3_does_8 6 rfl rfl)
theorem dX3_does_262 : decode cX3_does 262 = .ok (.ireturn, 1) := dk_172 (dk_at dksX3_does_8 9 rfl rfl)
theorem dX3_does_263 : decode cX3_does 263 = .ok (.aload_n 0, 1) := dk_42 (dk_at dksX3_does_8 10 rfl rfl)
theorem dX3_does_264 : decode cX3_does 264 = .ok (.invokevirtual 121, 3) := dk_182 0 121 (dk_at dksX3_does_8 11 rfl rfl)
theorem dX3_does_267 : decode cX3_does 267 = .ok (.ireturn, 1) := dk_172 (dk_at dksX3_does_8 14 rfl rfl)
theorem dX3_does_268 : decode cX3_does 268 = .ok (.aload_n 0, 1) := dk_42 (dk_at dksX3_does_8 15 rfl rfl)
theorem dX3_does_269 : decode cX3_does 269 = .ok (.getfield 7, 3) := dk_180 0 7 (dk_at dksX3_does_8 16 rfl rfl)
theorem dX3_does_272 : decode cX3_does 272 = .ok (.iconst 1, 1) := dk_4 (dk_at dksX3_does_8 19 rfl rfl)
theorem dX3_does_273 : decode cX3_does 273 = .ok (.iaload, 1) := dk_46 (dk_at dksX3_does_8 20 rfl rfl)
theorem dX3_does_274 : decode cX3_does 274 = .ok (.istore 4, 2) := dk_54 4 (dk_at dksX3_does_8 21 rfl rfl)
theorem dX3_does_276 : decode cX3_does 276 = .ok (.aload_n 0, 1) := dk_42 (dk_at dksX3_does_8 23 rfl rfl)
theorem dX3_does_277 : decode cX3_does 277 = .ok (.getfield 7, 3) := dk_180 0 7 (dk_at dksX3_does_9 0 rfl rfl)
theorem dX3_does_280 : decode cX3_does 280 = .ok (.iconst 1, 1) := dk_4 (dk_at dksX3_does_9 3 rfl rfl)
theorem dX3_does_281 : decode cX3_does 281 = .ok (.iload_n 2, 1) := dk_28 (dk_at dksX3_does_9 4 rfl rfl)
theorem dX3_does_282 : decode cX3_does 282 = .ok (.iastore, 1) := dk_79 (dk_at dksX3_does_9 5 rfl rfl)
theorem dX3_does_283 : decode cX3_does 283 = .ok (.iload 4, 2) := dk_21 4 (dk_at dksX3_does_9 6 rfl rfl)
theorem dX3_does_285 : decode cX3_does 285 = .ok (.ireturn, 1) := dk_172 (dk_at dksX3_does_9 8 rfl rfl)
abbrev cX3_puts : ByteArray := prog_13_method_9_code
def yX3_puts : MethodName := ⟨RX3, "puts", "(III)V"⟩
def dkwX3_puts_0 : List UInt8 := [42, 180, 0, 7, 5, 16, 64, 27, 104, 96, 28, 96, 29, 79, 177]
abbrev dktX3_puts_0 : List UInt8 := dkwX3_puts_0 ++ []
theorem dksX3_puts_0 : cX3_puts.data.toList.drop 0 = dktX3_puts_0 := by decide +kernel
theorem dX3_puts_0 : decode cX3_puts 0 = .ok (.aload_n 0, 1) := dk_42 (dk_at dksX3_puts_0 0 rfl rfl)
theorem dX3_puts_1 : decode cX3_puts 1 = .ok (.getfield 7, 3) := dk_180 0 7 (dk_at dksX3_puts_0 1 rfl rfl)
theorem dX3_puts_4 : decode cX3_puts 4 = .ok (.iconst 2, 1) := dk_5 (dk_at dksX3_puts_0 4 rfl rfl)
theorem dX3_puts_5 : decode cX3_puts 5 = .ok (.bipush 64, 2) := dk_16 64 (dk_at dksX3_puts_0 5 rfl rfl)
theorem dX3_puts_7 : decode cX3_puts 7 = .ok (.iload_n 1, 1) := dk_27 (dk_at dksX3_puts_0 7 rfl rfl)
theorem dX3_puts_8 : decode cX3_puts 8 = .ok (.imul, 1) := dk_104 (dk_at dksX3_puts_0 8 rfl rfl)
theorem dX3_puts_9 : decode cX3_puts 9 = .ok (.iadd, 1) := dk_96 (dk_at dksX3_puts_0 9 rfl rfl)
theorem dX3_puts_10 : decode cX3_puts 10 = .ok (.iload_n 2, 1) := dk_28 (dk_at dksX3_puts_0 10 rfl rfl)
theorem dX3_puts_11 : decode cX3_puts 11 = .ok (.iadd, 1) := dk_96 (dk_at dksX3_puts_0 11 rfl rfl)
theorem dX3_puts_12 : decode cX3_puts 12 = .ok (.iload_n 3, 1) := dk_29 (dk_at dksX3_puts_0 12 rfl rfl)
theorem dX3_puts_13 : decode cX3_puts 13 = .ok (.iastore, 1) := dk_79 (dk_at dksX3_puts_0 13 rfl rfl)
theorem dX3_puts_14 : decode cX3_puts 14 = .ok (.return_, 1) := dk_177 (dk_at dksX3_puts_0 14 rfl rfl)
abbrev cX3_wipes : ByteArray := prog_13_method_33_code
def yX3_wipes : MethodName := ⟨RX3, "wipes", "(I)I"⟩
def dkwX3_wipes_3 : List UInt8 := [180, 0, 7, 3, 46, 172]
abbrev dktX3_wipes_3 : List UInt8 := dkwX3_wipes_3 ++ []
def dkwX3_wipes_2 : List UInt8 := [180, 0, 7, 28, 3, 79, 132, 2, 1, 167, 255, 239, 42, 180, 0, 7, 3, 92, 46, 4, 100, 79, 42]
abbrev dktX3_wipes_2 : List UInt8 := dkwX3_wipes_2 ++ dktX3_wipes_3
def dkwX3_wipes_1 : List UInt8 := [16, 64, 96, 46, 79, 132, 2, 1, 167, 255, 231, 17, 1, 194, 61, 28, 17, 2, 2, 162, 0, 16, 42]
abbrev dktX3_wipes_1 : List UInt8 := dkwX3_wipes_1 ++ dktX3_wipes_2
def dkwX3_wipes_0 : List UInt8 := [5, 16, 64, 27, 104, 96, 61, 28, 17, 1, 194, 162, 0, 24, 42, 180, 0, 7, 28, 42, 180, 0, 7, 28]
abbrev dktX3_wipes_0 : List UInt8 := dkwX3_wipes_0 ++ dktX3_wipes_1
theorem dksX3_wipes_0 : cX3_wipes.data.toList.drop 0 = dktX3_wipes_0 := by decide +kernel
theorem dksX3_wipes_1 : cX3_wipes.data.toList.drop 24 = dktX3_wipes_1 := dk_seg dksX3_wipes_0 24 rfl rfl
theorem dksX3_wipes_2 : cX3_wipes.data.toList.drop 47 = dktX3_wipes_2 := dk_seg dksX3_wipes_1 23 rfl rfl
theorem dksX3_wipes_3 : cX3_wipes.data.toList.drop 70 = dktX3_wipes_3 := dk_seg dksX3_wipes_2 23 rfl rfl
theorem dX3_wipes_0 : decode cX3_wipes 0 = .ok (.iconst 2, 1) := dk_5 (dk_at dksX3_wipes_0 0 rfl rfl)
theorem dX3_wipes_1 : decode cX3_wipes 1 = .ok (.bipush 64, 2) := dk_16 64 (dk_at dksX3_wipes_0 1 rfl rfl)
theorem dX3_wipes_3 : decode cX3_wipes 3 = .ok (.iload_n 1, 1) := dk_27 (dk_at dksX3_wipes_0 3 rfl rfl)
theorem dX3_wipes_4 : decode cX3_wipes 4 = .ok (.imul, 1) := dk_104 (dk_at dksX3_wipes_0 4 rfl rfl)
theorem dX3_wipes_5 : decode cX3_wipes 5 = .ok (.iadd, 1) := dk_96 (dk_at dksX3_wipes_0 5 rfl rfl)
theorem dX3_wipes_6 : decode cX3_wipes 6 = .ok (.istore_n 2, 1) := dk_61 (dk_at dksX3_wipes_0 6 rfl rfl)
theorem dX3_wipes_7 : decode cX3_wipes 7 = .ok (.iload_n 2, 1) := dk_28 (dk_at dksX3_wipes_0 7 rfl rfl)
theorem dX3_wipes_8 : decode cX3_wipes 8 = .ok (.sipush 450, 3) := dk_17 1 194 (dk_at dksX3_wipes_0 8 rfl rfl)
theorem dX3_wipes_11 : decode cX3_wipes 11 = .ok (.if_icmp .ge 24, 3) := dk_162 0 24 (dk_at dksX3_wipes_0 11 rfl rfl)
theorem dX3_wipes_14 : decode cX3_wipes 14 = .ok (.aload_n 0, 1) := dk_42 (dk_at dksX3_wipes_0 14 rfl rfl)
theorem dX3_wipes_15 : decode cX3_wipes 15 = .ok (.getfield 7, 3) := dk_180 0 7 (dk_at dksX3_wipes_0 15 rfl rfl)
theorem dX3_wipes_18 : decode cX3_wipes 18 = .ok (.iload_n 2, 1) := dk_28 (dk_at dksX3_wipes_0 18 rfl rfl)
theorem dX3_wipes_19 : decode cX3_wipes 19 = .ok (.aload_n 0, 1) := dk_42 (dk_at dksX3_wipes_0 19 rfl rfl)
theorem dX3_wipes_20 : decode cX3_wipes 20 = .ok (.getfield 7, 3) := dk_180 0 7 (dk_at dksX3_wipes_0 20 rfl rfl)
theorem dX3_wipes_23 : decode cX3_wipes 23 = .ok (.iload_n 2, 1) := dk_28 (dk_at dksX3_wipes_0 23 rfl rfl)
theorem dX3_wipes_24 : decode cX3_wipes 24 = .ok (.bipush 64, 2) := dk_16 64 (dk_at dksX3_wipes_1 0 rfl rfl)
theorem dX3_wipes_26 : decode cX3_wipes 26 = .ok (.iadd, 1) := dk_96 (dk_at dksX3_wipes_1 2 rfl rfl)
theorem dX3_wipes_27 : decode cX3_wipes 27 = .ok (.iaload, 1) := dk_46 (dk_at dksX3_wipes_1 3 rfl rfl)
theorem dX3_wipes_28 : decode cX3_wipes 28 = .ok (.iastore, 1) := dk_79 (dk_at dksX3_wipes_1 4 rfl rfl)
theorem dX3_wipes_29 : decode cX3_wipes 29 = .ok (.iinc 2 1, 3) := dk_132 2 1 (dk_at dksX3_wipes_1 5 rfl rfl)
theorem dX3_wipes_32 : decode cX3_wipes 32 = .ok (.goto (-25), 3) := dk_167 255 231 (dk_at dksX3_wipes_1 8 rfl rfl)
theorem dX3_wipes_35 : decode cX3_wipes 35 = .ok (.sipush 450, 3) := dk_17 1 194 (dk_at dksX3_wipes_1 11 rfl rfl)
theorem dX3_wipes_38 : decode cX3_wipes 38 = .ok (.istore_n 2, 1) := dk_61 (dk_at dksX3_wipes_1 14 rfl rfl)
theorem dX3_wipes_39 : decode cX3_wipes 39 = .ok (.iload_n 2, 1) := dk_28 (dk_at dksX3_wipes_1 15 rfl rfl)
theorem dX3_wipes_40 : decode cX3_wipes 40 = .ok (.sipush 514, 3) := dk_17 2 2 (dk_at dksX3_wipes_1 16 rfl rfl)
theorem dX3_wipes_43 : decode cX3_wipes 43 = .ok (.if_icmp .ge 16, 3) := dk_162 0 16 (dk_at dksX3_wipes_1 19 rfl rfl)
theorem dX3_wipes_46 : decode cX3_wipes 46 = .ok (.aload_n 0, 1) := dk_42 (dk_at dksX3_wipes_1 22 rfl rfl)
theorem dX3_wipes_47 : decode cX3_wipes 47 = .ok (.getfield 7, 3) := dk_180 0 7 (dk_at dksX3_wipes_2 0 rfl rfl)
theorem dX3_wipes_50 : decode cX3_wipes 50 = .ok (.iload_n 2, 1) := dk_28 (dk_at dksX3_wipes_2 3 rfl rfl)
theorem dX3_wipes_51 : decode cX3_wipes 51 = .ok (.iconst 0, 1) := dk_3 (dk_at dksX3_wipes_2 4 rfl rfl)
theorem dX3_wipes_52 : decode cX3_wipes 52 = .ok (.iastore, 1) := dk_79 (dk_at dksX3_wipes_2 5 rfl rfl)
theorem dX3_wipes_53 : decode cX3_wipes 53 = .ok (.iinc 2 1, 3) := dk_132 2 1 (dk_at dksX3_wipes_2 6 rfl rfl)
theorem dX3_wipes_56 : decode cX3_wipes 56 = .ok (.goto (-17), 3) := dk_167 255 239 (dk_at dksX3_wipes_2 9 rfl rfl)
theorem dX3_wipes_59 : decode cX3_wipes 59 = .ok (.aload_n 0, 1) := dk_42 (dk_at dksX3_wipes_2 12 rfl rfl)
theorem dX3_wipes_60 : decode cX3_wipes 60 = .ok (.getfield 7, 3) := dk_180 0 7 (dk_at dksX3_wipes_2 13 rfl rfl)
theorem dX3_wipes_63 : decode cX3_wipes 63 = .ok (.iconst 0, 1) := dk_3 (dk_at dksX3_wipes_2 16 rfl rfl)
theorem dX3_wipes_64 : decode cX3_wipes 64 = .ok (.dup2, 1) := dk_92 (dk_at dksX3_wipes_2 17 rfl rfl)
theorem dX3_wipes_65 : decode cX3_wipes 65 = .ok (.iaload, 1) := dk_46 (dk_at dksX3_wipes_2 18 rfl rfl)
theorem dX3_wipes_66 : decode cX3_wipes 66 = .ok (.iconst 1, 1) := dk_4 (dk_at dksX3_wipes_2 19 rfl rfl)
theorem dX3_wipes_67 : decode cX3_wipes 67 = .ok (.isub, 1) := dk_100 (dk_at dksX3_wipes_2 20 rfl rfl)
theorem dX3_wipes_68 : decode cX3_wipes 68 = .ok (.iastore, 1) := dk_79 (dk_at dksX3_wipes_2 21 rfl rfl)
theorem dX3_wipes_69 : decode cX3_wipes 69 = .ok (.aload_n 0, 1) := dk_42 (dk_at dksX3_wipes_2 22 rfl rfl)
theorem dX3_wipes_70 : decode cX3_wipes 70 = .ok (.getfield 7, 3) := dk_180 0 7 (dk_at dksX3_wipes_3 0 rfl rfl)
theorem dX3_wipes_73 : decode cX3_wipes 73 = .ok (.iconst 0, 1) := dk_3 (dk_at dksX3_wipes_3 3 rfl rfl)
theorem dX3_wipes_74 : decode cX3_wipes 74 = .ok (.iaload, 1) := dk_46 (dk_at dksX3_wipes_3 4 rfl rfl)
theorem dX3_wipes_75 : decode cX3_wipes 75 = .ok (.ireturn, 1) := dk_172 (dk_at dksX3_wipes_3 5 rfl rfl)
abbrev cX3_labelsAll : ByteArray := prog_13_method_34_code
def yX3_labelsAll : MethodName := ⟨RX3, "labelsAll", "()I"⟩
def dkwX3_labelsAll_2 : List UInt8 := [42, 28, 182, 0, 104, 182, 0, 107, 132, 1, 1, 167, 255, 226, 42, 182, 0, 114, 172]
abbrev dktX3_labelsAll_2 : List UInt8 := dkwX3_labelsAll_2 ++ []
def dkwX3_labelsAll_1 : List UInt8 := [167, 255, 236, 3, 60, 27, 42, 180, 0, 7, 3, 46, 162, 0, 26, 42, 27, 182, 0, 111, 61, 42, 28, 6]
abbrev dktX3_labelsAll_1 : List UInt8 := dkwX3_labelsAll_1 ++ dktX3_labelsAll_2
def dkwX3_labelsAll_0 : List UInt8 := [3, 60, 27, 42, 180, 0, 7, 3, 46, 162, 0, 16, 42, 27, 6, 2, 182, 0, 107, 132, 1, 1]
abbrev dktX3_labelsAll_0 : List UInt8 := dkwX3_labelsAll_0 ++ dktX3_labelsAll_1
theorem dksX3_labelsAll_0 : cX3_labelsAll.data.toList.drop 0 = dktX3_labelsAll_0 := by decide +kernel
theorem dksX3_labelsAll_1 : cX3_labelsAll.data.toList.drop 22 = dktX3_labelsAll_1 := dk_seg dksX3_labelsAll_0 22 rfl rfl
theorem dksX3_labelsAll_2 : cX3_labelsAll.data.toList.drop 46 = dktX3_labelsAll_2 := dk_seg dksX3_labelsAll_1 24 rfl rfl
theorem dX3_labelsAll_0 : decode cX3_labelsAll 0 = .ok (.iconst 0, 1) := dk_3 (dk_at dksX3_labelsAll_0 0 rfl rfl)
theorem dX3_labelsAll_1 : decode cX3_labelsAll 1 = .ok (.istore_n 1, 1) := dk_60 (dk_at dksX3_labelsAll_0 1 rfl rfl)
theorem dX3_labelsAll_2 : decode cX3_labelsAll 2 = .ok (.iload_n 1, 1) := dk_27 (dk_at dksX3_labelsAll_0 2 rfl rfl)
theorem dX3_labelsAll_3 : decode cX3_labelsAll 3 = .ok (.aload_n 0, 1) := dk_42 (dk_at dksX3_labelsAll_0 3 rfl rfl)
theorem dX3_labelsAll_4 : decode cX3_labelsAll 4 = .ok (.getfield 7, 3) := dk_180 0 7 (dk_at dksX3_labelsAll_0 4 rfl rfl)
theorem dX3_labelsAll_7 : decode cX3_labelsAll 7 = .ok (.iconst 0, 1) := dk_3 (dk_at dksX3_labelsAll_0 7 rfl rfl)
theorem dX3_labelsAll_8 : decode cX3_labelsAll 8 = .ok (.iaload, 1) := dk_46 (dk_at dksX3_labelsAll_0 8 rfl rfl)
theorem dX3_labelsAll_9 : decode cX3_labelsAll 9 = .ok (.if_icmp .ge 16, 3) := dk_162 0 16 (dk_at dksX3_labelsAll_0 9 rfl rfl)
theorem dX3_labelsAll_12 : decode cX3_labelsAll 12 = .ok (.aload_n 0, 1) := dk_42 (dk_at dksX3_labelsAll_0 12 rfl rfl)
theorem dX3_labelsAll_13 : decode cX3_labelsAll 13 = .ok (.iload_n 1, 1) := dk_27 (dk_at dksX3_labelsAll_0 13 rfl rfl)
theorem dX3_labelsAll_14 : decode cX3_labelsAll 14 = .ok (.iconst 3, 1) := dk_6 (dk_at dksX3_labelsAll_0 14 rfl rfl)
theorem dX3_labelsAll_15 : decode cX3_labelsAll 15 = .ok (.iconst (-1), 1) := dk_2 (dk_at dksX3_labelsAll_0 15 rfl rfl)
theorem dX3_labelsAll_16 : decode cX3_labelsAll 16 = .ok (.invokevirtual 107, 3) := dk_182 0 107 (dk_at dksX3_labelsAll_0 16 rfl rfl)
theorem dX3_labelsAll_19 : decode cX3_labelsAll 19 = .ok (.iinc 1 1, 3) := dk_132 1 1 (dk_at dksX3_labelsAll_0 19 rfl rfl)
theorem dX3_labelsAll_22 : decode cX3_labelsAll 22 = .ok (.goto (-20), 3) := dk_167 255 236 (dk_at dksX3_labelsAll_1 0 rfl rfl)
theorem dX3_labelsAll_25 : decode cX3_labelsAll 25 = .ok (.iconst 0, 1) := dk_3 (dk_at dksX3_labelsAll_1 3 rfl rfl)
theorem dX3_labelsAll_26 : decode cX3_labelsAll 26 = .ok (.istore_n 1, 1) := dk_60 (dk_at dksX3_labelsAll_1 4 rfl rfl)
theorem dX3_labelsAll_27 : decode cX3_labelsAll 27 = .ok (.iload_n 1, 1) := dk_27 (dk_at dksX3_labelsAll_1 5 rfl rfl)
theorem dX3_labelsAll_28 : decode cX3_labelsAll 28 = .ok (.aload_n 0, 1) := dk_42 (dk_at dksX3_labelsAll_1 6 rfl rfl)
theorem dX3_labelsAll_29 : decode cX3_labelsAll 29 = .ok (.getfield 7, 3) := dk_180 0 7 (dk_at dksX3_labelsAll_1 7 rfl rfl)
theorem dX3_labelsAll_32 : decode cX3_labelsAll 32 = .ok (.iconst 0, 1) := dk_3 (dk_at dksX3_labelsAll_1 10 rfl rfl)
theorem dX3_labelsAll_33 : decode cX3_labelsAll 33 = .ok (.iaload, 1) := dk_46 (dk_at dksX3_labelsAll_1 11 rfl rfl)
theorem dX3_labelsAll_34 : decode cX3_labelsAll 34 = .ok (.if_icmp .ge 26, 3) := dk_162 0 26 (dk_at dksX3_labelsAll_1 12 rfl rfl)
theorem dX3_labelsAll_37 : decode cX3_labelsAll 37 = .ok (.aload_n 0, 1) := dk_42 (dk_at dksX3_labelsAll_1 15 rfl rfl)
theorem dX3_labelsAll_38 : decode cX3_labelsAll 38 = .ok (.iload_n 1, 1) := dk_27 (dk_at dksX3_labelsAll_1 16 rfl rfl)
theorem dX3_labelsAll_39 : decode cX3_labelsAll 39 = .ok (.invokevirtual 111, 3) := dk_182 0 111 (dk_at dksX3_labelsAll_1 17 rfl rfl)
theorem dX3_labelsAll_42 : decode cX3_labelsAll 42 = .ok (.istore_n 2, 1) := dk_61 (dk_at dksX3_labelsAll_1 20 rfl rfl)
theorem dX3_labelsAll_43 : decode cX3_labelsAll 43 = .ok (.aload_n 0, 1) := dk_42 (dk_at dksX3_labelsAll_1 21 rfl rfl)
theorem dX3_labelsAll_44 : decode cX3_labelsAll 44 = .ok (.iload_n 2, 1) := dk_28 (dk_at dksX3_labelsAll_1 22 rfl rfl)
theorem dX3_labelsAll_45 : decode cX3_labelsAll 45 = .ok (.iconst 3, 1) := dk_6 (dk_at dksX3_labelsAll_1 23 rfl rfl)
theorem dX3_labelsAll_46 : decode cX3_labelsAll 46 = .ok (.aload_n 0, 1) := dk_42 (dk_at dksX3_labelsAll_2 0 rfl rfl)
theorem dX3_labelsAll_47 : decode cX3_labelsAll 47 = .ok (.iload_n 2, 1) := dk_28 (dk_at dksX3_labelsAll_2 1 rfl rfl)
theorem dX3_labelsAll_48 : decode cX3_labelsAll 48 = .ok (.invokevirtual 104, 3) := dk_182 0 104 (dk_at dksX3_labelsAll_2 2 rfl rfl)
theorem dX3_labelsAll_51 : decode cX3_labelsAll 51 = .ok (.invokevirtual 107, 3) := dk_182 0 107 (dk_at dksX3_labelsAll_2 5 rfl rfl)
theorem dX3_labelsAll_54 : decode cX3_labelsAll 54 = .ok (.iinc 1 1, 3) := dk_132 1 1 (dk_at dksX3_labelsAll_2 8 rfl rfl)
theorem dX3_labelsAll_57 : decode cX3_labelsAll 57 = .ok (.goto (-30), 3) := dk_167 255 226 (dk_at dksX3_labelsAll_2 11 rfl rfl)
theorem dX3_labelsAll_60 : decode cX3_labelsAll 60 = .ok (.aload_n 0, 1) := dk_42 (dk_at dksX3_labelsAll_2 14 rfl rfl)
theorem dX3_labelsAll_61 : decode cX3_labelsAll 61 = .ok (.invokevirtual 114, 3) := dk_182 0 114 (dk_at dksX3_labelsAll_2 15 rfl rfl)
theorem dX3_labelsAll_64 : decode cX3_labelsAll 64 = .ok (.ireturn, 1) := dk_172 (dk_at dksX3_labelsAll_2 18 rfl rfl)
abbrev cX3_byLevel : ByteArray := prog_13_method_30_code
def yX3_byLevel : MethodName := ⟨RX3, "byLevel", "(I)I"⟩
def dkwX3_byLevel_4 : List UInt8 := [167, 255, 182, 21, 4, 27, 160, 0, 7, 29, 167, 0, 4, 28, 61, 132, 3, 1, 167, 255, 148, 28, 172]
abbrev dktX3_byLevel_4 : List UInt8 := dkwX3_byLevel_4 ++ []
def dkwX3_byLevel_3 : List UInt8 := [167, 0, 4, 3, 54, 6, 21, 4, 21, 6, 153, 0, 7, 4, 167, 0, 4, 3, 96, 54, 4, 132, 5, 1]
abbrev dktX3_byLevel_3 : List UInt8 := dkwX3_byLevel_3 ++ dktX3_byLevel_4
def dkwX3_byLevel_2 : List UInt8 := [42, 21, 5, 3, 182, 0, 37, 42, 29, 3, 182, 0, 37, 160, 0, 13, 21, 5, 29, 162, 0, 7, 4]
abbrev dktX3_byLevel_2 : List UInt8 := dkwX3_byLevel_2 ++ dktX3_byLevel_3
def dkwX3_byLevel_1 : List UInt8 := [180, 0, 7, 3, 46, 162, 0, 69, 42, 21, 5, 3, 182, 0, 37, 42, 29, 3, 182, 0, 37, 161, 0, 25]
abbrev dktX3_byLevel_1 : List UInt8 := dkwX3_byLevel_1 ++ dktX3_byLevel_2
def dkwX3_byLevel_0 : List UInt8 := [2, 61, 3, 62, 29, 42, 180, 0, 7, 3, 46, 162, 0, 104, 3, 54, 4, 3, 54, 5, 21, 5, 42]
abbrev dktX3_byLevel_0 : List UInt8 := dkwX3_byLevel_0 ++ dktX3_byLevel_1
theorem dksX3_byLevel_0 : cX3_byLevel.data.toList.drop 0 = dktX3_byLevel_0 := by decide +kernel
theorem dksX3_byLevel_1 : cX3_byLevel.data.toList.drop 23 = dktX3_byLevel_1 := dk_seg dksX3_byLevel_0 23 rfl rfl
theorem dksX3_byLevel_2 : cX3_byLevel.data.toList.drop 47 = dktX3_byLevel_2 := dk_seg dksX3_byLevel_1 24 rfl rfl
theorem dksX3_byLevel_3 : cX3_byLevel.data.toList.drop 70 = dktX3_byLevel_3 := dk_seg dksX3_byLevel_2 23 rfl rfl
theorem dksX3_byLevel_4 : cX3_byLevel.data.toList.drop 94 = dktX3_byLevel_4 := dk_seg dksX3_byLevel_3 24 rfl rfl
theorem dX3_byLevel_0 : decode cX3_byLevel 0 = .ok (.iconst (-1), 1) := dk_2 (dk_at dksX3_byLevel_0 0 rfl rfl)
theorem dX3_byLevel_1 : decode cX3_byLevel 1 = .ok (.istore_n 2, 1) := dk_61 (dk_at dksX3_byLevel_0 1 rfl rfl)
theorem dX3_byLevel_2 : decode cX3_byLevel 2 = .ok (.iconst 0, 1) := dk_3 (dk_at dksX3_byLevel_0 2 rfl rfl)
theorem dX3_byLevel_3 : decode cX3_byLevel 3 = .ok (.istore_n 3, 1) := dk_62 (dk_at dksX3_byLevel_0 3 rfl rfl)
theorem dX3_byLevel_4 : decode cX3_byLevel 4 = .ok (.iload_n 3, 1) := dk_29 (dk_at dksX3_byLevel_0 4 rfl rfl)
theorem dX3_byLevel_5 : decode cX3_byLevel 5 = .ok (.aload_n 0, 1) := dk_42 (dk_at dksX3_byLevel_0 5 rfl rfl)
theorem dX3_byLevel_6 : decode cX3_byLevel 6 = .ok (.getfield 7, 3) := dk_180 0 7 (dk_at dksX3_byLevel_0 6 rfl rfl)
theorem dX3_byLevel_9 : decode cX3_byLevel 9 = .ok (.iconst 0, 1) := dk_3 (dk_at dksX3_byLevel_0 9 rfl rfl)
theorem dX3_byLevel_10 : decode cX3_byLevel 10 = .ok (.iaload, 1) := dk_46 (dk_at dksX3_byLevel_0 10 rfl rfl)
theorem dX3_byLevel_11 : decode cX3_byLevel 11 = .ok (.if_icmp .ge 104, 3) := dk_162 0 104 (dk_at dksX3_byLevel_0 11 rfl rfl)
theorem dX3_byLevel_14 : decode cX3_byLevel 14 = .ok (.iconst 0, 1) := dk_3 (dk_at dksX3_byLevel_0 14 rfl rfl)
theorem dX3_byLevel_15 : decode cX3_byLevel 15 = .ok (.istore 4, 2) := dk_54 4 (dk_at dksX3_byLevel_0 15 rfl rfl)
theorem dX3_byLevel_17 : decode cX3_byLevel 17 = .ok (.iconst 0, 1) := dk_3 (dk_at dksX3_byLevel_0 17 rfl rfl)
theorem dX3_byLevel_18 : decode cX3_byLevel 18 = .ok (.istore 5, 2) := dk_54 5 (dk_at dksX3_byLevel_0 18 rfl rfl)
theorem dX3_byLevel_20 : decode cX3_byLevel 20 = .ok (.iload 5, 2) := dk_21 5 (dk_at dksX3_byLevel_0 20 rfl rfl)
theorem dX3_byLevel_22 : decode cX3_byLevel 22 = .ok (.aload_n 0, 1) := dk_42 (dk_at dksX3_byLevel_0 22 rfl rfl)
theorem dX3_byLevel_23 : decode cX3_byLevel 23 = .ok (.getfield 7, 3) := dk_180 0 7 (dk_at dksX3_byLevel_1 0 rfl rfl)
theorem dX3_byLevel_26 : decode cX3_byLevel 26 = .ok (.iconst 0, 1) := dk_3 (dk_at dksX3_byLevel_1 3 rfl rfl)
theorem dX3_byLevel_27 : decode cX3_byLevel 27 = .ok (.iaload, 1) := dk_46 (dk_at dksX3_byLevel_1 4 rfl rfl)
theorem dX3_byLevel_28 : decode cX3_byLevel 28 = .ok (.if_icmp .ge 69, 3) := dk_162 0 69 (dk_at dksX3_byLevel_1 5 rfl rfl)
theorem dX3_byLevel_31 : decode cX3_byLevel 31 = .ok (.aload_n 0, 1) := dk_42 (dk_at dksX3_byLevel_1 8 rfl rfl)
theorem dX3_byLevel_32 : decode cX3_byLevel 32 = .ok (.iload 5, 2) := dk_21 5 (dk_at dksX3_byLevel_1 9 rfl rfl)
theorem dX3_byLevel_34 : decode cX3_byLevel 34 = .ok (.iconst 0, 1) := dk_3 (dk_at dksX3_byLevel_1 11 rfl rfl)
theorem dX3_byLevel_35 : decode cX3_byLevel 35 = .ok (.invokevirtual 37, 3) := dk_182 0 37 (dk_at dksX3_byLevel_1 12 rfl rfl)
theorem dX3_byLevel_38 : decode cX3_byLevel 38 = .ok (.aload_n 0, 1) := dk_42 (dk_at dksX3_byLevel_1 15 rfl rfl)
theorem dX3_byLevel_39 : decode cX3_byLevel 39 = .ok (.iload_n 3, 1) := dk_29 (dk_at dksX3_byLevel_1 16 rfl rfl)
theorem dX3_byLevel_40 : decode cX3_byLevel 40 = .ok (.iconst 0, 1) := dk_3 (dk_at dksX3_byLevel_1 17 rfl rfl)
theorem dX3_byLevel_41 : decode cX3_byLevel 41 = .ok (.invokevirtual 37, 3) := dk_182 0 37 (dk_at dksX3_byLevel_1 18 rfl rfl)
theorem dX3_byLevel_44 : decode cX3_byLevel 44 = .ok (.if_icmp .lt 25, 3) := dk_161 0 25 (dk_at dksX3_byLevel_1 21 rfl rfl)
theorem dX3_byLevel_47 : decode cX3_byLevel 47 = .ok (.aload_n 0, 1) := dk_42 (dk_at dksX3_byLevel_2 0 rfl rfl)
theorem dX3_byLevel_48 : decode cX3_byLevel 48 = .ok (.iload 5, 2) := dk_21 5 (dk_at dksX3_byLevel_2 1 rfl rfl)
theorem dX3_byLevel_50 : decode cX3_byLevel 50 = .ok (.iconst 0, 1) := dk_3 (dk_at dksX3_byLevel_2 3 rfl rfl)
theorem dX3_byLevel_51 : decode cX3_byLevel 51 = .ok (.invokevirtual 37, 3) := dk_182 0 37 (dk_at dksX3_byLevel_2 4 rfl rfl)
theorem dX3_byLevel_54 : decode cX3_byLevel 54 = .ok (.aload_n 0, 1) := dk_42 (dk_at dksX3_byLevel_2 7 rfl rfl)
theorem dX3_byLevel_55 : decode cX3_byLevel 55 = .ok (.iload_n 3, 1) := dk_29 (dk_at dksX3_byLevel_2 8 rfl rfl)
theorem dX3_byLevel_56 : decode cX3_byLevel 56 = .ok (.iconst 0, 1) := dk_3 (dk_at dksX3_byLevel_2 9 rfl rfl)
theorem dX3_byLevel_57 : decode cX3_byLevel 57 = .ok (.invokevirtual 37, 3) := dk_182 0 37 (dk_at dksX3_byLevel_2 10 rfl rfl)
theorem dX3_byLevel_60 : decode cX3_byLevel 60 = .ok (.if_icmp .ne 13, 3) := dk_160 0 13 (dk_at dksX3_byLevel_2 13 rfl rfl)
theorem dX3_byLevel_63 : decode cX3_byLevel 63 = .ok (.iload 5, 2) := dk_21 5 (dk_at dksX3_byLevel_2 16 rfl rfl)
theorem dX3_byLevel_65 : decode cX3_byLevel 65 = .ok (.iload_n 3, 1) := dk_29 (dk_at dksX3_byLevel_2 18 rfl rfl)
theorem dX3_byLevel_66 : decode cX3_byLevel 66 = .ok (.if_icmp .ge 7, 3) := dk_162 0 7 (dk_at dksX3_byLevel_2 19 rfl rfl)
theorem dX3_byLevel_69 : decode cX3_byLevel 69 = .ok (.iconst 1, 1) := dk_4 (dk_at dksX3_byLevel_2 22 rfl rfl)
theorem dX3_byLevel_70 : decode cX3_byLevel 70 = .ok (.goto 4, 3) := dk_167 0 4 (dk_at dksX3_byLevel_3 0 rfl rfl)
theorem dX3_byLevel_73 : decode cX3_byLevel 73 = .ok (.iconst 0, 1) := dk_3 (dk_at dksX3_byLevel_3 3 rfl rfl)
theorem dX3_byLevel_74 : decode cX3_byLevel 74 = .ok (.istore 6, 2) := dk_54 6 (dk_at dksX3_byLevel_3 4 rfl rfl)
theorem dX3_byLevel_76 : decode cX3_byLevel 76 = .ok (.iload 4, 2) := dk_21 4 (dk_at dksX3_byLevel_3 6 rfl rfl)
theorem dX3_byLevel_78 : decode cX3_byLevel 78 = .ok (.iload 6, 2) := dk_21 6 (dk_at dksX3_byLevel_3 8 rfl rfl)
theorem dX3_byLevel_80 : decode cX3_byLevel 80 = .ok (.ifCond .eq 7, 3) := dk_153 0 7 (dk_at dksX3_byLevel_3 10 rfl rfl)
theorem dX3_byLevel_83 : decode cX3_byLevel 83 = .ok (.iconst 1, 1) := dk_4 (dk_at dksX3_byLevel_3 13 rfl rfl)
theorem dX3_byLevel_84 : decode cX3_byLevel 84 = .ok (.goto 4, 3) := dk_167 0 4 (dk_at dksX3_byLevel_3 14 rfl rfl)
theorem dX3_byLevel_87 : decode cX3_byLevel 87 = .ok (.iconst 0, 1) := dk_3 (dk_at dksX3_byLevel_3 17 rfl rfl)
theorem dX3_byLevel_88 : decode cX3_byLevel 88 = .ok (.iadd, 1) := dk_96 (dk_at dksX3_byLevel_3 18 rfl rfl)
theorem dX3_byLevel_89 : decode cX3_byLevel 89 = .ok (.istore 4, 2) := dk_54 4 (dk_at dksX3_byLevel_3 19 rfl rfl)
theorem dX3_byLevel_91 : decode cX3_byLevel 91 = .ok (.iinc 5 1, 3) := dk_132 5 1 (dk_at dksX3_byLevel_3 21 rfl rfl)
theorem dX3_byLevel_94 : decode cX3_byLevel 94 = .ok (.goto (-74), 3) := dk_167 255 182 (dk_at dksX3_byLevel_4 0 rfl rfl)
theorem dX3_byLevel_97 : decode cX3_byLevel 97 = .ok (.iload 4, 2) := dk_21 4 (dk_at dksX3_byLevel_4 3 rfl rfl)
theorem dX3_byLevel_99 : decode cX3_byLevel 99 = .ok (.iload_n 1, 1) := dk_27 (dk_at dksX3_byLevel_4 5 rfl rfl)
theorem dX3_byLevel_100 : decode cX3_byLevel 100 = .ok (.if_icmp .ne 7, 3) := dk_160 0 7 (dk_at dksX3_byLevel_4 6 rfl rfl)
theorem dX3_byLevel_103 : decode cX3_byLevel 103 = .ok (.iload_n 3, 1) := dk_29 (dk_at dksX3_byLevel_4 9 rfl rfl)
theorem dX3_byLevel_104 : decode cX3_byLevel 104 = .ok (.goto 4, 3) := dk_167 0 4 (dk_at dksX3_byLevel_4 10 rfl rfl)
theorem dX3_byLevel_107 : decode cX3_byLevel 107 = .ok (.iload_n 2, 1) := dk_28 (dk_at dksX3_byLevel_4 13 rfl rfl)
theorem dX3_byLevel_108 : decode cX3_byLevel 108 = .ok (.istore_n 2, 1) := dk_61 (dk_at dksX3_byLevel_4 14 rfl rfl)
theorem dX3_byLevel_109 : decode cX3_byLevel 109 = .ok (.iinc 3 1, 3) := dk_132 3 1 (dk_at dksX3_byLevel_4 15 rfl rfl)
theorem dX3_byLevel_112 : decode cX3_byLevel 112 = .ok (.goto (-108), 3) := dk_167 255 148 (dk_at dksX3_byLevel_4 18 rfl rfl)
theorem dX3_byLevel_115 : decode cX3_byLevel 115 = .ok (.iload_n 2, 1) := dk_28 (dk_at dksX3_byLevel_4 21 rfl rfl)
theorem dX3_byLevel_116 : decode cX3_byLevel 116 = .ok (.ireturn, 1) := dk_172 (dk_at dksX3_byLevel_4 22 rfl rfl)
abbrev cX3_labelled : ByteArray := prog_13_method_29_code
def yX3_labelled : MethodName := ⟨RX3, "labelled", "()I"⟩
def dkwX3_labelled_1 : List UInt8 := [159, 0, 7, 4, 167, 0, 4, 3, 96, 60, 132, 2, 1, 167, 255, 225, 27, 172]
abbrev dktX3_labelled_1 : List UInt8 := dkwX3_labelled_1 ++ []
def dkwX3_labelled_0 : List UInt8 := [3, 60, 3, 61, 28, 42, 180, 0, 7, 3, 46, 162, 0, 27, 27, 42, 28, 6, 182, 0, 37, 2]
abbrev dktX3_labelled_0 : List UInt8 := dkwX3_labelled_0 ++ dktX3_labelled_1
theorem dksX3_labelled_0 : cX3_labelled.data.toList.drop 0 = dktX3_labelled_0 := by decide +kernel
theorem dksX3_labelled_1 : cX3_labelled.data.toList.drop 22 = dktX3_labelled_1 := dk_seg dksX3_labelled_0 22 rfl rfl
theorem dX3_labelled_0 : decode cX3_labelled 0 = .ok (.iconst 0, 1) := dk_3 (dk_at dksX3_labelled_0 0 rfl rfl)
theorem dX3_labelled_1 : decode cX3_labelled 1 = .ok (.istore_n 1, 1) := dk_60 (dk_at dksX3_labelled_0 1 rfl rfl)
theorem dX3_labelled_2 : decode cX3_labelled 2 = .ok (.iconst 0, 1) := dk_3 (dk_at dksX3_labelled_0 2 rfl rfl)
theorem dX3_labelled_3 : decode cX3_labelled 3 = .ok (.istore_n 2, 1) := dk_61 (dk_at dksX3_labelled_0 3 rfl rfl)
theorem dX3_labelled_4 : decode cX3_labelled 4 = .ok (.iload_n 2, 1) := dk_28 (dk_at dksX3_labelled_0 4 rfl rfl)
theorem dX3_labelled_5 : decode cX3_labelled 5 = .ok (.aload_n 0, 1) := dk_42 (dk_at dksX3_labelled_0 5 rfl rfl)
theorem dX3_labelled_6 : decode cX3_labelled 6 = .ok (.getfield 7, 3) := dk_180 0 7 (dk_at dksX3_labelled_0 6 rfl rfl)
theorem dX3_labelled_9 : decode cX3_labelled 9 = .ok (.iconst 0, 1) := dk_3 (dk_at dksX3_labelled_0 9 rfl rfl)
theorem dX3_labelled_10 : decode cX3_labelled 10 = .ok (.iaload, 1) := dk_46 (dk_at dksX3_labelled_0 10 rfl rfl)
theorem dX3_labelled_11 : decode cX3_labelled 11 = .ok (.if_icmp .ge 27, 3) := dk_162 0 27 (dk_at dksX3_labelled_0 11 rfl rfl)
theorem dX3_labelled_14 : decode cX3_labelled 14 = .ok (.iload_n 1, 1) := dk_27 (dk_at dksX3_labelled_0 14 rfl rfl)
theorem dX3_labelled_15 : decode cX3_labelled 15 = .ok (.aload_n 0, 1) := dk_42 (dk_at dksX3_labelled_0 15 rfl rfl)
theorem dX3_labelled_16 : decode cX3_labelled 16 = .ok (.iload_n 2, 1) := dk_28 (dk_at dksX3_labelled_0 16 rfl rfl)
theorem dX3_labelled_17 : decode cX3_labelled 17 = .ok (.iconst 3, 1) := dk_6 (dk_at dksX3_labelled_0 17 rfl rfl)
theorem dX3_labelled_18 : decode cX3_labelled 18 = .ok (.invokevirtual 37, 3) := dk_182 0 37 (dk_at dksX3_labelled_0 18 rfl rfl)
theorem dX3_labelled_21 : decode cX3_labelled 21 = .ok (.iconst (-1), 1) := dk_2 (dk_at dksX3_labelled_0 21 rfl rfl)
theorem dX3_labelled_22 : decode cX3_labelled 22 = .ok (.if_icmp .eq 7, 3) := dk_159 0 7 (dk_at dksX3_labelled_1 0 rfl rfl)
theorem dX3_labelled_25 : decode cX3_labelled 25 = .ok (.iconst 1, 1) := dk_4 (dk_at dksX3_labelled_1 3 rfl rfl)
theorem dX3_labelled_26 : decode cX3_labelled 26 = .ok (.goto 4, 3) := dk_167 0 4 (dk_at dksX3_labelled_1 4 rfl rfl)
theorem dX3_labelled_29 : decode cX3_labelled 29 = .ok (.iconst 0, 1) := dk_3 (dk_at dksX3_labelled_1 7 rfl rfl)
theorem dX3_labelled_30 : decode cX3_labelled 30 = .ok (.iadd, 1) := dk_96 (dk_at dksX3_labelled_1 8 rfl rfl)
theorem dX3_labelled_31 : decode cX3_labelled 31 = .ok (.istore_n 1, 1) := dk_60 (dk_at dksX3_labelled_1 9 rfl rfl)
theorem dX3_labelled_32 : decode cX3_labelled 32 = .ok (.iinc 2 1, 3) := dk_132 2 1 (dk_at dksX3_labelled_1 10 rfl rfl)
theorem dX3_labelled_35 : decode cX3_labelled 35 = .ok (.goto (-31), 3) := dk_167 255 225 (dk_at dksX3_labelled_1 13 rfl rfl)
theorem dX3_labelled_38 : decode cX3_labelled 38 = .ok (.iload_n 1, 1) := dk_27 (dk_at dksX3_labelled_1 16 rfl rfl)
theorem dX3_labelled_39 : decode cX3_labelled 39 = .ok (.ireturn, 1) := dk_172 (dk_at dksX3_labelled_1 17 rfl rfl)
abbrev cX3_step : ByteArray := prog_13_method_38_code
def yX3_step : MethodName := ⟨RX3, "step", "(II)Z"⟩
def dkwX3_step_0 : List UInt8 := [42, 16, 115, 27, 28, 182, 0, 134, 4, 160, 0, 7, 4, 167, 0, 4, 3, 172]
abbrev dktX3_step_0 : List UInt8 := dkwX3_step_0 ++ []
theorem dksX3_step_0 : cX3_step.data.toList.drop 0 = dktX3_step_0 := by decide +kernel
theorem dX3_step_0 : decode cX3_step 0 = .ok (.aload_n 0, 1) := dk_42 (dk_at dksX3_step_0 0 rfl rfl)
theorem dX3_step_1 : decode cX3_step 1 = .ok (.bipush 115, 2) := dk_16 115 (dk_at dksX3_step_0 1 rfl rfl)
theorem dX3_step_3 : decode cX3_step 3 = .ok (.iload_n 1, 1) := dk_27 (dk_at dksX3_step_0 3 rfl rfl)
theorem dX3_step_4 : decode cX3_step 4 = .ok (.iload_n 2, 1) := dk_28 (dk_at dksX3_step_0 4 rfl rfl)
theorem dX3_step_5 : decode cX3_step 5 = .ok (.invokevirtual 134, 3) := dk_182 0 134 (dk_at dksX3_step_0 5 rfl rfl)
theorem dX3_step_8 : decode cX3_step 8 = .ok (.iconst 1, 1) := dk_4 (dk_at dksX3_step_0 8 rfl rfl)
theorem dX3_step_9 : decode cX3_step 9 = .ok (.if_icmp .ne 7, 3) := dk_160 0 7 (dk_at dksX3_step_0 9 rfl rfl)
theorem dX3_step_12 : decode cX3_step 12 = .ok (.iconst 1, 1) := dk_4 (dk_at dksX3_step_0 12 rfl rfl)
theorem dX3_step_13 : decode cX3_step 13 = .ok (.goto 4, 3) := dk_167 0 4 (dk_at dksX3_step_0 13 rfl rfl)
theorem dX3_step_16 : decode cX3_step 16 = .ok (.iconst 0, 1) := dk_3 (dk_at dksX3_step_0 16 rfl rfl)
theorem dX3_step_17 : decode cX3_step 17 = .ok (.ireturn, 1) := dk_172 (dk_at dksX3_step_0 17 rfl rfl)
abbrev cX3_wipe : ByteArray := prog_13_method_39_code
def yX3_wipe : MethodName := ⟨RX3, "wipe", "(I)I"⟩
def dkwX3_wipe_0 : List UInt8 := [42, 16, 119, 27, 3, 182, 0, 134, 172]
abbrev dktX3_wipe_0 : List UInt8 := dkwX3_wipe_0 ++ []
theorem dksX3_wipe_0 : cX3_wipe.data.toList.drop 0 = dktX3_wipe_0 := by decide +kernel
theorem dX3_wipe_0 : decode cX3_wipe 0 = .ok (.aload_n 0, 1) := dk_42 (dk_at dksX3_wipe_0 0 rfl rfl)
theorem dX3_wipe_1 : decode cX3_wipe 1 = .ok (.bipush 119, 2) := dk_16 119 (dk_at dksX3_wipe_0 1 rfl rfl)
theorem dX3_wipe_3 : decode cX3_wipe 3 = .ok (.iload_n 1, 1) := dk_27 (dk_at dksX3_wipe_0 3 rfl rfl)
theorem dX3_wipe_4 : decode cX3_wipe 4 = .ok (.iconst 0, 1) := dk_3 (dk_at dksX3_wipe_0 4 rfl rfl)
theorem dX3_wipe_5 : decode cX3_wipe 5 = .ok (.invokevirtual 134, 3) := dk_182 0 134 (dk_at dksX3_wipe_0 5 rfl rfl)
theorem dX3_wipe_8 : decode cX3_wipe 8 = .ok (.ireturn, 1) := dk_172 (dk_at dksX3_wipe_0 8 rfl rfl)
abbrev cX3_setLevel : ByteArray := prog_13_method_40_code
def yX3_setLevel : MethodName := ⟨RX3, "setLevel", "(II)I"⟩
def dkwX3_setLevel_2 : List UInt8 := [182, 0, 37, 62, 42, 27, 3, 28, 182, 0, 107, 42, 27, 6, 2, 182, 0, 107, 29, 172]
abbrev dktX3_setLevel_2 : List UInt8 := dkwX3_setLevel_2 ++ []
def dkwX3_setLevel_1 : List UInt8 := [167, 0, 4, 3, 181, 0, 22, 42, 180, 0, 22, 158, 0, 5, 3, 172, 42, 182, 0, 128, 42, 27, 3]
abbrev dktX3_setLevel_1 : List UInt8 := dkwX3_setLevel_1 ++ dktX3_setLevel_2
def dkwX3_setLevel_0 : List UInt8 := [42, 42, 27, 182, 0, 98, 154, 0, 7, 4, 167, 0, 18, 28, 3, 16, 99, 184, 0, 26, 154, 0, 7, 5]
abbrev dktX3_setLevel_0 : List UInt8 := dkwX3_setLevel_0 ++ dktX3_setLevel_1
theorem dksX3_setLevel_0 : cX3_setLevel.data.toList.drop 0 = dktX3_setLevel_0 := by decide +kernel
theorem dksX3_setLevel_1 : cX3_setLevel.data.toList.drop 24 = dktX3_setLevel_1 := dk_seg dksX3_setLevel_0 24 rfl rfl
theorem dksX3_setLevel_2 : cX3_setLevel.data.toList.drop 47 = dktX3_setLevel_2 := dk_seg dksX3_setLevel_1 23 rfl rfl
theorem dX3_setLevel_0 : decode cX3_setLevel 0 = .ok (.aload_n 0, 1) := dk_42 (dk_at dksX3_setLevel_0 0 rfl rfl)
theorem dX3_setLevel_1 : decode cX3_setLevel 1 = .ok (.aload_n 0, 1) := dk_42 (dk_at dksX3_setLevel_0 1 rfl rfl)
theorem dX3_setLevel_2 : decode cX3_setLevel 2 = .ok (.iload_n 1, 1) := dk_27 (dk_at dksX3_setLevel_0 2 rfl rfl)
theorem dX3_setLevel_3 : decode cX3_setLevel 3 = .ok (.invokevirtual 98, 3) := dk_182 0 98 (dk_at dksX3_setLevel_0 3 rfl rfl)
theorem dX3_setLevel_6 : decode cX3_setLevel 6 = .ok (.ifCond .ne 7, 3) := dk_154 0 7 (dk_at dksX3_setLevel_0 6 rfl rfl)
theorem dX3_setLevel_9 : decode cX3_setLevel 9 = .ok (.iconst 1, 1) := dk_4 (dk_at dksX3_setLevel_0 9 rfl rfl)
theorem dX3_setLevel_10 : decode cX3_setLevel 10 = .ok (.goto 18, 3) := dk_167 0 18 (dk_at dksX3_setLevel_0 10 rfl rfl)
theorem dX3_setLevel_13 : decode cX3_setLevel 13 = .ok (.iload_n 2, 1) := dk_28 (dk_at dksX3_setLevel_0 13 rfl rfl)
theorem dX3_setLevel_14 : decode cX3_setLevel 14 = .ok (.iconst 0, 1) := dk_3 (dk_at dksX3_setLevel_0 14 rfl rfl)
theorem dX3_setLevel_15 : decode cX3_setLevel 15 = .ok (.bipush 99, 2) := dk_16 99 (dk_at dksX3_setLevel_0 15 rfl rfl)
theorem dX3_setLevel_17 : decode cX3_setLevel 17 = .ok (.invokestatic 26, 3) := dk_184 0 26 (dk_at dksX3_setLevel_0 17 rfl rfl)
theorem dX3_setLevel_20 : decode cX3_setLevel 20 = .ok (.ifCond .ne 7, 3) := dk_154 0 7 (dk_at dksX3_setLevel_0 20 rfl rfl)
theorem dX3_setLevel_23 : decode cX3_setLevel 23 = .ok (.iconst 2, 1) := dk_5 (dk_at dksX3_setLevel_0 23 rfl rfl)
theorem dX3_setLevel_24 : decode cX3_setLevel 24 = .ok (.goto 4, 3) := dk_167 0 4 (dk_at dksX3_setLevel_1 0 rfl rfl)
theorem dX3_setLevel_27 : decode cX3_setLevel 27 = .ok (.iconst 0, 1) := dk_3 (dk_at dksX3_setLevel_1 3 rfl rfl)
theorem dX3_setLevel_28 : decode cX3_setLevel 28 = .ok (.putfield 22, 3) := dk_181 0 22 (dk_at dksX3_setLevel_1 4 rfl rfl)
theorem dX3_setLevel_31 : decode cX3_setLevel 31 = .ok (.aload_n 0, 1) := dk_42 (dk_at dksX3_setLevel_1 7 rfl rfl)
theorem dX3_setLevel_32 : decode cX3_setLevel 32 = .ok (.getfield 22, 3) := dk_180 0 22 (dk_at dksX3_setLevel_1 8 rfl rfl)
theorem dX3_setLevel_35 : decode cX3_setLevel 35 = .ok (.ifCond .le 5, 3) := dk_158 0 5 (dk_at dksX3_setLevel_1 11 rfl rfl)
theorem dX3_setLevel_38 : decode cX3_setLevel 38 = .ok (.iconst 0, 1) := dk_3 (dk_at dksX3_setLevel_1 14 rfl rfl)
theorem dX3_setLevel_39 : decode cX3_setLevel 39 = .ok (.ireturn, 1) := dk_172 (dk_at dksX3_setLevel_1 15 rfl rfl)
theorem dX3_setLevel_40 : decode cX3_setLevel 40 = .ok (.aload_n 0, 1) := dk_42 (dk_at dksX3_setLevel_1 16 rfl rfl)
theorem dX3_setLevel_41 : decode cX3_setLevel 41 = .ok (.invokevirtual 128, 3) := dk_182 0 128 (dk_at dksX3_setLevel_1 17 rfl rfl)
theorem dX3_setLevel_44 : decode cX3_setLevel 44 = .ok (.aload_n 0, 1) := dk_42 (dk_at dksX3_setLevel_1 20 rfl rfl)
theorem dX3_setLevel_45 : decode cX3_setLevel 45 = .ok (.iload_n 1, 1) := dk_27 (dk_at dksX3_setLevel_1 21 rfl rfl)
theorem dX3_setLevel_46 : decode cX3_setLevel 46 = .ok (.iconst 0, 1) := dk_3 (dk_at dksX3_setLevel_1 22 rfl rfl)
theorem dX3_setLevel_47 : decode cX3_setLevel 47 = .ok (.invokevirtual 37, 3) := dk_182 0 37 (dk_at dksX3_setLevel_2 0 rfl rfl)
theorem dX3_setLevel_50 : decode cX3_setLevel 50 = .ok (.istore_n 3, 1) := dk_62 (dk_at dksX3_setLevel_2 3 rfl rfl)
theorem dX3_setLevel_51 : decode cX3_setLevel 51 = .ok (.aload_n 0, 1) := dk_42 (dk_at dksX3_setLevel_2 4 rfl rfl)
theorem dX3_setLevel_52 : decode cX3_setLevel 52 = .ok (.iload_n 1, 1) := dk_27 (dk_at dksX3_setLevel_2 5 rfl rfl)
theorem dX3_setLevel_53 : decode cX3_setLevel 53 = .ok (.iconst 0, 1) := dk_3 (dk_at dksX3_setLevel_2 6 rfl rfl)
theorem dX3_setLevel_54 : decode cX3_setLevel 54 = .ok (.iload_n 2, 1) := dk_28 (dk_at dksX3_setLevel_2 7 rfl rfl)
theorem dX3_setLevel_55 : decode cX3_setLevel 55 = .ok (.invokevirtual 107, 3) := dk_182 0 107 (dk_at dksX3_setLevel_2 8 rfl rfl)
theorem dX3_setLevel_58 : decode cX3_setLevel 58 = .ok (.aload_n 0, 1) := dk_42 (dk_at dksX3_setLevel_2 11 rfl rfl)
theorem dX3_setLevel_59 : decode cX3_setLevel 59 = .ok (.iload_n 1, 1) := dk_27 (dk_at dksX3_setLevel_2 12 rfl rfl)
theorem dX3_setLevel_60 : decode cX3_setLevel 60 = .ok (.iconst 3, 1) := dk_6 (dk_at dksX3_setLevel_2 13 rfl rfl)
theorem dX3_setLevel_61 : decode cX3_setLevel 61 = .ok (.iconst (-1), 1) := dk_2 (dk_at dksX3_setLevel_2 14 rfl rfl)
theorem dX3_setLevel_62 : decode cX3_setLevel 62 = .ok (.invokevirtual 107, 3) := dk_182 0 107 (dk_at dksX3_setLevel_2 15 rfl rfl)
theorem dX3_setLevel_65 : decode cX3_setLevel 65 = .ok (.iload_n 3, 1) := dk_29 (dk_at dksX3_setLevel_2 18 rfl rfl)
theorem dX3_setLevel_66 : decode cX3_setLevel 66 = .ok (.ireturn, 1) := dk_172 (dk_at dksX3_setLevel_2 19 rfl rfl)
abbrev cX3_label : ByteArray := prog_13_method_41_code
def yX3_label : MethodName := ⟨RX3, "label", "(II)I"⟩
def dkwX3_label_0 : List UInt8 := [42, 16, 108, 27, 28, 182, 0, 134, 172]
abbrev dktX3_label_0 : List UInt8 := dkwX3_label_0 ++ []
theorem dksX3_label_0 : cX3_label.data.toList.drop 0 = dktX3_label_0 := by decide +kernel
theorem dX3_label_0 : decode cX3_label 0 = .ok (.aload_n 0, 1) := dk_42 (dk_at dksX3_label_0 0 rfl rfl)
theorem dX3_label_1 : decode cX3_label 1 = .ok (.bipush 108, 2) := dk_16 108 (dk_at dksX3_label_0 1 rfl rfl)
theorem dX3_label_3 : decode cX3_label 3 = .ok (.iload_n 1, 1) := dk_27 (dk_at dksX3_label_0 3 rfl rfl)
theorem dX3_label_4 : decode cX3_label 4 = .ok (.iload_n 2, 1) := dk_28 (dk_at dksX3_label_0 4 rfl rfl)
theorem dX3_label_5 : decode cX3_label 5 = .ok (.invokevirtual 134, 3) := dk_182 0 134 (dk_at dksX3_label_0 5 rfl rfl)
theorem dX3_label_8 : decode cX3_label 8 = .ok (.ireturn, 1) := dk_172 (dk_at dksX3_label_0 8 rfl rfl)
abbrev cX3_unlabel : ByteArray := prog_13_method_42_code
def yX3_unlabel : MethodName := ⟨RX3, "unlabel", "(I)I"⟩
def dkwX3_unlabel_0 : List UInt8 := [42, 16, 117, 27, 3, 182, 0, 134, 172]
abbrev dktX3_unlabel_0 : List UInt8 := dkwX3_unlabel_0 ++ []
theorem dksX3_unlabel_0 : cX3_unlabel.data.toList.drop 0 = dktX3_unlabel_0 := by decide +kernel
theorem dX3_unlabel_0 : decode cX3_unlabel 0 = .ok (.aload_n 0, 1) := dk_42 (dk_at dksX3_unlabel_0 0 rfl rfl)
theorem dX3_unlabel_1 : decode cX3_unlabel 1 = .ok (.bipush 117, 2) := dk_16 117 (dk_at dksX3_unlabel_0 1 rfl rfl)
theorem dX3_unlabel_3 : decode cX3_unlabel 3 = .ok (.iload_n 1, 1) := dk_27 (dk_at dksX3_unlabel_0 3 rfl rfl)
theorem dX3_unlabel_4 : decode cX3_unlabel 4 = .ok (.iconst 0, 1) := dk_3 (dk_at dksX3_unlabel_0 4 rfl rfl)
theorem dX3_unlabel_5 : decode cX3_unlabel 5 = .ok (.invokevirtual 134, 3) := dk_182 0 134 (dk_at dksX3_unlabel_0 5 rfl rfl)
theorem dX3_unlabel_8 : decode cX3_unlabel 8 = .ok (.ireturn, 1) := dk_172 (dk_at dksX3_unlabel_0 8 rfl rfl)
abbrev cX3_labelBest : ByteArray := prog_13_method_43_code
def yX3_labelBest : MethodName := ⟨RX3, "labelBest", "(I)I"⟩
def dkwX3_labelBest_0 : List UInt8 := [42, 16, 98, 27, 3, 182, 0, 134, 172]
abbrev dktX3_labelBest_0 : List UInt8 := dkwX3_labelBest_0 ++ []
theorem dksX3_labelBest_0 : cX3_labelBest.data.toList.drop 0 = dktX3_labelBest_0 := by decide +kernel
theorem dX3_labelBest_0 : decode cX3_labelBest 0 = .ok (.aload_n 0, 1) := dk_42 (dk_at dksX3_labelBest_0 0 rfl rfl)
theorem dX3_labelBest_1 : decode cX3_labelBest 1 = .ok (.bipush 98, 2) := dk_16 98 (dk_at dksX3_labelBest_0 1 rfl rfl)
theorem dX3_labelBest_3 : decode cX3_labelBest 3 = .ok (.iload_n 1, 1) := dk_27 (dk_at dksX3_labelBest_0 3 rfl rfl)
theorem dX3_labelBest_4 : decode cX3_labelBest 4 = .ok (.iconst 0, 1) := dk_3 (dk_at dksX3_labelBest_0 4 rfl rfl)
theorem dX3_labelBest_5 : decode cX3_labelBest 5 = .ok (.invokevirtual 134, 3) := dk_182 0 134 (dk_at dksX3_labelBest_0 5 rfl rfl)
theorem dX3_labelBest_8 : decode cX3_labelBest 8 = .ok (.ireturn, 1) := dk_172 (dk_at dksX3_labelBest_0 8 rfl rfl)
abbrev cX3_labelAll : ByteArray := prog_13_method_44_code
def yX3_labelAll : MethodName := ⟨RX3, "labelAll", "()I"⟩
def dkwX3_labelAll_0 : List UInt8 := [42, 16, 97, 3, 3, 182, 0, 134, 172]
abbrev dktX3_labelAll_0 : List UInt8 := dkwX3_labelAll_0 ++ []
theorem dksX3_labelAll_0 : cX3_labelAll.data.toList.drop 0 = dktX3_labelAll_0 := by decide +kernel
theorem dX3_labelAll_0 : decode cX3_labelAll 0 = .ok (.aload_n 0, 1) := dk_42 (dk_at dksX3_labelAll_0 0 rfl rfl)
theorem dX3_labelAll_1 : decode cX3_labelAll 1 = .ok (.bipush 97, 2) := dk_16 97 (dk_at dksX3_labelAll_0 1 rfl rfl)
theorem dX3_labelAll_3 : decode cX3_labelAll 3 = .ok (.iconst 0, 1) := dk_3 (dk_at dksX3_labelAll_0 3 rfl rfl)
theorem dX3_labelAll_4 : decode cX3_labelAll 4 = .ok (.iconst 0, 1) := dk_3 (dk_at dksX3_labelAll_0 4 rfl rfl)
theorem dX3_labelAll_5 : decode cX3_labelAll 5 = .ok (.invokevirtual 134, 3) := dk_182 0 134 (dk_at dksX3_labelAll_0 5 rfl rfl)
theorem dX3_labelAll_8 : decode cX3_labelAll 8 = .ok (.ireturn, 1) := dk_172 (dk_at dksX3_labelAll_0 8 rfl rfl)
abbrev cX3_setGap : ByteArray := prog_13_method_45_code
def yX3_setGap : MethodName := ⟨RX3, "setGap", "(I)I"⟩
def dkwX3_setGap_0 : List UInt8 := [42, 16, 103, 27, 3, 182, 0, 134, 172]
abbrev dktX3_setGap_0 : List UInt8 := dkwX3_setGap_0 ++ []
theorem dksX3_setGap_0 : cX3_setGap.data.toList.drop 0 = dktX3_setGap_0 := by decide +kernel
theorem dX3_setGap_0 : decode cX3_setGap 0 = .ok (.aload_n 0, 1) := dk_42 (dk_at dksX3_setGap_0 0 rfl rfl)
theorem dX3_setGap_1 : decode cX3_setGap 1 = .ok (.bipush 103, 2) := dk_16 103 (dk_at dksX3_setGap_0 1 rfl rfl)
theorem dX3_setGap_3 : decode cX3_setGap 3 = .ok (.iload_n 1, 1) := dk_27 (dk_at dksX3_setGap_0 3 rfl rfl)
theorem dX3_setGap_4 : decode cX3_setGap 4 = .ok (.iconst 0, 1) := dk_3 (dk_at dksX3_setGap_0 4 rfl rfl)
theorem dX3_setGap_5 : decode cX3_setGap 5 = .ok (.invokevirtual 134, 3) := dk_182 0 134 (dk_at dksX3_setGap_0 5 rfl rfl)
theorem dX3_setGap_8 : decode cX3_setGap 8 = .ok (.ireturn, 1) := dk_172 (dk_at dksX3_setGap_0 8 rfl rfl)
abbrev cX3_lines : ByteArray := prog_13_method_49_code
def yX3_lines : MethodName := ⟨RX3, "lines", "()I"⟩
def dkwX3_lines_0 : List UInt8 := [42, 3, 181, 0, 22, 42, 180, 0, 7, 3, 46, 172]
abbrev dktX3_lines_0 : List UInt8 := dkwX3_lines_0 ++ []
theorem dksX3_lines_0 : cX3_lines.data.toList.drop 0 = dktX3_lines_0 := by decide +kernel
theorem dX3_lines_0 : decode cX3_lines 0 = .ok (.aload_n 0, 1) := dk_42 (dk_at dksX3_lines_0 0 rfl rfl)
theorem dX3_lines_1 : decode cX3_lines 1 = .ok (.iconst 0, 1) := dk_3 (dk_at dksX3_lines_0 1 rfl rfl)
theorem dX3_lines_2 : decode cX3_lines 2 = .ok (.putfield 22, 3) := dk_181 0 22 (dk_at dksX3_lines_0 2 rfl rfl)
theorem dX3_lines_5 : decode cX3_lines 5 = .ok (.aload_n 0, 1) := dk_42 (dk_at dksX3_lines_0 5 rfl rfl)
theorem dX3_lines_6 : decode cX3_lines 6 = .ok (.getfield 7, 3) := dk_180 0 7 (dk_at dksX3_lines_0 6 rfl rfl)
theorem dX3_lines_9 : decode cX3_lines 9 = .ok (.iconst 0, 1) := dk_3 (dk_at dksX3_lines_0 9 rfl rfl)
theorem dX3_lines_10 : decode cX3_lines 10 = .ok (.iaload, 1) := dk_46 (dk_at dksX3_lines_0 10 rfl rfl)
theorem dX3_lines_11 : decode cX3_lines 11 = .ok (.ireturn, 1) := dk_172 (dk_at dksX3_lines_0 11 rfl rfl)
abbrev cX3_levelOf : ByteArray := prog_13_method_50_code
def yX3_levelOf : MethodName := ⟨RX3, "levelOf", "(I)I"⟩
def dkwX3_levelOf_0 : List UInt8 := [42, 27, 3, 182, 0, 140, 172]
abbrev dktX3_levelOf_0 : List UInt8 := dkwX3_levelOf_0 ++ []
theorem dksX3_levelOf_0 : cX3_levelOf.data.toList.drop 0 = dktX3_levelOf_0 := by decide +kernel
theorem dX3_levelOf_0 : decode cX3_levelOf 0 = .ok (.aload_n 0, 1) := dk_42 (dk_at dksX3_levelOf_0 0 rfl rfl)
theorem dX3_levelOf_1 : decode cX3_levelOf 1 = .ok (.iload_n 1, 1) := dk_27 (dk_at dksX3_levelOf_0 1 rfl rfl)
theorem dX3_levelOf_2 : decode cX3_levelOf 2 = .ok (.iconst 0, 1) := dk_3 (dk_at dksX3_levelOf_0 2 rfl rfl)
theorem dX3_levelOf_3 : decode cX3_levelOf 3 = .ok (.invokevirtual 140, 3) := dk_182 0 140 (dk_at dksX3_levelOf_0 3 rfl rfl)
theorem dX3_levelOf_6 : decode cX3_levelOf 6 = .ok (.ireturn, 1) := dk_172 (dk_at dksX3_levelOf_0 6 rfl rfl)
abbrev cX3_look : ByteArray := prog_13_method_46_code
def yX3_look : MethodName := ⟨RX3, "look", "(II)I"⟩
def dkwX3_look_1 : List UInt8 := [182, 0, 137, 172]
abbrev dktX3_look_1 : List UInt8 := dkwX3_look_1 ++ []
def dkwX3_look_0 : List UInt8 := [42, 3, 181, 0, 22, 42, 27, 182, 0, 98, 153, 0, 12, 42, 27, 28, 182, 0, 37, 167, 0, 8, 42, 4]
abbrev dktX3_look_0 : List UInt8 := dkwX3_look_0 ++ dktX3_look_1
theorem dksX3_look_0 : cX3_look.data.toList.drop 0 = dktX3_look_0 := by decide +kernel
theorem dksX3_look_1 : cX3_look.data.toList.drop 24 = dktX3_look_1 := dk_seg dksX3_look_0 24 rfl rfl
theorem dX3_look_0 : decode cX3_look 0 = .ok (.aload_n 0, 1) := dk_42 (dk_at dksX3_look_0 0 rfl rfl)
theorem dX3_look_1 : decode cX3_look 1 = .ok (.iconst 0, 1) := dk_3 (dk_at dksX3_look_0 1 rfl rfl)
theorem dX3_look_2 : decode cX3_look 2 = .ok (.putfield 22, 3) := dk_181 0 22 (dk_at dksX3_look_0 2 rfl rfl)
theorem dX3_look_5 : decode cX3_look 5 = .ok (.aload_n 0, 1) := dk_42 (dk_at dksX3_look_0 5 rfl rfl)
theorem dX3_look_6 : decode cX3_look 6 = .ok (.iload_n 1, 1) := dk_27 (dk_at dksX3_look_0 6 rfl rfl)
theorem dX3_look_7 : decode cX3_look 7 = .ok (.invokevirtual 98, 3) := dk_182 0 98 (dk_at dksX3_look_0 7 rfl rfl)
theorem dX3_look_10 : decode cX3_look 10 = .ok (.ifCond .eq 12, 3) := dk_153 0 12 (dk_at dksX3_look_0 10 rfl rfl)
theorem dX3_look_13 : decode cX3_look 13 = .ok (.aload_n 0, 1) := dk_42 (dk_at dksX3_look_0 13 rfl rfl)
theorem dX3_look_14 : decode cX3_look 14 = .ok (.iload_n 1, 1) := dk_27 (dk_at dksX3_look_0 14 rfl rfl)
theorem dX3_look_15 : decode cX3_look 15 = .ok (.iload_n 2, 1) := dk_28 (dk_at dksX3_look_0 15 rfl rfl)
theorem dX3_look_16 : decode cX3_look 16 = .ok (.invokevirtual 37, 3) := dk_182 0 37 (dk_at dksX3_look_0 16 rfl rfl)
theorem dX3_look_19 : decode cX3_look 19 = .ok (.goto 8, 3) := dk_167 0 8 (dk_at dksX3_look_0 19 rfl rfl)
theorem dX3_look_22 : decode cX3_look 22 = .ok (.aload_n 0, 1) := dk_42 (dk_at dksX3_look_0 22 rfl rfl)
theorem dX3_look_23 : decode cX3_look 23 = .ok (.iconst 1, 1) := dk_4 (dk_at dksX3_look_0 23 rfl rfl)
theorem dX3_look_24 : decode cX3_look 24 = .ok (.invokevirtual 137, 3) := dk_182 0 137 (dk_at dksX3_look_1 0 rfl rfl)
theorem dX3_look_27 : decode cX3_look 27 = .ok (.ireturn, 1) := dk_172 (dk_at dksX3_look_1 3 rfl rfl)
abbrev cX3_fails : ByteArray := prog_13_method_3_code
def yX3_fails : MethodName := ⟨RX3, "fails", "(I)I"⟩
def dkwX3_fails_0 : List UInt8 := [42, 27, 181, 0, 22, 3, 172]
abbrev dktX3_fails_0 : List UInt8 := dkwX3_fails_0 ++ []
theorem dksX3_fails_0 : cX3_fails.data.toList.drop 0 = dktX3_fails_0 := by decide +kernel
theorem dX3_fails_0 : decode cX3_fails 0 = .ok (.aload_n 0, 1) := dk_42 (dk_at dksX3_fails_0 0 rfl rfl)
theorem dX3_fails_1 : decode cX3_fails 1 = .ok (.iload_n 1, 1) := dk_27 (dk_at dksX3_fails_0 1 rfl rfl)
theorem dX3_fails_2 : decode cX3_fails 2 = .ok (.putfield 22, 3) := dk_181 0 22 (dk_at dksX3_fails_0 2 rfl rfl)
theorem dX3_fails_5 : decode cX3_fails 5 = .ok (.iconst 0, 1) := dk_3 (dk_at dksX3_fails_0 5 rfl rfl)
theorem dX3_fails_6 : decode cX3_fails 6 = .ok (.ireturn, 1) := dk_172 (dk_at dksX3_fails_0 6 rfl rfl)
abbrev cX3_stepsOf : ByteArray := prog_13_method_51_code
def yX3_stepsOf : MethodName := ⟨RX3, "stepsOf", "(I)I"⟩
def dkwX3_stepsOf_0 : List UInt8 := [42, 27, 5, 182, 0, 140, 172]
abbrev dktX3_stepsOf_0 : List UInt8 := dkwX3_stepsOf_0 ++ []
theorem dksX3_stepsOf_0 : cX3_stepsOf.data.toList.drop 0 = dktX3_stepsOf_0 := by decide +kernel
theorem dX3_stepsOf_0 : decode cX3_stepsOf 0 = .ok (.aload_n 0, 1) := dk_42 (dk_at dksX3_stepsOf_0 0 rfl rfl)
theorem dX3_stepsOf_1 : decode cX3_stepsOf 1 = .ok (.iload_n 1, 1) := dk_27 (dk_at dksX3_stepsOf_0 1 rfl rfl)
theorem dX3_stepsOf_2 : decode cX3_stepsOf 2 = .ok (.iconst 2, 1) := dk_5 (dk_at dksX3_stepsOf_0 2 rfl rfl)
theorem dX3_stepsOf_3 : decode cX3_stepsOf 3 = .ok (.invokevirtual 140, 3) := dk_182 0 140 (dk_at dksX3_stepsOf_0 3 rfl rfl)
theorem dX3_stepsOf_6 : decode cX3_stepsOf 6 = .ok (.ireturn, 1) := dk_172 (dk_at dksX3_stepsOf_0 6 rfl rfl)
abbrev cX3_pointOf : ByteArray := prog_13_method_52_code
def yX3_pointOf : MethodName := ⟨RX3, "pointOf", "(II)I"⟩
def dkwX3_pointOf_0 : List UInt8 := [42, 27, 28, 182, 0, 143, 153, 0, 12, 42, 27, 28, 182, 0, 41, 167, 0, 4, 3, 172]
abbrev dktX3_pointOf_0 : List UInt8 := dkwX3_pointOf_0 ++ []
theorem dksX3_pointOf_0 : cX3_pointOf.data.toList.drop 0 = dktX3_pointOf_0 := by decide +kernel
theorem dX3_pointOf_0 : decode cX3_pointOf 0 = .ok (.aload_n 0, 1) := dk_42 (dk_at dksX3_pointOf_0 0 rfl rfl)
theorem dX3_pointOf_1 : decode cX3_pointOf 1 = .ok (.iload_n 1, 1) := dk_27 (dk_at dksX3_pointOf_0 1 rfl rfl)
theorem dX3_pointOf_2 : decode cX3_pointOf 2 = .ok (.iload_n 2, 1) := dk_28 (dk_at dksX3_pointOf_0 2 rfl rfl)
theorem dX3_pointOf_3 : decode cX3_pointOf 3 = .ok (.invokevirtual 143, 3) := dk_182 0 143 (dk_at dksX3_pointOf_0 3 rfl rfl)
theorem dX3_pointOf_6 : decode cX3_pointOf 6 = .ok (.ifCond .eq 12, 3) := dk_153 0 12 (dk_at dksX3_pointOf_0 6 rfl rfl)
theorem dX3_pointOf_9 : decode cX3_pointOf 9 = .ok (.aload_n 0, 1) := dk_42 (dk_at dksX3_pointOf_0 9 rfl rfl)
theorem dX3_pointOf_10 : decode cX3_pointOf 10 = .ok (.iload_n 1, 1) := dk_27 (dk_at dksX3_pointOf_0 10 rfl rfl)
theorem dX3_pointOf_11 : decode cX3_pointOf 11 = .ok (.iload_n 2, 1) := dk_28 (dk_at dksX3_pointOf_0 11 rfl rfl)
theorem dX3_pointOf_12 : decode cX3_pointOf 12 = .ok (.invokevirtual 41, 3) := dk_182 0 41 (dk_at dksX3_pointOf_0 12 rfl rfl)
theorem dX3_pointOf_15 : decode cX3_pointOf 15 = .ok (.goto 4, 3) := dk_167 0 4 (dk_at dksX3_pointOf_0 15 rfl rfl)
theorem dX3_pointOf_18 : decode cX3_pointOf 18 = .ok (.iconst 0, 1) := dk_3 (dk_at dksX3_pointOf_0 18 rfl rfl)
theorem dX3_pointOf_19 : decode cX3_pointOf 19 = .ok (.ireturn, 1) := dk_172 (dk_at dksX3_pointOf_0 19 rfl rfl)
abbrev cX3_has : ByteArray := prog_13_method_47_code
def yX3_has : MethodName := ⟨RX3, "has", "(II)Z"⟩
def dkwX3_has_1 : List UInt8 := [167, 0, 4, 4, 181, 0, 22, 42, 180, 0, 22, 154, 0, 7, 4, 167, 0, 4, 3, 172]
abbrev dktX3_has_1 : List UInt8 := dkwX3_has_1 ++ []
def dkwX3_has_0 : List UInt8 := [42, 42, 27, 182, 0, 98, 153, 0, 21, 28, 3, 42, 27, 5, 182, 0, 37, 184, 0, 26, 153, 0, 7, 3]
abbrev dktX3_has_0 : List UInt8 := dkwX3_has_0 ++ dktX3_has_1
theorem dksX3_has_0 : cX3_has.data.toList.drop 0 = dktX3_has_0 := by decide +kernel
theorem dksX3_has_1 : cX3_has.data.toList.drop 24 = dktX3_has_1 := dk_seg dksX3_has_0 24 rfl rfl
theorem dX3_has_0 : decode cX3_has 0 = .ok (.aload_n 0, 1) := dk_42 (dk_at dksX3_has_0 0 rfl rfl)
theorem dX3_has_1 : decode cX3_has 1 = .ok (.aload_n 0, 1) := dk_42 (dk_at dksX3_has_0 1 rfl rfl)
theorem dX3_has_2 : decode cX3_has 2 = .ok (.iload_n 1, 1) := dk_27 (dk_at dksX3_has_0 2 rfl rfl)
theorem dX3_has_3 : decode cX3_has 3 = .ok (.invokevirtual 98, 3) := dk_182 0 98 (dk_at dksX3_has_0 3 rfl rfl)
theorem dX3_has_6 : decode cX3_has 6 = .ok (.ifCond .eq 21, 3) := dk_153 0 21 (dk_at dksX3_has_0 6 rfl rfl)
theorem dX3_has_9 : decode cX3_has 9 = .ok (.iload_n 2, 1) := dk_28 (dk_at dksX3_has_0 9 rfl rfl)
theorem dX3_has_10 : decode cX3_has 10 = .ok (.iconst 0, 1) := dk_3 (dk_at dksX3_has_0 10 rfl rfl)
theorem dX3_has_11 : decode cX3_has 11 = .ok (.aload_n 0, 1) := dk_42 (dk_at dksX3_has_0 11 rfl rfl)
theorem dX3_has_12 : decode cX3_has 12 = .ok (.iload_n 1, 1) := dk_27 (dk_at dksX3_has_0 12 rfl rfl)
theorem dX3_has_13 : decode cX3_has 13 = .ok (.iconst 2, 1) := dk_5 (dk_at dksX3_has_0 13 rfl rfl)
theorem dX3_has_14 : decode cX3_has 14 = .ok (.invokevirtual 37, 3) := dk_182 0 37 (dk_at dksX3_has_0 14 rfl rfl)
theorem dX3_has_17 : decode cX3_has 17 = .ok (.invokestatic 26, 3) := dk_184 0 26 (dk_at dksX3_has_0 17 rfl rfl)
theorem dX3_has_20 : decode cX3_has 20 = .ok (.ifCond .eq 7, 3) := dk_153 0 7 (dk_at dksX3_has_0 20 rfl rfl)
theorem dX3_has_23 : decode cX3_has 23 = .ok (.iconst 0, 1) := dk_3 (dk_at dksX3_has_0 23 rfl rfl)
theorem dX3_has_24 : decode cX3_has 24 = .ok (.goto 4, 3) := dk_167 0 4 (dk_at dksX3_has_1 0 rfl rfl)
theorem dX3_has_27 : decode cX3_has 27 = .ok (.iconst 1, 1) := dk_4 (dk_at dksX3_has_1 3 rfl rfl)
theorem dX3_has_28 : decode cX3_has 28 = .ok (.putfield 22, 3) := dk_181 0 22 (dk_at dksX3_has_1 4 rfl rfl)
theorem dX3_has_31 : decode cX3_has 31 = .ok (.aload_n 0, 1) := dk_42 (dk_at dksX3_has_1 7 rfl rfl)
theorem dX3_has_32 : decode cX3_has 32 = .ok (.getfield 22, 3) := dk_180 0 22 (dk_at dksX3_has_1 8 rfl rfl)
theorem dX3_has_35 : decode cX3_has 35 = .ok (.ifCond .ne 7, 3) := dk_154 0 7 (dk_at dksX3_has_1 11 rfl rfl)
theorem dX3_has_38 : decode cX3_has 38 = .ok (.iconst 1, 1) := dk_4 (dk_at dksX3_has_1 14 rfl rfl)
theorem dX3_has_39 : decode cX3_has 39 = .ok (.goto 4, 3) := dk_167 0 4 (dk_at dksX3_has_1 15 rfl rfl)
theorem dX3_has_42 : decode cX3_has 42 = .ok (.iconst 0, 1) := dk_3 (dk_at dksX3_has_1 18 rfl rfl)
theorem dX3_has_43 : decode cX3_has 43 = .ok (.ireturn, 1) := dk_172 (dk_at dksX3_has_1 19 rfl rfl)
abbrev cX3_lineAt : ByteArray := prog_13_method_53_code
def yX3_lineAt : MethodName := ⟨RX3, "lineAt", "(I)I"⟩
def dkwX3_lineAt_1 : List UInt8 := [182, 0, 137, 172]
abbrev dktX3_lineAt_1 : List UInt8 := dkwX3_lineAt_1 ++ []
def dkwX3_lineAt_0 : List UInt8 := [42, 3, 181, 0, 22, 27, 184, 0, 95, 153, 0, 11, 42, 27, 182, 0, 54, 167, 0, 8, 42, 4]
abbrev dktX3_lineAt_0 : List UInt8 := dkwX3_lineAt_0 ++ dktX3_lineAt_1
theorem dksX3_lineAt_0 : cX3_lineAt.data.toList.drop 0 = dktX3_lineAt_0 := by decide +kernel
theorem dksX3_lineAt_1 : cX3_lineAt.data.toList.drop 22 = dktX3_lineAt_1 := dk_seg dksX3_lineAt_0 22 rfl rfl
theorem dX3_lineAt_0 : decode cX3_lineAt 0 = .ok (.aload_n 0, 1) := dk_42 (dk_at dksX3_lineAt_0 0 rfl rfl)
theorem dX3_lineAt_1 : decode cX3_lineAt 1 = .ok (.iconst 0, 1) := dk_3 (dk_at dksX3_lineAt_0 1 rfl rfl)
theorem dX3_lineAt_2 : decode cX3_lineAt 2 = .ok (.putfield 22, 3) := dk_181 0 22 (dk_at dksX3_lineAt_0 2 rfl rfl)
theorem dX3_lineAt_5 : decode cX3_lineAt 5 = .ok (.iload_n 1, 1) := dk_27 (dk_at dksX3_lineAt_0 5 rfl rfl)
theorem dX3_lineAt_6 : decode cX3_lineAt 6 = .ok (.invokestatic 95, 3) := dk_184 0 95 (dk_at dksX3_lineAt_0 6 rfl rfl)
theorem dX3_lineAt_9 : decode cX3_lineAt 9 = .ok (.ifCond .eq 11, 3) := dk_153 0 11 (dk_at dksX3_lineAt_0 9 rfl rfl)
theorem dX3_lineAt_12 : decode cX3_lineAt 12 = .ok (.aload_n 0, 1) := dk_42 (dk_at dksX3_lineAt_0 12 rfl rfl)
theorem dX3_lineAt_13 : decode cX3_lineAt 13 = .ok (.iload_n 1, 1) := dk_27 (dk_at dksX3_lineAt_0 13 rfl rfl)
theorem dX3_lineAt_14 : decode cX3_lineAt 14 = .ok (.invokevirtual 54, 3) := dk_182 0 54 (dk_at dksX3_lineAt_0 14 rfl rfl)
theorem dX3_lineAt_17 : decode cX3_lineAt 17 = .ok (.goto 8, 3) := dk_167 0 8 (dk_at dksX3_lineAt_0 17 rfl rfl)
theorem dX3_lineAt_20 : decode cX3_lineAt 20 = .ok (.aload_n 0, 1) := dk_42 (dk_at dksX3_lineAt_0 20 rfl rfl)
theorem dX3_lineAt_21 : decode cX3_lineAt 21 = .ok (.iconst 1, 1) := dk_4 (dk_at dksX3_lineAt_0 21 rfl rfl)
theorem dX3_lineAt_22 : decode cX3_lineAt 22 = .ok (.invokevirtual 137, 3) := dk_182 0 137 (dk_at dksX3_lineAt_1 0 rfl rfl)
theorem dX3_lineAt_25 : decode cX3_lineAt 25 = .ok (.ireturn, 1) := dk_172 (dk_at dksX3_lineAt_1 3 rfl rfl)
abbrev cX3_isClosed : ByteArray := prog_13_method_54_code
def yX3_isClosed : MethodName := ⟨RX3, "isClosed", "(I)Z"⟩
def dkwX3_isClosed_0 : List UInt8 := [42, 27, 182, 0, 146, 153, 0, 15, 42, 27, 182, 0, 47, 153, 0, 7, 4, 167, 0, 4, 3, 172]
abbrev dktX3_isClosed_0 : List UInt8 := dkwX3_isClosed_0 ++ []
theorem dksX3_isClosed_0 : cX3_isClosed.data.toList.drop 0 = dktX3_isClosed_0 := by decide +kernel
theorem dX3_isClosed_0 : decode cX3_isClosed 0 = .ok (.aload_n 0, 1) := dk_42 (dk_at dksX3_isClosed_0 0 rfl rfl)
theorem dX3_isClosed_1 : decode cX3_isClosed 1 = .ok (.iload_n 1, 1) := dk_27 (dk_at dksX3_isClosed_0 1 rfl rfl)
theorem dX3_isClosed_2 : decode cX3_isClosed 2 = .ok (.invokevirtual 146, 3) := dk_182 0 146 (dk_at dksX3_isClosed_0 2 rfl rfl)
theorem dX3_isClosed_5 : decode cX3_isClosed 5 = .ok (.ifCond .eq 15, 3) := dk_153 0 15 (dk_at dksX3_isClosed_0 5 rfl rfl)
theorem dX3_isClosed_8 : decode cX3_isClosed 8 = .ok (.aload_n 0, 1) := dk_42 (dk_at dksX3_isClosed_0 8 rfl rfl)
theorem dX3_isClosed_9 : decode cX3_isClosed 9 = .ok (.iload_n 1, 1) := dk_27 (dk_at dksX3_isClosed_0 9 rfl rfl)
theorem dX3_isClosed_10 : decode cX3_isClosed 10 = .ok (.invokevirtual 47, 3) := dk_182 0 47 (dk_at dksX3_isClosed_0 10 rfl rfl)
theorem dX3_isClosed_13 : decode cX3_isClosed 13 = .ok (.ifCond .eq 7, 3) := dk_153 0 7 (dk_at dksX3_isClosed_0 13 rfl rfl)
theorem dX3_isClosed_16 : decode cX3_isClosed 16 = .ok (.iconst 1, 1) := dk_4 (dk_at dksX3_isClosed_0 16 rfl rfl)
theorem dX3_isClosed_17 : decode cX3_isClosed 17 = .ok (.goto 4, 3) := dk_167 0 4 (dk_at dksX3_isClosed_0 17 rfl rfl)
theorem dX3_isClosed_20 : decode cX3_isClosed 20 = .ok (.iconst 0, 1) := dk_3 (dk_at dksX3_isClosed_0 20 rfl rfl)
theorem dX3_isClosed_21 : decode cX3_isClosed 21 = .ok (.ireturn, 1) := dk_172 (dk_at dksX3_isClosed_0 21 rfl rfl)
abbrev cX3_knows : ByteArray := prog_13_method_48_code
def yX3_knows : MethodName := ⟨RX3, "knows", "(I)Z"⟩
def dkwX3_knows_1 : List UInt8 := [4, 167, 0, 4, 3, 172]
abbrev dktX3_knows_1 : List UInt8 := dkwX3_knows_1 ++ []
def dkwX3_knows_0 : List UInt8 := [42, 42, 27, 182, 0, 98, 153, 0, 7, 3, 167, 0, 4, 4, 181, 0, 22, 42, 180, 0, 22, 154, 0, 7]
abbrev dktX3_knows_0 : List UInt8 := dkwX3_knows_0 ++ dktX3_knows_1
theorem dksX3_knows_0 : cX3_knows.data.toList.drop 0 = dktX3_knows_0 := by decide +kernel
theorem dksX3_knows_1 : cX3_knows.data.toList.drop 24 = dktX3_knows_1 := dk_seg dksX3_knows_0 24 rfl rfl
theorem dX3_knows_0 : decode cX3_knows 0 = .ok (.aload_n 0, 1) := dk_42 (dk_at dksX3_knows_0 0 rfl rfl)
theorem dX3_knows_1 : decode cX3_knows 1 = .ok (.aload_n 0, 1) := dk_42 (dk_at dksX3_knows_0 1 rfl rfl)
theorem dX3_knows_2 : decode cX3_knows 2 = .ok (.iload_n 1, 1) := dk_27 (dk_at dksX3_knows_0 2 rfl rfl)
theorem dX3_knows_3 : decode cX3_knows 3 = .ok (.invokevirtual 98, 3) := dk_182 0 98 (dk_at dksX3_knows_0 3 rfl rfl)
theorem dX3_knows_6 : decode cX3_knows 6 = .ok (.ifCond .eq 7, 3) := dk_153 0 7 (dk_at dksX3_knows_0 6 rfl rfl)
theorem dX3_knows_9 : decode cX3_knows 9 = .ok (.iconst 0, 1) := dk_3 (dk_at dksX3_knows_0 9 rfl rfl)
theorem dX3_knows_10 : decode cX3_knows 10 = .ok (.goto 4, 3) := dk_167 0 4 (dk_at dksX3_knows_0 10 rfl rfl)
theorem dX3_knows_13 : decode cX3_knows 13 = .ok (.iconst 1, 1) := dk_4 (dk_at dksX3_knows_0 13 rfl rfl)
theorem dX3_knows_14 : decode cX3_knows 14 = .ok (.putfield 22, 3) := dk_181 0 22 (dk_at dksX3_knows_0 14 rfl rfl)
theorem dX3_knows_17 : decode cX3_knows 17 = .ok (.aload_n 0, 1) := dk_42 (dk_at dksX3_knows_0 17 rfl rfl)
theorem dX3_knows_18 : decode cX3_knows 18 = .ok (.getfield 22, 3) := dk_180 0 22 (dk_at dksX3_knows_0 18 rfl rfl)
theorem dX3_knows_21 : decode cX3_knows 21 = .ok (.ifCond .ne 7, 3) := dk_154 0 7 (dk_at dksX3_knows_0 21 rfl rfl)
theorem dX3_knows_24 : decode cX3_knows 24 = .ok (.iconst 1, 1) := dk_4 (dk_at dksX3_knows_1 0 rfl rfl)
theorem dX3_knows_25 : decode cX3_knows 25 = .ok (.goto 4, 3) := dk_167 0 4 (dk_at dksX3_knows_1 1 rfl rfl)
theorem dX3_knows_28 : decode cX3_knows 28 = .ok (.iconst 0, 1) := dk_3 (dk_at dksX3_knows_1 4 rfl rfl)
theorem dX3_knows_29 : decode cX3_knows 29 = .ok (.ireturn, 1) := dk_172 (dk_at dksX3_knows_1 5 rfl rfl)
abbrev cX3_whyNotStepped : ByteArray := prog_13_method_55_code
def yX3_whyNotStepped : MethodName := ⟨RX3, "whyNotStepped", "(II)I"⟩
def dkwX3_whyNotStepped_1 : List UInt8 := [184, 0, 26, 153, 0, 12, 42, 27, 28, 182, 0, 101, 167, 0, 8, 42, 5, 182, 0, 137, 172]
abbrev dktX3_whyNotStepped_1 : List UInt8 := dkwX3_whyNotStepped_1 ++ []
def dkwX3_whyNotStepped_0 : List UInt8 := [42, 3, 181, 0, 22, 42, 27, 182, 0, 98, 154, 0, 9, 42, 4, 182, 0, 137, 172, 28, 3, 16, 7]
abbrev dktX3_whyNotStepped_0 : List UInt8 := dkwX3_whyNotStepped_0 ++ dktX3_whyNotStepped_1
theorem dksX3_whyNotStepped_0 : cX3_whyNotStepped.data.toList.drop 0 = dktX3_whyNotStepped_0 := by decide +kernel
theorem dksX3_whyNotStepped_1 : cX3_whyNotStepped.data.toList.drop 23 = dktX3_whyNotStepped_1 := dk_seg dksX3_whyNotStepped_0 23 rfl rfl
theorem dX3_whyNotStepped_0 : decode cX3_whyNotStepped 0 = .ok (.aload_n 0, 1) := dk_42 (dk_at dksX3_whyNotStepped_0 0 rfl rfl)
theorem dX3_whyNotStepped_1 : decode cX3_whyNotStepped 1 = .ok (.iconst 0, 1) := dk_3 (dk_at dksX3_whyNotStepped_0 1 rfl rfl)
theorem dX3_whyNotStepped_2 : decode cX3_whyNotStepped 2 = .ok (.putfield 22, 3) := dk_181 0 22 (dk_at dksX3_whyNotStepped_0 2 rfl rfl)
theorem dX3_whyNotStepped_5 : decode cX3_whyNotStepped 5 = .ok (.aload_n 0, 1) := dk_42 (dk_at dksX3_whyNotStepped_0 5 rfl rfl)
theorem dX3_whyNotStepped_6 : decode cX3_whyNotStepped 6 = .ok (.iload_n 1, 1) := dk_27 (dk_at dksX3_whyNotStepped_0 6 rfl rfl)
theorem dX3_whyNotStepped_7 : decode cX3_whyNotStepped 7 = .ok (.invokevirtual 98, 3) := dk_182 0 98 (dk_at dksX3_whyNotStepped_0 7 rfl rfl)
theorem dX3_whyNotStepped_10 : decode cX3_whyNotStepped 10 = .ok (.ifCond .ne 9, 3) := dk_154 0 9 (dk_at dksX3_whyNotStepped_0 10 rfl rfl)
theorem dX3_whyNotStepped_13 : decode cX3_whyNotStepped 13 = .ok (.aload_n 0, 1) := dk_42 (dk_at dksX3_whyNotStepped_0 13 rfl rfl)
theorem dX3_whyNotStepped_14 : decode cX3_whyNotStepped 14 = .ok (.iconst 1, 1) := dk_4 (dk_at dksX3_whyNotStepped_0 14 rfl rfl)
theorem dX3_whyNotStepped_15 : decode cX3_whyNotStepped 15 = .ok (.invokevirtual 137, 3) := dk_182 0 137 (dk_at dksX3_whyNotStepped_0 15 rfl rfl)
theorem dX3_whyNotStepped_18 : decode cX3_whyNotStepped 18 = .ok (.ireturn, 1) := dk_172 (dk_at dksX3_whyNotStepped_0 18 rfl rfl)
theorem dX3_whyNotStepped_19 : decode cX3_whyNotStepped 19 = .ok (.iload_n 2, 1) := dk_28 (dk_at dksX3_whyNotStepped_0 19 rfl rfl)
theorem dX3_whyNotStepped_20 : decode cX3_whyNotStepped 20 = .ok (.iconst 0, 1) := dk_3 (dk_at dksX3_whyNotStepped_0 20 rfl rfl)
theorem dX3_whyNotStepped_21 : decode cX3_whyNotStepped 21 = .ok (.bipush 7, 2) := dk_16 7 (dk_at dksX3_whyNotStepped_0 21 rfl rfl)
theorem dX3_whyNotStepped_23 : decode cX3_whyNotStepped 23 = .ok (.invokestatic 26, 3) := dk_184 0 26 (dk_at dksX3_whyNotStepped_1 0 rfl rfl)
theorem dX3_whyNotStepped_26 : decode cX3_whyNotStepped 26 = .ok (.ifCond .eq 12, 3) := dk_153 0 12 (dk_at dksX3_whyNotStepped_1 3 rfl rfl)
theorem dX3_whyNotStepped_29 : decode cX3_whyNotStepped 29 = .ok (.aload_n 0, 1) := dk_42 (dk_at dksX3_whyNotStepped_1 6 rfl rfl)
theorem dX3_whyNotStepped_30 : decode cX3_whyNotStepped 30 = .ok (.iload_n 1, 1) := dk_27 (dk_at dksX3_whyNotStepped_1 7 rfl rfl)
theorem dX3_whyNotStepped_31 : decode cX3_whyNotStepped 31 = .ok (.iload_n 2, 1) := dk_28 (dk_at dksX3_whyNotStepped_1 8 rfl rfl)
theorem dX3_whyNotStepped_32 : decode cX3_whyNotStepped 32 = .ok (.invokevirtual 101, 3) := dk_182 0 101 (dk_at dksX3_whyNotStepped_1 9 rfl rfl)
theorem dX3_whyNotStepped_35 : decode cX3_whyNotStepped 35 = .ok (.goto 8, 3) := dk_167 0 8 (dk_at dksX3_whyNotStepped_1 12 rfl rfl)
theorem dX3_whyNotStepped_38 : decode cX3_whyNotStepped 38 = .ok (.aload_n 0, 1) := dk_42 (dk_at dksX3_whyNotStepped_1 15 rfl rfl)
theorem dX3_whyNotStepped_39 : decode cX3_whyNotStepped 39 = .ok (.iconst 2, 1) := dk_5 (dk_at dksX3_whyNotStepped_1 16 rfl rfl)
theorem dX3_whyNotStepped_40 : decode cX3_whyNotStepped 40 = .ok (.invokevirtual 137, 3) := dk_182 0 137 (dk_at dksX3_whyNotStepped_1 17 rfl rfl)
theorem dX3_whyNotStepped_43 : decode cX3_whyNotStepped 43 = .ok (.ireturn, 1) := dk_172 (dk_at dksX3_whyNotStepped_1 20 rfl rfl)
abbrev cX3_bendAt : ByteArray := prog_13_method_56_code
def yX3_bendAt : MethodName := ⟨RX3, "bendAt", "(II)I"⟩
def dkwX3_bendAt_0 : List UInt8 := [42, 27, 28, 182, 0, 143, 153, 0, 12, 42, 27, 28, 182, 0, 70, 167, 0, 4, 3, 172]
abbrev dktX3_bendAt_0 : List UInt8 := dkwX3_bendAt_0 ++ []
theorem dksX3_bendAt_0 : cX3_bendAt.data.toList.drop 0 = dktX3_bendAt_0 := by decide +kernel
theorem dX3_bendAt_0 : decode cX3_bendAt 0 = .ok (.aload_n 0, 1) := dk_42 (dk_at dksX3_bendAt_0 0 rfl rfl)
theorem dX3_bendAt_1 : decode cX3_bendAt 1 = .ok (.iload_n 1, 1) := dk_27 (dk_at dksX3_bendAt_0 1 rfl rfl)
theorem dX3_bendAt_2 : decode cX3_bendAt 2 = .ok (.iload_n 2, 1) := dk_28 (dk_at dksX3_bendAt_0 2 rfl rfl)
theorem dX3_bendAt_3 : decode cX3_bendAt 3 = .ok (.invokevirtual 143, 3) := dk_182 0 143 (dk_at dksX3_bendAt_0 3 rfl rfl)
theorem dX3_bendAt_6 : decode cX3_bendAt 6 = .ok (.ifCond .eq 12, 3) := dk_153 0 12 (dk_at dksX3_bendAt_0 6 rfl rfl)
theorem dX3_bendAt_9 : decode cX3_bendAt 9 = .ok (.aload_n 0, 1) := dk_42 (dk_at dksX3_bendAt_0 9 rfl rfl)
theorem dX3_bendAt_10 : decode cX3_bendAt 10 = .ok (.iload_n 1, 1) := dk_27 (dk_at dksX3_bendAt_0 10 rfl rfl)
theorem dX3_bendAt_11 : decode cX3_bendAt 11 = .ok (.iload_n 2, 1) := dk_28 (dk_at dksX3_bendAt_0 11 rfl rfl)
theorem dX3_bendAt_12 : decode cX3_bendAt 12 = .ok (.invokevirtual 70, 3) := dk_182 0 70 (dk_at dksX3_bendAt_0 12 rfl rfl)
theorem dX3_bendAt_15 : decode cX3_bendAt 15 = .ok (.goto 4, 3) := dk_167 0 4 (dk_at dksX3_bendAt_0 15 rfl rfl)
theorem dX3_bendAt_18 : decode cX3_bendAt 18 = .ok (.iconst 0, 1) := dk_3 (dk_at dksX3_bendAt_0 18 rfl rfl)
theorem dX3_bendAt_19 : decode cX3_bendAt 19 = .ok (.ireturn, 1) := dk_172 (dk_at dksX3_bendAt_0 19 rfl rfl)
abbrev cX3_lengthByKinds : ByteArray := prog_13_method_58_code
def yX3_lengthByKinds : MethodName := ⟨RX3, "lengthByKinds", "(I)D"⟩
def dkwX3_lengthByKinds_1 : List UInt8 := [182, 0, 149, 135, 20, 0, 152, 107, 99, 167, 0, 4, 14, 175]
abbrev dktX3_lengthByKinds_1 : List UInt8 := dkwX3_lengthByKinds_1 ++ []
def dkwX3_lengthByKinds_0 : List UInt8 := [42, 27, 182, 0, 146, 153, 0, 30, 42, 27, 5, 182, 0, 37, 42, 27, 182, 0, 149, 100, 135, 42, 27]
abbrev dktX3_lengthByKinds_0 : List UInt8 := dkwX3_lengthByKinds_0 ++ dktX3_lengthByKinds_1
theorem dksX3_lengthByKinds_0 : cX3_lengthByKinds.data.toList.drop 0 = dktX3_lengthByKinds_0 := by decide +kernel
theorem dksX3_lengthByKinds_1 : cX3_lengthByKinds.data.toList.drop 23 = dktX3_lengthByKinds_1 := dk_seg dksX3_lengthByKinds_0 23 rfl rfl
theorem dX3_lengthByKinds_0 : decode cX3_lengthByKinds 0 = .ok (.aload_n 0, 1) := dk_42 (dk_at dksX3_lengthByKinds_0 0 rfl rfl)
theorem dX3_lengthByKinds_1 : decode cX3_lengthByKinds 1 = .ok (.iload_n 1, 1) := dk_27 (dk_at dksX3_lengthByKinds_0 1 rfl rfl)
theorem dX3_lengthByKinds_2 : decode cX3_lengthByKinds 2 = .ok (.invokevirtual 146, 3) := dk_182 0 146 (dk_at dksX3_lengthByKinds_0 2 rfl rfl)
theorem dX3_lengthByKinds_5 : decode cX3_lengthByKinds 5 = .ok (.ifCond .eq 30, 3) := dk_153 0 30 (dk_at dksX3_lengthByKinds_0 5 rfl rfl)
theorem dX3_lengthByKinds_8 : decode cX3_lengthByKinds 8 = .ok (.aload_n 0, 1) := dk_42 (dk_at dksX3_lengthByKinds_0 8 rfl rfl)
theorem dX3_lengthByKinds_9 : decode cX3_lengthByKinds 9 = .ok (.iload_n 1, 1) := dk_27 (dk_at dksX3_lengthByKinds_0 9 rfl rfl)
theorem dX3_lengthByKinds_10 : decode cX3_lengthByKinds 10 = .ok (.iconst 2, 1) := dk_5 (dk_at dksX3_lengthByKinds_0 10 rfl rfl)
theorem dX3_lengthByKinds_11 : decode cX3_lengthByKinds 11 = .ok (.invokevirtual 37, 3) := dk_182 0 37 (dk_at dksX3_lengthByKinds_0 11 rfl rfl)
theorem dX3_lengthByKinds_14 : decode cX3_lengthByKinds 14 = .ok (.aload_n 0, 1) := dk_42 (dk_at dksX3_lengthByKinds_0 14 rfl rfl)
theorem dX3_lengthByKinds_15 : decode cX3_lengthByKinds 15 = .ok (.iload_n 1, 1) := dk_27 (dk_at dksX3_lengthByKinds_0 15 rfl rfl)
theorem dX3_lengthByKinds_16 : decode cX3_lengthByKinds 16 = .ok (.invokevirtual 149, 3) := dk_182 0 149 (dk_at dksX3_lengthByKinds_0 16 rfl rfl)
theorem dX3_lengthByKinds_19 : decode cX3_lengthByKinds 19 = .ok (.isub, 1) := dk_100 (dk_at dksX3_lengthByKinds_0 19 rfl rfl)
theorem dX3_lengthByKinds_20 : decode cX3_lengthByKinds 20 = .ok (.i2d, 1) := dk_135 (dk_at dksX3_lengthByKinds_0 20 rfl rfl)
theorem dX3_lengthByKinds_21 : decode cX3_lengthByKinds 21 = .ok (.aload_n 0, 1) := dk_42 (dk_at dksX3_lengthByKinds_0 21 rfl rfl)
theorem dX3_lengthByKinds_22 : decode cX3_lengthByKinds 22 = .ok (.iload_n 1, 1) := dk_27 (dk_at dksX3_lengthByKinds_0 22 rfl rfl)
theorem dX3_lengthByKinds_23 : decode cX3_lengthByKinds 23 = .ok (.invokevirtual 149, 3) := dk_182 0 149 (dk_at dksX3_lengthByKinds_1 0 rfl rfl)
theorem dX3_lengthByKinds_26 : decode cX3_lengthByKinds 26 = .ok (.i2d, 1) := dk_135 (dk_at dksX3_lengthByKinds_1 3 rfl rfl)
theorem dX3_lengthByKinds_27 : decode cX3_lengthByKinds 27 = .ok (.ldc2_w 152, 3) := dk_20 0 152 (dk_at dksX3_lengthByKinds_1 4 rfl rfl)
theorem dX3_lengthByKinds_30 : decode cX3_lengthByKinds 30 = .ok (.dmul, 1) := dk_107 (dk_at dksX3_lengthByKinds_1 7 rfl rfl)
theorem dX3_lengthByKinds_31 : decode cX3_lengthByKinds 31 = .ok (.dadd, 1) := dk_99 (dk_at dksX3_lengthByKinds_1 8 rfl rfl)
theorem dX3_lengthByKinds_32 : decode cX3_lengthByKinds 32 = .ok (.goto 4, 3) := dk_167 0 4 (dk_at dksX3_lengthByKinds_1 9 rfl rfl)
theorem dX3_lengthByKinds_35 : decode cX3_lengthByKinds 35 = .ok (.dconst 0, 1) := dk_14 (dk_at dksX3_lengthByKinds_1 12 rfl rfl)
theorem dX3_lengthByKinds_36 : decode cX3_lengthByKinds 36 = .ok (.dreturn, 1) := dk_175 (dk_at dksX3_lengthByKinds_1 13 rfl rfl)
abbrev cX3_slanting : ByteArray := prog_13_method_57_code
def yX3_slanting : MethodName := ⟨RX3, "slanting", "(I)I"⟩
def dkwX3_slanting_1 : List UInt8 := [112, 96, 61, 132, 3, 1, 167, 255, 230, 28, 172]
abbrev dktX3_slanting_1 : List UInt8 := dkwX3_slanting_1 ++ []
def dkwX3_slanting_0 : List UInt8 := [3, 61, 3, 62, 29, 42, 27, 5, 182, 0, 37, 162, 0, 22, 28, 42, 27, 7, 29, 96, 182, 0, 37, 5]
abbrev dktX3_slanting_0 : List UInt8 := dkwX3_slanting_0 ++ dktX3_slanting_1
theorem dksX3_slanting_0 : cX3_slanting.data.toList.drop 0 = dktX3_slanting_0 := by decide +kernel
theorem dksX3_slanting_1 : cX3_slanting.data.toList.drop 24 = dktX3_slanting_1 := dk_seg dksX3_slanting_0 24 rfl rfl
theorem dX3_slanting_0 : decode cX3_slanting 0 = .ok (.iconst 0, 1) := dk_3 (dk_at dksX3_slanting_0 0 rfl rfl)
theorem dX3_slanting_1 : decode cX3_slanting 1 = .ok (.istore_n 2, 1) := dk_61 (dk_at dksX3_slanting_0 1 rfl rfl)
theorem dX3_slanting_2 : decode cX3_slanting 2 = .ok (.iconst 0, 1) := dk_3 (dk_at dksX3_slanting_0 2 rfl rfl)
theorem dX3_slanting_3 : decode cX3_slanting 3 = .ok (.istore_n 3, 1) := dk_62 (dk_at dksX3_slanting_0 3 rfl rfl)
theorem dX3_slanting_4 : decode cX3_slanting 4 = .ok (.iload_n 3, 1) := dk_29 (dk_at dksX3_slanting_0 4 rfl rfl)
theorem dX3_slanting_5 : decode cX3_slanting 5 = .ok (.aload_n 0, 1) := dk_42 (dk_at dksX3_slanting_0 5 rfl rfl)
theorem dX3_slanting_6 : decode cX3_slanting 6 = .ok (.iload_n 1, 1) := dk_27 (dk_at dksX3_slanting_0 6 rfl rfl)
theorem dX3_slanting_7 : decode cX3_slanting 7 = .ok (.iconst 2, 1) := dk_5 (dk_at dksX3_slanting_0 7 rfl rfl)
theorem dX3_slanting_8 : decode cX3_slanting 8 = .ok (.invokevirtual 37, 3) := dk_182 0 37 (dk_at dksX3_slanting_0 8 rfl rfl)
theorem dX3_slanting_11 : decode cX3_slanting 11 = .ok (.if_icmp .ge 22, 3) := dk_162 0 22 (dk_at dksX3_slanting_0 11 rfl rfl)
theorem dX3_slanting_14 : decode cX3_slanting 14 = .ok (.iload_n 2, 1) := dk_28 (dk_at dksX3_slanting_0 14 rfl rfl)
theorem dX3_slanting_15 : decode cX3_slanting 15 = .ok (.aload_n 0, 1) := dk_42 (dk_at dksX3_slanting_0 15 rfl rfl)
theorem dX3_slanting_16 : decode cX3_slanting 16 = .ok (.iload_n 1, 1) := dk_27 (dk_at dksX3_slanting_0 16 rfl rfl)
theorem dX3_slanting_17 : decode cX3_slanting 17 = .ok (.iconst 4, 1) := dk_7 (dk_at dksX3_slanting_0 17 rfl rfl)
theorem dX3_slanting_18 : decode cX3_slanting 18 = .ok (.iload_n 3, 1) := dk_29 (dk_at dksX3_slanting_0 18 rfl rfl)
theorem dX3_slanting_19 : decode cX3_slanting 19 = .ok (.iadd, 1) := dk_96 (dk_at dksX3_slanting_0 19 rfl rfl)
theorem dX3_slanting_20 : decode cX3_slanting 20 = .ok (.invokevirtual 37, 3) := dk_182 0 37 (dk_at dksX3_slanting_0 20 rfl rfl)
theorem dX3_slanting_23 : decode cX3_slanting 23 = .ok (.iconst 2, 1) := dk_5 (dk_at dksX3_slanting_0 23 rfl rfl)
theorem dX3_slanting_24 : decode cX3_slanting 24 = .ok (.irem, 1) := dk_112 (dk_at dksX3_slanting_1 0 rfl rfl)
theorem dX3_slanting_25 : decode cX3_slanting 25 = .ok (.iadd, 1) := dk_96 (dk_at dksX3_slanting_1 1 rfl rfl)
theorem dX3_slanting_26 : decode cX3_slanting 26 = .ok (.istore_n 2, 1) := dk_61 (dk_at dksX3_slanting_1 2 rfl rfl)
theorem dX3_slanting_27 : decode cX3_slanting 27 = .ok (.iinc 3 1, 3) := dk_132 3 1 (dk_at dksX3_slanting_1 3 rfl rfl)
theorem dX3_slanting_30 : decode cX3_slanting 30 = .ok (.goto (-26), 3) := dk_167 255 230 (dk_at dksX3_slanting_1 6 rfl rfl)
theorem dX3_slanting_33 : decode cX3_slanting 33 = .ok (.iload_n 2, 1) := dk_28 (dk_at dksX3_slanting_1 9 rfl rfl)
theorem dX3_slanting_34 : decode cX3_slanting 34 = .ok (.ireturn, 1) := dk_172 (dk_at dksX3_slanting_1 10 rfl rfl)
abbrev cX3_lengthBySteps : ByteArray := prog_13_method_59_code
def yX3_lengthBySteps : MethodName := ⟨RX3, "lengthBySteps", "(I)D"⟩
def dkwX3_lengthBySteps_2 : List UInt8 := [160, 0, 9, 20, 0, 152, 167, 0, 4, 15, 99, 73, 132, 5, 1, 167, 255, 208, 40, 175]
abbrev dktX3_lengthBySteps_2 : List UInt8 := dkwX3_lengthBySteps_2 ++ []
def dkwX3_lengthBySteps_1 : List UInt8 := [182, 0, 37, 167, 0, 4, 3, 162, 0, 34, 40, 42, 27, 7, 21, 5, 96, 182, 0, 37, 5, 112, 4]
abbrev dktX3_lengthBySteps_1 : List UInt8 := dkwX3_lengthBySteps_1 ++ dktX3_lengthBySteps_2
def dkwX3_lengthBySteps_0 : List UInt8 := [14, 73, 42, 27, 182, 0, 146, 54, 4, 3, 54, 5, 21, 5, 21, 4, 153, 0, 12, 42, 27, 5]
abbrev dktX3_lengthBySteps_0 : List UInt8 := dkwX3_lengthBySteps_0 ++ dktX3_lengthBySteps_1
theorem dksX3_lengthBySteps_0 : cX3_lengthBySteps.data.toList.drop 0 = dktX3_lengthBySteps_0 := by decide +kernel
theorem dksX3_lengthBySteps_1 : cX3_lengthBySteps.data.toList.drop 22 = dktX3_lengthBySteps_1 := dk_seg dksX3_lengthBySteps_0 22 rfl rfl
theorem dksX3_lengthBySteps_2 : cX3_lengthBySteps.data.toList.drop 45 = dktX3_lengthBySteps_2 := dk_seg dksX3_lengthBySteps_1 23 rfl rfl
theorem dX3_lengthBySteps_0 : decode cX3_lengthBySteps 0 = .ok (.dconst 0, 1) := dk_14 (dk_at dksX3_lengthBySteps_0 0 rfl rfl)
theorem dX3_lengthBySteps_1 : decode cX3_lengthBySteps 1 = .ok (.dstore_n 2, 1) := dk_73 (dk_at dksX3_lengthBySteps_0 1 rfl rfl)
theorem dX3_lengthBySteps_2 : decode cX3_lengthBySteps 2 = .ok (.aload_n 0, 1) := dk_42 (dk_at dksX3_lengthBySteps_0 2 rfl rfl)
theorem dX3_lengthBySteps_3 : decode cX3_lengthBySteps 3 = .ok (.iload_n 1, 1) := dk_27 (dk_at dksX3_lengthBySteps_0 3 rfl rfl)
theorem dX3_lengthBySteps_4 : decode cX3_lengthBySteps 4 = .ok (.invokevirtual 146, 3) := dk_182 0 146 (dk_at dksX3_lengthBySteps_0 4 rfl rfl)
theorem dX3_lengthBySteps_7 : decode cX3_lengthBySteps 7 = .ok (.istore 4, 2) := dk_54 4 (dk_at dksX3_lengthBySteps_0 7 rfl rfl)
theorem dX3_lengthBySteps_9 : decode cX3_lengthBySteps 9 = .ok (.iconst 0, 1) := dk_3 (dk_at dksX3_lengthBySteps_0 9 rfl rfl)
theorem dX3_lengthBySteps_10 : decode cX3_lengthBySteps 10 = .ok (.istore 5, 2) := dk_54 5 (dk_at dksX3_lengthBySteps_0 10 rfl rfl)
theorem dX3_lengthBySteps_12 : decode cX3_lengthBySteps 12 = .ok (.iload 5, 2) := dk_21 5 (dk_at dksX3_lengthBySteps_0 12 rfl rfl)
theorem dX3_lengthBySteps_14 : decode cX3_lengthBySteps 14 = .ok (.iload 4, 2) := dk_21 4 (dk_at dksX3_lengthBySteps_0 14 rfl rfl)
theorem dX3_lengthBySteps_16 : decode cX3_lengthBySteps 16 = .ok (.ifCond .eq 12, 3) := dk_153 0 12 (dk_at dksX3_lengthBySteps_0 16 rfl rfl)
theorem dX3_lengthBySteps_19 : decode cX3_lengthBySteps 19 = .ok (.aload_n 0, 1) := dk_42 (dk_at dksX3_lengthBySteps_0 19 rfl rfl)
theorem dX3_lengthBySteps_20 : decode cX3_lengthBySteps 20 = .ok (.iload_n 1, 1) := dk_27 (dk_at dksX3_lengthBySteps_0 20 rfl rfl)
theorem dX3_lengthBySteps_21 : decode cX3_lengthBySteps 21 = .ok (.iconst 2, 1) := dk_5 (dk_at dksX3_lengthBySteps_0 21 rfl rfl)
theorem dX3_lengthBySteps_22 : decode cX3_lengthBySteps 22 = .ok (.invokevirtual 37, 3) := dk_182 0 37 (dk_at dksX3_lengthBySteps_1 0 rfl rfl)
theorem dX3_lengthBySteps_25 : decode cX3_lengthBySteps 25 = .ok (.goto 4, 3) := dk_167 0 4 (dk_at dksX3_lengthBySteps_1 3 rfl rfl)
theorem dX3_lengthBySteps_28 : decode cX3_lengthBySteps 28 = .ok (.iconst 0, 1) := dk_3 (dk_at dksX3_lengthBySteps_1 6 rfl rfl)
theorem dX3_lengthBySteps_29 : decode cX3_lengthBySteps 29 = .ok (.if_icmp .ge 34, 3) := dk_162 0 34 (dk_at dksX3_lengthBySteps_1 7 rfl rfl)
theorem dX3_lengthBySteps_32 : decode cX3_lengthBySteps 32 = .ok (.dload_n 2, 1) := dk_40 (dk_at dksX3_lengthBySteps_1 10 rfl rfl)
theorem dX3_lengthBySteps_33 : decode cX3_lengthBySteps 33 = .ok (.aload_n 0, 1) := dk_42 (dk_at dksX3_lengthBySteps_1 11 rfl rfl)
theorem dX3_lengthBySteps_34 : decode cX3_lengthBySteps 34 = .ok (.iload_n 1, 1) := dk_27 (dk_at dksX3_lengthBySteps_1 12 rfl rfl)
theorem dX3_lengthBySteps_35 : decode cX3_lengthBySteps 35 = .ok (.iconst 4, 1) := dk_7 (dk_at dksX3_lengthBySteps_1 13 rfl rfl)
theorem dX3_lengthBySteps_36 : decode cX3_lengthBySteps 36 = .ok (.iload 5, 2) := dk_21 5 (dk_at dksX3_lengthBySteps_1 14 rfl rfl)
theorem dX3_lengthBySteps_38 : decode cX3_lengthBySteps 38 = .ok (.iadd, 1) := dk_96 (dk_at dksX3_lengthBySteps_1 16 rfl rfl)
theorem dX3_lengthBySteps_39 : decode cX3_lengthBySteps 39 = .ok (.invokevirtual 37, 3) := dk_182 0 37 (dk_at dksX3_lengthBySteps_1 17 rfl rfl)
theorem dX3_lengthBySteps_42 : decode cX3_lengthBySteps 42 = .ok (.iconst 2, 1) := dk_5 (dk_at dksX3_lengthBySteps_1 20 rfl rfl)
theorem dX3_lengthBySteps_43 : decode cX3_lengthBySteps 43 = .ok (.irem, 1) := dk_112 (dk_at dksX3_lengthBySteps_1 21 rfl rfl)
theorem dX3_lengthBySteps_44 : decode cX3_lengthBySteps 44 = .ok (.iconst 1, 1) := dk_4 (dk_at dksX3_lengthBySteps_1 22 rfl rfl)
theorem dX3_lengthBySteps_45 : decode cX3_lengthBySteps 45 = .ok (.if_icmp .ne 9, 3) := dk_160 0 9 (dk_at dksX3_lengthBySteps_2 0 rfl rfl)
theorem dX3_lengthBySteps_48 : decode cX3_lengthBySteps 48 = .ok (.ldc2_w 152, 3) := dk_20 0 152 (dk_at dksX3_lengthBySteps_2 3 rfl rfl)
theorem dX3_lengthBySteps_51 : decode cX3_lengthBySteps 51 = .ok (.goto 4, 3) := dk_167 0 4 (dk_at dksX3_lengthBySteps_2 6 rfl rfl)
theorem dX3_lengthBySteps_54 : decode cX3_lengthBySteps 54 = .ok (.dconst 1, 1) := dk_15 (dk_at dksX3_lengthBySteps_2 9 rfl rfl)
theorem dX3_lengthBySteps_55 : decode cX3_lengthBySteps 55 = .ok (.dadd, 1) := dk_99 (dk_at dksX3_lengthBySteps_2 10 rfl rfl)
theorem dX3_lengthBySteps_56 : decode cX3_lengthBySteps 56 = .ok (.dstore_n 2, 1) := dk_73 (dk_at dksX3_lengthBySteps_2 11 rfl rfl)
theorem dX3_lengthBySteps_57 : decode cX3_lengthBySteps 57 = .ok (.iinc 5 1, 3) := dk_132 5 1 (dk_at dksX3_lengthBySteps_2 12 rfl rfl)
theorem dX3_lengthBySteps_60 : decode cX3_lengthBySteps 60 = .ok (.goto (-48), 3) := dk_167 255 208 (dk_at dksX3_lengthBySteps_2 15 rfl rfl)
theorem dX3_lengthBySteps_63 : decode cX3_lengthBySteps 63 = .ok (.dload_n 2, 1) := dk_40 (dk_at dksX3_lengthBySteps_2 18 rfl rfl)
theorem dX3_lengthBySteps_64 : decode cX3_lengthBySteps 64 = .ok (.dreturn, 1) := dk_175 (dk_at dksX3_lengthBySteps_2 19 rfl rfl)
abbrev cX3_gap : ByteArray := prog_13_method_60_code
def yX3_gap : MethodName := ⟨RX3, "gap", "()I"⟩
def dkwX3_gap_0 : List UInt8 := [42, 3, 181, 0, 22, 42, 180, 0, 7, 4, 46, 172]
abbrev dktX3_gap_0 : List UInt8 := dkwX3_gap_0 ++ []
theorem dksX3_gap_0 : cX3_gap.data.toList.drop 0 = dktX3_gap_0 := by decide +kernel
theorem dX3_gap_0 : decode cX3_gap 0 = .ok (.aload_n 0, 1) := dk_42 (dk_at dksX3_gap_0 0 rfl rfl)
theorem dX3_gap_1 : decode cX3_gap 1 = .ok (.iconst 0, 1) := dk_3 (dk_at dksX3_gap_0 1 rfl rfl)
theorem dX3_gap_2 : decode cX3_gap 2 = .ok (.putfield 22, 3) := dk_181 0 22 (dk_at dksX3_gap_0 2 rfl rfl)
theorem dX3_gap_5 : decode cX3_gap 5 = .ok (.aload_n 0, 1) := dk_42 (dk_at dksX3_gap_0 5 rfl rfl)
theorem dX3_gap_6 : decode cX3_gap 6 = .ok (.getfield 7, 3) := dk_180 0 7 (dk_at dksX3_gap_0 6 rfl rfl)
theorem dX3_gap_9 : decode cX3_gap 9 = .ok (.iconst 1, 1) := dk_4 (dk_at dksX3_gap_0 9 rfl rfl)
theorem dX3_gap_10 : decode cX3_gap 10 = .ok (.iaload, 1) := dk_46 (dk_at dksX3_gap_0 10 rfl rfl)
theorem dX3_gap_11 : decode cX3_gap 11 = .ok (.ireturn, 1) := dk_172 (dk_at dksX3_gap_0 11 rfl rfl)
abbrev cX3_labels : ByteArray := prog_13_method_61_code
def yX3_labels : MethodName := ⟨RX3, "labels", "()I"⟩
def dkwX3_labels_0 : List UInt8 := [42, 3, 181, 0, 22, 42, 182, 0, 114, 172]
abbrev dktX3_labels_0 : List UInt8 := dkwX3_labels_0 ++ []
theorem dksX3_labels_0 : cX3_labels.data.toList.drop 0 = dktX3_labels_0 := by decide +kernel
theorem dX3_labels_0 : decode cX3_labels 0 = .ok (.aload_n 0, 1) := dk_42 (dk_at dksX3_labels_0 0 rfl rfl)
theorem dX3_labels_1 : decode cX3_labels 1 = .ok (.iconst 0, 1) := dk_3 (dk_at dksX3_labels_0 1 rfl rfl)
theorem dX3_labels_2 : decode cX3_labels 2 = .ok (.putfield 22, 3) := dk_181 0 22 (dk_at dksX3_labels_0 2 rfl rfl)
theorem dX3_labels_5 : decode cX3_labels 5 = .ok (.aload_n 0, 1) := dk_42 (dk_at dksX3_labels_0 5 rfl rfl)
theorem dX3_labels_6 : decode cX3_labels 6 = .ok (.invokevirtual 114, 3) := dk_182 0 114 (dk_at dksX3_labels_0 6 rfl rfl)
theorem dX3_labels_9 : decode cX3_labels 9 = .ok (.ireturn, 1) := dk_172 (dk_at dksX3_labels_0 9 rfl rfl)
abbrev cX3_labelOf : ByteArray := prog_13_method_62_code
def yX3_labelOf : MethodName := ⟨RX3, "labelOf", "(I)I"⟩
def dkwX3_labelOf_0 : List UInt8 := [42, 27, 6, 182, 0, 140, 172]
abbrev dktX3_labelOf_0 : List UInt8 := dkwX3_labelOf_0 ++ []
theorem dksX3_labelOf_0 : cX3_labelOf.data.toList.drop 0 = dktX3_labelOf_0 := by decide +kernel
theorem dX3_labelOf_0 : decode cX3_labelOf 0 = .ok (.aload_n 0, 1) := dk_42 (dk_at dksX3_labelOf_0 0 rfl rfl)
theorem dX3_labelOf_1 : decode cX3_labelOf 1 = .ok (.iload_n 1, 1) := dk_27 (dk_at dksX3_labelOf_0 1 rfl rfl)
theorem dX3_labelOf_2 : decode cX3_labelOf 2 = .ok (.iconst 3, 1) := dk_6 (dk_at dksX3_labelOf_0 2 rfl rfl)
theorem dX3_labelOf_3 : decode cX3_labelOf 3 = .ok (.invokevirtual 140, 3) := dk_182 0 140 (dk_at dksX3_labelOf_0 3 rfl rfl)
theorem dX3_labelOf_6 : decode cX3_labelOf 6 = .ok (.ireturn, 1) := dk_172 (dk_at dksX3_labelOf_0 6 rfl rfl)
abbrev cX3_isTurned : ByteArray := prog_13_method_65_code
def yX3_isTurned : MethodName := ⟨RX3, "isTurned", "(I)Z"⟩
def dkwX3_isTurned_0 : List UInt8 := [42, 27, 182, 0, 146, 153, 0, 15, 42, 27, 182, 0, 157, 153, 0, 7, 4, 167, 0, 4, 3, 172]
abbrev dktX3_isTurned_0 : List UInt8 := dkwX3_isTurned_0 ++ []
theorem dksX3_isTurned_0 : cX3_isTurned.data.toList.drop 0 = dktX3_isTurned_0 := by decide +kernel
theorem dX3_isTurned_0 : decode cX3_isTurned 0 = .ok (.aload_n 0, 1) := dk_42 (dk_at dksX3_isTurned_0 0 rfl rfl)
theorem dX3_isTurned_1 : decode cX3_isTurned 1 = .ok (.iload_n 1, 1) := dk_27 (dk_at dksX3_isTurned_0 1 rfl rfl)
theorem dX3_isTurned_2 : decode cX3_isTurned 2 = .ok (.invokevirtual 146, 3) := dk_182 0 146 (dk_at dksX3_isTurned_0 2 rfl rfl)
theorem dX3_isTurned_5 : decode cX3_isTurned 5 = .ok (.ifCond .eq 15, 3) := dk_153 0 15 (dk_at dksX3_isTurned_0 5 rfl rfl)
theorem dX3_isTurned_8 : decode cX3_isTurned 8 = .ok (.aload_n 0, 1) := dk_42 (dk_at dksX3_isTurned_0 8 rfl rfl)
theorem dX3_isTurned_9 : decode cX3_isTurned 9 = .ok (.iload_n 1, 1) := dk_27 (dk_at dksX3_isTurned_0 9 rfl rfl)
theorem dX3_isTurned_10 : decode cX3_isTurned 10 = .ok (.invokevirtual 157, 3) := dk_182 0 157 (dk_at dksX3_isTurned_0 10 rfl rfl)
theorem dX3_isTurned_13 : decode cX3_isTurned 13 = .ok (.ifCond .eq 7, 3) := dk_153 0 7 (dk_at dksX3_isTurned_0 13 rfl rfl)
theorem dX3_isTurned_16 : decode cX3_isTurned 16 = .ok (.iconst 1, 1) := dk_4 (dk_at dksX3_isTurned_0 16 rfl rfl)
theorem dX3_isTurned_17 : decode cX3_isTurned 17 = .ok (.goto 4, 3) := dk_167 0 4 (dk_at dksX3_isTurned_0 17 rfl rfl)
theorem dX3_isTurned_20 : decode cX3_isTurned 20 = .ok (.iconst 0, 1) := dk_3 (dk_at dksX3_isTurned_0 20 rfl rfl)
theorem dX3_isTurned_21 : decode cX3_isTurned 21 = .ok (.ireturn, 1) := dk_172 (dk_at dksX3_isTurned_0 21 rfl rfl)
abbrev cX3_isLeft : ByteArray := prog_13_method_64_code
def yX3_isLeft : MethodName := ⟨RX3, "isLeft", "(I)Z"⟩
def dkwX3_isLeft_1 : List UInt8 := [182, 0, 37, 182, 0, 41, 16, 24, 112, 162, 0, 7, 4, 167, 0, 4, 3, 172]
abbrev dktX3_isLeft_1 : List UInt8 := dkwX3_isLeft_1 ++ []
def dkwX3_isLeft_0 : List UInt8 := [42, 27, 6, 182, 0, 37, 2, 159, 0, 32, 42, 27, 182, 0, 154, 16, 24, 112, 42, 27, 42, 27, 6]
abbrev dktX3_isLeft_0 : List UInt8 := dkwX3_isLeft_0 ++ dktX3_isLeft_1
theorem dksX3_isLeft_0 : cX3_isLeft.data.toList.drop 0 = dktX3_isLeft_0 := by decide +kernel
theorem dksX3_isLeft_1 : cX3_isLeft.data.toList.drop 23 = dktX3_isLeft_1 := dk_seg dksX3_isLeft_0 23 rfl rfl
theorem dX3_isLeft_0 : decode cX3_isLeft 0 = .ok (.aload_n 0, 1) := dk_42 (dk_at dksX3_isLeft_0 0 rfl rfl)
theorem dX3_isLeft_1 : decode cX3_isLeft 1 = .ok (.iload_n 1, 1) := dk_27 (dk_at dksX3_isLeft_0 1 rfl rfl)
theorem dX3_isLeft_2 : decode cX3_isLeft 2 = .ok (.iconst 3, 1) := dk_6 (dk_at dksX3_isLeft_0 2 rfl rfl)
theorem dX3_isLeft_3 : decode cX3_isLeft 3 = .ok (.invokevirtual 37, 3) := dk_182 0 37 (dk_at dksX3_isLeft_0 3 rfl rfl)
theorem dX3_isLeft_6 : decode cX3_isLeft 6 = .ok (.iconst (-1), 1) := dk_2 (dk_at dksX3_isLeft_0 6 rfl rfl)
theorem dX3_isLeft_7 : decode cX3_isLeft 7 = .ok (.if_icmp .eq 32, 3) := dk_159 0 32 (dk_at dksX3_isLeft_0 7 rfl rfl)
theorem dX3_isLeft_10 : decode cX3_isLeft 10 = .ok (.aload_n 0, 1) := dk_42 (dk_at dksX3_isLeft_0 10 rfl rfl)
theorem dX3_isLeft_11 : decode cX3_isLeft 11 = .ok (.iload_n 1, 1) := dk_27 (dk_at dksX3_isLeft_0 11 rfl rfl)
theorem dX3_isLeft_12 : decode cX3_isLeft 12 = .ok (.invokevirtual 154, 3) := dk_182 0 154 (dk_at dksX3_isLeft_0 12 rfl rfl)
theorem dX3_isLeft_15 : decode cX3_isLeft 15 = .ok (.bipush 24, 2) := dk_16 24 (dk_at dksX3_isLeft_0 15 rfl rfl)
theorem dX3_isLeft_17 : decode cX3_isLeft 17 = .ok (.irem, 1) := dk_112 (dk_at dksX3_isLeft_0 17 rfl rfl)
theorem dX3_isLeft_18 : decode cX3_isLeft 18 = .ok (.aload_n 0, 1) := dk_42 (dk_at dksX3_isLeft_0 18 rfl rfl)
theorem dX3_isLeft_19 : decode cX3_isLeft 19 = .ok (.iload_n 1, 1) := dk_27 (dk_at dksX3_isLeft_0 19 rfl rfl)
theorem dX3_isLeft_20 : decode cX3_isLeft 20 = .ok (.aload_n 0, 1) := dk_42 (dk_at dksX3_isLeft_0 20 rfl rfl)
theorem dX3_isLeft_21 : decode cX3_isLeft 21 = .ok (.iload_n 1, 1) := dk_27 (dk_at dksX3_isLeft_0 21 rfl rfl)
theorem dX3_isLeft_22 : decode cX3_isLeft 22 = .ok (.iconst 3, 1) := dk_6 (dk_at dksX3_isLeft_0 22 rfl rfl)
theorem dX3_isLeft_23 : decode cX3_isLeft 23 = .ok (.invokevirtual 37, 3) := dk_182 0 37 (dk_at dksX3_isLeft_1 0 rfl rfl)
theorem dX3_isLeft_26 : decode cX3_isLeft 26 = .ok (.invokevirtual 41, 3) := dk_182 0 41 (dk_at dksX3_isLeft_1 3 rfl rfl)
theorem dX3_isLeft_29 : decode cX3_isLeft 29 = .ok (.bipush 24, 2) := dk_16 24 (dk_at dksX3_isLeft_1 6 rfl rfl)
theorem dX3_isLeft_31 : decode cX3_isLeft 31 = .ok (.irem, 1) := dk_112 (dk_at dksX3_isLeft_1 8 rfl rfl)
theorem dX3_isLeft_32 : decode cX3_isLeft 32 = .ok (.if_icmp .ge 7, 3) := dk_162 0 7 (dk_at dksX3_isLeft_1 9 rfl rfl)
theorem dX3_isLeft_35 : decode cX3_isLeft 35 = .ok (.iconst 1, 1) := dk_4 (dk_at dksX3_isLeft_1 12 rfl rfl)
theorem dX3_isLeft_36 : decode cX3_isLeft 36 = .ok (.goto 4, 3) := dk_167 0 4 (dk_at dksX3_isLeft_1 13 rfl rfl)
theorem dX3_isLeft_39 : decode cX3_isLeft 39 = .ok (.iconst 0, 1) := dk_3 (dk_at dksX3_isLeft_1 16 rfl rfl)
theorem dX3_isLeft_40 : decode cX3_isLeft 40 = .ok (.ireturn, 1) := dk_172 (dk_at dksX3_isLeft_1 17 rfl rfl)
abbrev cX3_labelEnd : ByteArray := prog_13_method_63_code
def yX3_labelEnd : MethodName := ⟨RX3, "labelEnd", "(I)I"⟩
def dkwX3_labelEnd_0 : List UInt8 := [42, 27, 42, 27, 6, 182, 0, 37, 42, 27, 182, 0, 67, 96, 4, 100, 182, 0, 41, 172]
abbrev dktX3_labelEnd_0 : List UInt8 := dkwX3_labelEnd_0 ++ []
theorem dksX3_labelEnd_0 : cX3_labelEnd.data.toList.drop 0 = dktX3_labelEnd_0 := by decide +kernel
theorem dX3_labelEnd_0 : decode cX3_labelEnd 0 = .ok (.aload_n 0, 1) := dk_42 (dk_at dksX3_labelEnd_0 0 rfl rfl)
theorem dX3_labelEnd_1 : decode cX3_labelEnd 1 = .ok (.iload_n 1, 1) := dk_27 (dk_at dksX3_labelEnd_0 1 rfl rfl)
theorem dX3_labelEnd_2 : decode cX3_labelEnd 2 = .ok (.aload_n 0, 1) := dk_42 (dk_at dksX3_labelEnd_0 2 rfl rfl)
theorem dX3_labelEnd_3 : decode cX3_labelEnd 3 = .ok (.iload_n 1, 1) := dk_27 (dk_at dksX3_labelEnd_0 3 rfl rfl)
theorem dX3_labelEnd_4 : decode cX3_labelEnd 4 = .ok (.iconst 3, 1) := dk_6 (dk_at dksX3_labelEnd_0 4 rfl rfl)
theorem dX3_labelEnd_5 : decode cX3_labelEnd 5 = .ok (.invokevirtual 37, 3) := dk_182 0 37 (dk_at dksX3_labelEnd_0 5 rfl rfl)
theorem dX3_labelEnd_8 : decode cX3_labelEnd 8 = .ok (.aload_n 0, 1) := dk_42 (dk_at dksX3_labelEnd_0 8 rfl rfl)
theorem dX3_labelEnd_9 : decode cX3_labelEnd 9 = .ok (.iload_n 1, 1) := dk_27 (dk_at dksX3_labelEnd_0 9 rfl rfl)
theorem dX3_labelEnd_10 : decode cX3_labelEnd 10 = .ok (.invokevirtual 67, 3) := dk_182 0 67 (dk_at dksX3_labelEnd_0 10 rfl rfl)
theorem dX3_labelEnd_13 : decode cX3_labelEnd 13 = .ok (.iadd, 1) := dk_96 (dk_at dksX3_labelEnd_0 13 rfl rfl)
theorem dX3_labelEnd_14 : decode cX3_labelEnd 14 = .ok (.iconst 1, 1) := dk_4 (dk_at dksX3_labelEnd_0 14 rfl rfl)
theorem dX3_labelEnd_15 : decode cX3_labelEnd 15 = .ok (.isub, 1) := dk_100 (dk_at dksX3_labelEnd_0 15 rfl rfl)
theorem dX3_labelEnd_16 : decode cX3_labelEnd 16 = .ok (.invokevirtual 41, 3) := dk_182 0 41 (dk_at dksX3_labelEnd_0 16 rfl rfl)
theorem dX3_labelEnd_19 : decode cX3_labelEnd 19 = .ok (.ireturn, 1) := dk_172 (dk_at dksX3_labelEnd_0 19 rfl rfl)
abbrev cX3_readFrom : ByteArray := prog_13_method_66_code
def yX3_readFrom : MethodName := ⟨RX3, "readFrom", "(I)I"⟩
def dkwX3_readFrom_2 : List UInt8 := [182, 0, 41, 172]
abbrev dktX3_readFrom_2 : List UInt8 := dkwX3_readFrom_2 ++ []
def dkwX3_readFrom_1 : List UInt8 := [42, 27, 182, 0, 157, 153, 0, 11, 42, 27, 182, 0, 154, 167, 0, 14, 42, 27, 42, 27, 6, 182, 0, 37]
abbrev dktX3_readFrom_1 : List UInt8 := dkwX3_readFrom_1 ++ dktX3_readFrom_2
def dkwX3_readFrom_0 : List UInt8 := [42, 27, 182, 0, 146, 154, 0, 5, 3, 172, 42, 27, 6, 182, 0, 37, 2, 160, 0, 7, 2, 167, 0, 30]
abbrev dktX3_readFrom_0 : List UInt8 := dkwX3_readFrom_0 ++ dktX3_readFrom_1
theorem dksX3_readFrom_0 : cX3_readFrom.data.toList.drop 0 = dktX3_readFrom_0 := by decide +kernel
theorem dksX3_readFrom_1 : cX3_readFrom.data.toList.drop 24 = dktX3_readFrom_1 := dk_seg dksX3_readFrom_0 24 rfl rfl
theorem dksX3_readFrom_2 : cX3_readFrom.data.toList.drop 48 = dktX3_readFrom_2 := dk_seg dksX3_readFrom_1 24 rfl rfl
theorem dX3_readFrom_0 : decode cX3_readFrom 0 = .ok (.aload_n 0, 1) := dk_42 (dk_at dksX3_readFrom_0 0 rfl rfl)
theorem dX3_readFrom_1 : decode cX3_readFrom 1 = .ok (.iload_n 1, 1) := dk_27 (dk_at dksX3_readFrom_0 1 rfl rfl)
theorem dX3_readFrom_2 : decode cX3_readFrom 2 = .ok (.invokevirtual 146, 3) := dk_182 0 146 (dk_at dksX3_readFrom_0 2 rfl rfl)
theorem dX3_readFrom_5 : decode cX3_readFrom 5 = .ok (.ifCond .ne 5, 3) := dk_154 0 5 (dk_at dksX3_readFrom_0 5 rfl rfl)
theorem dX3_readFrom_8 : decode cX3_readFrom 8 = .ok (.iconst 0, 1) := dk_3 (dk_at dksX3_readFrom_0 8 rfl rfl)
theorem dX3_readFrom_9 : decode cX3_readFrom 9 = .ok (.ireturn, 1) := dk_172 (dk_at dksX3_readFrom_0 9 rfl rfl)
theorem dX3_readFrom_10 : decode cX3_readFrom 10 = .ok (.aload_n 0, 1) := dk_42 (dk_at dksX3_readFrom_0 10 rfl rfl)
theorem dX3_readFrom_11 : decode cX3_readFrom 11 = .ok (.iload_n 1, 1) := dk_27 (dk_at dksX3_readFrom_0 11 rfl rfl)
theorem dX3_readFrom_12 : decode cX3_readFrom 12 = .ok (.iconst 3, 1) := dk_6 (dk_at dksX3_readFrom_0 12 rfl rfl)
theorem dX3_readFrom_13 : decode cX3_readFrom 13 = .ok (.invokevirtual 37, 3) := dk_182 0 37 (dk_at dksX3_readFrom_0 13 rfl rfl)
theorem dX3_readFrom_16 : decode cX3_readFrom 16 = .ok (.iconst (-1), 1) := dk_2 (dk_at dksX3_readFrom_0 16 rfl rfl)
theorem dX3_readFrom_17 : decode cX3_readFrom 17 = .ok (.if_icmp .ne 7, 3) := dk_160 0 7 (dk_at dksX3_readFrom_0 17 rfl rfl)
theorem dX3_readFrom_20 : decode cX3_readFrom 20 = .ok (.iconst (-1), 1) := dk_2 (dk_at dksX3_readFrom_0 20 rfl rfl)
theorem dX3_readFrom_21 : decode cX3_readFrom 21 = .ok (.goto 30, 3) := dk_167 0 30 (dk_at dksX3_readFrom_0 21 rfl rfl)
theorem dX3_readFrom_24 : decode cX3_readFrom 24 = .ok (.aload_n 0, 1) := dk_42 (dk_at dksX3_readFrom_1 0 rfl rfl)
theorem dX3_readFrom_25 : decode cX3_readFrom 25 = .ok (.iload_n 1, 1) := dk_27 (dk_at dksX3_readFrom_1 1 rfl rfl)
theorem dX3_readFrom_26 : decode cX3_readFrom 26 = .ok (.invokevirtual 157, 3) := dk_182 0 157 (dk_at dksX3_readFrom_1 2 rfl rfl)
theorem dX3_readFrom_29 : decode cX3_readFrom 29 = .ok (.ifCond .eq 11, 3) := dk_153 0 11 (dk_at dksX3_readFrom_1 5 rfl rfl)
theorem dX3_readFrom_32 : decode cX3_readFrom 32 = .ok (.aload_n 0, 1) := dk_42 (dk_at dksX3_readFrom_1 8 rfl rfl)
theorem dX3_readFrom_33 : decode cX3_readFrom 33 = .ok (.iload_n 1, 1) := dk_27 (dk_at dksX3_readFrom_1 9 rfl rfl)
theorem dX3_readFrom_34 : decode cX3_readFrom 34 = .ok (.invokevirtual 154, 3) := dk_182 0 154 (dk_at dksX3_readFrom_1 10 rfl rfl)
theorem dX3_readFrom_37 : decode cX3_readFrom 37 = .ok (.goto 14, 3) := dk_167 0 14 (dk_at dksX3_readFrom_1 13 rfl rfl)
theorem dX3_readFrom_40 : decode cX3_readFrom 40 = .ok (.aload_n 0, 1) := dk_42 (dk_at dksX3_readFrom_1 16 rfl rfl)
theorem dX3_readFrom_41 : decode cX3_readFrom 41 = .ok (.iload_n 1, 1) := dk_27 (dk_at dksX3_readFrom_1 17 rfl rfl)
theorem dX3_readFrom_42 : decode cX3_readFrom 42 = .ok (.aload_n 0, 1) := dk_42 (dk_at dksX3_readFrom_1 18 rfl rfl)
theorem dX3_readFrom_43 : decode cX3_readFrom 43 = .ok (.iload_n 1, 1) := dk_27 (dk_at dksX3_readFrom_1 19 rfl rfl)
theorem dX3_readFrom_44 : decode cX3_readFrom 44 = .ok (.iconst 3, 1) := dk_6 (dk_at dksX3_readFrom_1 20 rfl rfl)
theorem dX3_readFrom_45 : decode cX3_readFrom 45 = .ok (.invokevirtual 37, 3) := dk_182 0 37 (dk_at dksX3_readFrom_1 21 rfl rfl)
theorem dX3_readFrom_48 : decode cX3_readFrom 48 = .ok (.invokevirtual 41, 3) := dk_182 0 41 (dk_at dksX3_readFrom_2 0 rfl rfl)
theorem dX3_readFrom_51 : decode cX3_readFrom 51 = .ok (.ireturn, 1) := dk_172 (dk_at dksX3_readFrom_2 3 rfl rfl)
abbrev cX3_sizeOf : ByteArray := prog_13_method_67_code
def yX3_sizeOf : MethodName := ⟨RX3, "sizeOf", "(I)I"⟩
def dkwX3_sizeOf_0 : List UInt8 := [42, 27, 182, 0, 146, 153, 0, 11, 42, 27, 182, 0, 67, 167, 0, 4, 3, 172]
abbrev dktX3_sizeOf_0 : List UInt8 := dkwX3_sizeOf_0 ++ []
theorem dksX3_sizeOf_0 : cX3_sizeOf.data.toList.drop 0 = dktX3_sizeOf_0 := by decide +kernel
theorem dX3_sizeOf_0 : decode cX3_sizeOf 0 = .ok (.aload_n 0, 1) := dk_42 (dk_at dksX3_sizeOf_0 0 rfl rfl)
theorem dX3_sizeOf_1 : decode cX3_sizeOf 1 = .ok (.iload_n 1, 1) := dk_27 (dk_at dksX3_sizeOf_0 1 rfl rfl)
theorem dX3_sizeOf_2 : decode cX3_sizeOf 2 = .ok (.invokevirtual 146, 3) := dk_182 0 146 (dk_at dksX3_sizeOf_0 2 rfl rfl)
theorem dX3_sizeOf_5 : decode cX3_sizeOf 5 = .ok (.ifCond .eq 11, 3) := dk_153 0 11 (dk_at dksX3_sizeOf_0 5 rfl rfl)
theorem dX3_sizeOf_8 : decode cX3_sizeOf 8 = .ok (.aload_n 0, 1) := dk_42 (dk_at dksX3_sizeOf_0 8 rfl rfl)
theorem dX3_sizeOf_9 : decode cX3_sizeOf 9 = .ok (.iload_n 1, 1) := dk_27 (dk_at dksX3_sizeOf_0 9 rfl rfl)
theorem dX3_sizeOf_10 : decode cX3_sizeOf 10 = .ok (.invokevirtual 67, 3) := dk_182 0 67 (dk_at dksX3_sizeOf_0 10 rfl rfl)
theorem dX3_sizeOf_13 : decode cX3_sizeOf 13 = .ok (.goto 4, 3) := dk_167 0 4 (dk_at dksX3_sizeOf_0 13 rfl rfl)
theorem dX3_sizeOf_16 : decode cX3_sizeOf 16 = .ok (.iconst 0, 1) := dk_3 (dk_at dksX3_sizeOf_0 16 rfl rfl)
theorem dX3_sizeOf_17 : decode cX3_sizeOf 17 = .ok (.ireturn, 1) := dk_172 (dk_at dksX3_sizeOf_0 17 rfl rfl)
abbrev cX3_bendOf : ByteArray := prog_13_method_68_code
def yX3_bendOf : MethodName := ⟨RX3, "bendOf", "(II)I"⟩
def dkwX3_bendOf_1 : List UInt8 := [182, 0, 83, 167, 0, 4, 2, 172]
abbrev dktX3_bendOf_1 : List UInt8 := dkwX3_bendOf_1 ++ []
def dkwX3_bendOf_0 : List UInt8 := [42, 27, 28, 182, 0, 143, 154, 0, 5, 3, 172, 42, 27, 28, 182, 0, 80, 153, 0, 12, 42, 27, 28]
abbrev dktX3_bendOf_0 : List UInt8 := dkwX3_bendOf_0 ++ dktX3_bendOf_1
theorem dksX3_bendOf_0 : cX3_bendOf.data.toList.drop 0 = dktX3_bendOf_0 := by decide +kernel
theorem dksX3_bendOf_1 : cX3_bendOf.data.toList.drop 23 = dktX3_bendOf_1 := dk_seg dksX3_bendOf_0 23 rfl rfl
theorem dX3_bendOf_0 : decode cX3_bendOf 0 = .ok (.aload_n 0, 1) := dk_42 (dk_at dksX3_bendOf_0 0 rfl rfl)
theorem dX3_bendOf_1 : decode cX3_bendOf 1 = .ok (.iload_n 1, 1) := dk_27 (dk_at dksX3_bendOf_0 1 rfl rfl)
theorem dX3_bendOf_2 : decode cX3_bendOf 2 = .ok (.iload_n 2, 1) := dk_28 (dk_at dksX3_bendOf_0 2 rfl rfl)
theorem dX3_bendOf_3 : decode cX3_bendOf 3 = .ok (.invokevirtual 143, 3) := dk_182 0 143 (dk_at dksX3_bendOf_0 3 rfl rfl)
theorem dX3_bendOf_6 : decode cX3_bendOf 6 = .ok (.ifCond .ne 5, 3) := dk_154 0 5 (dk_at dksX3_bendOf_0 6 rfl rfl)
theorem dX3_bendOf_9 : decode cX3_bendOf 9 = .ok (.iconst 0, 1) := dk_3 (dk_at dksX3_bendOf_0 9 rfl rfl)
theorem dX3_bendOf_10 : decode cX3_bendOf 10 = .ok (.ireturn, 1) := dk_172 (dk_at dksX3_bendOf_0 10 rfl rfl)
theorem dX3_bendOf_11 : decode cX3_bendOf 11 = .ok (.aload_n 0, 1) := dk_42 (dk_at dksX3_bendOf_0 11 rfl rfl)
theorem dX3_bendOf_12 : decode cX3_bendOf 12 = .ok (.iload_n 1, 1) := dk_27 (dk_at dksX3_bendOf_0 12 rfl rfl)
theorem dX3_bendOf_13 : decode cX3_bendOf 13 = .ok (.iload_n 2, 1) := dk_28 (dk_at dksX3_bendOf_0 13 rfl rfl)
theorem dX3_bendOf_14 : decode cX3_bendOf 14 = .ok (.invokevirtual 80, 3) := dk_182 0 80 (dk_at dksX3_bendOf_0 14 rfl rfl)
theorem dX3_bendOf_17 : decode cX3_bendOf 17 = .ok (.ifCond .eq 12, 3) := dk_153 0 12 (dk_at dksX3_bendOf_0 17 rfl rfl)
theorem dX3_bendOf_20 : decode cX3_bendOf 20 = .ok (.aload_n 0, 1) := dk_42 (dk_at dksX3_bendOf_0 20 rfl rfl)
theorem dX3_bendOf_21 : decode cX3_bendOf 21 = .ok (.iload_n 1, 1) := dk_27 (dk_at dksX3_bendOf_0 21 rfl rfl)
theorem dX3_bendOf_22 : decode cX3_bendOf 22 = .ok (.iload_n 2, 1) := dk_28 (dk_at dksX3_bendOf_0 22 rfl rfl)
theorem dX3_bendOf_23 : decode cX3_bendOf 23 = .ok (.invokevirtual 83, 3) := dk_182 0 83 (dk_at dksX3_bendOf_1 0 rfl rfl)
theorem dX3_bendOf_26 : decode cX3_bendOf 26 = .ok (.goto 4, 3) := dk_167 0 4 (dk_at dksX3_bendOf_1 3 rfl rfl)
theorem dX3_bendOf_29 : decode cX3_bendOf 29 = .ok (.iconst (-1), 1) := dk_2 (dk_at dksX3_bendOf_1 6 rfl rfl)
theorem dX3_bendOf_30 : decode cX3_bendOf 30 = .ok (.ireturn, 1) := dk_172 (dk_at dksX3_bendOf_1 7 rfl rfl)
abbrev cX3_whyNotLabelled : ByteArray := prog_13_method_69_code
def yX3_whyNotLabelled : MethodName := ⟨RX3, "whyNotLabelled", "(II)I"⟩
def dkwX3_whyNotLabelled_0 : List UInt8 := [42, 27, 28, 182, 0, 143, 153, 0, 12, 42, 27, 28, 182, 0, 89, 167, 0, 4, 3, 172]
abbrev dktX3_whyNotLabelled_0 : List UInt8 := dkwX3_whyNotLabelled_0 ++ []
theorem dksX3_whyNotLabelled_0 : cX3_whyNotLabelled.data.toList.drop 0 = dktX3_whyNotLabelled_0 := by decide +kernel
theorem dX3_whyNotLabelled_0 : decode cX3_whyNotLabelled 0 = .ok (.aload_n 0, 1) := dk_42 (dk_at dksX3_whyNotLabelled_0 0 rfl rfl)
theorem dX3_whyNotLabelled_1 : decode cX3_whyNotLabelled 1 = .ok (.iload_n 1, 1) := dk_27 (dk_at dksX3_whyNotLabelled_0 1 rfl rfl)
theorem dX3_whyNotLabelled_2 : decode cX3_whyNotLabelled 2 = .ok (.iload_n 2, 1) := dk_28 (dk_at dksX3_whyNotLabelled_0 2 rfl rfl)
theorem dX3_whyNotLabelled_3 : decode cX3_whyNotLabelled 3 = .ok (.invokevirtual 143, 3) := dk_182 0 143 (dk_at dksX3_whyNotLabelled_0 3 rfl rfl)
theorem dX3_whyNotLabelled_6 : decode cX3_whyNotLabelled 6 = .ok (.ifCond .eq 12, 3) := dk_153 0 12 (dk_at dksX3_whyNotLabelled_0 6 rfl rfl)
theorem dX3_whyNotLabelled_9 : decode cX3_whyNotLabelled 9 = .ok (.aload_n 0, 1) := dk_42 (dk_at dksX3_whyNotLabelled_0 9 rfl rfl)
theorem dX3_whyNotLabelled_10 : decode cX3_whyNotLabelled 10 = .ok (.iload_n 1, 1) := dk_27 (dk_at dksX3_whyNotLabelled_0 10 rfl rfl)
theorem dX3_whyNotLabelled_11 : decode cX3_whyNotLabelled 11 = .ok (.iload_n 2, 1) := dk_28 (dk_at dksX3_whyNotLabelled_0 11 rfl rfl)
theorem dX3_whyNotLabelled_12 : decode cX3_whyNotLabelled 12 = .ok (.invokevirtual 89, 3) := dk_182 0 89 (dk_at dksX3_whyNotLabelled_0 12 rfl rfl)
theorem dX3_whyNotLabelled_15 : decode cX3_whyNotLabelled 15 = .ok (.goto 4, 3) := dk_167 0 4 (dk_at dksX3_whyNotLabelled_0 15 rfl rfl)
theorem dX3_whyNotLabelled_18 : decode cX3_whyNotLabelled 18 = .ok (.iconst 0, 1) := dk_3 (dk_at dksX3_whyNotLabelled_0 18 rfl rfl)
theorem dX3_whyNotLabelled_19 : decode cX3_whyNotLabelled 19 = .ok (.ireturn, 1) := dk_172 (dk_at dksX3_whyNotLabelled_0 19 rfl rfl)
abbrev cX3_placesOf : ByteArray := prog_13_method_70_code
def yX3_placesOf : MethodName := ⟨RX3, "placesOf", "(I)I"⟩
def dkwX3_placesOf_2 : List UInt8 := [61, 132, 4, 1, 167, 255, 216, 28, 172]
abbrev dktX3_placesOf_2 : List UInt8 := dkwX3_placesOf_2 ++ []
def dkwX3_placesOf_1 : List UInt8 := [167, 0, 4, 2, 163, 0, 27, 28, 42, 27, 21, 4, 182, 0, 89, 154, 0, 7, 4, 167, 0, 4, 3, 96]
abbrev dktX3_placesOf_1 : List UInt8 := dkwX3_placesOf_1 ++ dktX3_placesOf_2
def dkwX3_placesOf_0 : List UInt8 := [3, 61, 42, 27, 182, 0, 146, 62, 3, 54, 4, 21, 4, 29, 153, 0, 12, 42, 27, 5, 182, 0, 37]
abbrev dktX3_placesOf_0 : List UInt8 := dkwX3_placesOf_0 ++ dktX3_placesOf_1
theorem dksX3_placesOf_0 : cX3_placesOf.data.toList.drop 0 = dktX3_placesOf_0 := by decide +kernel
theorem dksX3_placesOf_1 : cX3_placesOf.data.toList.drop 23 = dktX3_placesOf_1 := dk_seg dksX3_placesOf_0 23 rfl rfl
theorem dksX3_placesOf_2 : cX3_placesOf.data.toList.drop 47 = dktX3_placesOf_2 := dk_seg dksX3_placesOf_1 24 rfl rfl
theorem dX3_placesOf_0 : decode cX3_placesOf 0 = .ok (.iconst 0, 1) := dk_3 (dk_at dksX3_placesOf_0 0 rfl rfl)
theorem dX3_placesOf_1 : decode cX3_placesOf 1 = .ok (.istore_n 2, 1) := dk_61 (dk_at dksX3_placesOf_0 1 rfl rfl)
theorem dX3_placesOf_2 : decode cX3_placesOf 2 = .ok (.aload_n 0, 1) := dk_42 (dk_at dksX3_placesOf_0 2 rfl rfl)
theorem dX3_placesOf_3 : decode cX3_placesOf 3 = .ok (.iload_n 1, 1) := dk_27 (dk_at dksX3_placesOf_0 3 rfl rfl)
theorem dX3_placesOf_4 : decode cX3_placesOf 4 = .ok (.invokevirtual 146, 3) := dk_182 0 146 (dk_at dksX3_placesOf_0 4 rfl rfl)
theorem dX3_placesOf_7 : decode cX3_placesOf 7 = .ok (.istore_n 3, 1) := dk_62 (dk_at dksX3_placesOf_0 7 rfl rfl)
theorem dX3_placesOf_8 : decode cX3_placesOf 8 = .ok (.iconst 0, 1) := dk_3 (dk_at dksX3_placesOf_0 8 rfl rfl)
theorem dX3_placesOf_9 : decode cX3_placesOf 9 = .ok (.istore 4, 2) := dk_54 4 (dk_at dksX3_placesOf_0 9 rfl rfl)
theorem dX3_placesOf_11 : decode cX3_placesOf 11 = .ok (.iload 4, 2) := dk_21 4 (dk_at dksX3_placesOf_0 11 rfl rfl)
theorem dX3_placesOf_13 : decode cX3_placesOf 13 = .ok (.iload_n 3, 1) := dk_29 (dk_at dksX3_placesOf_0 13 rfl rfl)
theorem dX3_placesOf_14 : decode cX3_placesOf 14 = .ok (.ifCond .eq 12, 3) := dk_153 0 12 (dk_at dksX3_placesOf_0 14 rfl rfl)
theorem dX3_placesOf_17 : decode cX3_placesOf 17 = .ok (.aload_n 0, 1) := dk_42 (dk_at dksX3_placesOf_0 17 rfl rfl)
theorem dX3_placesOf_18 : decode cX3_placesOf 18 = .ok (.iload_n 1, 1) := dk_27 (dk_at dksX3_placesOf_0 18 rfl rfl)
theorem dX3_placesOf_19 : decode cX3_placesOf 19 = .ok (.iconst 2, 1) := dk_5 (dk_at dksX3_placesOf_0 19 rfl rfl)
theorem dX3_placesOf_20 : decode cX3_placesOf 20 = .ok (.invokevirtual 37, 3) := dk_182 0 37 (dk_at dksX3_placesOf_0 20 rfl rfl)
theorem dX3_placesOf_23 : decode cX3_placesOf 23 = .ok (.goto 4, 3) := dk_167 0 4 (dk_at dksX3_placesOf_1 0 rfl rfl)
theorem dX3_placesOf_26 : decode cX3_placesOf 26 = .ok (.iconst (-1), 1) := dk_2 (dk_at dksX3_placesOf_1 3 rfl rfl)
theorem dX3_placesOf_27 : decode cX3_placesOf 27 = .ok (.if_icmp .gt 27, 3) := dk_163 0 27 (dk_at dksX3_placesOf_1 4 rfl rfl)
theorem dX3_placesOf_30 : decode cX3_placesOf 30 = .ok (.iload_n 2, 1) := dk_28 (dk_at dksX3_placesOf_1 7 rfl rfl)
theorem dX3_placesOf_31 : decode cX3_placesOf 31 = .ok (.aload_n 0, 1) := dk_42 (dk_at dksX3_placesOf_1 8 rfl rfl)
theorem dX3_placesOf_32 : decode cX3_placesOf 32 = .ok (.iload_n 1, 1) := dk_27 (dk_at dksX3_placesOf_1 9 rfl rfl)
theorem dX3_placesOf_33 : decode cX3_placesOf 33 = .ok (.iload 4, 2) := dk_21 4 (dk_at dksX3_placesOf_1 10 rfl rfl)
theorem dX3_placesOf_35 : decode cX3_placesOf 35 = .ok (.invokevirtual 89, 3) := dk_182 0 89 (dk_at dksX3_placesOf_1 12 rfl rfl)
theorem dX3_placesOf_38 : decode cX3_placesOf 38 = .ok (.ifCond .ne 7, 3) := dk_154 0 7 (dk_at dksX3_placesOf_1 15 rfl rfl)
theorem dX3_placesOf_41 : decode cX3_placesOf 41 = .ok (.iconst 1, 1) := dk_4 (dk_at dksX3_placesOf_1 18 rfl rfl)
theorem dX3_placesOf_42 : decode cX3_placesOf 42 = .ok (.goto 4, 3) := dk_167 0 4 (dk_at dksX3_placesOf_1 19 rfl rfl)
theorem dX3_placesOf_45 : decode cX3_placesOf 45 = .ok (.iconst 0, 1) := dk_3 (dk_at dksX3_placesOf_1 22 rfl rfl)
theorem dX3_placesOf_46 : decode cX3_placesOf 46 = .ok (.iadd, 1) := dk_96 (dk_at dksX3_placesOf_1 23 rfl rfl)
theorem dX3_placesOf_47 : decode cX3_placesOf 47 = .ok (.istore_n 2, 1) := dk_61 (dk_at dksX3_placesOf_2 0 rfl rfl)
theorem dX3_placesOf_48 : decode cX3_placesOf 48 = .ok (.iinc 4 1, 3) := dk_132 4 1 (dk_at dksX3_placesOf_2 1 rfl rfl)
theorem dX3_placesOf_51 : decode cX3_placesOf 51 = .ok (.goto (-40), 3) := dk_167 255 216 (dk_at dksX3_placesOf_2 4 rfl rfl)
theorem dX3_placesOf_54 : decode cX3_placesOf 54 = .ok (.iload_n 2, 1) := dk_28 (dk_at dksX3_placesOf_2 7 rfl rfl)
theorem dX3_placesOf_55 : decode cX3_placesOf 55 = .ok (.ireturn, 1) := dk_172 (dk_at dksX3_placesOf_2 8 rfl rfl)
abbrev cX3_bestPlace : ByteArray := prog_13_method_71_code
def yX3_bestPlace : MethodName := ⟨RX3, "bestPlace", "(I)I"⟩
def dkwX3_bestPlace_0 : List UInt8 := [42, 27, 182, 0, 146, 153, 0, 11, 42, 27, 182, 0, 104, 167, 0, 4, 3, 172]
abbrev dktX3_bestPlace_0 : List UInt8 := dkwX3_bestPlace_0 ++ []
theorem dksX3_bestPlace_0 : cX3_bestPlace.data.toList.drop 0 = dktX3_bestPlace_0 := by decide +kernel
theorem dX3_bestPlace_0 : decode cX3_bestPlace 0 = .ok (.aload_n 0, 1) := dk_42 (dk_at dksX3_bestPlace_0 0 rfl rfl)
theorem dX3_bestPlace_1 : decode cX3_bestPlace 1 = .ok (.iload_n 1, 1) := dk_27 (dk_at dksX3_bestPlace_0 1 rfl rfl)
theorem dX3_bestPlace_2 : decode cX3_bestPlace 2 = .ok (.invokevirtual 146, 3) := dk_182 0 146 (dk_at dksX3_bestPlace_0 2 rfl rfl)
theorem dX3_bestPlace_5 : decode cX3_bestPlace 5 = .ok (.ifCond .eq 11, 3) := dk_153 0 11 (dk_at dksX3_bestPlace_0 5 rfl rfl)
theorem dX3_bestPlace_8 : decode cX3_bestPlace 8 = .ok (.aload_n 0, 1) := dk_42 (dk_at dksX3_bestPlace_0 8 rfl rfl)
theorem dX3_bestPlace_9 : decode cX3_bestPlace 9 = .ok (.iload_n 1, 1) := dk_27 (dk_at dksX3_bestPlace_0 9 rfl rfl)
theorem dX3_bestPlace_10 : decode cX3_bestPlace 10 = .ok (.invokevirtual 104, 3) := dk_182 0 104 (dk_at dksX3_bestPlace_0 10 rfl rfl)
theorem dX3_bestPlace_13 : decode cX3_bestPlace 13 = .ok (.goto 4, 3) := dk_167 0 4 (dk_at dksX3_bestPlace_0 13 rfl rfl)
theorem dX3_bestPlace_16 : decode cX3_bestPlace 16 = .ok (.iconst 0, 1) := dk_3 (dk_at dksX3_bestPlace_0 16 rfl rfl)
theorem dX3_bestPlace_17 : decode cX3_bestPlace 17 = .ok (.ireturn, 1) := dk_172 (dk_at dksX3_bestPlace_0 17 rfl rfl)
abbrev cX3_tooNear : ByteArray := prog_13_method_72_code
def yX3_tooNear : MethodName := ⟨RX3, "tooNear", "()I"⟩
def dkwX3_tooNear_4 : List UInt8 := [132, 3, 1, 167, 255, 181, 132, 2, 1, 167, 255, 163, 27, 172]
abbrev dktX3_tooNear_4 : List UInt8 := dkwX3_tooNear_4 ++ []
def dkwX3_tooNear_3 : List UInt8 := [182, 0, 37, 182, 0, 76, 42, 180, 0, 7, 4, 46, 162, 0, 7, 4, 167, 0, 4, 3, 96, 60]
abbrev dktX3_tooNear_3 : List UInt8 := dkwX3_tooNear_3 ++ dktX3_tooNear_4
def dkwX3_tooNear_2 : List UInt8 := [167, 0, 4, 3, 54, 4, 27, 21, 4, 153, 0, 34, 42, 28, 42, 28, 6, 182, 0, 37, 29, 42, 29, 6]
abbrev dktX3_tooNear_2 : List UInt8 := dkwX3_tooNear_2 ++ dktX3_tooNear_3
def dkwX3_tooNear_1 : List UInt8 := [162, 0, 76, 42, 28, 6, 182, 0, 37, 2, 159, 0, 17, 42, 29, 6, 182, 0, 37, 2, 159, 0, 7, 4]
abbrev dktX3_tooNear_1 : List UInt8 := dkwX3_tooNear_1 ++ dktX3_tooNear_2
def dkwX3_tooNear_0 : List UInt8 := [42, 3, 181, 0, 22, 3, 60, 3, 61, 28, 42, 180, 0, 7, 3, 46, 162, 0, 89, 3, 62, 29, 28]
abbrev dktX3_tooNear_0 : List UInt8 := dkwX3_tooNear_0 ++ dktX3_tooNear_1
theorem dksX3_tooNear_0 : cX3_tooNear.data.toList.drop 0 = dktX3_tooNear_0 := by decide +kernel
theorem dksX3_tooNear_1 : cX3_tooNear.data.toList.drop 23 = dktX3_tooNear_1 := dk_seg dksX3_tooNear_0 23 rfl rfl
theorem dksX3_tooNear_2 : cX3_tooNear.data.toList.drop 47 = dktX3_tooNear_2 := dk_seg dksX3_tooNear_1 24 rfl rfl
theorem dksX3_tooNear_3 : cX3_tooNear.data.toList.drop 71 = dktX3_tooNear_3 := dk_seg dksX3_tooNear_2 24 rfl rfl
theorem dksX3_tooNear_4 : cX3_tooNear.data.toList.drop 93 = dktX3_tooNear_4 := dk_seg dksX3_tooNear_3 22 rfl rfl
theorem dX3_tooNear_0 : decode cX3_tooNear 0 = .ok (.aload_n 0, 1) := dk_42 (dk_at dksX3_tooNear_0 0 rfl rfl)
theorem dX3_tooNear_1 : decode cX3_tooNear 1 = .ok (.iconst 0, 1) := dk_3 (dk_at dksX3_tooNear_0 1 rfl rfl)
theorem dX3_tooNear_2 : decode cX3_tooNear 2 = .ok (.putfield 22, 3) := dk_181 0 22 (dk_at dksX3_tooNear_0 2 rfl rfl)
theorem dX3_tooNear_5 : decode cX3_tooNear 5 = .ok (.iconst 0, 1) := dk_3 (dk_at dksX3_tooNear_0 5 rfl rfl)
theorem dX3_tooNear_6 : decode cX3_tooNear 6 = .ok (.istore_n 1, 1) := dk_60 (dk_at dksX3_tooNear_0 6 rfl rfl)
theorem dX3_tooNear_7 : decode cX3_tooNear 7 = .ok (.iconst 0, 1) := dk_3 (dk_at dksX3_tooNear_0 7 rfl rfl)
theorem dX3_tooNear_8 : decode cX3_tooNear 8 = .ok (.istore_n 2, 1) := dk_61 (dk_at dksX3_tooNear_0 8 rfl rfl)
theorem dX3_tooNear_9 : decode cX3_tooNear 9 = .ok (.iload_n 2, 1) := dk_28 (dk_at dksX3_tooNear_0 9 rfl rfl)
theorem dX3_tooNear_10 : decode cX3_tooNear 10 = .ok (.aload_n 0, 1) := dk_42 (dk_at dksX3_tooNear_0 10 rfl rfl)
theorem dX3_tooNear_11 : decode cX3_tooNear 11 = .ok (.getfield 7, 3) := dk_180 0 7 (dk_at dksX3_tooNear_0 11 rfl rfl)
theorem dX3_tooNear_14 : decode cX3_tooNear 14 = .ok (.iconst 0, 1) := dk_3 (dk_at dksX3_tooNear_0 14 rfl rfl)
theorem dX3_tooNear_15 : decode cX3_tooNear 15 = .ok (.iaload, 1) := dk_46 (dk_at dksX3_tooNear_0 15 rfl rfl)
theorem dX3_tooNear_16 : decode cX3_tooNear 16 = .ok (.if_icmp .ge 89, 3) := dk_162 0 89 (dk_at dksX3_tooNear_0 16 rfl rfl)
theorem dX3_tooNear_19 : decode cX3_tooNear 19 = .ok (.iconst 0, 1) := dk_3 (dk_at dksX3_tooNear_0 19 rfl rfl)
theorem dX3_tooNear_20 : decode cX3_tooNear 20 = .ok (.istore_n 3, 1) := dk_62 (dk_at dksX3_tooNear_0 20 rfl rfl)
theorem dX3_tooNear_21 : decode cX3_tooNear 21 = .ok (.iload_n 3, 1) := dk_29 (dk_at dksX3_tooNear_0 21 rfl rfl)
theorem dX3_tooNear_22 : decode cX3_tooNear 22 = .ok (.iload_n 2, 1) := dk_28 (dk_at dksX3_tooNear_0 22 rfl rfl)
theorem dX3_tooNear_23 : decode cX3_tooNear 23 = .ok (.if_icmp .ge 76, 3) := dk_162 0 76 (dk_at dksX3_tooNear_1 0 rfl rfl)
theorem dX3_tooNear_26 : decode cX3_tooNear 26 = .ok (.aload_n 0, 1) := dk_42 (dk_at dksX3_tooNear_1 3 rfl rfl)
theorem dX3_tooNear_27 : decode cX3_tooNear 27 = .ok (.iload_n 2, 1) := dk_28 (dk_at dksX3_tooNear_1 4 rfl rfl)
theorem dX3_tooNear_28 : decode cX3_tooNear 28 = .ok (.iconst 3, 1) := dk_6 (dk_at dksX3_tooNear_1 5 rfl rfl)
theorem dX3_tooNear_29 : decode cX3_tooNear 29 = .ok (.invokevirtual 37, 3) := dk_182 0 37 (dk_at dksX3_tooNear_1 6 rfl rfl)
theorem dX3_tooNear_32 : decode cX3_tooNear 32 = .ok (.iconst (-1), 1) := dk_2 (dk_at dksX3_tooNear_1 9 rfl rfl)
theorem dX3_tooNear_33 : decode cX3_tooNear 33 = .ok (.if_icmp .eq 17, 3) := dk_159 0 17 (dk_at dksX3_tooNear_1 10 rfl rfl)
theorem dX3_tooNear_36 : decode cX3_tooNear 36 = .ok (.aload_n 0, 1) := dk_42 (dk_at dksX3_tooNear_1 13 rfl rfl)
theorem dX3_tooNear_37 : decode cX3_tooNear 37 = .ok (.iload_n 3, 1) := dk_29 (dk_at dksX3_tooNear_1 14 rfl rfl)
theorem dX3_tooNear_38 : decode cX3_tooNear 38 = .ok (.iconst 3, 1) := dk_6 (dk_at dksX3_tooNear_1 15 rfl rfl)
theorem dX3_tooNear_39 : decode cX3_tooNear 39 = .ok (.invokevirtual 37, 3) := dk_182 0 37 (dk_at dksX3_tooNear_1 16 rfl rfl)
theorem dX3_tooNear_42 : decode cX3_tooNear 42 = .ok (.iconst (-1), 1) := dk_2 (dk_at dksX3_tooNear_1 19 rfl rfl)
theorem dX3_tooNear_43 : decode cX3_tooNear 43 = .ok (.if_icmp .eq 7, 3) := dk_159 0 7 (dk_at dksX3_tooNear_1 20 rfl rfl)
theorem dX3_tooNear_46 : decode cX3_tooNear 46 = .ok (.iconst 1, 1) := dk_4 (dk_at dksX3_tooNear_1 23 rfl rfl)
theorem dX3_tooNear_47 : decode cX3_tooNear 47 = .ok (.goto 4, 3) := dk_167 0 4 (dk_at dksX3_tooNear_2 0 rfl rfl)
theorem dX3_tooNear_50 : decode cX3_tooNear 50 = .ok (.iconst 0, 1) := dk_3 (dk_at dksX3_tooNear_2 3 rfl rfl)
theorem dX3_tooNear_51 : decode cX3_tooNear 51 = .ok (.istore 4, 2) := dk_54 4 (dk_at dksX3_tooNear_2 4 rfl rfl)
theorem dX3_tooNear_53 : decode cX3_tooNear 53 = .ok (.iload_n 1, 1) := dk_27 (dk_at dksX3_tooNear_2 6 rfl rfl)
theorem dX3_tooNear_54 : decode cX3_tooNear 54 = .ok (.iload 4, 2) := dk_21 4 (dk_at dksX3_tooNear_2 7 rfl rfl)
theorem dX3_tooNear_56 : decode cX3_tooNear 56 = .ok (.ifCond .eq 34, 3) := dk_153 0 34 (dk_at dksX3_tooNear_2 9 rfl rfl)
theorem dX3_tooNear_59 : decode cX3_tooNear 59 = .ok (.aload_n 0, 1) := dk_42 (dk_at dksX3_tooNear_2 12 rfl rfl)
theorem dX3_tooNear_60 : decode cX3_tooNear 60 = .ok (.iload_n 2, 1) := dk_28 (dk_at dksX3_tooNear_2 13 rfl rfl)
theorem dX3_tooNear_61 : decode cX3_tooNear 61 = .ok (.aload_n 0, 1) := dk_42 (dk_at dksX3_tooNear_2 14 rfl rfl)
theorem dX3_tooNear_62 : decode cX3_tooNear 62 = .ok (.iload_n 2, 1) := dk_28 (dk_at dksX3_tooNear_2 15 rfl rfl)
theorem dX3_tooNear_63 : decode cX3_tooNear 63 = .ok (.iconst 3, 1) := dk_6 (dk_at dksX3_tooNear_2 16 rfl rfl)
theorem dX3_tooNear_64 : decode cX3_tooNear 64 = .ok (.invokevirtual 37, 3) := dk_182 0 37 (dk_at dksX3_tooNear_2 17 rfl rfl)
theorem dX3_tooNear_67 : decode cX3_tooNear 67 = .ok (.iload_n 3, 1) := dk_29 (dk_at dksX3_tooNear_2 20 rfl rfl)
theorem dX3_tooNear_68 : decode cX3_tooNear 68 = .ok (.aload_n 0, 1) := dk_42 (dk_at dksX3_tooNear_2 21 rfl rfl)
theorem dX3_tooNear_69 : decode cX3_tooNear 69 = .ok (.iload_n 3, 1) := dk_29 (dk_at dksX3_tooNear_2 22 rfl rfl)
theorem dX3_tooNear_70 : decode cX3_tooNear 70 = .ok (.iconst 3, 1) := dk_6 (dk_at dksX3_tooNear_2 23 rfl rfl)
theorem dX3_tooNear_71 : decode cX3_tooNear 71 = .ok (.invokevirtual 37, 3) := dk_182 0 37 (dk_at dksX3_tooNear_3 0 rfl rfl)
theorem dX3_tooNear_74 : decode cX3_tooNear 74 = .ok (.invokevirtual 76, 3) := dk_182 0 76 (dk_at dksX3_tooNear_3 3 rfl rfl)
theorem dX3_tooNear_77 : decode cX3_tooNear 77 = .ok (.aload_n 0, 1) := dk_42 (dk_at dksX3_tooNear_3 6 rfl rfl)
theorem dX3_tooNear_78 : decode cX3_tooNear 78 = .ok (.getfield 7, 3) := dk_180 0 7 (dk_at dksX3_tooNear_3 7 rfl rfl)
theorem dX3_tooNear_81 : decode cX3_tooNear 81 = .ok (.iconst 1, 1) := dk_4 (dk_at dksX3_tooNear_3 10 rfl rfl)
theorem dX3_tooNear_82 : decode cX3_tooNear 82 = .ok (.iaload, 1) := dk_46 (dk_at dksX3_tooNear_3 11 rfl rfl)
theorem dX3_tooNear_83 : decode cX3_tooNear 83 = .ok (.if_icmp .ge 7, 3) := dk_162 0 7 (dk_at dksX3_tooNear_3 12 rfl rfl)
theorem dX3_tooNear_86 : decode cX3_tooNear 86 = .ok (.iconst 1, 1) := dk_4 (dk_at dksX3_tooNear_3 15 rfl rfl)
theorem dX3_tooNear_87 : decode cX3_tooNear 87 = .ok (.goto 4, 3) := dk_167 0 4 (dk_at dksX3_tooNear_3 16 rfl rfl)
theorem dX3_tooNear_90 : decode cX3_tooNear 90 = .ok (.iconst 0, 1) := dk_3 (dk_at dksX3_tooNear_3 19 rfl rfl)
theorem dX3_tooNear_91 : decode cX3_tooNear 91 = .ok (.iadd, 1) := dk_96 (dk_at dksX3_tooNear_3 20 rfl rfl)
theorem dX3_tooNear_92 : decode cX3_tooNear 92 = .ok (.istore_n 1, 1) := dk_60 (dk_at dksX3_tooNear_3 21 rfl rfl)
theorem dX3_tooNear_93 : decode cX3_tooNear 93 = .ok (.iinc 3 1, 3) := dk_132 3 1 (dk_at dksX3_tooNear_4 0 rfl rfl)
theorem dX3_tooNear_96 : decode cX3_tooNear 96 = .ok (.goto (-75), 3) := dk_167 255 181 (dk_at dksX3_tooNear_4 3 rfl rfl)
theorem dX3_tooNear_99 : decode cX3_tooNear 99 = .ok (.iinc 2 1, 3) := dk_132 2 1 (dk_at dksX3_tooNear_4 6 rfl rfl)
theorem dX3_tooNear_102 : decode cX3_tooNear 102 = .ok (.goto (-93), 3) := dk_167 255 163 (dk_at dksX3_tooNear_4 9 rfl rfl)
theorem dX3_tooNear_105 : decode cX3_tooNear 105 = .ok (.iload_n 1, 1) := dk_27 (dk_at dksX3_tooNear_4 12 rfl rfl)
theorem dX3_tooNear_106 : decode cX3_tooNear 106 = .ok (.ireturn, 1) := dk_172 (dk_at dksX3_tooNear_4 13 rfl rfl)
abbrev cX3_isWithinByRays : ByteArray := prog_13_method_74_code
def yX3_isWithinByRays : MethodName := ⟨RX3, "isWithinByRays", "(II)Z"⟩
def dkwX3_isWithinByRays_1 : List UInt8 := [42, 180, 0, 22, 154, 0, 16, 42, 27, 28, 182, 0, 160, 153, 0, 7, 4, 167, 0, 4, 3, 172]
abbrev dktX3_isWithinByRays_1 : List UInt8 := dkwX3_isWithinByRays_1 ++ []
def dkwX3_isWithinByRays_0 : List UInt8 := [42, 42, 27, 182, 0, 98, 153, 0, 14, 28, 184, 0, 95, 153, 0, 7, 3, 167, 0, 4, 4, 181, 0, 22]
abbrev dktX3_isWithinByRays_0 : List UInt8 := dkwX3_isWithinByRays_0 ++ dktX3_isWithinByRays_1
theorem dksX3_isWithinByRays_0 : cX3_isWithinByRays.data.toList.drop 0 = dktX3_isWithinByRays_0 := by decide +kernel
theorem dksX3_isWithinByRays_1 : cX3_isWithinByRays.data.toList.drop 24 = dktX3_isWithinByRays_1 := dk_seg dksX3_isWithinByRays_0 24 rfl rfl
theorem dX3_isWithinByRays_0 : decode cX3_isWithinByRays 0 = .ok (.aload_n 0, 1) := dk_42 (dk_at dksX3_isWithinByRays_0 0 rfl rfl)
theorem dX3_isWithinByRays_1 : decode cX3_isWithinByRays 1 = .ok (.aload_n 0, 1) := dk_42 (dk_at dksX3_isWithinByRays_0 1 rfl rfl)
theorem dX3_isWithinByRays_2 : decode cX3_isWithinByRays 2 = .ok (.iload_n 1, 1) := dk_27 (dk_at dksX3_isWithinByRays_0 2 rfl rfl)
theorem dX3_isWithinByRays_3 : decode cX3_isWithinByRays 3 = .ok (.invokevirtual 98, 3) := dk_182 0 98 (dk_at dksX3_isWithinByRays_0 3 rfl rfl)
theorem dX3_isWithinByRays_6 : decode cX3_isWithinByRays 6 = .ok (.ifCond .eq 14, 3) := dk_153 0 14 (dk_at dksX3_isWithinByRays_0 6 rfl rfl)
theorem dX3_isWithinByRays_9 : decode cX3_isWithinByRays 9 = .ok (.iload_n 2, 1) := dk_28 (dk_at dksX3_isWithinByRays_0 9 rfl rfl)
theorem dX3_isWithinByRays_10 : decode cX3_isWithinByRays 10 = .ok (.invokestatic 95, 3) := dk_184 0 95 (dk_at dksX3_isWithinByRays_0 10 rfl rfl)
theorem dX3_isWithinByRays_13 : decode cX3_isWithinByRays 13 = .ok (.ifCond .eq 7, 3) := dk_153 0 7 (dk_at dksX3_isWithinByRays_0 13 rfl rfl)
theorem dX3_isWithinByRays_16 : decode cX3_isWithinByRays 16 = .ok (.iconst 0, 1) := dk_3 (dk_at dksX3_isWithinByRays_0 16 rfl rfl)
theorem dX3_isWithinByRays_17 : decode cX3_isWithinByRays 17 = .ok (.goto 4, 3) := dk_167 0 4 (dk_at dksX3_isWithinByRays_0 17 rfl rfl)
theorem dX3_isWithinByRays_20 : decode cX3_isWithinByRays 20 = .ok (.iconst 1, 1) := dk_4 (dk_at dksX3_isWithinByRays_0 20 rfl rfl)
theorem dX3_isWithinByRays_21 : decode cX3_isWithinByRays 21 = .ok (.putfield 22, 3) := dk_181 0 22 (dk_at dksX3_isWithinByRays_0 21 rfl rfl)
theorem dX3_isWithinByRays_24 : decode cX3_isWithinByRays 24 = .ok (.aload_n 0, 1) := dk_42 (dk_at dksX3_isWithinByRays_1 0 rfl rfl)
theorem dX3_isWithinByRays_25 : decode cX3_isWithinByRays 25 = .ok (.getfield 22, 3) := dk_180 0 22 (dk_at dksX3_isWithinByRays_1 1 rfl rfl)
theorem dX3_isWithinByRays_28 : decode cX3_isWithinByRays 28 = .ok (.ifCond .ne 16, 3) := dk_154 0 16 (dk_at dksX3_isWithinByRays_1 4 rfl rfl)
theorem dX3_isWithinByRays_31 : decode cX3_isWithinByRays 31 = .ok (.aload_n 0, 1) := dk_42 (dk_at dksX3_isWithinByRays_1 7 rfl rfl)
theorem dX3_isWithinByRays_32 : decode cX3_isWithinByRays 32 = .ok (.iload_n 1, 1) := dk_27 (dk_at dksX3_isWithinByRays_1 8 rfl rfl)
theorem dX3_isWithinByRays_33 : decode cX3_isWithinByRays 33 = .ok (.iload_n 2, 1) := dk_28 (dk_at dksX3_isWithinByRays_1 9 rfl rfl)
theorem dX3_isWithinByRays_34 : decode cX3_isWithinByRays 34 = .ok (.invokevirtual 160, 3) := dk_182 0 160 (dk_at dksX3_isWithinByRays_1 10 rfl rfl)
theorem dX3_isWithinByRays_37 : decode cX3_isWithinByRays 37 = .ok (.ifCond .eq 7, 3) := dk_153 0 7 (dk_at dksX3_isWithinByRays_1 13 rfl rfl)
theorem dX3_isWithinByRays_40 : decode cX3_isWithinByRays 40 = .ok (.iconst 1, 1) := dk_4 (dk_at dksX3_isWithinByRays_1 16 rfl rfl)
theorem dX3_isWithinByRays_41 : decode cX3_isWithinByRays 41 = .ok (.goto 4, 3) := dk_167 0 4 (dk_at dksX3_isWithinByRays_1 17 rfl rfl)
theorem dX3_isWithinByRays_44 : decode cX3_isWithinByRays 44 = .ok (.iconst 0, 1) := dk_3 (dk_at dksX3_isWithinByRays_1 20 rfl rfl)
theorem dX3_isWithinByRays_45 : decode cX3_isWithinByRays 45 = .ok (.ireturn, 1) := dk_172 (dk_at dksX3_isWithinByRays_1 21 rfl rfl)
abbrev cX3_contains : ByteArray := prog_13_method_73_code
def yX3_contains : MethodName := ⟨RX3, "contains", "(II)Z"⟩
def dkwX3_contains_7 : List UInt8 := [29, 172]
abbrev dktX3_contains_7 : List UInt8 := dkwX3_contains_7 ++ []
def dkwX3_contains_6 : List UInt8 := [4, 167, 0, 4, 3, 159, 0, 7, 4, 167, 0, 4, 3, 62, 21, 6, 54, 4, 132, 5, 1, 167, 255, 125]
abbrev dktX3_contains_6 : List UInt8 := dkwX3_contains_6 ++ dktX3_contains_7
def dkwX3_contains_5 : List UInt8 := [167, 0, 4, 3, 54, 8, 29, 21, 8, 153, 0, 19, 21, 7, 16, 24, 112, 28, 16, 24, 112, 164, 0, 7]
abbrev dktX3_contains_5 : List UInt8 := dkwX3_contains_5 ++ dktX3_contains_6
def dkwX3_contains_4 : List UInt8 := [16, 24, 108, 21, 6, 16, 24, 108, 159, 0, 19, 21, 7, 16, 24, 108, 28, 16, 24, 108, 160, 0, 7, 4]
abbrev dktX3_contains_4 : List UInt8 := dkwX3_contains_4 ++ dktX3_contains_5
def dkwX3_contains_3 : List UInt8 := [184, 0, 30, 96, 54, 6, 21, 4, 21, 6, 162, 0, 8, 21, 4, 167, 0, 5, 21, 6, 54, 7, 21, 4]
abbrev dktX3_contains_3 : List UInt8 := dkwX3_contains_3 ++ dktX3_contains_4
def dkwX3_contains_2 : List UInt8 := [27, 7, 21, 5, 96, 182, 0, 37, 184, 0, 34, 104, 96, 42, 27, 7, 21, 5, 96, 182, 0, 37]
abbrev dktX3_contains_2 : List UInt8 := dkwX3_contains_2 ++ dktX3_contains_3
def dkwX3_contains_1 : List UInt8 := [182, 0, 37, 54, 4, 3, 54, 5, 21, 5, 42, 27, 5, 182, 0, 37, 162, 0, 126, 21, 4, 16, 24, 42]
abbrev dktX3_contains_1 : List UInt8 := dkwX3_contains_1 ++ dktX3_contains_2
def dkwX3_contains_0 : List UInt8 := [42, 27, 182, 0, 47, 153, 0, 12, 42, 28, 182, 0, 54, 27, 160, 0, 5, 3, 172, 3, 62, 42, 27, 4]
abbrev dktX3_contains_0 : List UInt8 := dkwX3_contains_0 ++ dktX3_contains_1
theorem dksX3_contains_0 : cX3_contains.data.toList.drop 0 = dktX3_contains_0 := by decide +kernel
theorem dksX3_contains_1 : cX3_contains.data.toList.drop 24 = dktX3_contains_1 := dk_seg dksX3_contains_0 24 rfl rfl
theorem dksX3_contains_2 : cX3_contains.data.toList.drop 48 = dktX3_contains_2 := dk_seg dksX3_contains_1 24 rfl rfl
theorem dksX3_contains_3 : cX3_contains.data.toList.drop 70 = dktX3_contains_3 := dk_seg dksX3_contains_2 22 rfl rfl
theorem dksX3_contains_4 : cX3_contains.data.toList.drop 94 = dktX3_contains_4 := dk_seg dksX3_contains_3 24 rfl rfl
theorem dksX3_contains_5 : cX3_contains.data.toList.drop 118 = dktX3_contains_5 := dk_seg dksX3_contains_4 24 rfl rfl
theorem dksX3_contains_6 : cX3_contains.data.toList.drop 142 = dktX3_contains_6 := dk_seg dksX3_contains_5 24 rfl rfl
theorem dksX3_contains_7 : cX3_contains.data.toList.drop 166 = dktX3_contains_7 := dk_seg dksX3_contains_6 24 rfl rfl
theorem dX3_contains_0 : decode cX3_contains 0 = .ok (.aload_n 0, 1) := dk_42 (dk_at dksX3_contains_0 0 rfl rfl)
theorem dX3_contains_1 : decode cX3_contains 1 = .ok (.iload_n 1, 1) := dk_27 (dk_at dksX3_contains_0 1 rfl rfl)
theorem dX3_contains_2 : decode cX3_contains 2 = .ok (.invokevirtual 47, 3) := dk_182 0 47 (dk_at dksX3_contains_0 2 rfl rfl)
theorem dX3_contains_5 : decode cX3_contains 5 = .ok (.ifCond .eq 12, 3) := dk_153 0 12 (dk_at dksX3_contains_0 5 rfl rfl)
theorem dX3_contains_8 : decode cX3_contains 8 = .ok (.aload_n 0, 1) := dk_42 (dk_at dksX3_contains_0 8 rfl rfl)
theorem dX3_contains_9 : decode cX3_contains 9 = .ok (.iload_n 2, 1) := dk_28 (dk_at dksX3_contains_0 9 rfl rfl)
theorem dX3_contains_10 : decode cX3_contains 10 = .ok (.invokevirtual 54, 3) := dk_182 0 54 (dk_at dksX3_contains_0 10 rfl rfl)
theorem dX3_contains_13 : decode cX3_contains 13 = .ok (.iload_n 1, 1) := dk_27 (dk_at dksX3_contains_0 13 rfl rfl)
theorem dX3_contains_14 : decode cX3_contains 14 = .ok (.if_icmp .ne 5, 3) := dk_160 0 5 (dk_at dksX3_contains_0 14 rfl rfl)
theorem dX3_contains_17 : decode cX3_contains 17 = .ok (.iconst 0, 1) := dk_3 (dk_at dksX3_contains_0 17 rfl rfl)
theorem dX3_contains_18 : decode cX3_contains 18 = .ok (.ireturn, 1) := dk_172 (dk_at dksX3_contains_0 18 rfl rfl)
theorem dX3_contains_19 : decode cX3_contains 19 = .ok (.iconst 0, 1) := dk_3 (dk_at dksX3_contains_0 19 rfl rfl)
theorem dX3_contains_20 : decode cX3_contains 20 = .ok (.istore_n 3, 1) := dk_62 (dk_at dksX3_contains_0 20 rfl rfl)
theorem dX3_contains_21 : decode cX3_contains 21 = .ok (.aload_n 0, 1) := dk_42 (dk_at dksX3_contains_0 21 rfl rfl)
theorem dX3_contains_22 : decode cX3_contains 22 = .ok (.iload_n 1, 1) := dk_27 (dk_at dksX3_contains_0 22 rfl rfl)
theorem dX3_contains_23 : decode cX3_contains 23 = .ok (.iconst 1, 1) := dk_4 (dk_at dksX3_contains_0 23 rfl rfl)
theorem dX3_contains_24 : decode cX3_contains 24 = .ok (.invokevirtual 37, 3) := dk_182 0 37 (dk_at dksX3_contains_1 0 rfl rfl)
theorem dX3_contains_27 : decode cX3_contains 27 = .ok (.istore 4, 2) := dk_54 4 (dk_at dksX3_contains_1 3 rfl rfl)
theorem dX3_contains_29 : decode cX3_contains 29 = .ok (.iconst 0, 1) := dk_3 (dk_at dksX3_contains_1 5 rfl rfl)
theorem dX3_contains_30 : decode cX3_contains 30 = .ok (.istore 5, 2) := dk_54 5 (dk_at dksX3_contains_1 6 rfl rfl)
theorem dX3_contains_32 : decode cX3_contains 32 = .ok (.iload 5, 2) := dk_21 5 (dk_at dksX3_contains_1 8 rfl rfl)
theorem dX3_contains_34 : decode cX3_contains 34 = .ok (.aload_n 0, 1) := dk_42 (dk_at dksX3_contains_1 10 rfl rfl)
theorem dX3_contains_35 : decode cX3_contains 35 = .ok (.iload_n 1, 1) := dk_27 (dk_at dksX3_contains_1 11 rfl rfl)
theorem dX3_contains_36 : decode cX3_contains 36 = .ok (.iconst 2, 1) := dk_5 (dk_at dksX3_contains_1 12 rfl rfl)
theorem dX3_contains_37 : decode cX3_contains 37 = .ok (.invokevirtual 37, 3) := dk_182 0 37 (dk_at dksX3_contains_1 13 rfl rfl)
theorem dX3_contains_40 : decode cX3_contains 40 = .ok (.if_icmp .ge 126, 3) := dk_162 0 126 (dk_at dksX3_contains_1 16 rfl rfl)
theorem dX3_contains_43 : decode cX3_contains 43 = .ok (.iload 4, 2) := dk_21 4 (dk_at dksX3_contains_1 19 rfl rfl)
theorem dX3_contains_45 : decode cX3_contains 45 = .ok (.bipush 24, 2) := dk_16 24 (dk_at dksX3_contains_1 21 rfl rfl)
theorem dX3_contains_47 : decode cX3_contains 47 = .ok (.aload_n 0, 1) := dk_42 (dk_at dksX3_contains_1 23 rfl rfl)
theorem dX3_contains_48 : decode cX3_contains 48 = .ok (.iload_n 1, 1) := dk_27 (dk_at dksX3_contains_2 0 rfl rfl)
theorem dX3_contains_49 : decode cX3_contains 49 = .ok (.iconst 4, 1) := dk_7 (dk_at dksX3_contains_2 1 rfl rfl)
theorem dX3_contains_50 : decode cX3_contains 50 = .ok (.iload 5, 2) := dk_21 5 (dk_at dksX3_contains_2 2 rfl rfl)
theorem dX3_contains_52 : decode cX3_contains 52 = .ok (.iadd, 1) := dk_96 (dk_at dksX3_contains_2 4 rfl rfl)
theorem dX3_contains_53 : decode cX3_contains 53 = .ok (.invokevirtual 37, 3) := dk_182 0 37 (dk_at dksX3_contains_2 5 rfl rfl)
theorem dX3_contains_56 : decode cX3_contains 56 = .ok (.invokestatic 34, 3) := dk_184 0 34 (dk_at dksX3_contains_2 8 rfl rfl)
theorem dX3_contains_59 : decode cX3_contains 59 = .ok (.imul, 1) := dk_104 (dk_at dksX3_contains_2 11 rfl rfl)
theorem dX3_contains_60 : decode cX3_contains 60 = .ok (.iadd, 1) := dk_96 (dk_at dksX3_contains_2 12 rfl rfl)
theorem dX3_contains_61 : decode cX3_contains 61 = .ok (.aload_n 0, 1) := dk_42 (dk_at dksX3_contains_2 13 rfl rfl)
theorem dX3_contains_62 : decode cX3_contains 62 = .ok (.iload_n 1, 1) := dk_27 (dk_at dksX3_contains_2 14 rfl rfl)
theorem dX3_contains_63 : decode cX3_contains 63 = .ok (.iconst 4, 1) := dk_7 (dk_at dksX3_contains_2 15 rfl rfl)
theorem dX3_contains_64 : decode cX3_contains 64 = .ok (.iload 5, 2) := dk_21 5 (dk_at dksX3_contains_2 16 rfl rfl)
theorem dX3_contains_66 : decode cX3_contains 66 = .ok (.iadd, 1) := dk_96 (dk_at dksX3_contains_2 18 rfl rfl)
theorem dX3_contains_67 : decode cX3_contains 67 = .ok (.invokevirtual 37, 3) := dk_182 0 37 (dk_at dksX3_contains_2 19 rfl rfl)
theorem dX3_contains_70 : decode cX3_contains 70 = .ok (.invokestatic 30, 3) := dk_184 0 30 (dk_at dksX3_contains_3 0 rfl rfl)
theorem dX3_contains_73 : decode cX3_contains 73 = .ok (.iadd, 1) := dk_96 (dk_at dksX3_contains_3 3 rfl rfl)
theorem dX3_contains_74 : decode cX3_contains 74 = .ok (.istore 6, 2) := dk_54 6 (dk_at dksX3_contains_3 4 rfl rfl)
theorem dX3_contains_76 : decode cX3_contains 76 = .ok (.iload 4, 2) := dk_21 4 (dk_at dksX3_contains_3 6 rfl rfl)
theorem dX3_contains_78 : decode cX3_contains 78 = .ok (.iload 6, 2) := dk_21 6 (dk_at dksX3_contains_3 8 rfl rfl)
theorem dX3_contains_80 : decode cX3_contains 80 = .ok (.if_icmp .ge 8, 3) := dk_162 0 8 (dk_at dksX3_contains_3 10 rfl rfl)
theorem dX3_contains_83 : decode cX3_contains 83 = .ok (.iload 4, 2) := dk_21 4 (dk_at dksX3_contains_3 13 rfl rfl)
theorem dX3_contains_85 : decode cX3_contains 85 = .ok (.goto 5, 3) := dk_167 0 5 (dk_at dksX3_contains_3 15 rfl rfl)
theorem dX3_contains_88 : decode cX3_contains 88 = .ok (.iload 6, 2) := dk_21 6 (dk_at dksX3_contains_3 18 rfl rfl)
theorem dX3_contains_90 : decode cX3_contains 90 = .ok (.istore 7, 2) := dk_54 7 (dk_at dksX3_contains_3 20 rfl rfl)
theorem dX3_contains_92 : decode cX3_contains 92 = .ok (.iload 4, 2) := dk_21 4 (dk_at dksX3_contains_3 22 rfl rfl)
theorem dX3_contains_94 : decode cX3_contains 94 = .ok (.bipush 24, 2) := dk_16 24 (dk_at dksX3_contains_4 0 rfl rfl)
theorem dX3_contains_96 : decode cX3_contains 96 = .ok (.idiv, 1) := dk_108 (dk_at dksX3_contains_4 2 rfl rfl)
theorem dX3_contains_97 : decode cX3_contains 97 = .ok (.iload 6, 2) := dk_21 6 (dk_at dksX3_contains_4 3 rfl rfl)
theorem dX3_contains_99 : decode cX3_contains 99 = .ok (.bipush 24, 2) := dk_16 24 (dk_at dksX3_contains_4 5 rfl rfl)
theorem dX3_contains_101 : decode cX3_contains 101 = .ok (.idiv, 1) := dk_108 (dk_at dksX3_contains_4 7 rfl rfl)
theorem dX3_contains_102 : decode cX3_contains 102 = .ok (.if_icmp .eq 19, 3) := dk_159 0 19 (dk_at dksX3_contains_4 8 rfl rfl)
theorem dX3_contains_105 : decode cX3_contains 105 = .ok (.iload 7, 2) := dk_21 7 (dk_at dksX3_contains_4 11 rfl rfl)
theorem dX3_contains_107 : decode cX3_contains 107 = .ok (.bipush 24, 2) := dk_16 24 (dk_at dksX3_contains_4 13 rfl rfl)
theorem dX3_contains_109 : decode cX3_contains 109 = .ok (.idiv, 1) := dk_108 (dk_at dksX3_contains_4 15 rfl rfl)
theorem dX3_contains_110 : decode cX3_contains 110 = .ok (.iload_n 2, 1) := dk_28 (dk_at dksX3_contains_4 16 rfl rfl)
theorem dX3_contains_111 : decode cX3_contains 111 = .ok (.bipush 24, 2) := dk_16 24 (dk_at dksX3_contains_4 17 rfl rfl)
theorem dX3_contains_113 : decode cX3_contains 113 = .ok (.idiv, 1) := dk_108 (dk_at dksX3_contains_4 19 rfl rfl)
theorem dX3_contains_114 : decode cX3_contains 114 = .ok (.if_icmp .ne 7, 3) := dk_160 0 7 (dk_at dksX3_contains_4 20 rfl rfl)
theorem dX3_contains_117 : decode cX3_contains 117 = .ok (.iconst 1, 1) := dk_4 (dk_at dksX3_contains_4 23 rfl rfl)
theorem dX3_contains_118 : decode cX3_contains 118 = .ok (.goto 4, 3) := dk_167 0 4 (dk_at dksX3_contains_5 0 rfl rfl)
theorem dX3_contains_121 : decode cX3_contains 121 = .ok (.iconst 0, 1) := dk_3 (dk_at dksX3_contains_5 3 rfl rfl)
theorem dX3_contains_122 : decode cX3_contains 122 = .ok (.istore 8, 2) := dk_54 8 (dk_at dksX3_contains_5 4 rfl rfl)
theorem dX3_contains_124 : decode cX3_contains 124 = .ok (.iload_n 3, 1) := dk_29 (dk_at dksX3_contains_5 6 rfl rfl)
theorem dX3_contains_125 : decode cX3_contains 125 = .ok (.iload 8, 2) := dk_21 8 (dk_at dksX3_contains_5 7 rfl rfl)
theorem dX3_contains_127 : decode cX3_contains 127 = .ok (.ifCond .eq 19, 3) := dk_153 0 19 (dk_at dksX3_contains_5 9 rfl rfl)
theorem dX3_contains_130 : decode cX3_contains 130 = .ok (.iload 7, 2) := dk_21 7 (dk_at dksX3_contains_5 12 rfl rfl)
theorem dX3_contains_132 : decode cX3_contains 132 = .ok (.bipush 24, 2) := dk_16 24 (dk_at dksX3_contains_5 14 rfl rfl)
theorem dX3_contains_134 : decode cX3_contains 134 = .ok (.irem, 1) := dk_112 (dk_at dksX3_contains_5 16 rfl rfl)
theorem dX3_contains_135 : decode cX3_contains 135 = .ok (.iload_n 2, 1) := dk_28 (dk_at dksX3_contains_5 17 rfl rfl)
theorem dX3_contains_136 : decode cX3_contains 136 = .ok (.bipush 24, 2) := dk_16 24 (dk_at dksX3_contains_5 18 rfl rfl)
theorem dX3_contains_138 : decode cX3_contains 138 = .ok (.irem, 1) := dk_112 (dk_at dksX3_contains_5 20 rfl rfl)
theorem dX3_contains_139 : decode cX3_contains 139 = .ok (.if_icmp .le 7, 3) := dk_164 0 7 (dk_at dksX3_contains_5 21 rfl rfl)
theorem dX3_contains_142 : decode cX3_contains 142 = .ok (.iconst 1, 1) := dk_4 (dk_at dksX3_contains_6 0 rfl rfl)
theorem dX3_contains_143 : decode cX3_contains 143 = .ok (.goto 4, 3) := dk_167 0 4 (dk_at dksX3_contains_6 1 rfl rfl)
theorem dX3_contains_146 : decode cX3_contains 146 = .ok (.iconst 0, 1) := dk_3 (dk_at dksX3_contains_6 4 rfl rfl)
theorem dX3_contains_147 : decode cX3_contains 147 = .ok (.if_icmp .eq 7, 3) := dk_159 0 7 (dk_at dksX3_contains_6 5 rfl rfl)
theorem dX3_contains_150 : decode cX3_contains 150 = .ok (.iconst 1, 1) := dk_4 (dk_at dksX3_contains_6 8 rfl rfl)
theorem dX3_contains_151 : decode cX3_contains 151 = .ok (.goto 4, 3) := dk_167 0 4 (dk_at dksX3_contains_6 9 rfl rfl)
theorem dX3_contains_154 : decode cX3_contains 154 = .ok (.iconst 0, 1) := dk_3 (dk_at dksX3_contains_6 12 rfl rfl)
theorem dX3_contains_155 : decode cX3_contains 155 = .ok (.istore_n 3, 1) := dk_62 (dk_at dksX3_contains_6 13 rfl rfl)
theorem dX3_contains_156 : decode cX3_contains 156 = .ok (.iload 6, 2) := dk_21 6 (dk_at dksX3_contains_6 14 rfl rfl)
theorem dX3_contains_158 : decode cX3_contains 158 = .ok (.istore 4, 2) := dk_54 4 (dk_at dksX3_contains_6 16 rfl rfl)
theorem dX3_contains_160 : decode cX3_contains 160 = .ok (.iinc 5 1, 3) := dk_132 5 1 (dk_at dksX3_contains_6 18 rfl rfl)
theorem dX3_contains_163 : decode cX3_contains 163 = .ok (.goto (-131), 3) := dk_167 255 125 (dk_at dksX3_contains_6 21 rfl rfl)
theorem dX3_contains_166 : decode cX3_contains 166 = .ok (.iload_n 3, 1) := dk_29 (dk_at dksX3_contains_7 0 rfl rfl)
theorem dX3_contains_167 : decode cX3_contains 167 = .ok (.ireturn, 1) := dk_172 (dk_at dksX3_contains_7 1 rfl rfl)
abbrev cX3_isWithinBySpreading : ByteArray := prog_13_method_75_code
def yX3_isWithinBySpreading : MethodName := ⟨RX3, "isWithinBySpreading", "(II)Z"⟩
def dkwX3_isWithinBySpreading_0 : List UInt8 := [42, 27, 28, 182, 0, 163, 172]
abbrev dktX3_isWithinBySpreading_0 : List UInt8 := dkwX3_isWithinBySpreading_0 ++ []
theorem dksX3_isWithinBySpreading_0 : cX3_isWithinBySpreading.data.toList.drop 0 = dktX3_isWithinBySpreading_0 := by decide +kernel
theorem dX3_isWithinBySpreading_0 : decode cX3_isWithinBySpreading 0 = .ok (.aload_n 0, 1) := dk_42 (dk_at dksX3_isWithinBySpreading_0 0 rfl rfl)
theorem dX3_isWithinBySpreading_1 : decode cX3_isWithinBySpreading 1 = .ok (.iload_n 1, 1) := dk_27 (dk_at dksX3_isWithinBySpreading_0 1 rfl rfl)
theorem dX3_isWithinBySpreading_2 : decode cX3_isWithinBySpreading 2 = .ok (.iload_n 2, 1) := dk_28 (dk_at dksX3_isWithinBySpreading_0 2 rfl rfl)
theorem dX3_isWithinBySpreading_3 : decode cX3_isWithinBySpreading 3 = .ok (.invokevirtual 163, 3) := dk_182 0 163 (dk_at dksX3_isWithinBySpreading_0 3 rfl rfl)
theorem dX3_isWithinBySpreading_6 : decode cX3_isWithinBySpreading 6 = .ok (.ireturn, 1) := dk_172 (dk_at dksX3_isWithinBySpreading_0 6 rfl rfl)
abbrev cX3_pointsWithin : ByteArray := prog_13_method_76_code
def yX3_pointsWithin : MethodName := ⟨RX3, "pointsWithin", "(I)I"⟩
def dkwX3_pointsWithin_2 : List UInt8 := [172]
abbrev dktX3_pointsWithin_2 : List UInt8 := dkwX3_pointsWithin_2 ++ []
def dkwX3_pointsWithin_1 : List UInt8 := [42, 27, 21, 4, 182, 0, 160, 153, 0, 7, 4, 167, 0, 4, 3, 96, 61, 132, 4, 1, 167, 255, 223, 28]
abbrev dktX3_pointsWithin_1 : List UInt8 := dkwX3_pointsWithin_1 ++ dktX3_pointsWithin_2
def dkwX3_pointsWithin_0 : List UInt8 := [3, 61, 42, 27, 182, 0, 146, 62, 3, 54, 4, 21, 4, 17, 1, 128, 162, 0, 31, 29, 153, 0, 27, 28]
abbrev dktX3_pointsWithin_0 : List UInt8 := dkwX3_pointsWithin_0 ++ dktX3_pointsWithin_1
theorem dksX3_pointsWithin_0 : cX3_pointsWithin.data.toList.drop 0 = dktX3_pointsWithin_0 := by decide +kernel
theorem dksX3_pointsWithin_1 : cX3_pointsWithin.data.toList.drop 24 = dktX3_pointsWithin_1 := dk_seg dksX3_pointsWithin_0 24 rfl rfl
theorem dksX3_pointsWithin_2 : cX3_pointsWithin.data.toList.drop 48 = dktX3_pointsWithin_2 := dk_seg dksX3_pointsWithin_1 24 rfl rfl
theorem dX3_pointsWithin_0 : decode cX3_pointsWithin 0 = .ok (.iconst 0, 1) := dk_3 (dk_at dksX3_pointsWithin_0 0 rfl rfl)
theorem dX3_pointsWithin_1 : decode cX3_pointsWithin 1 = .ok (.istore_n 2, 1) := dk_61 (dk_at dksX3_pointsWithin_0 1 rfl rfl)
theorem dX3_pointsWithin_2 : decode cX3_pointsWithin 2 = .ok (.aload_n 0, 1) := dk_42 (dk_at dksX3_pointsWithin_0 2 rfl rfl)
theorem dX3_pointsWithin_3 : decode cX3_pointsWithin 3 = .ok (.iload_n 1, 1) := dk_27 (dk_at dksX3_pointsWithin_0 3 rfl rfl)
theorem dX3_pointsWithin_4 : decode cX3_pointsWithin 4 = .ok (.invokevirtual 146, 3) := dk_182 0 146 (dk_at dksX3_pointsWithin_0 4 rfl rfl)
theorem dX3_pointsWithin_7 : decode cX3_pointsWithin 7 = .ok (.istore_n 3, 1) := dk_62 (dk_at dksX3_pointsWithin_0 7 rfl rfl)
theorem dX3_pointsWithin_8 : decode cX3_pointsWithin 8 = .ok (.iconst 0, 1) := dk_3 (dk_at dksX3_pointsWithin_0 8 rfl rfl)
theorem dX3_pointsWithin_9 : decode cX3_pointsWithin 9 = .ok (.istore 4, 2) := dk_54 4 (dk_at dksX3_pointsWithin_0 9 rfl rfl)
theorem dX3_pointsWithin_11 : decode cX3_pointsWithin 11 = .ok (.iload 4, 2) := dk_21 4 (dk_at dksX3_pointsWithin_0 11 rfl rfl)
theorem dX3_pointsWithin_13 : decode cX3_pointsWithin 13 = .ok (.sipush 384, 3) := dk_17 1 128 (dk_at dksX3_pointsWithin_0 13 rfl rfl)
theorem dX3_pointsWithin_16 : decode cX3_pointsWithin 16 = .ok (.if_icmp .ge 31, 3) := dk_162 0 31 (dk_at dksX3_pointsWithin_0 16 rfl rfl)
theorem dX3_pointsWithin_19 : decode cX3_pointsWithin 19 = .ok (.iload_n 3, 1) := dk_29 (dk_at dksX3_pointsWithin_0 19 rfl rfl)
theorem dX3_pointsWithin_20 : decode cX3_pointsWithin 20 = .ok (.ifCond .eq 27, 3) := dk_153 0 27 (dk_at dksX3_pointsWithin_0 20 rfl rfl)
theorem dX3_pointsWithin_23 : decode cX3_pointsWithin 23 = .ok (.iload_n 2, 1) := dk_28 (dk_at dksX3_pointsWithin_0 23 rfl rfl)
theorem dX3_pointsWithin_24 : decode cX3_pointsWithin 24 = .ok (.aload_n 0, 1) := dk_42 (dk_at dksX3_pointsWithin_1 0 rfl rfl)
theorem dX3_pointsWithin_25 : decode cX3_pointsWithin 25 = .ok (.iload_n 1, 1) := dk_27 (dk_at dksX3_pointsWithin_1 1 rfl rfl)
theorem dX3_pointsWithin_26 : decode cX3_pointsWithin 26 = .ok (.iload 4, 2) := dk_21 4 (dk_at dksX3_pointsWithin_1 2 rfl rfl)
theorem dX3_pointsWithin_28 : decode cX3_pointsWithin 28 = .ok (.invokevirtual 160, 3) := dk_182 0 160 (dk_at dksX3_pointsWithin_1 4 rfl rfl)
theorem dX3_pointsWithin_31 : decode cX3_pointsWithin 31 = .ok (.ifCond .eq 7, 3) := dk_153 0 7 (dk_at dksX3_pointsWithin_1 7 rfl rfl)
theorem dX3_pointsWithin_34 : decode cX3_pointsWithin 34 = .ok (.iconst 1, 1) := dk_4 (dk_at dksX3_pointsWithin_1 10 rfl rfl)
theorem dX3_pointsWithin_35 : decode cX3_pointsWithin 35 = .ok (.goto 4, 3) := dk_167 0 4 (dk_at dksX3_pointsWithin_1 11 rfl rfl)
theorem dX3_pointsWithin_38 : decode cX3_pointsWithin 38 = .ok (.iconst 0, 1) := dk_3 (dk_at dksX3_pointsWithin_1 14 rfl rfl)
theorem dX3_pointsWithin_39 : decode cX3_pointsWithin 39 = .ok (.iadd, 1) := dk_96 (dk_at dksX3_pointsWithin_1 15 rfl rfl)
theorem dX3_pointsWithin_40 : decode cX3_pointsWithin 40 = .ok (.istore_n 2, 1) := dk_61 (dk_at dksX3_pointsWithin_1 16 rfl rfl)
theorem dX3_pointsWithin_41 : decode cX3_pointsWithin 41 = .ok (.iinc 4 1, 3) := dk_132 4 1 (dk_at dksX3_pointsWithin_1 17 rfl rfl)
theorem dX3_pointsWithin_44 : decode cX3_pointsWithin 44 = .ok (.goto (-33), 3) := dk_167 255 223 (dk_at dksX3_pointsWithin_1 20 rfl rfl)
theorem dX3_pointsWithin_47 : decode cX3_pointsWithin 47 = .ok (.iload_n 2, 1) := dk_28 (dk_at dksX3_pointsWithin_1 23 rfl rfl)
theorem dX3_pointsWithin_48 : decode cX3_pointsWithin 48 = .ok (.ireturn, 1) := dk_172 (dk_at dksX3_pointsWithin_2 0 rfl rfl)
abbrev cX3_lineRound : ByteArray := prog_13_method_78_code
def yX3_lineRound : MethodName := ⟨RX3, "lineRound", "(I)I"⟩
def dkwX3_lineRound_0 : List UInt8 := [42, 27, 182, 0, 146, 153, 0, 11, 42, 27, 182, 0, 166, 167, 0, 4, 3, 172]
abbrev dktX3_lineRound_0 : List UInt8 := dkwX3_lineRound_0 ++ []
theorem dksX3_lineRound_0 : cX3_lineRound.data.toList.drop 0 = dktX3_lineRound_0 := by decide +kernel
theorem dX3_lineRound_0 : decode cX3_lineRound 0 = .ok (.aload_n 0, 1) := dk_42 (dk_at dksX3_lineRound_0 0 rfl rfl)
theorem dX3_lineRound_1 : decode cX3_lineRound 1 = .ok (.iload_n 1, 1) := dk_27 (dk_at dksX3_lineRound_0 1 rfl rfl)
theorem dX3_lineRound_2 : decode cX3_lineRound 2 = .ok (.invokevirtual 146, 3) := dk_182 0 146 (dk_at dksX3_lineRound_0 2 rfl rfl)
theorem dX3_lineRound_5 : decode cX3_lineRound 5 = .ok (.ifCond .eq 11, 3) := dk_153 0 11 (dk_at dksX3_lineRound_0 5 rfl rfl)
theorem dX3_lineRound_8 : decode cX3_lineRound 8 = .ok (.aload_n 0, 1) := dk_42 (dk_at dksX3_lineRound_0 8 rfl rfl)
theorem dX3_lineRound_9 : decode cX3_lineRound 9 = .ok (.iload_n 1, 1) := dk_27 (dk_at dksX3_lineRound_0 9 rfl rfl)
theorem dX3_lineRound_10 : decode cX3_lineRound 10 = .ok (.invokevirtual 166, 3) := dk_182 0 166 (dk_at dksX3_lineRound_0 10 rfl rfl)
theorem dX3_lineRound_13 : decode cX3_lineRound 13 = .ok (.goto 4, 3) := dk_167 0 4 (dk_at dksX3_lineRound_0 13 rfl rfl)
theorem dX3_lineRound_16 : decode cX3_lineRound 16 = .ok (.iconst 0, 1) := dk_3 (dk_at dksX3_lineRound_0 16 rfl rfl)
theorem dX3_lineRound_17 : decode cX3_lineRound 17 = .ok (.ireturn, 1) := dk_172 (dk_at dksX3_lineRound_0 17 rfl rfl)
abbrev cX3_round : ByteArray := prog_13_method_77_code
def yX3_round : MethodName := ⟨RX3, "round", "(I)I"⟩
def dkwX3_round_2 : List UInt8 := [182, 0, 160, 153, 0, 7, 29, 167, 0, 4, 28, 61, 132, 3, 1, 167, 255, 200, 28, 172]
abbrev dktX3_round_2 : List UInt8 := dkwX3_round_2 ++ []
def dkwX3_round_1 : List UInt8 := [182, 0, 160, 54, 4, 21, 4, 153, 0, 26, 28, 2, 159, 0, 17, 42, 28, 42, 29, 4, 182, 0, 37]
abbrev dktX3_round_1 : List UInt8 := dkwX3_round_1 ++ dktX3_round_2
def dkwX3_round_0 : List UInt8 := [2, 61, 3, 62, 29, 42, 180, 0, 7, 3, 46, 162, 0, 52, 42, 29, 42, 27, 4, 182, 0, 37]
abbrev dktX3_round_0 : List UInt8 := dkwX3_round_0 ++ dktX3_round_1
theorem dksX3_round_0 : cX3_round.data.toList.drop 0 = dktX3_round_0 := by decide +kernel
theorem dksX3_round_1 : cX3_round.data.toList.drop 22 = dktX3_round_1 := dk_seg dksX3_round_0 22 rfl rfl
theorem dksX3_round_2 : cX3_round.data.toList.drop 45 = dktX3_round_2 := dk_seg dksX3_round_1 23 rfl rfl
theorem dX3_round_0 : decode cX3_round 0 = .ok (.iconst (-1), 1) := dk_2 (dk_at dksX3_round_0 0 rfl rfl)
theorem dX3_round_1 : decode cX3_round 1 = .ok (.istore_n 2, 1) := dk_61 (dk_at dksX3_round_0 1 rfl rfl)
theorem dX3_round_2 : decode cX3_round 2 = .ok (.iconst 0, 1) := dk_3 (dk_at dksX3_round_0 2 rfl rfl)
theorem dX3_round_3 : decode cX3_round 3 = .ok (.istore_n 3, 1) := dk_62 (dk_at dksX3_round_0 3 rfl rfl)
theorem dX3_round_4 : decode cX3_round 4 = .ok (.iload_n 3, 1) := dk_29 (dk_at dksX3_round_0 4 rfl rfl)
theorem dX3_round_5 : decode cX3_round 5 = .ok (.aload_n 0, 1) := dk_42 (dk_at dksX3_round_0 5 rfl rfl)
theorem dX3_round_6 : decode cX3_round 6 = .ok (.getfield 7, 3) := dk_180 0 7 (dk_at dksX3_round_0 6 rfl rfl)
theorem dX3_round_9 : decode cX3_round 9 = .ok (.iconst 0, 1) := dk_3 (dk_at dksX3_round_0 9 rfl rfl)
theorem dX3_round_10 : decode cX3_round 10 = .ok (.iaload, 1) := dk_46 (dk_at dksX3_round_0 10 rfl rfl)
theorem dX3_round_11 : decode cX3_round 11 = .ok (.if_icmp .ge 52, 3) := dk_162 0 52 (dk_at dksX3_round_0 11 rfl rfl)
theorem dX3_round_14 : decode cX3_round 14 = .ok (.aload_n 0, 1) := dk_42 (dk_at dksX3_round_0 14 rfl rfl)
theorem dX3_round_15 : decode cX3_round 15 = .ok (.iload_n 3, 1) := dk_29 (dk_at dksX3_round_0 15 rfl rfl)
theorem dX3_round_16 : decode cX3_round 16 = .ok (.aload_n 0, 1) := dk_42 (dk_at dksX3_round_0 16 rfl rfl)
theorem dX3_round_17 : decode cX3_round 17 = .ok (.iload_n 1, 1) := dk_27 (dk_at dksX3_round_0 17 rfl rfl)
theorem dX3_round_18 : decode cX3_round 18 = .ok (.iconst 1, 1) := dk_4 (dk_at dksX3_round_0 18 rfl rfl)
theorem dX3_round_19 : decode cX3_round 19 = .ok (.invokevirtual 37, 3) := dk_182 0 37 (dk_at dksX3_round_0 19 rfl rfl)
theorem dX3_round_22 : decode cX3_round 22 = .ok (.invokevirtual 160, 3) := dk_182 0 160 (dk_at dksX3_round_1 0 rfl rfl)
theorem dX3_round_25 : decode cX3_round 25 = .ok (.istore 4, 2) := dk_54 4 (dk_at dksX3_round_1 3 rfl rfl)
theorem dX3_round_27 : decode cX3_round 27 = .ok (.iload 4, 2) := dk_21 4 (dk_at dksX3_round_1 5 rfl rfl)
theorem dX3_round_29 : decode cX3_round 29 = .ok (.ifCond .eq 26, 3) := dk_153 0 26 (dk_at dksX3_round_1 7 rfl rfl)
theorem dX3_round_32 : decode cX3_round 32 = .ok (.iload_n 2, 1) := dk_28 (dk_at dksX3_round_1 10 rfl rfl)
theorem dX3_round_33 : decode cX3_round 33 = .ok (.iconst (-1), 1) := dk_2 (dk_at dksX3_round_1 11 rfl rfl)
theorem dX3_round_34 : decode cX3_round 34 = .ok (.if_icmp .eq 17, 3) := dk_159 0 17 (dk_at dksX3_round_1 12 rfl rfl)
theorem dX3_round_37 : decode cX3_round 37 = .ok (.aload_n 0, 1) := dk_42 (dk_at dksX3_round_1 15 rfl rfl)
theorem dX3_round_38 : decode cX3_round 38 = .ok (.iload_n 2, 1) := dk_28 (dk_at dksX3_round_1 16 rfl rfl)
theorem dX3_round_39 : decode cX3_round 39 = .ok (.aload_n 0, 1) := dk_42 (dk_at dksX3_round_1 17 rfl rfl)
theorem dX3_round_40 : decode cX3_round 40 = .ok (.iload_n 3, 1) := dk_29 (dk_at dksX3_round_1 18 rfl rfl)
theorem dX3_round_41 : decode cX3_round 41 = .ok (.iconst 1, 1) := dk_4 (dk_at dksX3_round_1 19 rfl rfl)
theorem dX3_round_42 : decode cX3_round 42 = .ok (.invokevirtual 37, 3) := dk_182 0 37 (dk_at dksX3_round_1 20 rfl rfl)
theorem dX3_round_45 : decode cX3_round 45 = .ok (.invokevirtual 160, 3) := dk_182 0 160 (dk_at dksX3_round_2 0 rfl rfl)
theorem dX3_round_48 : decode cX3_round 48 = .ok (.ifCond .eq 7, 3) := dk_153 0 7 (dk_at dksX3_round_2 3 rfl rfl)
theorem dX3_round_51 : decode cX3_round 51 = .ok (.iload_n 3, 1) := dk_29 (dk_at dksX3_round_2 6 rfl rfl)
theorem dX3_round_52 : decode cX3_round 52 = .ok (.goto 4, 3) := dk_167 0 4 (dk_at dksX3_round_2 7 rfl rfl)
theorem dX3_round_55 : decode cX3_round 55 = .ok (.iload_n 2, 1) := dk_28 (dk_at dksX3_round_2 10 rfl rfl)
theorem dX3_round_56 : decode cX3_round 56 = .ok (.istore_n 2, 1) := dk_61 (dk_at dksX3_round_2 11 rfl rfl)
theorem dX3_round_57 : decode cX3_round 57 = .ok (.iinc 3 1, 3) := dk_132 3 1 (dk_at dksX3_round_2 12 rfl rfl)
theorem dX3_round_60 : decode cX3_round 60 = .ok (.goto (-56), 3) := dk_167 255 200 (dk_at dksX3_round_2 15 rfl rfl)
theorem dX3_round_63 : decode cX3_round 63 = .ok (.iload_n 2, 1) := dk_28 (dk_at dksX3_round_2 18 rfl rfl)
theorem dX3_round_64 : decode cX3_round 64 = .ok (.ireturn, 1) := dk_172 (dk_at dksX3_round_2 19 rfl rfl)
abbrev cX3_isSteady : ByteArray := prog_13_method_79_code
def yX3_isSteady : MethodName := ⟨RX3, "isSteady", "(I)Z"⟩
def dkwX3_isSteady_1 : List UInt8 := [182, 0, 37, 42, 28, 3, 182, 0, 37, 184, 0, 61, 8, 160, 0, 7, 4, 167, 0, 4, 3, 172]
abbrev dktX3_isSteady_1 : List UInt8 := dkwX3_isSteady_1 ++ []
def dkwX3_isSteady_0 : List UInt8 := [42, 27, 182, 0, 146, 154, 0, 5, 3, 172, 42, 27, 182, 0, 166, 61, 28, 2, 159, 0, 22, 42, 27, 3]
abbrev dktX3_isSteady_0 : List UInt8 := dkwX3_isSteady_0 ++ dktX3_isSteady_1
theorem dksX3_isSteady_0 : cX3_isSteady.data.toList.drop 0 = dktX3_isSteady_0 := by decide +kernel
theorem dksX3_isSteady_1 : cX3_isSteady.data.toList.drop 24 = dktX3_isSteady_1 := dk_seg dksX3_isSteady_0 24 rfl rfl
theorem dX3_isSteady_0 : decode cX3_isSteady 0 = .ok (.aload_n 0, 1) := dk_42 (dk_at dksX3_isSteady_0 0 rfl rfl)
theorem dX3_isSteady_1 : decode cX3_isSteady 1 = .ok (.iload_n 1, 1) := dk_27 (dk_at dksX3_isSteady_0 1 rfl rfl)
theorem dX3_isSteady_2 : decode cX3_isSteady 2 = .ok (.invokevirtual 146, 3) := dk_182 0 146 (dk_at dksX3_isSteady_0 2 rfl rfl)
theorem dX3_isSteady_5 : decode cX3_isSteady 5 = .ok (.ifCond .ne 5, 3) := dk_154 0 5 (dk_at dksX3_isSteady_0 5 rfl rfl)
theorem dX3_isSteady_8 : decode cX3_isSteady 8 = .ok (.iconst 0, 1) := dk_3 (dk_at dksX3_isSteady_0 8 rfl rfl)
theorem dX3_isSteady_9 : decode cX3_isSteady 9 = .ok (.ireturn, 1) := dk_172 (dk_at dksX3_isSteady_0 9 rfl rfl)
theorem dX3_isSteady_10 : decode cX3_isSteady 10 = .ok (.aload_n 0, 1) := dk_42 (dk_at dksX3_isSteady_0 10 rfl rfl)
theorem dX3_isSteady_11 : decode cX3_isSteady 11 = .ok (.iload_n 1, 1) := dk_27 (dk_at dksX3_isSteady_0 11 rfl rfl)
theorem dX3_isSteady_12 : decode cX3_isSteady 12 = .ok (.invokevirtual 166, 3) := dk_182 0 166 (dk_at dksX3_isSteady_0 12 rfl rfl)
theorem dX3_isSteady_15 : decode cX3_isSteady 15 = .ok (.istore_n 2, 1) := dk_61 (dk_at dksX3_isSteady_0 15 rfl rfl)
theorem dX3_isSteady_16 : decode cX3_isSteady 16 = .ok (.iload_n 2, 1) := dk_28 (dk_at dksX3_isSteady_0 16 rfl rfl)
theorem dX3_isSteady_17 : decode cX3_isSteady 17 = .ok (.iconst (-1), 1) := dk_2 (dk_at dksX3_isSteady_0 17 rfl rfl)
theorem dX3_isSteady_18 : decode cX3_isSteady 18 = .ok (.if_icmp .eq 22, 3) := dk_159 0 22 (dk_at dksX3_isSteady_0 18 rfl rfl)
theorem dX3_isSteady_21 : decode cX3_isSteady 21 = .ok (.aload_n 0, 1) := dk_42 (dk_at dksX3_isSteady_0 21 rfl rfl)
theorem dX3_isSteady_22 : decode cX3_isSteady 22 = .ok (.iload_n 1, 1) := dk_27 (dk_at dksX3_isSteady_0 22 rfl rfl)
theorem dX3_isSteady_23 : decode cX3_isSteady 23 = .ok (.iconst 0, 1) := dk_3 (dk_at dksX3_isSteady_0 23 rfl rfl)
theorem dX3_isSteady_24 : decode cX3_isSteady 24 = .ok (.invokevirtual 37, 3) := dk_182 0 37 (dk_at dksX3_isSteady_1 0 rfl rfl)
theorem dX3_isSteady_27 : decode cX3_isSteady 27 = .ok (.aload_n 0, 1) := dk_42 (dk_at dksX3_isSteady_1 3 rfl rfl)
theorem dX3_isSteady_28 : decode cX3_isSteady 28 = .ok (.iload_n 2, 1) := dk_28 (dk_at dksX3_isSteady_1 4 rfl rfl)
theorem dX3_isSteady_29 : decode cX3_isSteady 29 = .ok (.iconst 0, 1) := dk_3 (dk_at dksX3_isSteady_1 5 rfl rfl)
theorem dX3_isSteady_30 : decode cX3_isSteady 30 = .ok (.invokevirtual 37, 3) := dk_182 0 37 (dk_at dksX3_isSteady_1 6 rfl rfl)
theorem dX3_isSteady_33 : decode cX3_isSteady 33 = .ok (.invokestatic 61, 3) := dk_184 0 61 (dk_at dksX3_isSteady_1 9 rfl rfl)
theorem dX3_isSteady_36 : decode cX3_isSteady 36 = .ok (.iconst 5, 1) := dk_8 (dk_at dksX3_isSteady_1 12 rfl rfl)
theorem dX3_isSteady_37 : decode cX3_isSteady 37 = .ok (.if_icmp .ne 7, 3) := dk_160 0 7 (dk_at dksX3_isSteady_1 13 rfl rfl)
theorem dX3_isSteady_40 : decode cX3_isSteady 40 = .ok (.iconst 1, 1) := dk_4 (dk_at dksX3_isSteady_1 16 rfl rfl)
theorem dX3_isSteady_41 : decode cX3_isSteady 41 = .ok (.goto 4, 3) := dk_167 0 4 (dk_at dksX3_isSteady_1 17 rfl rfl)
theorem dX3_isSteady_44 : decode cX3_isSteady 44 = .ok (.iconst 0, 1) := dk_3 (dk_at dksX3_isSteady_1 20 rfl rfl)
theorem dX3_isSteady_45 : decode cX3_isSteady 45 = .ok (.ireturn, 1) := dk_172 (dk_at dksX3_isSteady_1 21 rfl rfl)
abbrev cX3_lineByLevel : ByteArray := prog_13_method_80_code
def yX3_lineByLevel : MethodName := ⟨RX3, "lineByLevel", "(I)I"⟩
def dkwX3_lineByLevel_1 : List UInt8 := [182, 0, 111, 167, 0, 8, 42, 4, 182, 0, 137, 172]
abbrev dktX3_lineByLevel_1 : List UInt8 := dkwX3_lineByLevel_1 ++ []
def dkwX3_lineByLevel_0 : List UInt8 := [42, 3, 181, 0, 22, 27, 3, 42, 180, 0, 7, 3, 46, 4, 100, 184, 0, 26, 153, 0, 11, 42, 27]
abbrev dktX3_lineByLevel_0 : List UInt8 := dkwX3_lineByLevel_0 ++ dktX3_lineByLevel_1
theorem dksX3_lineByLevel_0 : cX3_lineByLevel.data.toList.drop 0 = dktX3_lineByLevel_0 := by decide +kernel
theorem dksX3_lineByLevel_1 : cX3_lineByLevel.data.toList.drop 23 = dktX3_lineByLevel_1 := dk_seg dksX3_lineByLevel_0 23 rfl rfl
theorem dX3_lineByLevel_0 : decode cX3_lineByLevel 0 = .ok (.aload_n 0, 1) := dk_42 (dk_at dksX3_lineByLevel_0 0 rfl rfl)
theorem dX3_lineByLevel_1 : decode cX3_lineByLevel 1 = .ok (.iconst 0, 1) := dk_3 (dk_at dksX3_lineByLevel_0 1 rfl rfl)
theorem dX3_lineByLevel_2 : decode cX3_lineByLevel 2 = .ok (.putfield 22, 3) := dk_181 0 22 (dk_at dksX3_lineByLevel_0 2 rfl rfl)
theorem dX3_lineByLevel_5 : decode cX3_lineByLevel 5 = .ok (.iload_n 1, 1) := dk_27 (dk_at dksX3_lineByLevel_0 5 rfl rfl)
theorem dX3_lineByLevel_6 : decode cX3_lineByLevel 6 = .ok (.iconst 0, 1) := dk_3 (dk_at dksX3_lineByLevel_0 6 rfl rfl)
theorem dX3_lineByLevel_7 : decode cX3_lineByLevel 7 = .ok (.aload_n 0, 1) := dk_42 (dk_at dksX3_lineByLevel_0 7 rfl rfl)
theorem dX3_lineByLevel_8 : decode cX3_lineByLevel 8 = .ok (.getfield 7, 3) := dk_180 0 7 (dk_at dksX3_lineByLevel_0 8 rfl rfl)
theorem dX3_lineByLevel_11 : decode cX3_lineByLevel 11 = .ok (.iconst 0, 1) := dk_3 (dk_at dksX3_lineByLevel_0 11 rfl rfl)
theorem dX3_lineByLevel_12 : decode cX3_lineByLevel 12 = .ok (.iaload, 1) := dk_46 (dk_at dksX3_lineByLevel_0 12 rfl rfl)
theorem dX3_lineByLevel_13 : decode cX3_lineByLevel 13 = .ok (.iconst 1, 1) := dk_4 (dk_at dksX3_lineByLevel_0 13 rfl rfl)
theorem dX3_lineByLevel_14 : decode cX3_lineByLevel 14 = .ok (.isub, 1) := dk_100 (dk_at dksX3_lineByLevel_0 14 rfl rfl)
theorem dX3_lineByLevel_15 : decode cX3_lineByLevel 15 = .ok (.invokestatic 26, 3) := dk_184 0 26 (dk_at dksX3_lineByLevel_0 15 rfl rfl)
theorem dX3_lineByLevel_18 : decode cX3_lineByLevel 18 = .ok (.ifCond .eq 11, 3) := dk_153 0 11 (dk_at dksX3_lineByLevel_0 18 rfl rfl)
theorem dX3_lineByLevel_21 : decode cX3_lineByLevel 21 = .ok (.aload_n 0, 1) := dk_42 (dk_at dksX3_lineByLevel_0 21 rfl rfl)
theorem dX3_lineByLevel_22 : decode cX3_lineByLevel 22 = .ok (.iload_n 1, 1) := dk_27 (dk_at dksX3_lineByLevel_0 22 rfl rfl)
theorem dX3_lineByLevel_23 : decode cX3_lineByLevel 23 = .ok (.invokevirtual 111, 3) := dk_182 0 111 (dk_at dksX3_lineByLevel_1 0 rfl rfl)
theorem dX3_lineByLevel_26 : decode cX3_lineByLevel 26 = .ok (.goto 8, 3) := dk_167 0 8 (dk_at dksX3_lineByLevel_1 3 rfl rfl)
theorem dX3_lineByLevel_29 : decode cX3_lineByLevel 29 = .ok (.aload_n 0, 1) := dk_42 (dk_at dksX3_lineByLevel_1 6 rfl rfl)
theorem dX3_lineByLevel_30 : decode cX3_lineByLevel 30 = .ok (.iconst 1, 1) := dk_4 (dk_at dksX3_lineByLevel_1 7 rfl rfl)
theorem dX3_lineByLevel_31 : decode cX3_lineByLevel 31 = .ok (.invokevirtual 137, 3) := dk_182 0 137 (dk_at dksX3_lineByLevel_1 8 rfl rfl)
theorem dX3_lineByLevel_34 : decode cX3_lineByLevel 34 = .ok (.ireturn, 1) := dk_172 (dk_at dksX3_lineByLevel_1 11 rfl rfl)
abbrev cX3_append : ByteArray := prog_13_method_81_code
def yX3_append : MethodName := ⟨RX3, "append", "(I)I"⟩
def dkwX3_append_2 : List UInt8 := [42, 89, 180, 0, 169, 4, 96, 181, 0, 169, 42, 180, 0, 169, 172]
abbrev dktX3_append_2 : List UInt8 := dkwX3_append_2 ++ []
def dkwX3_append_1 : List UInt8 := [180, 0, 169, 16, 60, 160, 0, 9, 42, 5, 182, 0, 137, 172, 42, 180, 0, 19, 42, 180, 0, 169, 27, 79]
abbrev dktX3_append_1 : List UInt8 := dkwX3_append_1 ++ dktX3_append_2
def dkwX3_append_0 : List UInt8 := [42, 3, 181, 0, 22, 27, 16, 32, 16, 126, 184, 0, 26, 154, 0, 9, 42, 4, 182, 0, 137, 172, 42]
abbrev dktX3_append_0 : List UInt8 := dkwX3_append_0 ++ dktX3_append_1
theorem dksX3_append_0 : cX3_append.data.toList.drop 0 = dktX3_append_0 := by decide +kernel
theorem dksX3_append_1 : cX3_append.data.toList.drop 23 = dktX3_append_1 := dk_seg dksX3_append_0 23 rfl rfl
theorem dksX3_append_2 : cX3_append.data.toList.drop 47 = dktX3_append_2 := dk_seg dksX3_append_1 24 rfl rfl
theorem dX3_append_0 : decode cX3_append 0 = .ok (.aload_n 0, 1) := dk_42 (dk_at dksX3_append_0 0 rfl rfl)
theorem dX3_append_1 : decode cX3_append 1 = .ok (.iconst 0, 1) := dk_3 (dk_at dksX3_append_0 1 rfl rfl)
theorem dX3_append_2 : decode cX3_append 2 = .ok (.putfield 22, 3) := dk_181 0 22 (dk_at dksX3_append_0 2 rfl rfl)
theorem dX3_append_5 : decode cX3_append 5 = .ok (.iload_n 1, 1) := dk_27 (dk_at dksX3_append_0 5 rfl rfl)
theorem dX3_append_6 : decode cX3_append 6 = .ok (.bipush 32, 2) := dk_16 32 (dk_at dksX3_append_0 6 rfl rfl)
theorem dX3_append_8 : decode cX3_append 8 = .ok (.bipush 126, 2) := dk_16 126 (dk_at dksX3_append_0 8 rfl rfl)
theorem dX3_append_10 : decode cX3_append 10 = .ok (.invokestatic 26, 3) := dk_184 0 26 (dk_at dksX3_append_0 10 rfl rfl)
theorem dX3_append_13 : decode cX3_append 13 = .ok (.ifCond .ne 9, 3) := dk_154 0 9 (dk_at dksX3_append_0 13 rfl rfl)
theorem dX3_append_16 : decode cX3_append 16 = .ok (.aload_n 0, 1) := dk_42 (dk_at dksX3_append_0 16 rfl rfl)
theorem dX3_append_17 : decode cX3_append 17 = .ok (.iconst 1, 1) := dk_4 (dk_at dksX3_append_0 17 rfl rfl)
theorem dX3_append_18 : decode cX3_append 18 = .ok (.invokevirtual 137, 3) := dk_182 0 137 (dk_at dksX3_append_0 18 rfl rfl)
theorem dX3_append_21 : decode cX3_append 21 = .ok (.ireturn, 1) := dk_172 (dk_at dksX3_append_0 21 rfl rfl)
theorem dX3_append_22 : decode cX3_append 22 = .ok (.aload_n 0, 1) := dk_42 (dk_at dksX3_append_0 22 rfl rfl)
theorem dX3_append_23 : decode cX3_append 23 = .ok (.getfield 169, 3) := dk_180 0 169 (dk_at dksX3_append_1 0 rfl rfl)
theorem dX3_append_26 : decode cX3_append 26 = .ok (.bipush 60, 2) := dk_16 60 (dk_at dksX3_append_1 3 rfl rfl)
theorem dX3_append_28 : decode cX3_append 28 = .ok (.if_icmp .ne 9, 3) := dk_160 0 9 (dk_at dksX3_append_1 5 rfl rfl)
theorem dX3_append_31 : decode cX3_append 31 = .ok (.aload_n 0, 1) := dk_42 (dk_at dksX3_append_1 8 rfl rfl)
theorem dX3_append_32 : decode cX3_append 32 = .ok (.iconst 2, 1) := dk_5 (dk_at dksX3_append_1 9 rfl rfl)
theorem dX3_append_33 : decode cX3_append 33 = .ok (.invokevirtual 137, 3) := dk_182 0 137 (dk_at dksX3_append_1 10 rfl rfl)
theorem dX3_append_36 : decode cX3_append 36 = .ok (.ireturn, 1) := dk_172 (dk_at dksX3_append_1 13 rfl rfl)
theorem dX3_append_37 : decode cX3_append 37 = .ok (.aload_n 0, 1) := dk_42 (dk_at dksX3_append_1 14 rfl rfl)
theorem dX3_append_38 : decode cX3_append 38 = .ok (.getfield 19, 3) := dk_180 0 19 (dk_at dksX3_append_1 15 rfl rfl)
theorem dX3_append_41 : decode cX3_append 41 = .ok (.aload_n 0, 1) := dk_42 (dk_at dksX3_append_1 18 rfl rfl)
theorem dX3_append_42 : decode cX3_append 42 = .ok (.getfield 169, 3) := dk_180 0 169 (dk_at dksX3_append_1 19 rfl rfl)
theorem dX3_append_45 : decode cX3_append 45 = .ok (.iload_n 1, 1) := dk_27 (dk_at dksX3_append_1 22 rfl rfl)
theorem dX3_append_46 : decode cX3_append 46 = .ok (.iastore, 1) := dk_79 (dk_at dksX3_append_1 23 rfl rfl)
theorem dX3_append_47 : decode cX3_append 47 = .ok (.aload_n 0, 1) := dk_42 (dk_at dksX3_append_2 0 rfl rfl)
theorem dX3_append_48 : decode cX3_append 48 = .ok (.dup, 1) := dk_89 (dk_at dksX3_append_2 1 rfl rfl)
theorem dX3_append_49 : decode cX3_append 49 = .ok (.getfield 169, 3) := dk_180 0 169 (dk_at dksX3_append_2 2 rfl rfl)
theorem dX3_append_52 : decode cX3_append 52 = .ok (.iconst 1, 1) := dk_4 (dk_at dksX3_append_2 5 rfl rfl)
theorem dX3_append_53 : decode cX3_append 53 = .ok (.iadd, 1) := dk_96 (dk_at dksX3_append_2 6 rfl rfl)
theorem dX3_append_54 : decode cX3_append 54 = .ok (.putfield 169, 3) := dk_181 0 169 (dk_at dksX3_append_2 7 rfl rfl)
theorem dX3_append_57 : decode cX3_append 57 = .ok (.aload_n 0, 1) := dk_42 (dk_at dksX3_append_2 10 rfl rfl)
theorem dX3_append_58 : decode cX3_append 58 = .ok (.getfield 169, 3) := dk_180 0 169 (dk_at dksX3_append_2 11 rfl rfl)
theorem dX3_append_61 : decode cX3_append 61 = .ok (.ireturn, 1) := dk_172 (dk_at dksX3_append_2 14 rfl rfl)
abbrev cX3_clearText : ByteArray := prog_13_method_82_code
def yX3_clearText : MethodName := ⟨RX3, "clearText", "()I"⟩
def dkwX3_clearText_0 : List UInt8 := [42, 3, 181, 0, 22, 42, 180, 0, 169, 60, 42, 3, 181, 0, 169, 27, 172]
abbrev dktX3_clearText_0 : List UInt8 := dkwX3_clearText_0 ++ []
theorem dksX3_clearText_0 : cX3_clearText.data.toList.drop 0 = dktX3_clearText_0 := by decide +kernel
theorem dX3_clearText_0 : decode cX3_clearText 0 = .ok (.aload_n 0, 1) := dk_42 (dk_at dksX3_clearText_0 0 rfl rfl)
theorem dX3_clearText_1 : decode cX3_clearText 1 = .ok (.iconst 0, 1) := dk_3 (dk_at dksX3_clearText_0 1 rfl rfl)
theorem dX3_clearText_2 : decode cX3_clearText 2 = .ok (.putfield 22, 3) := dk_181 0 22 (dk_at dksX3_clearText_0 2 rfl rfl)
theorem dX3_clearText_5 : decode cX3_clearText 5 = .ok (.aload_n 0, 1) := dk_42 (dk_at dksX3_clearText_0 5 rfl rfl)
theorem dX3_clearText_6 : decode cX3_clearText 6 = .ok (.getfield 169, 3) := dk_180 0 169 (dk_at dksX3_clearText_0 6 rfl rfl)
theorem dX3_clearText_9 : decode cX3_clearText 9 = .ok (.istore_n 1, 1) := dk_60 (dk_at dksX3_clearText_0 9 rfl rfl)
theorem dX3_clearText_10 : decode cX3_clearText 10 = .ok (.aload_n 0, 1) := dk_42 (dk_at dksX3_clearText_0 10 rfl rfl)
theorem dX3_clearText_11 : decode cX3_clearText 11 = .ok (.iconst 0, 1) := dk_3 (dk_at dksX3_clearText_0 11 rfl rfl)
theorem dX3_clearText_12 : decode cX3_clearText 12 = .ok (.putfield 169, 3) := dk_181 0 169 (dk_at dksX3_clearText_0 12 rfl rfl)
theorem dX3_clearText_15 : decode cX3_clearText 15 = .ok (.iload_n 1, 1) := dk_27 (dk_at dksX3_clearText_0 15 rfl rfl)
theorem dX3_clearText_16 : decode cX3_clearText 16 = .ok (.ireturn, 1) := dk_172 (dk_at dksX3_clearText_0 16 rfl rfl)
abbrev cX3_errorPosition : ByteArray := prog_13_method_88_code
def yX3_errorPosition : MethodName := ⟨RX3, "errorPosition", "()I"⟩
def dkwX3_errorPosition_0 : List UInt8 := [42, 3, 181, 0, 22, 42, 182, 0, 201, 153, 0, 10, 42, 180, 0, 169, 167, 0, 7, 42, 180, 0, 172, 172]
abbrev dktX3_errorPosition_0 : List UInt8 := dkwX3_errorPosition_0 ++ []
theorem dksX3_errorPosition_0 : cX3_errorPosition.data.toList.drop 0 = dktX3_errorPosition_0 := by decide +kernel
theorem dX3_errorPosition_0 : decode cX3_errorPosition 0 = .ok (.aload_n 0, 1) := dk_42 (dk_at dksX3_errorPosition_0 0 rfl rfl)
theorem dX3_errorPosition_1 : decode cX3_errorPosition 1 = .ok (.iconst 0, 1) := dk_3 (dk_at dksX3_errorPosition_0 1 rfl rfl)
theorem dX3_errorPosition_2 : decode cX3_errorPosition 2 = .ok (.putfield 22, 3) := dk_181 0 22 (dk_at dksX3_errorPosition_0 2 rfl rfl)
theorem dX3_errorPosition_5 : decode cX3_errorPosition 5 = .ok (.aload_n 0, 1) := dk_42 (dk_at dksX3_errorPosition_0 5 rfl rfl)
theorem dX3_errorPosition_6 : decode cX3_errorPosition 6 = .ok (.invokevirtual 201, 3) := dk_182 0 201 (dk_at dksX3_errorPosition_0 6 rfl rfl)
theorem dX3_errorPosition_9 : decode cX3_errorPosition 9 = .ok (.ifCond .eq 10, 3) := dk_153 0 10 (dk_at dksX3_errorPosition_0 9 rfl rfl)
theorem dX3_errorPosition_12 : decode cX3_errorPosition 12 = .ok (.aload_n 0, 1) := dk_42 (dk_at dksX3_errorPosition_0 12 rfl rfl)
theorem dX3_errorPosition_13 : decode cX3_errorPosition 13 = .ok (.getfield 169, 3) := dk_180 0 169 (dk_at dksX3_errorPosition_0 13 rfl rfl)
theorem dX3_errorPosition_16 : decode cX3_errorPosition 16 = .ok (.goto 7, 3) := dk_167 0 7 (dk_at dksX3_errorPosition_0 16 rfl rfl)
theorem dX3_errorPosition_19 : decode cX3_errorPosition 19 = .ok (.aload_n 0, 1) := dk_42 (dk_at dksX3_errorPosition_0 19 rfl rfl)
theorem dX3_errorPosition_20 : decode cX3_errorPosition 20 = .ok (.getfield 172, 3) := dk_180 0 172 (dk_at dksX3_errorPosition_0 20 rfl rfl)
theorem dX3_errorPosition_23 : decode cX3_errorPosition 23 = .ok (.ireturn, 1) := dk_172 (dk_at dksX3_errorPosition_0 23 rfl rfl)
abbrev cX3_isText : ByteArray := prog_13_method_87_code
def yX3_isText : MethodName := ⟨RX3, "isText", "()Z"⟩
def dkwX3_isText_2 : List UInt8 := [180, 0, 175, 172]
abbrev dktX3_isText_2 : List UInt8 := dkwX3_isText_2 ++ []
def dkwX3_isText_1 : List UInt8 := [162, 0, 23, 42, 16, 59, 182, 0, 194, 42, 180, 0, 175, 153, 255, 228, 42, 182, 0, 198, 167, 255, 221, 42]
abbrev dktX3_isText_1 : List UInt8 := dkwX3_isText_1 ++ dktX3_isText_2
def dkwX3_isText_0 : List UInt8 := [42, 3, 181, 0, 172, 42, 182, 0, 198, 42, 180, 0, 175, 153, 0, 34, 42, 180, 0, 172, 42, 180, 0, 169]
abbrev dktX3_isText_0 : List UInt8 := dkwX3_isText_0 ++ dktX3_isText_1
theorem dksX3_isText_0 : cX3_isText.data.toList.drop 0 = dktX3_isText_0 := by decide +kernel
theorem dksX3_isText_1 : cX3_isText.data.toList.drop 24 = dktX3_isText_1 := dk_seg dksX3_isText_0 24 rfl rfl
theorem dksX3_isText_2 : cX3_isText.data.toList.drop 48 = dktX3_isText_2 := dk_seg dksX3_isText_1 24 rfl rfl
theorem dX3_isText_0 : decode cX3_isText 0 = .ok (.aload_n 0, 1) := dk_42 (dk_at dksX3_isText_0 0 rfl rfl)
theorem dX3_isText_1 : decode cX3_isText 1 = .ok (.iconst 0, 1) := dk_3 (dk_at dksX3_isText_0 1 rfl rfl)
theorem dX3_isText_2 : decode cX3_isText 2 = .ok (.putfield 172, 3) := dk_181 0 172 (dk_at dksX3_isText_0 2 rfl rfl)
theorem dX3_isText_5 : decode cX3_isText 5 = .ok (.aload_n 0, 1) := dk_42 (dk_at dksX3_isText_0 5 rfl rfl)
theorem dX3_isText_6 : decode cX3_isText 6 = .ok (.invokevirtual 198, 3) := dk_182 0 198 (dk_at dksX3_isText_0 6 rfl rfl)
theorem dX3_isText_9 : decode cX3_isText 9 = .ok (.aload_n 0, 1) := dk_42 (dk_at dksX3_isText_0 9 rfl rfl)
theorem dX3_isText_10 : decode cX3_isText 10 = .ok (.getfield 175, 3) := dk_180 0 175 (dk_at dksX3_isText_0 10 rfl rfl)
theorem dX3_isText_13 : decode cX3_isText 13 = .ok (.ifCond .eq 34, 3) := dk_153 0 34 (dk_at dksX3_isText_0 13 rfl rfl)
theorem dX3_isText_16 : decode cX3_isText 16 = .ok (.aload_n 0, 1) := dk_42 (dk_at dksX3_isText_0 16 rfl rfl)
theorem dX3_isText_17 : decode cX3_isText 17 = .ok (.getfield 172, 3) := dk_180 0 172 (dk_at dksX3_isText_0 17 rfl rfl)
theorem dX3_isText_20 : decode cX3_isText 20 = .ok (.aload_n 0, 1) := dk_42 (dk_at dksX3_isText_0 20 rfl rfl)
theorem dX3_isText_21 : decode cX3_isText 21 = .ok (.getfield 169, 3) := dk_180 0 169 (dk_at dksX3_isText_0 21 rfl rfl)
theorem dX3_isText_24 : decode cX3_isText 24 = .ok (.if_icmp .ge 23, 3) := dk_162 0 23 (dk_at dksX3_isText_1 0 rfl rfl)
theorem dX3_isText_27 : decode cX3_isText 27 = .ok (.aload_n 0, 1) := dk_42 (dk_at dksX3_isText_1 3 rfl rfl)
theorem dX3_isText_28 : decode cX3_isText 28 = .ok (.bipush 59, 2) := dk_16 59 (dk_at dksX3_isText_1 4 rfl rfl)
theorem dX3_isText_30 : decode cX3_isText 30 = .ok (.invokevirtual 194, 3) := dk_182 0 194 (dk_at dksX3_isText_1 6 rfl rfl)
theorem dX3_isText_33 : decode cX3_isText 33 = .ok (.aload_n 0, 1) := dk_42 (dk_at dksX3_isText_1 9 rfl rfl)
theorem dX3_isText_34 : decode cX3_isText 34 = .ok (.getfield 175, 3) := dk_180 0 175 (dk_at dksX3_isText_1 10 rfl rfl)
theorem dX3_isText_37 : decode cX3_isText 37 = .ok (.ifCond .eq (-28), 3) := dk_153 255 228 (dk_at dksX3_isText_1 13 rfl rfl)
theorem dX3_isText_40 : decode cX3_isText 40 = .ok (.aload_n 0, 1) := dk_42 (dk_at dksX3_isText_1 16 rfl rfl)
theorem dX3_isText_41 : decode cX3_isText 41 = .ok (.invokevirtual 198, 3) := dk_182 0 198 (dk_at dksX3_isText_1 17 rfl rfl)
theorem dX3_isText_44 : decode cX3_isText 44 = .ok (.goto (-35), 3) := dk_167 255 221 (dk_at dksX3_isText_1 20 rfl rfl)
theorem dX3_isText_47 : decode cX3_isText 47 = .ok (.aload_n 0, 1) := dk_42 (dk_at dksX3_isText_1 23 rfl rfl)
theorem dX3_isText_48 : decode cX3_isText 48 = .ok (.getfield 175, 3) := dk_180 0 175 (dk_at dksX3_isText_2 0 rfl rfl)
theorem dX3_isText_51 : decode cX3_isText 51 = .ok (.ireturn, 1) := dk_172 (dk_at dksX3_isText_2 3 rfl rfl)
abbrev cX3_reads : ByteArray := prog_13_method_86_code
def yX3_reads : MethodName := ⟨RX3, "reads", "()V"⟩
def dkwX3_reads_14 : List UInt8 := [182, 0, 191, 167, 0, 4, 3, 181, 0, 188, 177]
abbrev dktX3_reads_14 : List UInt8 := dkwX3_reads_14 ++ []
def dkwX3_reads_13 : List UInt8 := [153, 0, 28, 42, 3, 42, 180, 0, 182, 16, 110, 160, 0, 9, 17, 1, 127, 167, 0, 5, 16, 59]
abbrev dktX3_reads_13 : List UInt8 := dkwX3_reads_13 ++ dktX3_reads_14
def dkwX3_reads_12 : List UInt8 := [180, 0, 182, 16, 110, 160, 0, 8, 16, 64, 167, 0, 5, 16, 46, 182, 0, 194, 42, 42, 180, 0, 175]
abbrev dktX3_reads_12 : List UInt8 := dkwX3_reads_12 ++ dktX3_reads_13
def dkwX3_reads_11 : List UInt8 := [181, 0, 185, 42, 180, 0, 182, 16, 110, 159, 0, 12, 42, 180, 0, 182, 16, 108, 160, 0, 60, 42, 42]
abbrev dktX3_reads_11 : List UInt8 := dkwX3_reads_11 ++ dktX3_reads_12
def dkwX3_reads_10 : List UInt8 := [16, 99, 167, 0, 19, 42, 180, 0, 182, 16, 103, 160, 0, 8, 16, 6, 167, 0, 5, 16, 7, 182, 0, 191]
abbrev dktX3_reads_10 : List UInt8 := dkwX3_reads_10 ++ dktX3_reads_11
def dkwX3_reads_9 : List UInt8 := [42, 42, 180, 0, 182, 16, 103, 160, 0, 7, 4, 167, 0, 4, 3, 42, 180, 0, 182, 16, 110, 160, 0, 8]
abbrev dktX3_reads_9 : List UInt8 := dkwX3_reads_9 ++ dktX3_reads_10
def dkwX3_reads_8 : List UInt8 := [96, 181, 0, 172, 167, 255, 213, 42, 180, 0, 182, 16, 97, 159, 0, 137, 42, 180, 0, 175, 153, 0, 130, 42]
abbrev dktX3_reads_8 : List UInt8 := dkwX3_reads_8 ++ dktX3_reads_9
def dkwX3_reads_7 : List UInt8 := [16, 55, 184, 0, 26, 153, 0, 169, 42, 89, 180, 0, 188, 4, 96, 181, 0, 188, 42, 89, 180, 0, 172, 4]
abbrev dktX3_reads_7 : List UInt8 := dkwX3_reads_7 ++ dktX3_reads_8
def dkwX3_reads_6 : List UInt8 := [16, 55, 184, 0, 26, 181, 0, 175, 42, 180, 0, 188, 16, 20, 162, 0, 183, 42, 182, 0, 179, 16, 48]
abbrev dktX3_reads_6 : List UInt8 := dkwX3_reads_6 ++ dktX3_reads_7
def dkwX3_reads_5 : List UInt8 := [181, 0, 185, 42, 3, 181, 0, 188, 42, 180, 0, 182, 16, 115, 160, 0, 64, 42, 42, 182, 0, 179, 16, 48]
abbrev dktX3_reads_5 : List UInt8 := dkwX3_reads_5 ++ dktX3_reads_6
def dkwX3_reads_4 : List UInt8 := [180, 0, 172, 42, 180, 0, 175, 153, 0, 7, 4, 167, 0, 4, 3, 96, 181, 0, 172, 42, 42, 180, 0, 172]
abbrev dktX3_reads_4 : List UInt8 := dkwX3_reads_4 ++ dktX3_reads_5
def dkwX3_reads_3 : List UInt8 := [159, 0, 12, 42, 180, 0, 182, 16, 103, 160, 0, 7, 4, 167, 0, 4, 3, 181, 0, 175, 42, 89]
abbrev dktX3_reads_3 : List UInt8 := dkwX3_reads_3 ++ dktX3_reads_4
def dkwX3_reads_2 : List UInt8 := [180, 0, 182, 16, 117, 159, 0, 30, 42, 180, 0, 182, 16, 98, 159, 0, 21, 42, 180, 0, 182, 16, 97]
abbrev dktX3_reads_2 : List UInt8 := dkwX3_reads_2 ++ dktX3_reads_3
def dkwX3_reads_1 : List UInt8 := [159, 0, 57, 42, 180, 0, 182, 16, 119, 159, 0, 48, 42, 180, 0, 182, 16, 108, 159, 0, 39, 42]
abbrev dktX3_reads_1 : List UInt8 := dkwX3_reads_1 ++ dktX3_reads_2
def dkwX3_reads_0 : List UInt8 := [42, 42, 182, 0, 179, 181, 0, 182, 42, 42, 180, 0, 182, 16, 110, 159, 0, 66, 42, 180, 0, 182, 16, 115]
abbrev dktX3_reads_0 : List UInt8 := dkwX3_reads_0 ++ dktX3_reads_1
theorem dksX3_reads_0 : cX3_reads.data.toList.drop 0 = dktX3_reads_0 := by decide +kernel
theorem dksX3_reads_1 : cX3_reads.data.toList.drop 24 = dktX3_reads_1 := dk_seg dksX3_reads_0 24 rfl rfl
theorem dksX3_reads_2 : cX3_reads.data.toList.drop 46 = dktX3_reads_2 := dk_seg dksX3_reads_1 22 rfl rfl
theorem dksX3_reads_3 : cX3_reads.data.toList.drop 69 = dktX3_reads_3 := dk_seg dksX3_reads_2 23 rfl rfl
theorem dksX3_reads_4 : cX3_reads.data.toList.drop 91 = dktX3_reads_4 := dk_seg dksX3_reads_3 22 rfl rfl
theorem dksX3_reads_5 : cX3_reads.data.toList.drop 115 = dktX3_reads_5 := dk_seg dksX3_reads_4 24 rfl rfl
theorem dksX3_reads_6 : cX3_reads.data.toList.drop 139 = dktX3_reads_6 := dk_seg dksX3_reads_5 24 rfl rfl
theorem dksX3_reads_7 : cX3_reads.data.toList.drop 162 = dktX3_reads_7 := dk_seg dksX3_reads_6 23 rfl rfl
theorem dksX3_reads_8 : cX3_reads.data.toList.drop 186 = dktX3_reads_8 := dk_seg dksX3_reads_7 24 rfl rfl
theorem dksX3_reads_9 : cX3_reads.data.toList.drop 210 = dktX3_reads_9 := dk_seg dksX3_reads_8 24 rfl rfl
theorem dksX3_reads_10 : cX3_reads.data.toList.drop 234 = dktX3_reads_10 := dk_seg dksX3_reads_9 24 rfl rfl
theorem dksX3_reads_11 : cX3_reads.data.toList.drop 258 = dktX3_reads_11 := dk_seg dksX3_reads_10 24 rfl rfl
theorem dksX3_reads_12 : cX3_reads.data.toList.drop 281 = dktX3_reads_12 := dk_seg dksX3_reads_11 23 rfl rfl
theorem dksX3_reads_13 : cX3_reads.data.toList.drop 304 = dktX3_reads_13 := dk_seg dksX3_reads_12 23 rfl rfl
theorem dksX3_reads_14 : cX3_reads.data.toList.drop 326 = dktX3_reads_14 := dk_seg dksX3_reads_13 22 rfl rfl
theorem dX3_reads_0 : decode cX3_reads 0 = .ok (.aload_n 0, 1) := dk_42 (dk_at dksX3_reads_0 0 rfl rfl)
theorem dX3_reads_1 : decode cX3_reads 1 = .ok (.aload_n 0, 1) := dk_42 (dk_at dksX3_reads_0 1 rfl rfl)
theorem dX3_reads_2 : decode cX3_reads 2 = .ok (.invokevirtual 179, 3) := dk_182 0 179 (dk_at dksX3_reads_0 2 rfl rfl)
theorem dX3_reads_5 : decode cX3_reads 5 = .ok (.putfield 182, 3) := dk_181 0 182 (dk_at dksX3_reads_0 5 rfl rfl)
theorem dX3_reads_8 : decode cX3_reads 8 = .ok (.aload_n 0, 1) := dk_42 (dk_at dksX3_reads_0 8 rfl rfl)
theorem dX3_reads_9 : decode cX3_reads 9 = .ok (.aload_n 0, 1) := dk_42 (dk_at dksX3_reads_0 9 rfl rfl)
theorem dX3_reads_10 : decode cX3_reads 10 = .ok (.getfield 182, 3) := dk_180 0 182 (dk_at dksX3_reads_0 10 rfl rfl)
theorem dX3_reads_13 : decode cX3_reads 13 = .ok (.bipush 110, 2) := dk_16 110 (dk_at dksX3_reads_0 13 rfl rfl)
theorem dX3_reads_15 : decode cX3_reads 15 = .ok (.if_icmp .eq 66, 3) := dk_159 0 66 (dk_at dksX3_reads_0 15 rfl rfl)
theorem dX3_reads_18 : decode cX3_reads 18 = .ok (.aload_n 0, 1) := dk_42 (dk_at dksX3_reads_0 18 rfl rfl)
theorem dX3_reads_19 : decode cX3_reads 19 = .ok (.getfield 182, 3) := dk_180 0 182 (dk_at dksX3_reads_0 19 rfl rfl)
theorem dX3_reads_22 : decode cX3_reads 22 = .ok (.bipush 115, 2) := dk_16 115 (dk_at dksX3_reads_0 22 rfl rfl)
theorem dX3_reads_24 : decode cX3_reads 24 = .ok (.if_icmp .eq 57, 3) := dk_159 0 57 (dk_at dksX3_reads_1 0 rfl rfl)
theorem dX3_reads_27 : decode cX3_reads 27 = .ok (.aload_n 0, 1) := dk_42 (dk_at dksX3_reads_1 3 rfl rfl)
theorem dX3_reads_28 : decode cX3_reads 28 = .ok (.getfield 182, 3) := dk_180 0 182 (dk_at dksX3_reads_1 4 rfl rfl)
theorem dX3_reads_31 : decode cX3_reads 31 = .ok (.bipush 119, 2) := dk_16 119 (dk_at dksX3_reads_1 7 rfl rfl)
theorem dX3_reads_33 : decode cX3_reads 33 = .ok (.if_icmp .eq 48, 3) := dk_159 0 48 (dk_at dksX3_reads_1 9 rfl rfl)
theorem dX3_reads_36 : decode cX3_reads 36 = .ok (.aload_n 0, 1) := dk_42 (dk_at dksX3_reads_1 12 rfl rfl)
theorem dX3_reads_37 : decode cX3_reads 37 = .ok (.getfield 182, 3) := dk_180 0 182 (dk_at dksX3_reads_1 13 rfl rfl)
theorem dX3_reads_40 : decode cX3_reads 40 = .ok (.bipush 108, 2) := dk_16 108 (dk_at dksX3_reads_1 16 rfl rfl)
theorem dX3_reads_42 : decode cX3_reads 42 = .ok (.if_icmp .eq 39, 3) := dk_159 0 39 (dk_at dksX3_reads_1 18 rfl rfl)
theorem dX3_reads_45 : decode cX3_reads 45 = .ok (.aload_n 0, 1) := dk_42 (dk_at dksX3_reads_1 21 rfl rfl)
theorem dX3_reads_46 : decode cX3_reads 46 = .ok (.getfield 182, 3) := dk_180 0 182 (dk_at dksX3_reads_2 0 rfl rfl)
theorem dX3_reads_49 : decode cX3_reads 49 = .ok (.bipush 117, 2) := dk_16 117 (dk_at dksX3_reads_2 3 rfl rfl)
theorem dX3_reads_51 : decode cX3_reads 51 = .ok (.if_icmp .eq 30, 3) := dk_159 0 30 (dk_at dksX3_reads_2 5 rfl rfl)
theorem dX3_reads_54 : decode cX3_reads 54 = .ok (.aload_n 0, 1) := dk_42 (dk_at dksX3_reads_2 8 rfl rfl)
theorem dX3_reads_55 : decode cX3_reads 55 = .ok (.getfield 182, 3) := dk_180 0 182 (dk_at dksX3_reads_2 9 rfl rfl)
theorem dX3_reads_58 : decode cX3_reads 58 = .ok (.bipush 98, 2) := dk_16 98 (dk_at dksX3_reads_2 12 rfl rfl)
theorem dX3_reads_60 : decode cX3_reads 60 = .ok (.if_icmp .eq 21, 3) := dk_159 0 21 (dk_at dksX3_reads_2 14 rfl rfl)
theorem dX3_reads_63 : decode cX3_reads 63 = .ok (.aload_n 0, 1) := dk_42 (dk_at dksX3_reads_2 17 rfl rfl)
theorem dX3_reads_64 : decode cX3_reads 64 = .ok (.getfield 182, 3) := dk_180 0 182 (dk_at dksX3_reads_2 18 rfl rfl)
theorem dX3_reads_67 : decode cX3_reads 67 = .ok (.bipush 97, 2) := dk_16 97 (dk_at dksX3_reads_2 21 rfl rfl)
theorem dX3_reads_69 : decode cX3_reads 69 = .ok (.if_icmp .eq 12, 3) := dk_159 0 12 (dk_at dksX3_reads_3 0 rfl rfl)
theorem dX3_reads_72 : decode cX3_reads 72 = .ok (.aload_n 0, 1) := dk_42 (dk_at dksX3_reads_3 3 rfl rfl)
theorem dX3_reads_73 : decode cX3_reads 73 = .ok (.getfield 182, 3) := dk_180 0 182 (dk_at dksX3_reads_3 4 rfl rfl)
theorem dX3_reads_76 : decode cX3_reads 76 = .ok (.bipush 103, 2) := dk_16 103 (dk_at dksX3_reads_3 7 rfl rfl)
theorem dX3_reads_78 : decode cX3_reads 78 = .ok (.if_icmp .ne 7, 3) := dk_160 0 7 (dk_at dksX3_reads_3 9 rfl rfl)
theorem dX3_reads_81 : decode cX3_reads 81 = .ok (.iconst 1, 1) := dk_4 (dk_at dksX3_reads_3 12 rfl rfl)
theorem dX3_reads_82 : decode cX3_reads 82 = .ok (.goto 4, 3) := dk_167 0 4 (dk_at dksX3_reads_3 13 rfl rfl)
theorem dX3_reads_85 : decode cX3_reads 85 = .ok (.iconst 0, 1) := dk_3 (dk_at dksX3_reads_3 16 rfl rfl)
theorem dX3_reads_86 : decode cX3_reads 86 = .ok (.putfield 175, 3) := dk_181 0 175 (dk_at dksX3_reads_3 17 rfl rfl)
theorem dX3_reads_89 : decode cX3_reads 89 = .ok (.aload_n 0, 1) := dk_42 (dk_at dksX3_reads_3 20 rfl rfl)
theorem dX3_reads_90 : decode cX3_reads 90 = .ok (.dup, 1) := dk_89 (dk_at dksX3_reads_3 21 rfl rfl)
theorem dX3_reads_91 : decode cX3_reads 91 = .ok (.getfield 172, 3) := dk_180 0 172 (dk_at dksX3_reads_4 0 rfl rfl)
theorem dX3_reads_94 : decode cX3_reads 94 = .ok (.aload_n 0, 1) := dk_42 (dk_at dksX3_reads_4 3 rfl rfl)
theorem dX3_reads_95 : decode cX3_reads 95 = .ok (.getfield 175, 3) := dk_180 0 175 (dk_at dksX3_reads_4 4 rfl rfl)
theorem dX3_reads_98 : decode cX3_reads 98 = .ok (.ifCond .eq 7, 3) := dk_153 0 7 (dk_at dksX3_reads_4 7 rfl rfl)
theorem dX3_reads_101 : decode cX3_reads 101 = .ok (.iconst 1, 1) := dk_4 (dk_at dksX3_reads_4 10 rfl rfl)
theorem dX3_reads_102 : decode cX3_reads 102 = .ok (.goto 4, 3) := dk_167 0 4 (dk_at dksX3_reads_4 11 rfl rfl)
theorem dX3_reads_105 : decode cX3_reads 105 = .ok (.iconst 0, 1) := dk_3 (dk_at dksX3_reads_4 14 rfl rfl)
theorem dX3_reads_106 : decode cX3_reads 106 = .ok (.iadd, 1) := dk_96 (dk_at dksX3_reads_4 15 rfl rfl)
theorem dX3_reads_107 : decode cX3_reads 107 = .ok (.putfield 172, 3) := dk_181 0 172 (dk_at dksX3_reads_4 16 rfl rfl)
theorem dX3_reads_110 : decode cX3_reads 110 = .ok (.aload_n 0, 1) := dk_42 (dk_at dksX3_reads_4 19 rfl rfl)
theorem dX3_reads_111 : decode cX3_reads 111 = .ok (.aload_n 0, 1) := dk_42 (dk_at dksX3_reads_4 20 rfl rfl)
theorem dX3_reads_112 : decode cX3_reads 112 = .ok (.getfield 172, 3) := dk_180 0 172 (dk_at dksX3_reads_4 21 rfl rfl)
theorem dX3_reads_115 : decode cX3_reads 115 = .ok (.putfield 185, 3) := dk_181 0 185 (dk_at dksX3_reads_5 0 rfl rfl)
theorem dX3_reads_118 : decode cX3_reads 118 = .ok (.aload_n 0, 1) := dk_42 (dk_at dksX3_reads_5 3 rfl rfl)
theorem dX3_reads_119 : decode cX3_reads 119 = .ok (.iconst 0, 1) := dk_3 (dk_at dksX3_reads_5 4 rfl rfl)
theorem dX3_reads_120 : decode cX3_reads 120 = .ok (.putfield 188, 3) := dk_181 0 188 (dk_at dksX3_reads_5 5 rfl rfl)
theorem dX3_reads_123 : decode cX3_reads 123 = .ok (.aload_n 0, 1) := dk_42 (dk_at dksX3_reads_5 8 rfl rfl)
theorem dX3_reads_124 : decode cX3_reads 124 = .ok (.getfield 182, 3) := dk_180 0 182 (dk_at dksX3_reads_5 9 rfl rfl)
theorem dX3_reads_127 : decode cX3_reads 127 = .ok (.bipush 115, 2) := dk_16 115 (dk_at dksX3_reads_5 12 rfl rfl)
theorem dX3_reads_129 : decode cX3_reads 129 = .ok (.if_icmp .ne 64, 3) := dk_160 0 64 (dk_at dksX3_reads_5 14 rfl rfl)
theorem dX3_reads_132 : decode cX3_reads 132 = .ok (.aload_n 0, 1) := dk_42 (dk_at dksX3_reads_5 17 rfl rfl)
theorem dX3_reads_133 : decode cX3_reads 133 = .ok (.aload_n 0, 1) := dk_42 (dk_at dksX3_reads_5 18 rfl rfl)
theorem dX3_reads_134 : decode cX3_reads 134 = .ok (.invokevirtual 179, 3) := dk_182 0 179 (dk_at dksX3_reads_5 19 rfl rfl)
theorem dX3_reads_137 : decode cX3_reads 137 = .ok (.bipush 48, 2) := dk_16 48 (dk_at dksX3_reads_5 22 rfl rfl)
theorem dX3_reads_139 : decode cX3_reads 139 = .ok (.bipush 55, 2) := dk_16 55 (dk_at dksX3_reads_6 0 rfl rfl)
theorem dX3_reads_141 : decode cX3_reads 141 = .ok (.invokestatic 26, 3) := dk_184 0 26 (dk_at dksX3_reads_6 2 rfl rfl)
theorem dX3_reads_144 : decode cX3_reads 144 = .ok (.putfield 175, 3) := dk_181 0 175 (dk_at dksX3_reads_6 5 rfl rfl)
theorem dX3_reads_147 : decode cX3_reads 147 = .ok (.aload_n 0, 1) := dk_42 (dk_at dksX3_reads_6 8 rfl rfl)
theorem dX3_reads_148 : decode cX3_reads 148 = .ok (.getfield 188, 3) := dk_180 0 188 (dk_at dksX3_reads_6 9 rfl rfl)
theorem dX3_reads_151 : decode cX3_reads 151 = .ok (.bipush 20, 2) := dk_16 20 (dk_at dksX3_reads_6 12 rfl rfl)
theorem dX3_reads_153 : decode cX3_reads 153 = .ok (.if_icmp .ge 183, 3) := dk_162 0 183 (dk_at dksX3_reads_6 14 rfl rfl)
theorem dX3_reads_156 : decode cX3_reads 156 = .ok (.aload_n 0, 1) := dk_42 (dk_at dksX3_reads_6 17 rfl rfl)
theorem dX3_reads_157 : decode cX3_reads 157 = .ok (.invokevirtual 179, 3) := dk_182 0 179 (dk_at dksX3_reads_6 18 rfl rfl)
theorem dX3_reads_160 : decode cX3_reads 160 = .ok (.bipush 48, 2) := dk_16 48 (dk_at dksX3_reads_6 21 rfl rfl)
theorem dX3_reads_162 : decode cX3_reads 162 = .ok (.bipush 55, 2) := dk_16 55 (dk_at dksX3_reads_7 0 rfl rfl)
theorem dX3_reads_164 : decode cX3_reads 164 = .ok (.invokestatic 26, 3) := dk_184 0 26 (dk_at dksX3_reads_7 2 rfl rfl)
theorem dX3_reads_167 : decode cX3_reads 167 = .ok (.ifCond .eq 169, 3) := dk_153 0 169 (dk_at dksX3_reads_7 5 rfl rfl)
theorem dX3_reads_170 : decode cX3_reads 170 = .ok (.aload_n 0, 1) := dk_42 (dk_at dksX3_reads_7 8 rfl rfl)
theorem dX3_reads_171 : decode cX3_reads 171 = .ok (.dup, 1) := dk_89 (dk_at dksX3_reads_7 9 rfl rfl)
theorem dX3_reads_172 : decode cX3_reads 172 = .ok (.getfield 188, 3) := dk_180 0 188 (dk_at dksX3_reads_7 10 rfl rfl)
theorem dX3_reads_175 : decode cX3_reads 175 = .ok (.iconst 1, 1) := dk_4 (dk_at dksX3_reads_7 13 rfl rfl)
theorem dX3_reads_176 : decode cX3_reads 176 = .ok (.iadd, 1) := dk_96 (dk_at dksX3_reads_7 14 rfl rfl)
theorem dX3_reads_177 : decode cX3_reads 177 = .ok (.putfield 188, 3) := dk_181 0 188 (dk_at dksX3_reads_7 15 rfl rfl)
theorem dX3_reads_180 : decode cX3_reads 180 = .ok (.aload_n 0, 1) := dk_42 (dk_at dksX3_reads_7 18 rfl rfl)
theorem dX3_reads_181 : decode cX3_reads 181 = .ok (.dup, 1) := dk_89 (dk_at dksX3_reads_7 19 rfl rfl)
theorem dX3_reads_182 : decode cX3_reads 182 = .ok (.getfield 172, 3) := dk_180 0 172 (dk_at dksX3_reads_7 20 rfl rfl)
theorem dX3_reads_185 : decode cX3_reads 185 = .ok (.iconst 1, 1) := dk_4 (dk_at dksX3_reads_7 23 rfl rfl)
theorem dX3_reads_186 : decode cX3_reads 186 = .ok (.iadd, 1) := dk_96 (dk_at dksX3_reads_8 0 rfl rfl)
theorem dX3_reads_187 : decode cX3_reads 187 = .ok (.putfield 172, 3) := dk_181 0 172 (dk_at dksX3_reads_8 1 rfl rfl)
theorem dX3_reads_190 : decode cX3_reads 190 = .ok (.goto (-43), 3) := dk_167 255 213 (dk_at dksX3_reads_8 4 rfl rfl)
theorem dX3_reads_193 : decode cX3_reads 193 = .ok (.aload_n 0, 1) := dk_42 (dk_at dksX3_reads_8 7 rfl rfl)
theorem dX3_reads_194 : decode cX3_reads 194 = .ok (.getfield 182, 3) := dk_180 0 182 (dk_at dksX3_reads_8 8 rfl rfl)
theorem dX3_reads_197 : decode cX3_reads 197 = .ok (.bipush 97, 2) := dk_16 97 (dk_at dksX3_reads_8 11 rfl rfl)
theorem dX3_reads_199 : decode cX3_reads 199 = .ok (.if_icmp .eq 137, 3) := dk_159 0 137 (dk_at dksX3_reads_8 13 rfl rfl)
theorem dX3_reads_202 : decode cX3_reads 202 = .ok (.aload_n 0, 1) := dk_42 (dk_at dksX3_reads_8 16 rfl rfl)
theorem dX3_reads_203 : decode cX3_reads 203 = .ok (.getfield 175, 3) := dk_180 0 175 (dk_at dksX3_reads_8 17 rfl rfl)
theorem dX3_reads_206 : decode cX3_reads 206 = .ok (.ifCond .eq 130, 3) := dk_153 0 130 (dk_at dksX3_reads_8 20 rfl rfl)
theorem dX3_reads_209 : decode cX3_reads 209 = .ok (.aload_n 0, 1) := dk_42 (dk_at dksX3_reads_8 23 rfl rfl)
theorem dX3_reads_210 : decode cX3_reads 210 = .ok (.aload_n 0, 1) := dk_42 (dk_at dksX3_reads_9 0 rfl rfl)
theorem dX3_reads_211 : decode cX3_reads 211 = .ok (.aload_n 0, 1) := dk_42 (dk_at dksX3_reads_9 1 rfl rfl)
theorem dX3_reads_212 : decode cX3_reads 212 = .ok (.getfield 182, 3) := dk_180 0 182 (dk_at dksX3_reads_9 2 rfl rfl)
theorem dX3_reads_215 : decode cX3_reads 215 = .ok (.bipush 103, 2) := dk_16 103 (dk_at dksX3_reads_9 5 rfl rfl)
theorem dX3_reads_217 : decode cX3_reads 217 = .ok (.if_icmp .ne 7, 3) := dk_160 0 7 (dk_at dksX3_reads_9 7 rfl rfl)
theorem dX3_reads_220 : decode cX3_reads 220 = .ok (.iconst 1, 1) := dk_4 (dk_at dksX3_reads_9 10 rfl rfl)
theorem dX3_reads_221 : decode cX3_reads 221 = .ok (.goto 4, 3) := dk_167 0 4 (dk_at dksX3_reads_9 11 rfl rfl)
theorem dX3_reads_224 : decode cX3_reads 224 = .ok (.iconst 0, 1) := dk_3 (dk_at dksX3_reads_9 14 rfl rfl)
theorem dX3_reads_225 : decode cX3_reads 225 = .ok (.aload_n 0, 1) := dk_42 (dk_at dksX3_reads_9 15 rfl rfl)
theorem dX3_reads_226 : decode cX3_reads 226 = .ok (.getfield 182, 3) := dk_180 0 182 (dk_at dksX3_reads_9 16 rfl rfl)
theorem dX3_reads_229 : decode cX3_reads 229 = .ok (.bipush 110, 2) := dk_16 110 (dk_at dksX3_reads_9 19 rfl rfl)
theorem dX3_reads_231 : decode cX3_reads 231 = .ok (.if_icmp .ne 8, 3) := dk_160 0 8 (dk_at dksX3_reads_9 21 rfl rfl)
theorem dX3_reads_234 : decode cX3_reads 234 = .ok (.bipush 99, 2) := dk_16 99 (dk_at dksX3_reads_10 0 rfl rfl)
theorem dX3_reads_236 : decode cX3_reads 236 = .ok (.goto 19, 3) := dk_167 0 19 (dk_at dksX3_reads_10 2 rfl rfl)
theorem dX3_reads_239 : decode cX3_reads 239 = .ok (.aload_n 0, 1) := dk_42 (dk_at dksX3_reads_10 5 rfl rfl)
theorem dX3_reads_240 : decode cX3_reads 240 = .ok (.getfield 182, 3) := dk_180 0 182 (dk_at dksX3_reads_10 6 rfl rfl)
theorem dX3_reads_243 : decode cX3_reads 243 = .ok (.bipush 103, 2) := dk_16 103 (dk_at dksX3_reads_10 9 rfl rfl)
theorem dX3_reads_245 : decode cX3_reads 245 = .ok (.if_icmp .ne 8, 3) := dk_160 0 8 (dk_at dksX3_reads_10 11 rfl rfl)
theorem dX3_reads_248 : decode cX3_reads 248 = .ok (.bipush 6, 2) := dk_16 6 (dk_at dksX3_reads_10 14 rfl rfl)
theorem dX3_reads_250 : decode cX3_reads 250 = .ok (.goto 5, 3) := dk_167 0 5 (dk_at dksX3_reads_10 16 rfl rfl)
theorem dX3_reads_253 : decode cX3_reads 253 = .ok (.bipush 7, 2) := dk_16 7 (dk_at dksX3_reads_10 19 rfl rfl)
theorem dX3_reads_255 : decode cX3_reads 255 = .ok (.invokevirtual 191, 3) := dk_182 0 191 (dk_at dksX3_reads_10 21 rfl rfl)
theorem dX3_reads_258 : decode cX3_reads 258 = .ok (.putfield 185, 3) := dk_181 0 185 (dk_at dksX3_reads_11 0 rfl rfl)
theorem dX3_reads_261 : decode cX3_reads 261 = .ok (.aload_n 0, 1) := dk_42 (dk_at dksX3_reads_11 3 rfl rfl)
theorem dX3_reads_262 : decode cX3_reads 262 = .ok (.getfield 182, 3) := dk_180 0 182 (dk_at dksX3_reads_11 4 rfl rfl)
theorem dX3_reads_265 : decode cX3_reads 265 = .ok (.bipush 110, 2) := dk_16 110 (dk_at dksX3_reads_11 7 rfl rfl)
theorem dX3_reads_267 : decode cX3_reads 267 = .ok (.if_icmp .eq 12, 3) := dk_159 0 12 (dk_at dksX3_reads_11 9 rfl rfl)
theorem dX3_reads_270 : decode cX3_reads 270 = .ok (.aload_n 0, 1) := dk_42 (dk_at dksX3_reads_11 12 rfl rfl)
theorem dX3_reads_271 : decode cX3_reads 271 = .ok (.getfield 182, 3) := dk_180 0 182 (dk_at dksX3_reads_11 13 rfl rfl)
theorem dX3_reads_274 : decode cX3_reads 274 = .ok (.bipush 108, 2) := dk_16 108 (dk_at dksX3_reads_11 16 rfl rfl)
theorem dX3_reads_276 : decode cX3_reads 276 = .ok (.if_icmp .ne 60, 3) := dk_160 0 60 (dk_at dksX3_reads_11 18 rfl rfl)
theorem dX3_reads_279 : decode cX3_reads 279 = .ok (.aload_n 0, 1) := dk_42 (dk_at dksX3_reads_11 21 rfl rfl)
theorem dX3_reads_280 : decode cX3_reads 280 = .ok (.aload_n 0, 1) := dk_42 (dk_at dksX3_reads_11 22 rfl rfl)
theorem dX3_reads_281 : decode cX3_reads 281 = .ok (.getfield 182, 3) := dk_180 0 182 (dk_at dksX3_reads_12 0 rfl rfl)
theorem dX3_reads_284 : decode cX3_reads 284 = .ok (.bipush 110, 2) := dk_16 110 (dk_at dksX3_reads_12 3 rfl rfl)
theorem dX3_reads_286 : decode cX3_reads 286 = .ok (.if_icmp .ne 8, 3) := dk_160 0 8 (dk_at dksX3_reads_12 5 rfl rfl)
theorem dX3_reads_289 : decode cX3_reads 289 = .ok (.bipush 64, 2) := dk_16 64 (dk_at dksX3_reads_12 8 rfl rfl)
theorem dX3_reads_291 : decode cX3_reads 291 = .ok (.goto 5, 3) := dk_167 0 5 (dk_at dksX3_reads_12 10 rfl rfl)
theorem dX3_reads_294 : decode cX3_reads 294 = .ok (.bipush 46, 2) := dk_16 46 (dk_at dksX3_reads_12 13 rfl rfl)
theorem dX3_reads_296 : decode cX3_reads 296 = .ok (.invokevirtual 194, 3) := dk_182 0 194 (dk_at dksX3_reads_12 15 rfl rfl)
theorem dX3_reads_299 : decode cX3_reads 299 = .ok (.aload_n 0, 1) := dk_42 (dk_at dksX3_reads_12 18 rfl rfl)
theorem dX3_reads_300 : decode cX3_reads 300 = .ok (.aload_n 0, 1) := dk_42 (dk_at dksX3_reads_12 19 rfl rfl)
theorem dX3_reads_301 : decode cX3_reads 301 = .ok (.getfield 175, 3) := dk_180 0 175 (dk_at dksX3_reads_12 20 rfl rfl)
theorem dX3_reads_304 : decode cX3_reads 304 = .ok (.ifCond .eq 28, 3) := dk_153 0 28 (dk_at dksX3_reads_13 0 rfl rfl)
theorem dX3_reads_307 : decode cX3_reads 307 = .ok (.aload_n 0, 1) := dk_42 (dk_at dksX3_reads_13 3 rfl rfl)
theorem dX3_reads_308 : decode cX3_reads 308 = .ok (.iconst 0, 1) := dk_3 (dk_at dksX3_reads_13 4 rfl rfl)
theorem dX3_reads_309 : decode cX3_reads 309 = .ok (.aload_n 0, 1) := dk_42 (dk_at dksX3_reads_13 5 rfl rfl)
theorem dX3_reads_310 : decode cX3_reads 310 = .ok (.getfield 182, 3) := dk_180 0 182 (dk_at dksX3_reads_13 6 rfl rfl)
theorem dX3_reads_313 : decode cX3_reads 313 = .ok (.bipush 110, 2) := dk_16 110 (dk_at dksX3_reads_13 9 rfl rfl)
theorem dX3_reads_315 : decode cX3_reads 315 = .ok (.if_icmp .ne 9, 3) := dk_160 0 9 (dk_at dksX3_reads_13 11 rfl rfl)
theorem dX3_reads_318 : decode cX3_reads 318 = .ok (.sipush 383, 3) := dk_17 1 127 (dk_at dksX3_reads_13 14 rfl rfl)
theorem dX3_reads_321 : decode cX3_reads 321 = .ok (.goto 5, 3) := dk_167 0 5 (dk_at dksX3_reads_13 17 rfl rfl)
theorem dX3_reads_324 : decode cX3_reads 324 = .ok (.bipush 59, 2) := dk_16 59 (dk_at dksX3_reads_13 20 rfl rfl)
theorem dX3_reads_326 : decode cX3_reads 326 = .ok (.invokevirtual 191, 3) := dk_182 0 191 (dk_at dksX3_reads_14 0 rfl rfl)
theorem dX3_reads_329 : decode cX3_reads 329 = .ok (.goto 4, 3) := dk_167 0 4 (dk_at dksX3_reads_14 3 rfl rfl)
theorem dX3_reads_332 : decode cX3_reads 332 = .ok (.iconst 0, 1) := dk_3 (dk_at dksX3_reads_14 6 rfl rfl)
theorem dX3_reads_333 : decode cX3_reads 333 = .ok (.putfield 188, 3) := dk_181 0 188 (dk_at dksX3_reads_14 7 rfl rfl)
theorem dX3_reads_336 : decode cX3_reads 336 = .ok (.return_, 1) := dk_177 (dk_at dksX3_reads_14 10 rfl rfl)
abbrev cX3_sign : ByteArray := prog_13_method_83_code
def yX3_sign : MethodName := ⟨RX3, "sign", "()I"⟩
def dkwX3_sign_1 : List UInt8 := [172]
abbrev dktX3_sign_1 : List UInt8 := dkwX3_sign_1 ++ []
def dkwX3_sign_0 : List UInt8 := [42, 180, 0, 172, 42, 180, 0, 169, 162, 0, 15, 42, 180, 0, 19, 42, 180, 0, 172, 46, 167, 0, 4, 3]
abbrev dktX3_sign_0 : List UInt8 := dkwX3_sign_0 ++ dktX3_sign_1
theorem dksX3_sign_0 : cX3_sign.data.toList.drop 0 = dktX3_sign_0 := by decide +kernel
theorem dksX3_sign_1 : cX3_sign.data.toList.drop 24 = dktX3_sign_1 := dk_seg dksX3_sign_0 24 rfl rfl
theorem dX3_sign_0 : decode cX3_sign 0 = .ok (.aload_n 0, 1) := dk_42 (dk_at dksX3_sign_0 0 rfl rfl)
theorem dX3_sign_1 : decode cX3_sign 1 = .ok (.getfield 172, 3) := dk_180 0 172 (dk_at dksX3_sign_0 1 rfl rfl)
theorem dX3_sign_4 : decode cX3_sign 4 = .ok (.aload_n 0, 1) := dk_42 (dk_at dksX3_sign_0 4 rfl rfl)
theorem dX3_sign_5 : decode cX3_sign 5 = .ok (.getfield 169, 3) := dk_180 0 169 (dk_at dksX3_sign_0 5 rfl rfl)
theorem dX3_sign_8 : decode cX3_sign 8 = .ok (.if_icmp .ge 15, 3) := dk_162 0 15 (dk_at dksX3_sign_0 8 rfl rfl)
theorem dX3_sign_11 : decode cX3_sign 11 = .ok (.aload_n 0, 1) := dk_42 (dk_at dksX3_sign_0 11 rfl rfl)
theorem dX3_sign_12 : decode cX3_sign 12 = .ok (.getfield 19, 3) := dk_180 0 19 (dk_at dksX3_sign_0 12 rfl rfl)
theorem dX3_sign_15 : decode cX3_sign 15 = .ok (.aload_n 0, 1) := dk_42 (dk_at dksX3_sign_0 15 rfl rfl)
theorem dX3_sign_16 : decode cX3_sign 16 = .ok (.getfield 172, 3) := dk_180 0 172 (dk_at dksX3_sign_0 16 rfl rfl)
theorem dX3_sign_19 : decode cX3_sign 19 = .ok (.iaload, 1) := dk_46 (dk_at dksX3_sign_0 19 rfl rfl)
theorem dX3_sign_20 : decode cX3_sign 20 = .ok (.goto 4, 3) := dk_167 0 4 (dk_at dksX3_sign_0 20 rfl rfl)
theorem dX3_sign_23 : decode cX3_sign 23 = .ok (.iconst 0, 1) := dk_3 (dk_at dksX3_sign_0 23 rfl rfl)
theorem dX3_sign_24 : decode cX3_sign 24 = .ok (.ireturn, 1) := dk_172 (dk_at dksX3_sign_1 0 rfl rfl)
abbrev cX3_number : ByteArray := prog_13_method_85_code
def yX3_number : MethodName := ⟨RX3, "number", "(II)I"⟩
def dkwX3_number_5 : List UInt8 := [100, 62, 42, 89, 180, 0, 172, 4, 96, 181, 0, 172, 167, 255, 192, 29, 172]
abbrev dktX3_number_5 : List UInt8 := dkwX3_number_5 ++ []
def dkwX3_number_4 : List UInt8 := [104, 42, 182, 0, 179, 96, 16, 48, 100, 28, 163, 0, 29, 16, 10, 29, 104, 42, 182, 0, 179, 96, 16, 48]
abbrev dktX3_number_4 : List UInt8 := dkwX3_number_4 ++ dktX3_number_5
def dkwX3_number_3 : List UInt8 := [153, 0, 63, 29, 158, 0, 59, 42, 182, 0, 179, 16, 48, 16, 57, 184, 0, 26, 153, 0, 45, 16, 10, 29]
abbrev dktX3_number_3 : List UInt8 := dkwX3_number_3 ++ dktX3_number_4
def dkwX3_number_2 : List UInt8 := [180, 0, 172, 42, 180, 0, 175, 153, 0, 7, 4, 167, 0, 4, 3, 96, 181, 0, 172, 42, 180, 0, 175]
abbrev dktX3_number_2 : List UInt8 := dkwX3_number_2 ++ dktX3_number_3
def dkwX3_number_1 : List UInt8 := [153, 0, 16, 29, 27, 28, 184, 0, 26, 153, 0, 7, 4, 167, 0, 4, 3, 181, 0, 175, 42, 89]
abbrev dktX3_number_1 : List UInt8 := dkwX3_number_1 ++ dktX3_number_2
def dkwX3_number_0 : List UInt8 := [42, 182, 0, 179, 16, 48, 100, 62, 42, 42, 180, 0, 175, 153, 0, 26, 29, 3, 16, 9, 184, 0, 26]
abbrev dktX3_number_0 : List UInt8 := dkwX3_number_0 ++ dktX3_number_1
theorem dksX3_number_0 : cX3_number.data.toList.drop 0 = dktX3_number_0 := by decide +kernel
theorem dksX3_number_1 : cX3_number.data.toList.drop 23 = dktX3_number_1 := dk_seg dksX3_number_0 23 rfl rfl
theorem dksX3_number_2 : cX3_number.data.toList.drop 45 = dktX3_number_2 := dk_seg dksX3_number_1 22 rfl rfl
theorem dksX3_number_3 : cX3_number.data.toList.drop 68 = dktX3_number_3 := dk_seg dksX3_number_2 23 rfl rfl
theorem dksX3_number_4 : cX3_number.data.toList.drop 92 = dktX3_number_4 := dk_seg dksX3_number_3 24 rfl rfl
theorem dksX3_number_5 : cX3_number.data.toList.drop 116 = dktX3_number_5 := dk_seg dksX3_number_4 24 rfl rfl
theorem dX3_number_0 : decode cX3_number 0 = .ok (.aload_n 0, 1) := dk_42 (dk_at dksX3_number_0 0 rfl rfl)
theorem dX3_number_1 : decode cX3_number 1 = .ok (.invokevirtual 179, 3) := dk_182 0 179 (dk_at dksX3_number_0 1 rfl rfl)
theorem dX3_number_4 : decode cX3_number 4 = .ok (.bipush 48, 2) := dk_16 48 (dk_at dksX3_number_0 4 rfl rfl)
theorem dX3_number_6 : decode cX3_number 6 = .ok (.isub, 1) := dk_100 (dk_at dksX3_number_0 6 rfl rfl)
theorem dX3_number_7 : decode cX3_number 7 = .ok (.istore_n 3, 1) := dk_62 (dk_at dksX3_number_0 7 rfl rfl)
theorem dX3_number_8 : decode cX3_number 8 = .ok (.aload_n 0, 1) := dk_42 (dk_at dksX3_number_0 8 rfl rfl)
theorem dX3_number_9 : decode cX3_number 9 = .ok (.aload_n 0, 1) := dk_42 (dk_at dksX3_number_0 9 rfl rfl)
theorem dX3_number_10 : decode cX3_number 10 = .ok (.getfield 175, 3) := dk_180 0 175 (dk_at dksX3_number_0 10 rfl rfl)
theorem dX3_number_13 : decode cX3_number 13 = .ok (.ifCond .eq 26, 3) := dk_153 0 26 (dk_at dksX3_number_0 13 rfl rfl)
theorem dX3_number_16 : decode cX3_number 16 = .ok (.iload_n 3, 1) := dk_29 (dk_at dksX3_number_0 16 rfl rfl)
theorem dX3_number_17 : decode cX3_number 17 = .ok (.iconst 0, 1) := dk_3 (dk_at dksX3_number_0 17 rfl rfl)
theorem dX3_number_18 : decode cX3_number 18 = .ok (.bipush 9, 2) := dk_16 9 (dk_at dksX3_number_0 18 rfl rfl)
theorem dX3_number_20 : decode cX3_number 20 = .ok (.invokestatic 26, 3) := dk_184 0 26 (dk_at dksX3_number_0 20 rfl rfl)
theorem dX3_number_23 : decode cX3_number 23 = .ok (.ifCond .eq 16, 3) := dk_153 0 16 (dk_at dksX3_number_1 0 rfl rfl)
theorem dX3_number_26 : decode cX3_number 26 = .ok (.iload_n 3, 1) := dk_29 (dk_at dksX3_number_1 3 rfl rfl)
theorem dX3_number_27 : decode cX3_number 27 = .ok (.iload_n 1, 1) := dk_27 (dk_at dksX3_number_1 4 rfl rfl)
theorem dX3_number_28 : decode cX3_number 28 = .ok (.iload_n 2, 1) := dk_28 (dk_at dksX3_number_1 5 rfl rfl)
theorem dX3_number_29 : decode cX3_number 29 = .ok (.invokestatic 26, 3) := dk_184 0 26 (dk_at dksX3_number_1 6 rfl rfl)
theorem dX3_number_32 : decode cX3_number 32 = .ok (.ifCond .eq 7, 3) := dk_153 0 7 (dk_at dksX3_number_1 9 rfl rfl)
theorem dX3_number_35 : decode cX3_number 35 = .ok (.iconst 1, 1) := dk_4 (dk_at dksX3_number_1 12 rfl rfl)
theorem dX3_number_36 : decode cX3_number 36 = .ok (.goto 4, 3) := dk_167 0 4 (dk_at dksX3_number_1 13 rfl rfl)
theorem dX3_number_39 : decode cX3_number 39 = .ok (.iconst 0, 1) := dk_3 (dk_at dksX3_number_1 16 rfl rfl)
theorem dX3_number_40 : decode cX3_number 40 = .ok (.putfield 175, 3) := dk_181 0 175 (dk_at dksX3_number_1 17 rfl rfl)
theorem dX3_number_43 : decode cX3_number 43 = .ok (.aload_n 0, 1) := dk_42 (dk_at dksX3_number_1 20 rfl rfl)
theorem dX3_number_44 : decode cX3_number 44 = .ok (.dup, 1) := dk_89 (dk_at dksX3_number_1 21 rfl rfl)
theorem dX3_number_45 : decode cX3_number 45 = .ok (.getfield 172, 3) := dk_180 0 172 (dk_at dksX3_number_2 0 rfl rfl)
theorem dX3_number_48 : decode cX3_number 48 = .ok (.aload_n 0, 1) := dk_42 (dk_at dksX3_number_2 3 rfl rfl)
theorem dX3_number_49 : decode cX3_number 49 = .ok (.getfield 175, 3) := dk_180 0 175 (dk_at dksX3_number_2 4 rfl rfl)
theorem dX3_number_52 : decode cX3_number 52 = .ok (.ifCond .eq 7, 3) := dk_153 0 7 (dk_at dksX3_number_2 7 rfl rfl)
theorem dX3_number_55 : decode cX3_number 55 = .ok (.iconst 1, 1) := dk_4 (dk_at dksX3_number_2 10 rfl rfl)
theorem dX3_number_56 : decode cX3_number 56 = .ok (.goto 4, 3) := dk_167 0 4 (dk_at dksX3_number_2 11 rfl rfl)
theorem dX3_number_59 : decode cX3_number 59 = .ok (.iconst 0, 1) := dk_3 (dk_at dksX3_number_2 14 rfl rfl)
theorem dX3_number_60 : decode cX3_number 60 = .ok (.iadd, 1) := dk_96 (dk_at dksX3_number_2 15 rfl rfl)
theorem dX3_number_61 : decode cX3_number 61 = .ok (.putfield 172, 3) := dk_181 0 172 (dk_at dksX3_number_2 16 rfl rfl)
theorem dX3_number_64 : decode cX3_number 64 = .ok (.aload_n 0, 1) := dk_42 (dk_at dksX3_number_2 19 rfl rfl)
theorem dX3_number_65 : decode cX3_number 65 = .ok (.getfield 175, 3) := dk_180 0 175 (dk_at dksX3_number_2 20 rfl rfl)
theorem dX3_number_68 : decode cX3_number 68 = .ok (.ifCond .eq 63, 3) := dk_153 0 63 (dk_at dksX3_number_3 0 rfl rfl)
theorem dX3_number_71 : decode cX3_number 71 = .ok (.iload_n 3, 1) := dk_29 (dk_at dksX3_number_3 3 rfl rfl)
theorem dX3_number_72 : decode cX3_number 72 = .ok (.ifCond .le 59, 3) := dk_158 0 59 (dk_at dksX3_number_3 4 rfl rfl)
theorem dX3_number_75 : decode cX3_number 75 = .ok (.aload_n 0, 1) := dk_42 (dk_at dksX3_number_3 7 rfl rfl)
theorem dX3_number_76 : decode cX3_number 76 = .ok (.invokevirtual 179, 3) := dk_182 0 179 (dk_at dksX3_number_3 8 rfl rfl)
theorem dX3_number_79 : decode cX3_number 79 = .ok (.bipush 48, 2) := dk_16 48 (dk_at dksX3_number_3 11 rfl rfl)
theorem dX3_number_81 : decode cX3_number 81 = .ok (.bipush 57, 2) := dk_16 57 (dk_at dksX3_number_3 13 rfl rfl)
theorem dX3_number_83 : decode cX3_number 83 = .ok (.invokestatic 26, 3) := dk_184 0 26 (dk_at dksX3_number_3 15 rfl rfl)
theorem dX3_number_86 : decode cX3_number 86 = .ok (.ifCond .eq 45, 3) := dk_153 0 45 (dk_at dksX3_number_3 18 rfl rfl)
theorem dX3_number_89 : decode cX3_number 89 = .ok (.bipush 10, 2) := dk_16 10 (dk_at dksX3_number_3 21 rfl rfl)
theorem dX3_number_91 : decode cX3_number 91 = .ok (.iload_n 3, 1) := dk_29 (dk_at dksX3_number_3 23 rfl rfl)
theorem dX3_number_92 : decode cX3_number 92 = .ok (.imul, 1) := dk_104 (dk_at dksX3_number_4 0 rfl rfl)
theorem dX3_number_93 : decode cX3_number 93 = .ok (.aload_n 0, 1) := dk_42 (dk_at dksX3_number_4 1 rfl rfl)
theorem dX3_number_94 : decode cX3_number 94 = .ok (.invokevirtual 179, 3) := dk_182 0 179 (dk_at dksX3_number_4 2 rfl rfl)
theorem dX3_number_97 : decode cX3_number 97 = .ok (.iadd, 1) := dk_96 (dk_at dksX3_number_4 5 rfl rfl)
theorem dX3_number_98 : decode cX3_number 98 = .ok (.bipush 48, 2) := dk_16 48 (dk_at dksX3_number_4 6 rfl rfl)
theorem dX3_number_100 : decode cX3_number 100 = .ok (.isub, 1) := dk_100 (dk_at dksX3_number_4 8 rfl rfl)
theorem dX3_number_101 : decode cX3_number 101 = .ok (.iload_n 2, 1) := dk_28 (dk_at dksX3_number_4 9 rfl rfl)
theorem dX3_number_102 : decode cX3_number 102 = .ok (.if_icmp .gt 29, 3) := dk_163 0 29 (dk_at dksX3_number_4 10 rfl rfl)
theorem dX3_number_105 : decode cX3_number 105 = .ok (.bipush 10, 2) := dk_16 10 (dk_at dksX3_number_4 13 rfl rfl)
theorem dX3_number_107 : decode cX3_number 107 = .ok (.iload_n 3, 1) := dk_29 (dk_at dksX3_number_4 15 rfl rfl)
theorem dX3_number_108 : decode cX3_number 108 = .ok (.imul, 1) := dk_104 (dk_at dksX3_number_4 16 rfl rfl)
theorem dX3_number_109 : decode cX3_number 109 = .ok (.aload_n 0, 1) := dk_42 (dk_at dksX3_number_4 17 rfl rfl)
theorem dX3_number_110 : decode cX3_number 110 = .ok (.invokevirtual 179, 3) := dk_182 0 179 (dk_at dksX3_number_4 18 rfl rfl)
theorem dX3_number_113 : decode cX3_number 113 = .ok (.iadd, 1) := dk_96 (dk_at dksX3_number_4 21 rfl rfl)
theorem dX3_number_114 : decode cX3_number 114 = .ok (.bipush 48, 2) := dk_16 48 (dk_at dksX3_number_4 22 rfl rfl)
theorem dX3_number_116 : decode cX3_number 116 = .ok (.isub, 1) := dk_100 (dk_at dksX3_number_5 0 rfl rfl)
theorem dX3_number_117 : decode cX3_number 117 = .ok (.istore_n 3, 1) := dk_62 (dk_at dksX3_number_5 1 rfl rfl)
theorem dX3_number_118 : decode cX3_number 118 = .ok (.aload_n 0, 1) := dk_42 (dk_at dksX3_number_5 2 rfl rfl)
theorem dX3_number_119 : decode cX3_number 119 = .ok (.dup, 1) := dk_89 (dk_at dksX3_number_5 3 rfl rfl)
theorem dX3_number_120 : decode cX3_number 120 = .ok (.getfield 172, 3) := dk_180 0 172 (dk_at dksX3_number_5 4 rfl rfl)
theorem dX3_number_123 : decode cX3_number 123 = .ok (.iconst 1, 1) := dk_4 (dk_at dksX3_number_5 7 rfl rfl)
theorem dX3_number_124 : decode cX3_number 124 = .ok (.iadd, 1) := dk_96 (dk_at dksX3_number_5 8 rfl rfl)
theorem dX3_number_125 : decode cX3_number 125 = .ok (.putfield 172, 3) := dk_181 0 172 (dk_at dksX3_number_5 9 rfl rfl)
theorem dX3_number_128 : decode cX3_number 128 = .ok (.goto (-64), 3) := dk_167 255 192 (dk_at dksX3_number_5 12 rfl rfl)
theorem dX3_number_131 : decode cX3_number 131 = .ok (.iload_n 3, 1) := dk_29 (dk_at dksX3_number_5 15 rfl rfl)
theorem dX3_number_132 : decode cX3_number 132 = .ok (.ireturn, 1) := dk_172 (dk_at dksX3_number_5 16 rfl rfl)
abbrev cX3_needs : ByteArray := prog_13_method_84_code
def yX3_needs : MethodName := ⟨RX3, "needs", "(I)V"⟩
def dkwX3_needs_1 : List UInt8 := [42, 89, 180, 0, 172, 42, 180, 0, 175, 153, 0, 7, 4, 167, 0, 4, 3, 96, 181, 0, 172, 177]
abbrev dktX3_needs_1 : List UInt8 := dkwX3_needs_1 ++ []
def dkwX3_needs_0 : List UInt8 := [42, 42, 180, 0, 175, 153, 0, 15, 42, 182, 0, 179, 27, 160, 0, 7, 4, 167, 0, 4, 3, 181, 0, 175]
abbrev dktX3_needs_0 : List UInt8 := dkwX3_needs_0 ++ dktX3_needs_1
theorem dksX3_needs_0 : cX3_needs.data.toList.drop 0 = dktX3_needs_0 := by decide +kernel
theorem dksX3_needs_1 : cX3_needs.data.toList.drop 24 = dktX3_needs_1 := dk_seg dksX3_needs_0 24 rfl rfl
theorem dX3_needs_0 : decode cX3_needs 0 = .ok (.aload_n 0, 1) := dk_42 (dk_at dksX3_needs_0 0 rfl rfl)
theorem dX3_needs_1 : decode cX3_needs 1 = .ok (.aload_n 0, 1) := dk_42 (dk_at dksX3_needs_0 1 rfl rfl)
theorem dX3_needs_2 : decode cX3_needs 2 = .ok (.getfield 175, 3) := dk_180 0 175 (dk_at dksX3_needs_0 2 rfl rfl)
theorem dX3_needs_5 : decode cX3_needs 5 = .ok (.ifCond .eq 15, 3) := dk_153 0 15 (dk_at dksX3_needs_0 5 rfl rfl)
theorem dX3_needs_8 : decode cX3_needs 8 = .ok (.aload_n 0, 1) := dk_42 (dk_at dksX3_needs_0 8 rfl rfl)
theorem dX3_needs_9 : decode cX3_needs 9 = .ok (.invokevirtual 179, 3) := dk_182 0 179 (dk_at dksX3_needs_0 9 rfl rfl)
theorem dX3_needs_12 : decode cX3_needs 12 = .ok (.iload_n 1, 1) := dk_27 (dk_at dksX3_needs_0 12 rfl rfl)
theorem dX3_needs_13 : decode cX3_needs 13 = .ok (.if_icmp .ne 7, 3) := dk_160 0 7 (dk_at dksX3_needs_0 13 rfl rfl)
theorem dX3_needs_16 : decode cX3_needs 16 = .ok (.iconst 1, 1) := dk_4 (dk_at dksX3_needs_0 16 rfl rfl)
theorem dX3_needs_17 : decode cX3_needs 17 = .ok (.goto 4, 3) := dk_167 0 4 (dk_at dksX3_needs_0 17 rfl rfl)
theorem dX3_needs_20 : decode cX3_needs 20 = .ok (.iconst 0, 1) := dk_3 (dk_at dksX3_needs_0 20 rfl rfl)
theorem dX3_needs_21 : decode cX3_needs 21 = .ok (.putfield 175, 3) := dk_181 0 175 (dk_at dksX3_needs_0 21 rfl rfl)
theorem dX3_needs_24 : decode cX3_needs 24 = .ok (.aload_n 0, 1) := dk_42 (dk_at dksX3_needs_1 0 rfl rfl)
theorem dX3_needs_25 : decode cX3_needs 25 = .ok (.dup, 1) := dk_89 (dk_at dksX3_needs_1 1 rfl rfl)
theorem dX3_needs_26 : decode cX3_needs 26 = .ok (.getfield 172, 3) := dk_180 0 172 (dk_at dksX3_needs_1 2 rfl rfl)
theorem dX3_needs_29 : decode cX3_needs 29 = .ok (.aload_n 0, 1) := dk_42 (dk_at dksX3_needs_1 5 rfl rfl)
theorem dX3_needs_30 : decode cX3_needs 30 = .ok (.getfield 175, 3) := dk_180 0 175 (dk_at dksX3_needs_1 6 rfl rfl)
theorem dX3_needs_33 : decode cX3_needs 33 = .ok (.ifCond .eq 7, 3) := dk_153 0 7 (dk_at dksX3_needs_1 9 rfl rfl)
theorem dX3_needs_36 : decode cX3_needs 36 = .ok (.iconst 1, 1) := dk_4 (dk_at dksX3_needs_1 12 rfl rfl)
theorem dX3_needs_37 : decode cX3_needs 37 = .ok (.goto 4, 3) := dk_167 0 4 (dk_at dksX3_needs_1 13 rfl rfl)
theorem dX3_needs_40 : decode cX3_needs 40 = .ok (.iconst 0, 1) := dk_3 (dk_at dksX3_needs_1 16 rfl rfl)
theorem dX3_needs_41 : decode cX3_needs 41 = .ok (.iadd, 1) := dk_96 (dk_at dksX3_needs_1 17 rfl rfl)
theorem dX3_needs_42 : decode cX3_needs 42 = .ok (.putfield 172, 3) := dk_181 0 172 (dk_at dksX3_needs_1 18 rfl rfl)
theorem dX3_needs_45 : decode cX3_needs 45 = .ok (.return_, 1) := dk_177 (dk_at dksX3_needs_1 21 rfl rfl)
abbrev cX3_runText : ByteArray := prog_13_method_90_code
def yX3_runText : MethodName := ⟨RX3, "runText", "()I"⟩
def dkwX3_runText_3 : List UInt8 := [167, 0, 4, 3, 96, 60, 167, 255, 210, 27, 172]
abbrev dktX3_runText_3 : List UInt8 := dkwX3_runText_3 ++ []
def dkwX3_runText_2 : List UInt8 := [182, 0, 198, 42, 89, 180, 0, 172, 4, 96, 181, 0, 172, 42, 182, 0, 205, 61, 27, 28, 153, 0, 7, 4]
abbrev dktX3_runText_2 : List UInt8 := dkwX3_runText_2 ++ dktX3_runText_3
def dkwX3_runText_1 : List UInt8 := [4, 61, 42, 3, 181, 0, 172, 28, 153, 0, 48, 42, 180, 0, 172, 42, 180, 0, 169, 162, 0, 37, 42]
abbrev dktX3_runText_1 : List UInt8 := dkwX3_runText_1 ++ dktX3_runText_2
def dkwX3_runText_0 : List UInt8 := [42, 3, 181, 0, 22, 42, 182, 0, 201, 154, 0, 9, 42, 4, 182, 0, 137, 172, 42, 182, 0, 128, 3, 60]
abbrev dktX3_runText_0 : List UInt8 := dkwX3_runText_0 ++ dktX3_runText_1
theorem dksX3_runText_0 : cX3_runText.data.toList.drop 0 = dktX3_runText_0 := by decide +kernel
theorem dksX3_runText_1 : cX3_runText.data.toList.drop 24 = dktX3_runText_1 := dk_seg dksX3_runText_0 24 rfl rfl
theorem dksX3_runText_2 : cX3_runText.data.toList.drop 47 = dktX3_runText_2 := dk_seg dksX3_runText_1 23 rfl rfl
theorem dksX3_runText_3 : cX3_runText.data.toList.drop 71 = dktX3_runText_3 := dk_seg dksX3_runText_2 24 rfl rfl
theorem dX3_runText_0 : decode cX3_runText 0 = .ok (.aload_n 0, 1) := dk_42 (dk_at dksX3_runText_0 0 rfl rfl)
theorem dX3_runText_1 : decode cX3_runText 1 = .ok (.iconst 0, 1) := dk_3 (dk_at dksX3_runText_0 1 rfl rfl)
theorem dX3_runText_2 : decode cX3_runText 2 = .ok (.putfield 22, 3) := dk_181 0 22 (dk_at dksX3_runText_0 2 rfl rfl)
theorem dX3_runText_5 : decode cX3_runText 5 = .ok (.aload_n 0, 1) := dk_42 (dk_at dksX3_runText_0 5 rfl rfl)
theorem dX3_runText_6 : decode cX3_runText 6 = .ok (.invokevirtual 201, 3) := dk_182 0 201 (dk_at dksX3_runText_0 6 rfl rfl)
theorem dX3_runText_9 : decode cX3_runText 9 = .ok (.ifCond .ne 9, 3) := dk_154 0 9 (dk_at dksX3_runText_0 9 rfl rfl)
theorem dX3_runText_12 : decode cX3_runText 12 = .ok (.aload_n 0, 1) := dk_42 (dk_at dksX3_runText_0 12 rfl rfl)
theorem dX3_runText_13 : decode cX3_runText 13 = .ok (.iconst 1, 1) := dk_4 (dk_at dksX3_runText_0 13 rfl rfl)
theorem dX3_runText_14 : decode cX3_runText 14 = .ok (.invokevirtual 137, 3) := dk_182 0 137 (dk_at dksX3_runText_0 14 rfl rfl)
theorem dX3_runText_17 : decode cX3_runText 17 = .ok (.ireturn, 1) := dk_172 (dk_at dksX3_runText_0 17 rfl rfl)
theorem dX3_runText_18 : decode cX3_runText 18 = .ok (.aload_n 0, 1) := dk_42 (dk_at dksX3_runText_0 18 rfl rfl)
theorem dX3_runText_19 : decode cX3_runText 19 = .ok (.invokevirtual 128, 3) := dk_182 0 128 (dk_at dksX3_runText_0 19 rfl rfl)
theorem dX3_runText_22 : decode cX3_runText 22 = .ok (.iconst 0, 1) := dk_3 (dk_at dksX3_runText_0 22 rfl rfl)
theorem dX3_runText_23 : decode cX3_runText 23 = .ok (.istore_n 1, 1) := dk_60 (dk_at dksX3_runText_0 23 rfl rfl)
theorem dX3_runText_24 : decode cX3_runText 24 = .ok (.iconst 1, 1) := dk_4 (dk_at dksX3_runText_1 0 rfl rfl)
theorem dX3_runText_25 : decode cX3_runText 25 = .ok (.istore_n 2, 1) := dk_61 (dk_at dksX3_runText_1 1 rfl rfl)
theorem dX3_runText_26 : decode cX3_runText 26 = .ok (.aload_n 0, 1) := dk_42 (dk_at dksX3_runText_1 2 rfl rfl)
theorem dX3_runText_27 : decode cX3_runText 27 = .ok (.iconst 0, 1) := dk_3 (dk_at dksX3_runText_1 3 rfl rfl)
theorem dX3_runText_28 : decode cX3_runText 28 = .ok (.putfield 172, 3) := dk_181 0 172 (dk_at dksX3_runText_1 4 rfl rfl)
theorem dX3_runText_31 : decode cX3_runText 31 = .ok (.iload_n 2, 1) := dk_28 (dk_at dksX3_runText_1 7 rfl rfl)
theorem dX3_runText_32 : decode cX3_runText 32 = .ok (.ifCond .eq 48, 3) := dk_153 0 48 (dk_at dksX3_runText_1 8 rfl rfl)
theorem dX3_runText_35 : decode cX3_runText 35 = .ok (.aload_n 0, 1) := dk_42 (dk_at dksX3_runText_1 11 rfl rfl)
theorem dX3_runText_36 : decode cX3_runText 36 = .ok (.getfield 172, 3) := dk_180 0 172 (dk_at dksX3_runText_1 12 rfl rfl)
theorem dX3_runText_39 : decode cX3_runText 39 = .ok (.aload_n 0, 1) := dk_42 (dk_at dksX3_runText_1 15 rfl rfl)
theorem dX3_runText_40 : decode cX3_runText 40 = .ok (.getfield 169, 3) := dk_180 0 169 (dk_at dksX3_runText_1 16 rfl rfl)
theorem dX3_runText_43 : decode cX3_runText 43 = .ok (.if_icmp .ge 37, 3) := dk_162 0 37 (dk_at dksX3_runText_1 19 rfl rfl)
theorem dX3_runText_46 : decode cX3_runText 46 = .ok (.aload_n 0, 1) := dk_42 (dk_at dksX3_runText_1 22 rfl rfl)
theorem dX3_runText_47 : decode cX3_runText 47 = .ok (.invokevirtual 198, 3) := dk_182 0 198 (dk_at dksX3_runText_2 0 rfl rfl)
theorem dX3_runText_50 : decode cX3_runText 50 = .ok (.aload_n 0, 1) := dk_42 (dk_at dksX3_runText_2 3 rfl rfl)
theorem dX3_runText_51 : decode cX3_runText 51 = .ok (.dup, 1) := dk_89 (dk_at dksX3_runText_2 4 rfl rfl)
theorem dX3_runText_52 : decode cX3_runText 52 = .ok (.getfield 172, 3) := dk_180 0 172 (dk_at dksX3_runText_2 5 rfl rfl)
theorem dX3_runText_55 : decode cX3_runText 55 = .ok (.iconst 1, 1) := dk_4 (dk_at dksX3_runText_2 8 rfl rfl)
theorem dX3_runText_56 : decode cX3_runText 56 = .ok (.iadd, 1) := dk_96 (dk_at dksX3_runText_2 9 rfl rfl)
theorem dX3_runText_57 : decode cX3_runText 57 = .ok (.putfield 172, 3) := dk_181 0 172 (dk_at dksX3_runText_2 10 rfl rfl)
theorem dX3_runText_60 : decode cX3_runText 60 = .ok (.aload_n 0, 1) := dk_42 (dk_at dksX3_runText_2 13 rfl rfl)
theorem dX3_runText_61 : decode cX3_runText 61 = .ok (.invokevirtual 205, 3) := dk_182 0 205 (dk_at dksX3_runText_2 14 rfl rfl)
theorem dX3_runText_64 : decode cX3_runText 64 = .ok (.istore_n 2, 1) := dk_61 (dk_at dksX3_runText_2 17 rfl rfl)
theorem dX3_runText_65 : decode cX3_runText 65 = .ok (.iload_n 1, 1) := dk_27 (dk_at dksX3_runText_2 18 rfl rfl)
theorem dX3_runText_66 : decode cX3_runText 66 = .ok (.iload_n 2, 1) := dk_28 (dk_at dksX3_runText_2 19 rfl rfl)
theorem dX3_runText_67 : decode cX3_runText 67 = .ok (.ifCond .eq 7, 3) := dk_153 0 7 (dk_at dksX3_runText_2 20 rfl rfl)
theorem dX3_runText_70 : decode cX3_runText 70 = .ok (.iconst 1, 1) := dk_4 (dk_at dksX3_runText_2 23 rfl rfl)
theorem dX3_runText_71 : decode cX3_runText 71 = .ok (.goto 4, 3) := dk_167 0 4 (dk_at dksX3_runText_3 0 rfl rfl)
theorem dX3_runText_74 : decode cX3_runText 74 = .ok (.iconst 0, 1) := dk_3 (dk_at dksX3_runText_3 3 rfl rfl)
theorem dX3_runText_75 : decode cX3_runText 75 = .ok (.iadd, 1) := dk_96 (dk_at dksX3_runText_3 4 rfl rfl)
theorem dX3_runText_76 : decode cX3_runText 76 = .ok (.istore_n 1, 1) := dk_60 (dk_at dksX3_runText_3 5 rfl rfl)
theorem dX3_runText_77 : decode cX3_runText 77 = .ok (.goto (-46), 3) := dk_167 255 210 (dk_at dksX3_runText_3 6 rfl rfl)
theorem dX3_runText_80 : decode cX3_runText 80 = .ok (.iload_n 1, 1) := dk_27 (dk_at dksX3_runText_3 9 rfl rfl)
theorem dX3_runText_81 : decode cX3_runText 81 = .ok (.ireturn, 1) := dk_172 (dk_at dksX3_runText_3 10 rfl rfl)
abbrev cX3_carries : ByteArray := prog_13_method_89_code
def yX3_carries : MethodName := ⟨RX3, "carries", "()Z"⟩
def dkwX3_carries_7 : List UInt8 := [167, 0, 4, 3, 60, 132, 3, 1, 167, 255, 168, 28, 172]
abbrev dktX3_carries_7 : List UInt8 := dkwX3_carries_7 ++ []
def dkwX3_carries_6 : List UInt8 := [180, 0, 182, 42, 180, 0, 7, 3, 46, 4, 100, 42, 180, 0, 19, 29, 46, 16, 48, 100, 182, 0, 131]
abbrev dktX3_carries_6 : List UInt8 := dkwX3_carries_6 ++ dktX3_carries_7
def dkwX3_carries_5 : List UInt8 := [29, 46, 16, 48, 100, 182, 0, 124, 154, 0, 7, 4, 167, 0, 4, 3, 61, 28, 153, 0, 31, 42, 42]
abbrev dktX3_carries_5 : List UInt8 := dkwX3_carries_5 ++ dktX3_carries_6
def dkwX3_carries_4 : List UInt8 := [162, 0, 81, 28, 153, 0, 77, 42, 42, 180, 0, 182, 42, 180, 0, 7, 3, 46, 4, 100, 42, 180, 0, 19]
abbrev dktX3_carries_4 : List UInt8 := dkwX3_carries_4 ++ dktX3_carries_5
def dkwX3_carries_3 : List UInt8 := [158, 0, 7, 4, 167, 0, 4, 3, 61, 42, 180, 0, 185, 62, 29, 42, 180, 0, 185, 42, 180, 0, 188, 96]
abbrev dktX3_carries_3 : List UInt8 := dkwX3_carries_3 ++ dktX3_carries_4
def dkwX3_carries_2 : List UInt8 := [180, 0, 185, 42, 180, 0, 188, 182, 0, 131, 167, 0, 4, 3, 60, 28, 172, 42, 180, 0, 7, 3, 46]
abbrev dktX3_carries_2 : List UInt8 := dkwX3_carries_2 ++ dktX3_carries_3
def dkwX3_carries_1 : List UInt8 := [182, 0, 124, 154, 0, 7, 4, 167, 0, 4, 3, 61, 28, 153, 0, 22, 42, 42, 180, 0, 182, 42]
abbrev dktX3_carries_1 : List UInt8 := dkwX3_carries_1 ++ dktX3_carries_2
def dkwX3_carries_0 : List UInt8 := [3, 60, 42, 180, 0, 182, 16, 115, 159, 0, 55, 42, 42, 180, 0, 182, 42, 180, 0, 185, 42, 180, 0, 188]
abbrev dktX3_carries_0 : List UInt8 := dkwX3_carries_0 ++ dktX3_carries_1
theorem dksX3_carries_0 : cX3_carries.data.toList.drop 0 = dktX3_carries_0 := by decide +kernel
theorem dksX3_carries_1 : cX3_carries.data.toList.drop 24 = dktX3_carries_1 := dk_seg dksX3_carries_0 24 rfl rfl
theorem dksX3_carries_2 : cX3_carries.data.toList.drop 46 = dktX3_carries_2 := dk_seg dksX3_carries_1 22 rfl rfl
theorem dksX3_carries_3 : cX3_carries.data.toList.drop 69 = dktX3_carries_3 := dk_seg dksX3_carries_2 23 rfl rfl
theorem dksX3_carries_4 : cX3_carries.data.toList.drop 93 = dktX3_carries_4 := dk_seg dksX3_carries_3 24 rfl rfl
theorem dksX3_carries_5 : cX3_carries.data.toList.drop 117 = dktX3_carries_5 := dk_seg dksX3_carries_4 24 rfl rfl
theorem dksX3_carries_6 : cX3_carries.data.toList.drop 140 = dktX3_carries_6 := dk_seg dksX3_carries_5 23 rfl rfl
theorem dksX3_carries_7 : cX3_carries.data.toList.drop 163 = dktX3_carries_7 := dk_seg dksX3_carries_6 23 rfl rfl
theorem dX3_carries_0 : decode cX3_carries 0 = .ok (.iconst 0, 1) := dk_3 (dk_at dksX3_carries_0 0 rfl rfl)
theorem dX3_carries_1 : decode cX3_carries 1 = .ok (.istore_n 1, 1) := dk_60 (dk_at dksX3_carries_0 1 rfl rfl)
theorem dX3_carries_2 : decode cX3_carries 2 = .ok (.aload_n 0, 1) := dk_42 (dk_at dksX3_carries_0 2 rfl rfl)
theorem dX3_carries_3 : decode cX3_carries 3 = .ok (.getfield 182, 3) := dk_180 0 182 (dk_at dksX3_carries_0 3 rfl rfl)
theorem dX3_carries_6 : decode cX3_carries 6 = .ok (.bipush 115, 2) := dk_16 115 (dk_at dksX3_carries_0 6 rfl rfl)
theorem dX3_carries_8 : decode cX3_carries 8 = .ok (.if_icmp .eq 55, 3) := dk_159 0 55 (dk_at dksX3_carries_0 8 rfl rfl)
theorem dX3_carries_11 : decode cX3_carries 11 = .ok (.aload_n 0, 1) := dk_42 (dk_at dksX3_carries_0 11 rfl rfl)
theorem dX3_carries_12 : decode cX3_carries 12 = .ok (.aload_n 0, 1) := dk_42 (dk_at dksX3_carries_0 12 rfl rfl)
theorem dX3_carries_13 : decode cX3_carries 13 = .ok (.getfield 182, 3) := dk_180 0 182 (dk_at dksX3_carries_0 13 rfl rfl)
theorem dX3_carries_16 : decode cX3_carries 16 = .ok (.aload_n 0, 1) := dk_42 (dk_at dksX3_carries_0 16 rfl rfl)
theorem dX3_carries_17 : decode cX3_carries 17 = .ok (.getfield 185, 3) := dk_180 0 185 (dk_at dksX3_carries_0 17 rfl rfl)
theorem dX3_carries_20 : decode cX3_carries 20 = .ok (.aload_n 0, 1) := dk_42 (dk_at dksX3_carries_0 20 rfl rfl)
theorem dX3_carries_21 : decode cX3_carries 21 = .ok (.getfield 188, 3) := dk_180 0 188 (dk_at dksX3_carries_0 21 rfl rfl)
theorem dX3_carries_24 : decode cX3_carries 24 = .ok (.invokevirtual 124, 3) := dk_182 0 124 (dk_at dksX3_carries_1 0 rfl rfl)
theorem dX3_carries_27 : decode cX3_carries 27 = .ok (.ifCond .ne 7, 3) := dk_154 0 7 (dk_at dksX3_carries_1 3 rfl rfl)
theorem dX3_carries_30 : decode cX3_carries 30 = .ok (.iconst 1, 1) := dk_4 (dk_at dksX3_carries_1 6 rfl rfl)
theorem dX3_carries_31 : decode cX3_carries 31 = .ok (.goto 4, 3) := dk_167 0 4 (dk_at dksX3_carries_1 7 rfl rfl)
theorem dX3_carries_34 : decode cX3_carries 34 = .ok (.iconst 0, 1) := dk_3 (dk_at dksX3_carries_1 10 rfl rfl)
theorem dX3_carries_35 : decode cX3_carries 35 = .ok (.istore_n 2, 1) := dk_61 (dk_at dksX3_carries_1 11 rfl rfl)
theorem dX3_carries_36 : decode cX3_carries 36 = .ok (.iload_n 2, 1) := dk_28 (dk_at dksX3_carries_1 12 rfl rfl)
theorem dX3_carries_37 : decode cX3_carries 37 = .ok (.ifCond .eq 22, 3) := dk_153 0 22 (dk_at dksX3_carries_1 13 rfl rfl)
theorem dX3_carries_40 : decode cX3_carries 40 = .ok (.aload_n 0, 1) := dk_42 (dk_at dksX3_carries_1 16 rfl rfl)
theorem dX3_carries_41 : decode cX3_carries 41 = .ok (.aload_n 0, 1) := dk_42 (dk_at dksX3_carries_1 17 rfl rfl)
theorem dX3_carries_42 : decode cX3_carries 42 = .ok (.getfield 182, 3) := dk_180 0 182 (dk_at dksX3_carries_1 18 rfl rfl)
theorem dX3_carries_45 : decode cX3_carries 45 = .ok (.aload_n 0, 1) := dk_42 (dk_at dksX3_carries_1 21 rfl rfl)
theorem dX3_carries_46 : decode cX3_carries 46 = .ok (.getfield 185, 3) := dk_180 0 185 (dk_at dksX3_carries_2 0 rfl rfl)
theorem dX3_carries_49 : decode cX3_carries 49 = .ok (.aload_n 0, 1) := dk_42 (dk_at dksX3_carries_2 3 rfl rfl)
theorem dX3_carries_50 : decode cX3_carries 50 = .ok (.getfield 188, 3) := dk_180 0 188 (dk_at dksX3_carries_2 4 rfl rfl)
theorem dX3_carries_53 : decode cX3_carries 53 = .ok (.invokevirtual 131, 3) := dk_182 0 131 (dk_at dksX3_carries_2 7 rfl rfl)
theorem dX3_carries_56 : decode cX3_carries 56 = .ok (.goto 4, 3) := dk_167 0 4 (dk_at dksX3_carries_2 10 rfl rfl)
theorem dX3_carries_59 : decode cX3_carries 59 = .ok (.iconst 0, 1) := dk_3 (dk_at dksX3_carries_2 13 rfl rfl)
theorem dX3_carries_60 : decode cX3_carries 60 = .ok (.istore_n 1, 1) := dk_60 (dk_at dksX3_carries_2 14 rfl rfl)
theorem dX3_carries_61 : decode cX3_carries 61 = .ok (.iload_n 2, 1) := dk_28 (dk_at dksX3_carries_2 15 rfl rfl)
theorem dX3_carries_62 : decode cX3_carries 62 = .ok (.ireturn, 1) := dk_172 (dk_at dksX3_carries_2 16 rfl rfl)
theorem dX3_carries_63 : decode cX3_carries 63 = .ok (.aload_n 0, 1) := dk_42 (dk_at dksX3_carries_2 17 rfl rfl)
theorem dX3_carries_64 : decode cX3_carries 64 = .ok (.getfield 7, 3) := dk_180 0 7 (dk_at dksX3_carries_2 18 rfl rfl)
theorem dX3_carries_67 : decode cX3_carries 67 = .ok (.iconst 0, 1) := dk_3 (dk_at dksX3_carries_2 21 rfl rfl)
theorem dX3_carries_68 : decode cX3_carries 68 = .ok (.iaload, 1) := dk_46 (dk_at dksX3_carries_2 22 rfl rfl)
theorem dX3_carries_69 : decode cX3_carries 69 = .ok (.ifCond .le 7, 3) := dk_158 0 7 (dk_at dksX3_carries_3 0 rfl rfl)
theorem dX3_carries_72 : decode cX3_carries 72 = .ok (.iconst 1, 1) := dk_4 (dk_at dksX3_carries_3 3 rfl rfl)
theorem dX3_carries_73 : decode cX3_carries 73 = .ok (.goto 4, 3) := dk_167 0 4 (dk_at dksX3_carries_3 4 rfl rfl)
theorem dX3_carries_76 : decode cX3_carries 76 = .ok (.iconst 0, 1) := dk_3 (dk_at dksX3_carries_3 7 rfl rfl)
theorem dX3_carries_77 : decode cX3_carries 77 = .ok (.istore_n 2, 1) := dk_61 (dk_at dksX3_carries_3 8 rfl rfl)
theorem dX3_carries_78 : decode cX3_carries 78 = .ok (.aload_n 0, 1) := dk_42 (dk_at dksX3_carries_3 9 rfl rfl)
theorem dX3_carries_79 : decode cX3_carries 79 = .ok (.getfield 185, 3) := dk_180 0 185 (dk_at dksX3_carries_3 10 rfl rfl)
theorem dX3_carries_82 : decode cX3_carries 82 = .ok (.istore_n 3, 1) := dk_62 (dk_at dksX3_carries_3 13 rfl rfl)
theorem dX3_carries_83 : decode cX3_carries 83 = .ok (.iload_n 3, 1) := dk_29 (dk_at dksX3_carries_3 14 rfl rfl)
theorem dX3_carries_84 : decode cX3_carries 84 = .ok (.aload_n 0, 1) := dk_42 (dk_at dksX3_carries_3 15 rfl rfl)
theorem dX3_carries_85 : decode cX3_carries 85 = .ok (.getfield 185, 3) := dk_180 0 185 (dk_at dksX3_carries_3 16 rfl rfl)
theorem dX3_carries_88 : decode cX3_carries 88 = .ok (.aload_n 0, 1) := dk_42 (dk_at dksX3_carries_3 19 rfl rfl)
theorem dX3_carries_89 : decode cX3_carries 89 = .ok (.getfield 188, 3) := dk_180 0 188 (dk_at dksX3_carries_3 20 rfl rfl)
theorem dX3_carries_92 : decode cX3_carries 92 = .ok (.iadd, 1) := dk_96 (dk_at dksX3_carries_3 23 rfl rfl)
theorem dX3_carries_93 : decode cX3_carries 93 = .ok (.if_icmp .ge 81, 3) := dk_162 0 81 (dk_at dksX3_carries_4 0 rfl rfl)
theorem dX3_carries_96 : decode cX3_carries 96 = .ok (.iload_n 2, 1) := dk_28 (dk_at dksX3_carries_4 3 rfl rfl)
theorem dX3_carries_97 : decode cX3_carries 97 = .ok (.ifCond .eq 77, 3) := dk_153 0 77 (dk_at dksX3_carries_4 4 rfl rfl)
theorem dX3_carries_100 : decode cX3_carries 100 = .ok (.aload_n 0, 1) := dk_42 (dk_at dksX3_carries_4 7 rfl rfl)
theorem dX3_carries_101 : decode cX3_carries 101 = .ok (.aload_n 0, 1) := dk_42 (dk_at dksX3_carries_4 8 rfl rfl)
theorem dX3_carries_102 : decode cX3_carries 102 = .ok (.getfield 182, 3) := dk_180 0 182 (dk_at dksX3_carries_4 9 rfl rfl)
theorem dX3_carries_105 : decode cX3_carries 105 = .ok (.aload_n 0, 1) := dk_42 (dk_at dksX3_carries_4 12 rfl rfl)
theorem dX3_carries_106 : decode cX3_carries 106 = .ok (.getfield 7, 3) := dk_180 0 7 (dk_at dksX3_carries_4 13 rfl rfl)
theorem dX3_carries_109 : decode cX3_carries 109 = .ok (.iconst 0, 1) := dk_3 (dk_at dksX3_carries_4 16 rfl rfl)
theorem dX3_carries_110 : decode cX3_carries 110 = .ok (.iaload, 1) := dk_46 (dk_at dksX3_carries_4 17 rfl rfl)
theorem dX3_carries_111 : decode cX3_carries 111 = .ok (.iconst 1, 1) := dk_4 (dk_at dksX3_carries_4 18 rfl rfl)
theorem dX3_carries_112 : decode cX3_carries 112 = .ok (.isub, 1) := dk_100 (dk_at dksX3_carries_4 19 rfl rfl)
theorem dX3_carries_113 : decode cX3_carries 113 = .ok (.aload_n 0, 1) := dk_42 (dk_at dksX3_carries_4 20 rfl rfl)
theorem dX3_carries_114 : decode cX3_carries 114 = .ok (.getfield 19, 3) := dk_180 0 19 (dk_at dksX3_carries_4 21 rfl rfl)
theorem dX3_carries_117 : decode cX3_carries 117 = .ok (.iload_n 3, 1) := dk_29 (dk_at dksX3_carries_5 0 rfl rfl)
theorem dX3_carries_118 : decode cX3_carries 118 = .ok (.iaload, 1) := dk_46 (dk_at dksX3_carries_5 1 rfl rfl)
theorem dX3_carries_119 : decode cX3_carries 119 = .ok (.bipush 48, 2) := dk_16 48 (dk_at dksX3_carries_5 2 rfl rfl)
theorem dX3_carries_121 : decode cX3_carries 121 = .ok (.isub, 1) := dk_100 (dk_at dksX3_carries_5 4 rfl rfl)
theorem dX3_carries_122 : decode cX3_carries 122 = .ok (.invokevirtual 124, 3) := dk_182 0 124 (dk_at dksX3_carries_5 5 rfl rfl)
theorem dX3_carries_125 : decode cX3_carries 125 = .ok (.ifCond .ne 7, 3) := dk_154 0 7 (dk_at dksX3_carries_5 8 rfl rfl)
theorem dX3_carries_128 : decode cX3_carries 128 = .ok (.iconst 1, 1) := dk_4 (dk_at dksX3_carries_5 11 rfl rfl)
theorem dX3_carries_129 : decode cX3_carries 129 = .ok (.goto 4, 3) := dk_167 0 4 (dk_at dksX3_carries_5 12 rfl rfl)
theorem dX3_carries_132 : decode cX3_carries 132 = .ok (.iconst 0, 1) := dk_3 (dk_at dksX3_carries_5 15 rfl rfl)
theorem dX3_carries_133 : decode cX3_carries 133 = .ok (.istore_n 2, 1) := dk_61 (dk_at dksX3_carries_5 16 rfl rfl)
theorem dX3_carries_134 : decode cX3_carries 134 = .ok (.iload_n 2, 1) := dk_28 (dk_at dksX3_carries_5 17 rfl rfl)
theorem dX3_carries_135 : decode cX3_carries 135 = .ok (.ifCond .eq 31, 3) := dk_153 0 31 (dk_at dksX3_carries_5 18 rfl rfl)
theorem dX3_carries_138 : decode cX3_carries 138 = .ok (.aload_n 0, 1) := dk_42 (dk_at dksX3_carries_5 21 rfl rfl)
theorem dX3_carries_139 : decode cX3_carries 139 = .ok (.aload_n 0, 1) := dk_42 (dk_at dksX3_carries_5 22 rfl rfl)
theorem dX3_carries_140 : decode cX3_carries 140 = .ok (.getfield 182, 3) := dk_180 0 182 (dk_at dksX3_carries_6 0 rfl rfl)
theorem dX3_carries_143 : decode cX3_carries 143 = .ok (.aload_n 0, 1) := dk_42 (dk_at dksX3_carries_6 3 rfl rfl)
theorem dX3_carries_144 : decode cX3_carries 144 = .ok (.getfield 7, 3) := dk_180 0 7 (dk_at dksX3_carries_6 4 rfl rfl)
theorem dX3_carries_147 : decode cX3_carries 147 = .ok (.iconst 0, 1) := dk_3 (dk_at dksX3_carries_6 7 rfl rfl)
theorem dX3_carries_148 : decode cX3_carries 148 = .ok (.iaload, 1) := dk_46 (dk_at dksX3_carries_6 8 rfl rfl)
theorem dX3_carries_149 : decode cX3_carries 149 = .ok (.iconst 1, 1) := dk_4 (dk_at dksX3_carries_6 9 rfl rfl)
theorem dX3_carries_150 : decode cX3_carries 150 = .ok (.isub, 1) := dk_100 (dk_at dksX3_carries_6 10 rfl rfl)
theorem dX3_carries_151 : decode cX3_carries 151 = .ok (.aload_n 0, 1) := dk_42 (dk_at dksX3_carries_6 11 rfl rfl)
theorem dX3_carries_152 : decode cX3_carries 152 = .ok (.getfield 19, 3) := dk_180 0 19 (dk_at dksX3_carries_6 12 rfl rfl)
theorem dX3_carries_155 : decode cX3_carries 155 = .ok (.iload_n 3, 1) := dk_29 (dk_at dksX3_carries_6 15 rfl rfl)
theorem dX3_carries_156 : decode cX3_carries 156 = .ok (.iaload, 1) := dk_46 (dk_at dksX3_carries_6 16 rfl rfl)
theorem dX3_carries_157 : decode cX3_carries 157 = .ok (.bipush 48, 2) := dk_16 48 (dk_at dksX3_carries_6 17 rfl rfl)
theorem dX3_carries_159 : decode cX3_carries 159 = .ok (.isub, 1) := dk_100 (dk_at dksX3_carries_6 19 rfl rfl)
theorem dX3_carries_160 : decode cX3_carries 160 = .ok (.invokevirtual 131, 3) := dk_182 0 131 (dk_at dksX3_carries_6 20 rfl rfl)
theorem dX3_carries_163 : decode cX3_carries 163 = .ok (.goto 4, 3) := dk_167 0 4 (dk_at dksX3_carries_7 0 rfl rfl)
theorem dX3_carries_166 : decode cX3_carries 166 = .ok (.iconst 0, 1) := dk_3 (dk_at dksX3_carries_7 3 rfl rfl)
theorem dX3_carries_167 : decode cX3_carries 167 = .ok (.istore_n 1, 1) := dk_60 (dk_at dksX3_carries_7 4 rfl rfl)
theorem dX3_carries_168 : decode cX3_carries 168 = .ok (.iinc 3 1, 3) := dk_132 3 1 (dk_at dksX3_carries_7 5 rfl rfl)
theorem dX3_carries_171 : decode cX3_carries 171 = .ok (.goto (-88), 3) := dk_167 255 168 (dk_at dksX3_carries_7 8 rfl rfl)
theorem dX3_carries_174 : decode cX3_carries 174 = .ok (.iload_n 2, 1) := dk_28 (dk_at dksX3_carries_7 11 rfl rfl)
theorem dX3_carries_175 : decode cX3_carries 175 = .ok (.ireturn, 1) := dk_172 (dk_at dksX3_carries_7 12 rfl rfl)
abbrev cX3_undo : ByteArray := prog_13_method_91_code
def yX3_undo : MethodName := ⟨RX3, "undo", "()I"⟩
def dkwX3_undo_2 : List UInt8 := [17, 2, 2, 42, 180, 0, 92, 104, 27, 96, 46, 79, 132, 1, 1, 167, 255, 225, 42, 180, 0, 92, 172]
abbrev dktX3_undo_2 : List UInt8 := dkwX3_undo_2 ++ []
def dkwX3_undo_1 : List UInt8 := [100, 181, 0, 92, 3, 60, 27, 17, 2, 2, 162, 0, 30, 42, 180, 0, 7, 27, 42, 180, 0, 13]
abbrev dktX3_undo_1 : List UInt8 := dkwX3_undo_1 ++ dktX3_undo_2
def dkwX3_undo_0 : List UInt8 := [42, 3, 181, 0, 22, 42, 180, 0, 92, 154, 0, 9, 42, 4, 182, 0, 137, 172, 42, 89, 180, 0, 92, 4]
abbrev dktX3_undo_0 : List UInt8 := dkwX3_undo_0 ++ dktX3_undo_1
theorem dksX3_undo_0 : cX3_undo.data.toList.drop 0 = dktX3_undo_0 := by decide +kernel
theorem dksX3_undo_1 : cX3_undo.data.toList.drop 24 = dktX3_undo_1 := dk_seg dksX3_undo_0 24 rfl rfl
theorem dksX3_undo_2 : cX3_undo.data.toList.drop 46 = dktX3_undo_2 := dk_seg dksX3_undo_1 22 rfl rfl
theorem dX3_undo_0 : decode cX3_undo 0 = .ok (.aload_n 0, 1) := dk_42 (dk_at dksX3_undo_0 0 rfl rfl)
theorem dX3_undo_1 : decode cX3_undo 1 = .ok (.iconst 0, 1) := dk_3 (dk_at dksX3_undo_0 1 rfl rfl)
theorem dX3_undo_2 : decode cX3_undo 2 = .ok (.putfield 22, 3) := dk_181 0 22 (dk_at dksX3_undo_0 2 rfl rfl)
theorem dX3_undo_5 : decode cX3_undo 5 = .ok (.aload_n 0, 1) := dk_42 (dk_at dksX3_undo_0 5 rfl rfl)
theorem dX3_undo_6 : decode cX3_undo 6 = .ok (.getfield 92, 3) := dk_180 0 92 (dk_at dksX3_undo_0 6 rfl rfl)
theorem dX3_undo_9 : decode cX3_undo 9 = .ok (.ifCond .ne 9, 3) := dk_154 0 9 (dk_at dksX3_undo_0 9 rfl rfl)
theorem dX3_undo_12 : decode cX3_undo 12 = .ok (.aload_n 0, 1) := dk_42 (dk_at dksX3_undo_0 12 rfl rfl)
theorem dX3_undo_13 : decode cX3_undo 13 = .ok (.iconst 1, 1) := dk_4 (dk_at dksX3_undo_0 13 rfl rfl)
theorem dX3_undo_14 : decode cX3_undo 14 = .ok (.invokevirtual 137, 3) := dk_182 0 137 (dk_at dksX3_undo_0 14 rfl rfl)
theorem dX3_undo_17 : decode cX3_undo 17 = .ok (.ireturn, 1) := dk_172 (dk_at dksX3_undo_0 17 rfl rfl)
theorem dX3_undo_18 : decode cX3_undo 18 = .ok (.aload_n 0, 1) := dk_42 (dk_at dksX3_undo_0 18 rfl rfl)
theorem dX3_undo_19 : decode cX3_undo 19 = .ok (.dup, 1) := dk_89 (dk_at dksX3_undo_0 19 rfl rfl)
theorem dX3_undo_20 : decode cX3_undo 20 = .ok (.getfield 92, 3) := dk_180 0 92 (dk_at dksX3_undo_0 20 rfl rfl)
theorem dX3_undo_23 : decode cX3_undo 23 = .ok (.iconst 1, 1) := dk_4 (dk_at dksX3_undo_0 23 rfl rfl)
theorem dX3_undo_24 : decode cX3_undo 24 = .ok (.isub, 1) := dk_100 (dk_at dksX3_undo_1 0 rfl rfl)
theorem dX3_undo_25 : decode cX3_undo 25 = .ok (.putfield 92, 3) := dk_181 0 92 (dk_at dksX3_undo_1 1 rfl rfl)
theorem dX3_undo_28 : decode cX3_undo 28 = .ok (.iconst 0, 1) := dk_3 (dk_at dksX3_undo_1 4 rfl rfl)
theorem dX3_undo_29 : decode cX3_undo 29 = .ok (.istore_n 1, 1) := dk_60 (dk_at dksX3_undo_1 5 rfl rfl)
theorem dX3_undo_30 : decode cX3_undo 30 = .ok (.iload_n 1, 1) := dk_27 (dk_at dksX3_undo_1 6 rfl rfl)
theorem dX3_undo_31 : decode cX3_undo 31 = .ok (.sipush 514, 3) := dk_17 2 2 (dk_at dksX3_undo_1 7 rfl rfl)
theorem dX3_undo_34 : decode cX3_undo 34 = .ok (.if_icmp .ge 30, 3) := dk_162 0 30 (dk_at dksX3_undo_1 10 rfl rfl)
theorem dX3_undo_37 : decode cX3_undo 37 = .ok (.aload_n 0, 1) := dk_42 (dk_at dksX3_undo_1 13 rfl rfl)
theorem dX3_undo_38 : decode cX3_undo 38 = .ok (.getfield 7, 3) := dk_180 0 7 (dk_at dksX3_undo_1 14 rfl rfl)
theorem dX3_undo_41 : decode cX3_undo 41 = .ok (.iload_n 1, 1) := dk_27 (dk_at dksX3_undo_1 17 rfl rfl)
theorem dX3_undo_42 : decode cX3_undo 42 = .ok (.aload_n 0, 1) := dk_42 (dk_at dksX3_undo_1 18 rfl rfl)
theorem dX3_undo_43 : decode cX3_undo 43 = .ok (.getfield 13, 3) := dk_180 0 13 (dk_at dksX3_undo_1 19 rfl rfl)
theorem dX3_undo_46 : decode cX3_undo 46 = .ok (.sipush 514, 3) := dk_17 2 2 (dk_at dksX3_undo_2 0 rfl rfl)
theorem dX3_undo_49 : decode cX3_undo 49 = .ok (.aload_n 0, 1) := dk_42 (dk_at dksX3_undo_2 3 rfl rfl)
theorem dX3_undo_50 : decode cX3_undo 50 = .ok (.getfield 92, 3) := dk_180 0 92 (dk_at dksX3_undo_2 4 rfl rfl)
theorem dX3_undo_53 : decode cX3_undo 53 = .ok (.imul, 1) := dk_104 (dk_at dksX3_undo_2 7 rfl rfl)
theorem dX3_undo_54 : decode cX3_undo 54 = .ok (.iload_n 1, 1) := dk_27 (dk_at dksX3_undo_2 8 rfl rfl)
theorem dX3_undo_55 : decode cX3_undo 55 = .ok (.iadd, 1) := dk_96 (dk_at dksX3_undo_2 9 rfl rfl)
theorem dX3_undo_56 : decode cX3_undo 56 = .ok (.iaload, 1) := dk_46 (dk_at dksX3_undo_2 10 rfl rfl)
theorem dX3_undo_57 : decode cX3_undo 57 = .ok (.iastore, 1) := dk_79 (dk_at dksX3_undo_2 11 rfl rfl)
theorem dX3_undo_58 : decode cX3_undo 58 = .ok (.iinc 1 1, 3) := dk_132 1 1 (dk_at dksX3_undo_2 12 rfl rfl)
theorem dX3_undo_61 : decode cX3_undo 61 = .ok (.goto (-31), 3) := dk_167 255 225 (dk_at dksX3_undo_2 15 rfl rfl)
theorem dX3_undo_64 : decode cX3_undo 64 = .ok (.aload_n 0, 1) := dk_42 (dk_at dksX3_undo_2 18 rfl rfl)
theorem dX3_undo_65 : decode cX3_undo 65 = .ok (.getfield 92, 3) := dk_180 0 92 (dk_at dksX3_undo_2 19 rfl rfl)
theorem dX3_undo_68 : decode cX3_undo 68 = .ok (.ireturn, 1) := dk_172 (dk_at dksX3_undo_2 22 rfl rfl)
abbrev cX3_savedStates : ByteArray := prog_13_method_92_code
def yX3_savedStates : MethodName := ⟨RX3, "savedStates", "()I"⟩
def dkwX3_savedStates_0 : List UInt8 := [42, 3, 181, 0, 22, 42, 180, 0, 92, 172]
abbrev dktX3_savedStates_0 : List UInt8 := dkwX3_savedStates_0 ++ []
theorem dksX3_savedStates_0 : cX3_savedStates.data.toList.drop 0 = dktX3_savedStates_0 := by decide +kernel
theorem dX3_savedStates_0 : decode cX3_savedStates 0 = .ok (.aload_n 0, 1) := dk_42 (dk_at dksX3_savedStates_0 0 rfl rfl)
theorem dX3_savedStates_1 : decode cX3_savedStates 1 = .ok (.iconst 0, 1) := dk_3 (dk_at dksX3_savedStates_0 1 rfl rfl)
theorem dX3_savedStates_2 : decode cX3_savedStates 2 = .ok (.putfield 22, 3) := dk_181 0 22 (dk_at dksX3_savedStates_0 2 rfl rfl)
theorem dX3_savedStates_5 : decode cX3_savedStates 5 = .ok (.aload_n 0, 1) := dk_42 (dk_at dksX3_savedStates_0 5 rfl rfl)
theorem dX3_savedStates_6 : decode cX3_savedStates 6 = .ok (.getfield 92, 3) := dk_180 0 92 (dk_at dksX3_savedStates_0 6 rfl rfl)
theorem dX3_savedStates_9 : decode cX3_savedStates 9 = .ok (.ireturn, 1) := dk_172 (dk_at dksX3_savedStates_0 9 rfl rfl)
abbrev cX3_takeSnapshot : ByteArray := prog_13_method_93_code
def yX3_takeSnapshot : MethodName := ⟨RX3, "takeSnapshot", "()I"⟩
def dkwX3_takeSnapshot_1 : List UInt8 := [42, 180, 0, 7, 27, 46, 79, 132, 1, 1, 167, 255, 234, 42, 180, 0, 7, 3, 46, 172]
abbrev dktX3_takeSnapshot_1 : List UInt8 := dkwX3_takeSnapshot_1 ++ []
def dkwX3_takeSnapshot_0 : List UInt8 := [42, 3, 181, 0, 22, 42, 4, 181, 0, 208, 3, 60, 27, 17, 2, 2, 162, 0, 21, 42, 180, 0, 16, 27]
abbrev dktX3_takeSnapshot_0 : List UInt8 := dkwX3_takeSnapshot_0 ++ dktX3_takeSnapshot_1
theorem dksX3_takeSnapshot_0 : cX3_takeSnapshot.data.toList.drop 0 = dktX3_takeSnapshot_0 := by decide +kernel
theorem dksX3_takeSnapshot_1 : cX3_takeSnapshot.data.toList.drop 24 = dktX3_takeSnapshot_1 := dk_seg dksX3_takeSnapshot_0 24 rfl rfl
theorem dX3_takeSnapshot_0 : decode cX3_takeSnapshot 0 = .ok (.aload_n 0, 1) := dk_42 (dk_at dksX3_takeSnapshot_0 0 rfl rfl)
theorem dX3_takeSnapshot_1 : decode cX3_takeSnapshot 1 = .ok (.iconst 0, 1) := dk_3 (dk_at dksX3_takeSnapshot_0 1 rfl rfl)
theorem dX3_takeSnapshot_2 : decode cX3_takeSnapshot 2 = .ok (.putfield 22, 3) := dk_181 0 22 (dk_at dksX3_takeSnapshot_0 2 rfl rfl)
theorem dX3_takeSnapshot_5 : decode cX3_takeSnapshot 5 = .ok (.aload_n 0, 1) := dk_42 (dk_at dksX3_takeSnapshot_0 5 rfl rfl)
theorem dX3_takeSnapshot_6 : decode cX3_takeSnapshot 6 = .ok (.iconst 1, 1) := dk_4 (dk_at dksX3_takeSnapshot_0 6 rfl rfl)
theorem dX3_takeSnapshot_7 : decode cX3_takeSnapshot 7 = .ok (.putfield 208, 3) := dk_181 0 208 (dk_at dksX3_takeSnapshot_0 7 rfl rfl)
theorem dX3_takeSnapshot_10 : decode cX3_takeSnapshot 10 = .ok (.iconst 0, 1) := dk_3 (dk_at dksX3_takeSnapshot_0 10 rfl rfl)
theorem dX3_takeSnapshot_11 : decode cX3_takeSnapshot 11 = .ok (.istore_n 1, 1) := dk_60 (dk_at dksX3_takeSnapshot_0 11 rfl rfl)
theorem dX3_takeSnapshot_12 : decode cX3_takeSnapshot 12 = .ok (.iload_n 1, 1) := dk_27 (dk_at dksX3_takeSnapshot_0 12 rfl rfl)
theorem dX3_takeSnapshot_13 : decode cX3_takeSnapshot 13 = .ok (.sipush 514, 3) := dk_17 2 2 (dk_at dksX3_takeSnapshot_0 13 rfl rfl)
theorem dX3_takeSnapshot_16 : decode cX3_takeSnapshot 16 = .ok (.if_icmp .ge 21, 3) := dk_162 0 21 (dk_at dksX3_takeSnapshot_0 16 rfl rfl)
theorem dX3_takeSnapshot_19 : decode cX3_takeSnapshot 19 = .ok (.aload_n 0, 1) := dk_42 (dk_at dksX3_takeSnapshot_0 19 rfl rfl)
theorem dX3_takeSnapshot_20 : decode cX3_takeSnapshot 20 = .ok (.getfield 16, 3) := dk_180 0 16 (dk_at dksX3_takeSnapshot_0 20 rfl rfl)
theorem dX3_takeSnapshot_23 : decode cX3_takeSnapshot 23 = .ok (.iload_n 1, 1) := dk_27 (dk_at dksX3_takeSnapshot_0 23 rfl rfl)
theorem dX3_takeSnapshot_24 : decode cX3_takeSnapshot 24 = .ok (.aload_n 0, 1) := dk_42 (dk_at dksX3_takeSnapshot_1 0 rfl rfl)
theorem dX3_takeSnapshot_25 : decode cX3_takeSnapshot 25 = .ok (.getfield 7, 3) := dk_180 0 7 (dk_at dksX3_takeSnapshot_1 1 rfl rfl)
theorem dX3_takeSnapshot_28 : decode cX3_takeSnapshot 28 = .ok (.iload_n 1, 1) := dk_27 (dk_at dksX3_takeSnapshot_1 4 rfl rfl)
theorem dX3_takeSnapshot_29 : decode cX3_takeSnapshot 29 = .ok (.iaload, 1) := dk_46 (dk_at dksX3_takeSnapshot_1 5 rfl rfl)
theorem dX3_takeSnapshot_30 : decode cX3_takeSnapshot 30 = .ok (.iastore, 1) := dk_79 (dk_at dksX3_takeSnapshot_1 6 rfl rfl)
theorem dX3_takeSnapshot_31 : decode cX3_takeSnapshot 31 = .ok (.iinc 1 1, 3) := dk_132 1 1 (dk_at dksX3_takeSnapshot_1 7 rfl rfl)
theorem dX3_takeSnapshot_34 : decode cX3_takeSnapshot 34 = .ok (.goto (-22), 3) := dk_167 255 234 (dk_at dksX3_takeSnapshot_1 10 rfl rfl)
theorem dX3_takeSnapshot_37 : decode cX3_takeSnapshot 37 = .ok (.aload_n 0, 1) := dk_42 (dk_at dksX3_takeSnapshot_1 13 rfl rfl)
theorem dX3_takeSnapshot_38 : decode cX3_takeSnapshot 38 = .ok (.getfield 7, 3) := dk_180 0 7 (dk_at dksX3_takeSnapshot_1 14 rfl rfl)
theorem dX3_takeSnapshot_41 : decode cX3_takeSnapshot 41 = .ok (.iconst 0, 1) := dk_3 (dk_at dksX3_takeSnapshot_1 17 rfl rfl)
theorem dX3_takeSnapshot_42 : decode cX3_takeSnapshot 42 = .ok (.iaload, 1) := dk_46 (dk_at dksX3_takeSnapshot_1 18 rfl rfl)
theorem dX3_takeSnapshot_43 : decode cX3_takeSnapshot 43 = .ok (.ireturn, 1) := dk_172 (dk_at dksX3_takeSnapshot_1 19 rfl rfl)
abbrev cX3_restoreSnapshot : ByteArray := prog_13_method_94_code
def yX3_restoreSnapshot : MethodName := ⟨RX3, "restoreSnapshot", "()I"⟩
def dkwX3_restoreSnapshot_2 : List UInt8 := [167, 255, 234, 42, 180, 0, 7, 3, 46, 172]
abbrev dktX3_restoreSnapshot_2 : List UInt8 := dkwX3_restoreSnapshot_2 ++ []
def dkwX3_restoreSnapshot_1 : List UInt8 := [27, 17, 2, 2, 162, 0, 21, 42, 180, 0, 7, 27, 42, 180, 0, 16, 27, 46, 79, 132, 1, 1]
abbrev dktX3_restoreSnapshot_1 : List UInt8 := dkwX3_restoreSnapshot_1 ++ dktX3_restoreSnapshot_2
def dkwX3_restoreSnapshot_0 : List UInt8 := [42, 3, 181, 0, 22, 42, 180, 0, 208, 154, 0, 9, 42, 4, 182, 0, 137, 172, 42, 182, 0, 128, 3, 60]
abbrev dktX3_restoreSnapshot_0 : List UInt8 := dkwX3_restoreSnapshot_0 ++ dktX3_restoreSnapshot_1
theorem dksX3_restoreSnapshot_0 : cX3_restoreSnapshot.data.toList.drop 0 = dktX3_restoreSnapshot_0 := by decide +kernel
theorem dksX3_restoreSnapshot_1 : cX3_restoreSnapshot.data.toList.drop 24 = dktX3_restoreSnapshot_1 := dk_seg dksX3_restoreSnapshot_0 24 rfl rfl
theorem dksX3_restoreSnapshot_2 : cX3_restoreSnapshot.data.toList.drop 46 = dktX3_restoreSnapshot_2 := dk_seg dksX3_restoreSnapshot_1 22 rfl rfl
theorem dX3_restoreSnapshot_0 : decode cX3_restoreSnapshot 0 = .ok (.aload_n 0, 1) := dk_42 (dk_at dksX3_restoreSnapshot_0 0 rfl rfl)
theorem dX3_restoreSnapshot_1 : decode cX3_restoreSnapshot 1 = .ok (.iconst 0, 1) := dk_3 (dk_at dksX3_restoreSnapshot_0 1 rfl rfl)
theorem dX3_restoreSnapshot_2 : decode cX3_restoreSnapshot 2 = .ok (.putfield 22, 3) := dk_181 0 22 (dk_at dksX3_restoreSnapshot_0 2 rfl rfl)
theorem dX3_restoreSnapshot_5 : decode cX3_restoreSnapshot 5 = .ok (.aload_n 0, 1) := dk_42 (dk_at dksX3_restoreSnapshot_0 5 rfl rfl)
theorem dX3_restoreSnapshot_6 : decode cX3_restoreSnapshot 6 = .ok (.getfield 208, 3) := dk_180 0 208 (dk_at dksX3_restoreSnapshot_0 6 rfl rfl)
theorem dX3_restoreSnapshot_9 : decode cX3_restoreSnapshot 9 = .ok (.ifCond .ne 9, 3) := dk_154 0 9 (dk_at dksX3_restoreSnapshot_0 9 rfl rfl)
theorem dX3_restoreSnapshot_12 : decode cX3_restoreSnapshot 12 = .ok (.aload_n 0, 1) := dk_42 (dk_at dksX3_restoreSnapshot_0 12 rfl rfl)
theorem dX3_restoreSnapshot_13 : decode cX3_restoreSnapshot 13 = .ok (.iconst 1, 1) := dk_4 (dk_at dksX3_restoreSnapshot_0 13 rfl rfl)
theorem dX3_restoreSnapshot_14 : decode cX3_restoreSnapshot 14 = .ok (.invokevirtual 137, 3) := dk_182 0 137 (dk_at dksX3_restoreSnapshot_0 14 rfl rfl)
theorem dX3_restoreSnapshot_17 : decode cX3_restoreSnapshot 17 = .ok (.ireturn, 1) := dk_172 (dk_at dksX3_restoreSnapshot_0 17 rfl rfl)
theorem dX3_restoreSnapshot_18 : decode cX3_restoreSnapshot 18 = .ok (.aload_n 0, 1) := dk_42 (dk_at dksX3_restoreSnapshot_0 18 rfl rfl)
theorem dX3_restoreSnapshot_19 : decode cX3_restoreSnapshot 19 = .ok (.invokevirtual 128, 3) := dk_182 0 128 (dk_at dksX3_restoreSnapshot_0 19 rfl rfl)
theorem dX3_restoreSnapshot_22 : decode cX3_restoreSnapshot 22 = .ok (.iconst 0, 1) := dk_3 (dk_at dksX3_restoreSnapshot_0 22 rfl rfl)
theorem dX3_restoreSnapshot_23 : decode cX3_restoreSnapshot 23 = .ok (.istore_n 1, 1) := dk_60 (dk_at dksX3_restoreSnapshot_0 23 rfl rfl)
theorem dX3_restoreSnapshot_24 : decode cX3_restoreSnapshot 24 = .ok (.iload_n 1, 1) := dk_27 (dk_at dksX3_restoreSnapshot_1 0 rfl rfl)
theorem dX3_restoreSnapshot_25 : decode cX3_restoreSnapshot 25 = .ok (.sipush 514, 3) := dk_17 2 2 (dk_at dksX3_restoreSnapshot_1 1 rfl rfl)
theorem dX3_restoreSnapshot_28 : decode cX3_restoreSnapshot 28 = .ok (.if_icmp .ge 21, 3) := dk_162 0 21 (dk_at dksX3_restoreSnapshot_1 4 rfl rfl)
theorem dX3_restoreSnapshot_31 : decode cX3_restoreSnapshot 31 = .ok (.aload_n 0, 1) := dk_42 (dk_at dksX3_restoreSnapshot_1 7 rfl rfl)
theorem dX3_restoreSnapshot_32 : decode cX3_restoreSnapshot 32 = .ok (.getfield 7, 3) := dk_180 0 7 (dk_at dksX3_restoreSnapshot_1 8 rfl rfl)
theorem dX3_restoreSnapshot_35 : decode cX3_restoreSnapshot 35 = .ok (.iload_n 1, 1) := dk_27 (dk_at dksX3_restoreSnapshot_1 11 rfl rfl)
theorem dX3_restoreSnapshot_36 : decode cX3_restoreSnapshot 36 = .ok (.aload_n 0, 1) := dk_42 (dk_at dksX3_restoreSnapshot_1 12 rfl rfl)
theorem dX3_restoreSnapshot_37 : decode cX3_restoreSnapshot 37 = .ok (.getfield 16, 3) := dk_180 0 16 (dk_at dksX3_restoreSnapshot_1 13 rfl rfl)
theorem dX3_restoreSnapshot_40 : decode cX3_restoreSnapshot 40 = .ok (.iload_n 1, 1) := dk_27 (dk_at dksX3_restoreSnapshot_1 16 rfl rfl)
theorem dX3_restoreSnapshot_41 : decode cX3_restoreSnapshot 41 = .ok (.iaload, 1) := dk_46 (dk_at dksX3_restoreSnapshot_1 17 rfl rfl)
theorem dX3_restoreSnapshot_42 : decode cX3_restoreSnapshot 42 = .ok (.iastore, 1) := dk_79 (dk_at dksX3_restoreSnapshot_1 18 rfl rfl)
theorem dX3_restoreSnapshot_43 : decode cX3_restoreSnapshot 43 = .ok (.iinc 1 1, 3) := dk_132 1 1 (dk_at dksX3_restoreSnapshot_1 19 rfl rfl)
theorem dX3_restoreSnapshot_46 : decode cX3_restoreSnapshot 46 = .ok (.goto (-22), 3) := dk_167 255 234 (dk_at dksX3_restoreSnapshot_2 0 rfl rfl)
theorem dX3_restoreSnapshot_49 : decode cX3_restoreSnapshot 49 = .ok (.aload_n 0, 1) := dk_42 (dk_at dksX3_restoreSnapshot_2 3 rfl rfl)
theorem dX3_restoreSnapshot_50 : decode cX3_restoreSnapshot 50 = .ok (.getfield 7, 3) := dk_180 0 7 (dk_at dksX3_restoreSnapshot_2 4 rfl rfl)
theorem dX3_restoreSnapshot_53 : decode cX3_restoreSnapshot 53 = .ok (.iconst 0, 1) := dk_3 (dk_at dksX3_restoreSnapshot_2 7 rfl rfl)
theorem dX3_restoreSnapshot_54 : decode cX3_restoreSnapshot 54 = .ok (.iaload, 1) := dk_46 (dk_at dksX3_restoreSnapshot_2 8 rfl rfl)
theorem dX3_restoreSnapshot_55 : decode cX3_restoreSnapshot 55 = .ok (.ireturn, 1) := dk_172 (dk_at dksX3_restoreSnapshot_2 9 rfl rfl)
theorem q89 : (Jvm.Cond.initialized "ContourLabelsModel") ∈ lw_all := lw_g (lw_at lw_m1 11 rfl) rfl
theorem q409 : (Jvm.Cond.selects "ContourLabelsModel" ({ cls := "java/lang/Object", name := "getClass", desc := "()Ljava/lang/Class;" } : Jvm.MethodName) ({ cls := "java/lang/Object", name := "getClass", desc := "()Ljava/lang/Class;" } : Jvm.MethodName)) ∈ lw_all := lw_g (lw_at lw_m2 91 rfl) rfl
theorem q2233 : (Jvm.Cond.instantiable "ContourLabelsModel" (13 : Nat)) ∈ lw_all := lw_g (lw_at lw_m9 235 rfl) rfl
theorem q2235 : (Jvm.Cond.instanceMethod ({ cls := "ContourLabelsModel", name := "<init>", desc := "()V" } : Jvm.MethodName)) ∈ lw_all := lw_g (lw_at lw_m9 237 rfl) rfl
theorem q2236 : (Jvm.Cond.code ({ cls := "ContourLabelsModel", name := "<init>", desc := "()V" } : Jvm.MethodName) prog_13_method_1_code (1 : Nat) (Option.none : Option Jvm.ClassFile.FieldType)) ∈ lw_all := lw_g (lw_at lw_m9 238 rfl) rfl
theorem q2237 : (Jvm.Cond.methodLink "ContourLabelsModel" (1 : Nat) ({ cls := "java/lang/Object", name := "<init>", desc := "()V" } : Jvm.MethodName)) ∈ lw_all := lw_g (lw_at lw_m9 239 rfl) rfl
theorem q2238 : (Jvm.Cond.fieldLink "ContourLabelsModel" (7 : Nat) "ContourLabelsModel" "row" "[I") ∈ lw_all := lw_g (lw_at lw_m10 0 rfl) rfl
theorem q2239 : (Jvm.Cond.fieldLink "ContourLabelsModel" (13 : Nat) "ContourLabelsModel" "saved" "[I") ∈ lw_all := lw_g (lw_at lw_m10 1 rfl) rfl
theorem q2240 : (Jvm.Cond.fieldLink "ContourLabelsModel" (92 : Nat) "ContourLabelsModel" "savedMany" "I") ∈ lw_all := lw_g (lw_at lw_m10 2 rfl) rfl
theorem q2241 : (Jvm.Cond.fieldLink "ContourLabelsModel" (16 : Nat) "ContourLabelsModel" "kept" "[I") ∈ lw_all := lw_g (lw_at lw_m10 3 rfl) rfl
theorem q2242 : (Jvm.Cond.fieldLink "ContourLabelsModel" (208 : Nat) "ContourLabelsModel" "isKept" "Z") ∈ lw_all := lw_g (lw_at lw_m10 4 rfl) rfl
theorem q2243 : (Jvm.Cond.fieldLink "ContourLabelsModel" (19 : Nat) "ContourLabelsModel" "text" "[I") ∈ lw_all := lw_g (lw_at lw_m10 5 rfl) rfl
theorem q2244 : (Jvm.Cond.fieldLink "ContourLabelsModel" (169 : Nat) "ContourLabelsModel" "length" "I") ∈ lw_all := lw_g (lw_at lw_m10 6 rfl) rfl
theorem q2245 : (Jvm.Cond.fieldLink "ContourLabelsModel" (22 : Nat) "ContourLabelsModel" "thrown" "I") ∈ lw_all := lw_g (lw_at lw_m10 7 rfl) rfl
theorem q2246 : (Jvm.Cond.fieldLink "ContourLabelsModel" (172 : Nat) "ContourLabelsModel" "spot" "I") ∈ lw_all := lw_g (lw_at lw_m10 8 rfl) rfl
theorem q2247 : (Jvm.Cond.fieldLink "ContourLabelsModel" (175 : Nat) "ContourLabelsModel" "isWell" "Z") ∈ lw_all := lw_g (lw_at lw_m10 9 rfl) rfl
theorem q2248 : (Jvm.Cond.fieldLink "ContourLabelsModel" (182 : Nat) "ContourLabelsModel" "letter" "I") ∈ lw_all := lw_g (lw_at lw_m10 10 rfl) rfl
theorem q2249 : (Jvm.Cond.fieldLink "ContourLabelsModel" (185 : Nat) "ContourLabelsModel" "first" "I") ∈ lw_all := lw_g (lw_at lw_m10 11 rfl) rfl
theorem q2250 : (Jvm.Cond.fieldLink "ContourLabelsModel" (188 : Nat) "ContourLabelsModel" "second" "I") ∈ lw_all := lw_g (lw_at lw_m10 12 rfl) rfl
theorem q2251 : (Jvm.Cond.laysFinal "ContourLabelsModel" "ContourLabelsModel" "row" "[I") ∈ lw_all := lw_g (lw_at lw_m10 13 rfl) rfl
theorem q2252 : (Jvm.Cond.soleField "ContourLabelsModel" "row") ∈ lw_all := lw_g (lw_at lw_m10 14 rfl) rfl
theorem q2253 : (Jvm.Cond.laysFinal "ContourLabelsModel" "ContourLabelsModel" "saved" "[I") ∈ lw_all := lw_g (lw_at lw_m10 15 rfl) rfl
theorem q2254 : (Jvm.Cond.soleField "ContourLabelsModel" "saved") ∈ lw_all := lw_g (lw_at lw_m10 16 rfl) rfl
theorem q2255 : (Jvm.Cond.lays "ContourLabelsModel" "ContourLabelsModel" "savedMany" "I") ∈ lw_all := lw_g (lw_at lw_m10 17 rfl) rfl
theorem q2256 : (Jvm.Cond.soleField "ContourLabelsModel" "savedMany") ∈ lw_all := lw_g (lw_at lw_m10 18 rfl) rfl
theorem q2257 : (Jvm.Cond.laysFinal "ContourLabelsModel" "ContourLabelsModel" "kept" "[I") ∈ lw_all := lw_g (lw_at lw_m10 19 rfl) rfl
theorem q2258 : (Jvm.Cond.soleField "ContourLabelsModel" "kept") ∈ lw_all := lw_g (lw_at lw_m10 20 rfl) rfl
theorem q2259 : (Jvm.Cond.lays "ContourLabelsModel" "ContourLabelsModel" "isKept" "Z") ∈ lw_all := lw_g (lw_at lw_m10 21 rfl) rfl
theorem q2260 : (Jvm.Cond.soleField "ContourLabelsModel" "isKept") ∈ lw_all := lw_g (lw_at lw_m10 22 rfl) rfl
theorem q2261 : (Jvm.Cond.laysFinal "ContourLabelsModel" "ContourLabelsModel" "text" "[I") ∈ lw_all := lw_g (lw_at lw_m10 23 rfl) rfl
theorem q2262 : (Jvm.Cond.soleField "ContourLabelsModel" "text") ∈ lw_all := lw_g (lw_at lw_m10 24 rfl) rfl
theorem q2263 : (Jvm.Cond.lays "ContourLabelsModel" "ContourLabelsModel" "length" "I") ∈ lw_all := lw_g (lw_at lw_m10 25 rfl) rfl
theorem q2264 : (Jvm.Cond.soleField "ContourLabelsModel" "length") ∈ lw_all := lw_g (lw_at lw_m10 26 rfl) rfl
theorem q2265 : (Jvm.Cond.lays "ContourLabelsModel" "ContourLabelsModel" "thrown" "I") ∈ lw_all := lw_g (lw_at lw_m10 27 rfl) rfl
theorem q2266 : (Jvm.Cond.soleField "ContourLabelsModel" "thrown") ∈ lw_all := lw_g (lw_at lw_m10 28 rfl) rfl
theorem q2267 : (Jvm.Cond.lays "ContourLabelsModel" "ContourLabelsModel" "spot" "I") ∈ lw_all := lw_g (lw_at lw_m10 29 rfl) rfl
theorem q2268 : (Jvm.Cond.soleField "ContourLabelsModel" "spot") ∈ lw_all := lw_g (lw_at lw_m10 30 rfl) rfl
theorem q2269 : (Jvm.Cond.lays "ContourLabelsModel" "ContourLabelsModel" "isWell" "Z") ∈ lw_all := lw_g (lw_at lw_m10 31 rfl) rfl
theorem q2270 : (Jvm.Cond.soleField "ContourLabelsModel" "isWell") ∈ lw_all := lw_g (lw_at lw_m10 32 rfl) rfl
theorem q2271 : (Jvm.Cond.lays "ContourLabelsModel" "ContourLabelsModel" "letter" "I") ∈ lw_all := lw_g (lw_at lw_m10 33 rfl) rfl
theorem q2272 : (Jvm.Cond.soleField "ContourLabelsModel" "letter") ∈ lw_all := lw_g (lw_at lw_m10 34 rfl) rfl
theorem q2273 : (Jvm.Cond.lays "ContourLabelsModel" "ContourLabelsModel" "first" "I") ∈ lw_all := lw_g (lw_at lw_m10 35 rfl) rfl
theorem q2274 : (Jvm.Cond.soleField "ContourLabelsModel" "first") ∈ lw_all := lw_g (lw_at lw_m10 36 rfl) rfl
theorem q2275 : (Jvm.Cond.lays "ContourLabelsModel" "ContourLabelsModel" "second" "I") ∈ lw_all := lw_g (lw_at lw_m10 37 rfl) rfl
theorem q2276 : (Jvm.Cond.soleField "ContourLabelsModel" "second") ∈ lw_all := lw_g (lw_at lw_m10 38 rfl) rfl
theorem q2277 : (Jvm.Cond.superclass "ContourLabelsModel" "java/lang/Object") ∈ lw_all := lw_g (lw_at lw_m10 39 rfl) rfl
theorem q2279 : (Jvm.Cond.instanceMethod ({ cls := "ContourLabelsModel", name := "thrown", desc := "()I" } : Jvm.MethodName)) ∈ lw_all := lw_g (lw_at lw_m10 41 rfl) rfl
theorem q2280 : (Jvm.Cond.selects "ContourLabelsModel" ({ cls := "ContourLabelsModel", name := "thrown", desc := "()I" } : Jvm.MethodName) ({ cls := "ContourLabelsModel", name := "thrown", desc := "()I" } : Jvm.MethodName)) ∈ lw_all := lw_g (lw_at lw_m10 42 rfl) rfl
theorem q2281 : (Jvm.Cond.code ({ cls := "ContourLabelsModel", name := "thrown", desc := "()I" } : Jvm.MethodName) prog_13_method_2_code (1 : Nat) (Option.some Jvm.ClassFile.FieldType.int)) ∈ lw_all := lw_g (lw_at lw_m10 43 rfl) rfl
theorem q2283 : (Jvm.Cond.instanceMethod ({ cls := "ContourLabelsModel", name := "begin", desc := "(II)I" } : Jvm.MethodName)) ∈ lw_all := lw_g (lw_at lw_m10 45 rfl) rfl
theorem q2284 : (Jvm.Cond.selects "ContourLabelsModel" ({ cls := "ContourLabelsModel", name := "begin", desc := "(II)I" } : Jvm.MethodName) ({ cls := "ContourLabelsModel", name := "begin", desc := "(II)I" } : Jvm.MethodName)) ∈ lw_all := lw_g (lw_at lw_m10 46 rfl) rfl
theorem q2285 : (Jvm.Cond.code ({ cls := "ContourLabelsModel", name := "begin", desc := "(II)I" } : Jvm.MethodName) prog_13_method_37_code (3 : Nat) (Option.some Jvm.ClassFile.FieldType.int)) ∈ lw_all := lw_g (lw_at lw_m10 47 rfl) rfl
theorem q2286 : (Jvm.Cond.methodLink "ContourLabelsModel" (134 : Nat) ({ cls := "ContourLabelsModel", name := "acts", desc := "(III)I" } : Jvm.MethodName)) ∈ lw_all := lw_g (lw_at lw_m10 48 rfl) rfl
theorem q2287 : (Jvm.Cond.privateMethod ({ cls := "ContourLabelsModel", name := "acts", desc := "(III)I" } : Jvm.MethodName)) ∈ lw_tbl := lw_at lw_m10 49 rfl
theorem q2288 : (Jvm.Cond.instanceMethod ({ cls := "ContourLabelsModel", name := "acts", desc := "(III)I" } : Jvm.MethodName)) ∈ lw_all := lw_g (lw_at lw_m10 50 rfl) rfl
theorem q2289 : (Jvm.Cond.code ({ cls := "ContourLabelsModel", name := "acts", desc := "(III)I" } : Jvm.MethodName) prog_13_method_36_code (4 : Nat) (Option.some Jvm.ClassFile.FieldType.int)) ∈ lw_all := lw_g (lw_at lw_m10 51 rfl) rfl
theorem q2290 : (Jvm.Cond.methodLink "ContourLabelsModel" (124 : Nat) ({ cls := "ContourLabelsModel", name := "refusal", desc := "(III)I" } : Jvm.MethodName)) ∈ lw_all := lw_g (lw_at lw_m10 52 rfl) rfl
theorem q2291 : (Jvm.Cond.privateMethod ({ cls := "ContourLabelsModel", name := "refusal", desc := "(III)I" } : Jvm.MethodName)) ∈ lw_tbl := lw_at lw_m10 53 rfl
theorem q2292 : (Jvm.Cond.instanceMethod ({ cls := "ContourLabelsModel", name := "refusal", desc := "(III)I" } : Jvm.MethodName)) ∈ lw_all := lw_g (lw_at lw_m10 54 rfl) rfl
theorem q2293 : (Jvm.Cond.code ({ cls := "ContourLabelsModel", name := "refusal", desc := "(III)I" } : Jvm.MethodName) prog_13_method_32_code (4 : Nat) (Option.some Jvm.ClassFile.FieldType.int)) ∈ lw_all := lw_g (lw_at lw_m10 55 rfl) rfl
theorem q2294 : (Jvm.Cond.methodLink "ContourLabelsModel" (95 : Nat) ({ cls := "ContourLabelsModel", name := "isPoint", desc := "(I)Z" } : Jvm.MethodName)) ∈ lw_all := lw_g (lw_at lw_m10 56 rfl) rfl
theorem q2295 : (Jvm.Cond.static ({ cls := "ContourLabelsModel", name := "isPoint", desc := "(I)Z" } : Jvm.MethodName)) ∈ lw_all := lw_g (lw_at lw_m10 57 rfl) rfl
theorem q2296 : (Jvm.Cond.code ({ cls := "ContourLabelsModel", name := "isPoint", desc := "(I)Z" } : Jvm.MethodName) prog_13_method_7_code (1 : Nat) (Option.some Jvm.ClassFile.FieldType.boolean)) ∈ lw_all := lw_g (lw_at lw_m10 58 rfl) rfl
theorem q2297 : (Jvm.Cond.methodLink "ContourLabelsModel" (26 : Nat) ({ cls := "ContourLabelsModel", name := "in", desc := "(III)Z" } : Jvm.MethodName)) ∈ lw_all := lw_g (lw_at lw_m10 59 rfl) rfl
theorem q2298 : (Jvm.Cond.static ({ cls := "ContourLabelsModel", name := "in", desc := "(III)Z" } : Jvm.MethodName)) ∈ lw_all := lw_g (lw_at lw_m10 60 rfl) rfl
theorem q2299 : (Jvm.Cond.code ({ cls := "ContourLabelsModel", name := "in", desc := "(III)Z" } : Jvm.MethodName) prog_13_method_4_code (3 : Nat) (Option.some Jvm.ClassFile.FieldType.boolean)) ∈ lw_all := lw_g (lw_at lw_m10 61 rfl) rfl
theorem q2300 : (Jvm.Cond.methodLink "ContourLabelsModel" (54 : Nat) ({ cls := "ContourLabelsModel", name := "owner", desc := "(I)I" } : Jvm.MethodName)) ∈ lw_all := lw_g (lw_at lw_m10 62 rfl) rfl
theorem q2301 : (Jvm.Cond.privateMethod ({ cls := "ContourLabelsModel", name := "owner", desc := "(I)I" } : Jvm.MethodName)) ∈ lw_tbl := lw_at lw_m10 63 rfl
theorem q2302 : (Jvm.Cond.instanceMethod ({ cls := "ContourLabelsModel", name := "owner", desc := "(I)I" } : Jvm.MethodName)) ∈ lw_all := lw_g (lw_at lw_m10 64 rfl) rfl
theorem q2303 : (Jvm.Cond.code ({ cls := "ContourLabelsModel", name := "owner", desc := "(I)I" } : Jvm.MethodName) prog_13_method_16_code (6 : Nat) (Option.some Jvm.ClassFile.FieldType.int)) ∈ lw_all := lw_g (lw_at lw_m10 65 rfl) rfl
theorem q2304 : (Jvm.Cond.methodLink "ContourLabelsModel" (37 : Nat) ({ cls := "ContourLabelsModel", name := "of", desc := "(II)I" } : Jvm.MethodName)) ∈ lw_all := lw_g (lw_at lw_m10 66 rfl) rfl
theorem q2305 : (Jvm.Cond.privateMethod ({ cls := "ContourLabelsModel", name := "of", desc := "(II)I" } : Jvm.MethodName)) ∈ lw_tbl := lw_at lw_m10 67 rfl
theorem q2306 : (Jvm.Cond.instanceMethod ({ cls := "ContourLabelsModel", name := "of", desc := "(II)I" } : Jvm.MethodName)) ∈ lw_all := lw_g (lw_at lw_m10 68 rfl) rfl
theorem q2307 : (Jvm.Cond.code ({ cls := "ContourLabelsModel", name := "of", desc := "(II)I" } : Jvm.MethodName) prog_13_method_8_code (3 : Nat) (Option.some Jvm.ClassFile.FieldType.int)) ∈ lw_all := lw_g (lw_at lw_m10 69 rfl) rfl
theorem q2308 : (Jvm.Cond.methodLink "ContourLabelsModel" (34 : Nat) ({ cls := "ContourLabelsModel", name := "down", desc := "(I)I" } : Jvm.MethodName)) ∈ lw_all := lw_g (lw_at lw_m10 70 rfl) rfl
theorem q2309 : (Jvm.Cond.static ({ cls := "ContourLabelsModel", name := "down", desc := "(I)I" } : Jvm.MethodName)) ∈ lw_all := lw_g (lw_at lw_m10 71 rfl) rfl
theorem q2310 : (Jvm.Cond.code ({ cls := "ContourLabelsModel", name := "down", desc := "(I)I" } : Jvm.MethodName) prog_13_method_11_code (1 : Nat) (Option.some Jvm.ClassFile.FieldType.int)) ∈ lw_all := lw_g (lw_at lw_m10 72 rfl) rfl
theorem q2311 : (Jvm.Cond.methodLink "ContourLabelsModel" (30 : Nat) ({ cls := "ContourLabelsModel", name := "across", desc := "(I)I" } : Jvm.MethodName)) ∈ lw_all := lw_g (lw_at lw_m10 73 rfl) rfl
theorem q2312 : (Jvm.Cond.static ({ cls := "ContourLabelsModel", name := "across", desc := "(I)I" } : Jvm.MethodName)) ∈ lw_all := lw_g (lw_at lw_m10 74 rfl) rfl
theorem q2313 : (Jvm.Cond.code ({ cls := "ContourLabelsModel", name := "across", desc := "(I)I" } : Jvm.MethodName) prog_13_method_10_code (1 : Nat) (Option.some Jvm.ClassFile.FieldType.int)) ∈ lw_all := lw_g (lw_at lw_m10 75 rfl) rfl
theorem q2314 : (Jvm.Cond.methodLink "ContourLabelsModel" (98 : Nat) ({ cls := "ContourLabelsModel", name := "isLine", desc := "(I)Z" } : Jvm.MethodName)) ∈ lw_all := lw_g (lw_at lw_m10 76 rfl) rfl
theorem q2315 : (Jvm.Cond.privateMethod ({ cls := "ContourLabelsModel", name := "isLine", desc := "(I)Z" } : Jvm.MethodName)) ∈ lw_tbl := lw_at lw_m10 77 rfl
theorem q2316 : (Jvm.Cond.instanceMethod ({ cls := "ContourLabelsModel", name := "isLine", desc := "(I)Z" } : Jvm.MethodName)) ∈ lw_all := lw_g (lw_at lw_m10 78 rfl) rfl
theorem q2317 : (Jvm.Cond.code ({ cls := "ContourLabelsModel", name := "isLine", desc := "(I)Z" } : Jvm.MethodName) prog_13_method_6_code (2 : Nat) (Option.some Jvm.ClassFile.FieldType.boolean)) ∈ lw_all := lw_g (lw_at lw_m10 79 rfl) rfl
theorem q2318 : (Jvm.Cond.methodLink "ContourLabelsModel" (101 : Nat) ({ cls := "ContourLabelsModel", name := "whyNot", desc := "(II)I" } : Jvm.MethodName)) ∈ lw_all := lw_g (lw_at lw_m10 80 rfl) rfl
theorem q2319 : (Jvm.Cond.privateMethod ({ cls := "ContourLabelsModel", name := "whyNot", desc := "(II)I" } : Jvm.MethodName)) ∈ lw_tbl := lw_at lw_m10 81 rfl
theorem q2320 : (Jvm.Cond.instanceMethod ({ cls := "ContourLabelsModel", name := "whyNot", desc := "(II)I" } : Jvm.MethodName)) ∈ lw_all := lw_g (lw_at lw_m10 82 rfl) rfl
theorem q2321 : (Jvm.Cond.code ({ cls := "ContourLabelsModel", name := "whyNot", desc := "(II)I" } : Jvm.MethodName) prog_13_method_18_code (6 : Nat) (Option.some Jvm.ClassFile.FieldType.int)) ∈ lw_all := lw_g (lw_at lw_m10 83 rfl) rfl
theorem q2322 : (Jvm.Cond.methodLink "ContourLabelsModel" (47 : Nat) ({ cls := "ContourLabelsModel", name := "closes", desc := "(I)Z" } : Jvm.MethodName)) ∈ lw_all := lw_g (lw_at lw_m10 84 rfl) rfl
theorem q2323 : (Jvm.Cond.privateMethod ({ cls := "ContourLabelsModel", name := "closes", desc := "(I)Z" } : Jvm.MethodName)) ∈ lw_tbl := lw_at lw_m10 85 rfl
theorem q2324 : (Jvm.Cond.instanceMethod ({ cls := "ContourLabelsModel", name := "closes", desc := "(I)Z" } : Jvm.MethodName)) ∈ lw_all := lw_g (lw_at lw_m10 86 rfl) rfl
theorem q2325 : (Jvm.Cond.code ({ cls := "ContourLabelsModel", name := "closes", desc := "(I)Z" } : Jvm.MethodName) prog_13_method_15_code (2 : Nat) (Option.some Jvm.ClassFile.FieldType.boolean)) ∈ lw_all := lw_g (lw_at lw_m10 87 rfl) rfl
theorem q2326 : (Jvm.Cond.methodLink "ContourLabelsModel" (44 : Nat) ({ cls := "ContourLabelsModel", name := "last", desc := "(I)I" } : Jvm.MethodName)) ∈ lw_all := lw_g (lw_at lw_m10 88 rfl) rfl
theorem q2327 : (Jvm.Cond.privateMethod ({ cls := "ContourLabelsModel", name := "last", desc := "(I)I" } : Jvm.MethodName)) ∈ lw_tbl := lw_at lw_m10 89 rfl
theorem q2328 : (Jvm.Cond.instanceMethod ({ cls := "ContourLabelsModel", name := "last", desc := "(I)I" } : Jvm.MethodName)) ∈ lw_all := lw_g (lw_at lw_m10 90 rfl) rfl
theorem q2329 : (Jvm.Cond.code ({ cls := "ContourLabelsModel", name := "last", desc := "(I)I" } : Jvm.MethodName) prog_13_method_14_code (2 : Nat) (Option.some Jvm.ClassFile.FieldType.int)) ∈ lw_all := lw_g (lw_at lw_m10 91 rfl) rfl
theorem q2330 : (Jvm.Cond.methodLink "ContourLabelsModel" (41 : Nat) ({ cls := "ContourLabelsModel", name := "at", desc := "(II)I" } : Jvm.MethodName)) ∈ lw_all := lw_g (lw_at lw_m10 92 rfl) rfl
theorem q2331 : (Jvm.Cond.privateMethod ({ cls := "ContourLabelsModel", name := "at", desc := "(II)I" } : Jvm.MethodName)) ∈ lw_tbl := lw_at lw_m10 93 rfl
theorem q2332 : (Jvm.Cond.instanceMethod ({ cls := "ContourLabelsModel", name := "at", desc := "(II)I" } : Jvm.MethodName)) ∈ lw_all := lw_g (lw_at lw_m10 94 rfl) rfl
theorem q2333 : (Jvm.Cond.code ({ cls := "ContourLabelsModel", name := "at", desc := "(II)I" } : Jvm.MethodName) prog_13_method_13_code (5 : Nat) (Option.some Jvm.ClassFile.FieldType.int)) ∈ lw_all := lw_g (lw_at lw_m10 95 rfl) rfl
theorem q2334 : (Jvm.Cond.methodLink "ContourLabelsModel" (51 : Nat) ({ cls := "ContourLabelsModel", name := "next", desc := "(II)I" } : Jvm.MethodName)) ∈ lw_all := lw_g (lw_at lw_m10 96 rfl) rfl
theorem q2335 : (Jvm.Cond.static ({ cls := "ContourLabelsModel", name := "next", desc := "(II)I" } : Jvm.MethodName)) ∈ lw_all := lw_g (lw_at lw_m10 97 rfl) rfl
theorem q2336 : (Jvm.Cond.code ({ cls := "ContourLabelsModel", name := "next", desc := "(II)I" } : Jvm.MethodName) prog_13_method_12_code (4 : Nat) (Option.some Jvm.ClassFile.FieldType.int)) ∈ lw_all := lw_g (lw_at lw_m10 98 rfl) rfl
theorem q2337 : (Jvm.Cond.methodLink "ContourLabelsModel" (57 : Nat) ({ cls := "ContourLabelsModel", name := "isStep", desc := "(II)Z" } : Jvm.MethodName)) ∈ lw_all := lw_g (lw_at lw_m10 99 rfl) rfl
theorem q2338 : (Jvm.Cond.privateMethod ({ cls := "ContourLabelsModel", name := "isStep", desc := "(II)Z" } : Jvm.MethodName)) ∈ lw_tbl := lw_at lw_m10 100 rfl
theorem q2339 : (Jvm.Cond.instanceMethod ({ cls := "ContourLabelsModel", name := "isStep", desc := "(II)Z" } : Jvm.MethodName)) ∈ lw_all := lw_g (lw_at lw_m10 101 rfl) rfl
theorem q2340 : (Jvm.Cond.code ({ cls := "ContourLabelsModel", name := "isStep", desc := "(II)Z" } : Jvm.MethodName) prog_13_method_17_code (8 : Nat) (Option.some Jvm.ClassFile.FieldType.boolean)) ∈ lw_all := lw_g (lw_at lw_m10 102 rfl) rfl
theorem q2341 : (Jvm.Cond.methodLink "ContourLabelsModel" (89 : Nat) ({ cls := "ContourLabelsModel", name := "whyNoLabel", desc := "(II)I" } : Jvm.MethodName)) ∈ lw_all := lw_g (lw_at lw_m10 103 rfl) rfl
theorem q2342 : (Jvm.Cond.privateMethod ({ cls := "ContourLabelsModel", name := "whyNoLabel", desc := "(II)I" } : Jvm.MethodName)) ∈ lw_tbl := lw_at lw_m10 104 rfl
theorem q2343 : (Jvm.Cond.instanceMethod ({ cls := "ContourLabelsModel", name := "whyNoLabel", desc := "(II)I" } : Jvm.MethodName)) ∈ lw_all := lw_g (lw_at lw_m10 105 rfl) rfl
theorem q2344 : (Jvm.Cond.code ({ cls := "ContourLabelsModel", name := "whyNoLabel", desc := "(II)I" } : Jvm.MethodName) prog_13_method_27_code (5 : Nat) (Option.some Jvm.ClassFile.FieldType.int)) ∈ lw_all := lw_g (lw_at lw_m10 106 rfl) rfl
theorem q2345 : (Jvm.Cond.methodLink "ContourLabelsModel" (80 : Nat) ({ cls := "ContourLabelsModel", name := "isPlace", desc := "(II)Z" } : Jvm.MethodName)) ∈ lw_all := lw_g (lw_at lw_m10 107 rfl) rfl
theorem q2346 : (Jvm.Cond.privateMethod ({ cls := "ContourLabelsModel", name := "isPlace", desc := "(II)Z" } : Jvm.MethodName)) ∈ lw_tbl := lw_at lw_m10 108 rfl
theorem q2347 : (Jvm.Cond.instanceMethod ({ cls := "ContourLabelsModel", name := "isPlace", desc := "(II)Z" } : Jvm.MethodName)) ∈ lw_all := lw_g (lw_at lw_m10 109 rfl) rfl
theorem q2348 : (Jvm.Cond.code ({ cls := "ContourLabelsModel", name := "isPlace", desc := "(II)Z" } : Jvm.MethodName) prog_13_method_22_code (3 : Nat) (Option.some Jvm.ClassFile.FieldType.boolean)) ∈ lw_all := lw_g (lw_at lw_m10 110 rfl) rfl
theorem q2349 : (Jvm.Cond.methodLink "ContourLabelsModel" (67 : Nat) ({ cls := "ContourLabelsModel", name := "size", desc := "(I)I" } : Jvm.MethodName)) ∈ lw_all := lw_g (lw_at lw_m10 111 rfl) rfl
theorem q2350 : (Jvm.Cond.privateMethod ({ cls := "ContourLabelsModel", name := "size", desc := "(I)I" } : Jvm.MethodName)) ∈ lw_tbl := lw_at lw_m10 112 rfl
theorem q2351 : (Jvm.Cond.instanceMethod ({ cls := "ContourLabelsModel", name := "size", desc := "(I)I" } : Jvm.MethodName)) ∈ lw_all := lw_g (lw_at lw_m10 113 rfl) rfl
theorem q2352 : (Jvm.Cond.code ({ cls := "ContourLabelsModel", name := "size", desc := "(I)I" } : Jvm.MethodName) prog_13_method_21_code (2 : Nat) (Option.some Jvm.ClassFile.FieldType.int)) ∈ lw_all := lw_g (lw_at lw_m10 114 rfl) rfl
theorem q2353 : (Jvm.Cond.methodLink "ContourLabelsModel" (83 : Nat) ({ cls := "ContourLabelsModel", name := "bends", desc := "(II)I" } : Jvm.MethodName)) ∈ lw_all := lw_g (lw_at lw_m10 115 rfl) rfl
theorem q2354 : (Jvm.Cond.privateMethod ({ cls := "ContourLabelsModel", name := "bends", desc := "(II)I" } : Jvm.MethodName)) ∈ lw_tbl := lw_at lw_m10 116 rfl
theorem q2355 : (Jvm.Cond.instanceMethod ({ cls := "ContourLabelsModel", name := "bends", desc := "(II)I" } : Jvm.MethodName)) ∈ lw_all := lw_g (lw_at lw_m10 117 rfl) rfl
theorem q2356 : (Jvm.Cond.code ({ cls := "ContourLabelsModel", name := "bends", desc := "(II)I" } : Jvm.MethodName) prog_13_method_23_code (5 : Nat) (Option.some Jvm.ClassFile.FieldType.int)) ∈ lw_all := lw_g (lw_at lw_m10 118 rfl) rfl
theorem q2357 : (Jvm.Cond.methodLink "ContourLabelsModel" (70 : Nat) ({ cls := "ContourLabelsModel", name := "bend", desc := "(II)I" } : Jvm.MethodName)) ∈ lw_all := lw_g (lw_at lw_m10 119 rfl) rfl
theorem q2358 : (Jvm.Cond.privateMethod ({ cls := "ContourLabelsModel", name := "bend", desc := "(II)I" } : Jvm.MethodName)) ∈ lw_tbl := lw_at lw_m10 120 rfl
theorem q2359 : (Jvm.Cond.instanceMethod ({ cls := "ContourLabelsModel", name := "bend", desc := "(II)I" } : Jvm.MethodName)) ∈ lw_all := lw_g (lw_at lw_m10 121 rfl) rfl
theorem q2360 : (Jvm.Cond.code ({ cls := "ContourLabelsModel", name := "bend", desc := "(II)I" } : Jvm.MethodName) prog_13_method_20_code (4 : Nat) (Option.some Jvm.ClassFile.FieldType.int)) ∈ lw_all := lw_g (lw_at lw_m10 122 rfl) rfl
theorem q2361 : (Jvm.Cond.methodLink "ContourLabelsModel" (64 : Nat) ({ cls := "ContourLabelsModel", name := "turn", desc := "(II)I" } : Jvm.MethodName)) ∈ lw_all := lw_g (lw_at lw_m10 123 rfl) rfl
theorem q2362 : (Jvm.Cond.static ({ cls := "ContourLabelsModel", name := "turn", desc := "(II)I" } : Jvm.MethodName)) ∈ lw_all := lw_g (lw_at lw_m10 124 rfl) rfl
theorem q2363 : (Jvm.Cond.code ({ cls := "ContourLabelsModel", name := "turn", desc := "(II)I" } : Jvm.MethodName) prog_13_method_19_code (3 : Nat) (Option.some Jvm.ClassFile.FieldType.int)) ∈ lw_all := lw_g (lw_at lw_m10 125 rfl) rfl
theorem q2364 : (Jvm.Cond.methodLink "ContourLabelsModel" (61 : Nat) ({ cls := "ContourLabelsModel", name := "apart", desc := "(II)I" } : Jvm.MethodName)) ∈ lw_all := lw_g (lw_at lw_m10 126 rfl) rfl
theorem q2365 : (Jvm.Cond.static ({ cls := "ContourLabelsModel", name := "apart", desc := "(II)I" } : Jvm.MethodName)) ∈ lw_all := lw_g (lw_at lw_m10 127 rfl) rfl
theorem q2366 : (Jvm.Cond.code ({ cls := "ContourLabelsModel", name := "apart", desc := "(II)I" } : Jvm.MethodName) prog_13_method_5_code (2 : Nat) (Option.some Jvm.ClassFile.FieldType.int)) ∈ lw_all := lw_g (lw_at lw_m10 128 rfl) rfl
theorem q2367 : (Jvm.Cond.methodLink "ContourLabelsModel" (86 : Nat) ({ cls := "ContourLabelsModel", name := "free", desc := "(II)I" } : Jvm.MethodName)) ∈ lw_all := lw_g (lw_at lw_m10 129 rfl) rfl
theorem q2368 : (Jvm.Cond.privateMethod ({ cls := "ContourLabelsModel", name := "free", desc := "(II)I" } : Jvm.MethodName)) ∈ lw_tbl := lw_at lw_m10 130 rfl
theorem q2369 : (Jvm.Cond.instanceMethod ({ cls := "ContourLabelsModel", name := "free", desc := "(II)I" } : Jvm.MethodName)) ∈ lw_all := lw_g (lw_at lw_m10 131 rfl) rfl
theorem q2370 : (Jvm.Cond.code ({ cls := "ContourLabelsModel", name := "free", desc := "(II)I" } : Jvm.MethodName) prog_13_method_26_code (7 : Nat) (Option.some Jvm.ClassFile.FieldType.int)) ∈ lw_all := lw_g (lw_at lw_m10 132 rfl) rfl
theorem q2371 : (Jvm.Cond.methodLink "ContourLabelsModel" (76 : Nat) ({ cls := "ContourLabelsModel", name := "between", desc := "(IIII)I" } : Jvm.MethodName)) ∈ lw_all := lw_g (lw_at lw_m10 133 rfl) rfl
theorem q2372 : (Jvm.Cond.privateMethod ({ cls := "ContourLabelsModel", name := "between", desc := "(IIII)I" } : Jvm.MethodName)) ∈ lw_tbl := lw_at lw_m10 134 rfl
theorem q2373 : (Jvm.Cond.instanceMethod ({ cls := "ContourLabelsModel", name := "between", desc := "(IIII)I" } : Jvm.MethodName)) ∈ lw_all := lw_g (lw_at lw_m10 135 rfl) rfl
theorem q2374 : (Jvm.Cond.code ({ cls := "ContourLabelsModel", name := "between", desc := "(IIII)I" } : Jvm.MethodName) prog_13_method_25_code (9 : Nat) (Option.some Jvm.ClassFile.FieldType.int)) ∈ lw_all := lw_g (lw_at lw_m10 136 rfl) rfl
theorem q2375 : (Jvm.Cond.methodLink "ContourLabelsModel" (73 : Nat) ({ cls := "ContourLabelsModel", name := "far", desc := "(II)I" } : Jvm.MethodName)) ∈ lw_all := lw_g (lw_at lw_m10 137 rfl) rfl
theorem q2376 : (Jvm.Cond.privateMethod ({ cls := "ContourLabelsModel", name := "far", desc := "(II)I" } : Jvm.MethodName)) ∈ lw_tbl := lw_at lw_m10 138 rfl
theorem q2377 : (Jvm.Cond.instanceMethod ({ cls := "ContourLabelsModel", name := "far", desc := "(II)I" } : Jvm.MethodName)) ∈ lw_all := lw_g (lw_at lw_m10 139 rfl) rfl
theorem q2378 : (Jvm.Cond.code ({ cls := "ContourLabelsModel", name := "far", desc := "(II)I" } : Jvm.MethodName) prog_13_method_24_code (5 : Nat) (Option.some Jvm.ClassFile.FieldType.int)) ∈ lw_all := lw_g (lw_at lw_m10 140 rfl) rfl
theorem q2379 : (Jvm.Cond.methodLink "ContourLabelsModel" (104 : Nat) ({ cls := "ContourLabelsModel", name := "best", desc := "(I)I" } : Jvm.MethodName)) ∈ lw_all := lw_g (lw_at lw_m10 141 rfl) rfl
theorem q2380 : (Jvm.Cond.privateMethod ({ cls := "ContourLabelsModel", name := "best", desc := "(I)I" } : Jvm.MethodName)) ∈ lw_tbl := lw_at lw_m10 142 rfl
theorem q2381 : (Jvm.Cond.instanceMethod ({ cls := "ContourLabelsModel", name := "best", desc := "(I)I" } : Jvm.MethodName)) ∈ lw_all := lw_g (lw_at lw_m10 143 rfl) rfl
theorem q2382 : (Jvm.Cond.code ({ cls := "ContourLabelsModel", name := "best", desc := "(I)I" } : Jvm.MethodName) prog_13_method_28_code (9 : Nat) (Option.some Jvm.ClassFile.FieldType.int)) ∈ lw_all := lw_g (lw_at lw_m10 144 rfl) rfl
theorem q2383 : (Jvm.Cond.methodLink "ContourLabelsModel" (128 : Nat) ({ cls := "ContourLabelsModel", name := "records", desc := "()V" } : Jvm.MethodName)) ∈ lw_all := lw_g (lw_at lw_m10 145 rfl) rfl
theorem q2384 : (Jvm.Cond.privateMethod ({ cls := "ContourLabelsModel", name := "records", desc := "()V" } : Jvm.MethodName)) ∈ lw_tbl := lw_at lw_m10 146 rfl
theorem q2385 : (Jvm.Cond.instanceMethod ({ cls := "ContourLabelsModel", name := "records", desc := "()V" } : Jvm.MethodName)) ∈ lw_all := lw_g (lw_at lw_m10 147 rfl) rfl
theorem q2386 : (Jvm.Cond.code ({ cls := "ContourLabelsModel", name := "records", desc := "()V" } : Jvm.MethodName) prog_13_method_31_code (2 : Nat) (Option.none : Option Jvm.ClassFile.FieldType)) ∈ lw_all := lw_g (lw_at lw_m10 148 rfl) rfl
theorem q2387 : (Jvm.Cond.methodLink "ContourLabelsModel" (131 : Nat) ({ cls := "ContourLabelsModel", name := "does", desc := "(III)I" } : Jvm.MethodName)) ∈ lw_all := lw_g (lw_at lw_m10 149 rfl) rfl
theorem q2388 : (Jvm.Cond.privateMethod ({ cls := "ContourLabelsModel", name := "does", desc := "(III)I" } : Jvm.MethodName)) ∈ lw_tbl := lw_at lw_m10 150 rfl
theorem q2389 : (Jvm.Cond.instanceMethod ({ cls := "ContourLabelsModel", name := "does", desc := "(III)I" } : Jvm.MethodName)) ∈ lw_all := lw_g (lw_at lw_m10 151 rfl) rfl
theorem q2390 : (Jvm.Cond.code ({ cls := "ContourLabelsModel", name := "does", desc := "(III)I" } : Jvm.MethodName) prog_13_method_35_code (6 : Nat) (Option.some Jvm.ClassFile.FieldType.int)) ∈ lw_all := lw_g (lw_at lw_m10 152 rfl) rfl
theorem q2391 : (Jvm.Cond.methodLink "ContourLabelsModel" (107 : Nat) ({ cls := "ContourLabelsModel", name := "puts", desc := "(III)V" } : Jvm.MethodName)) ∈ lw_all := lw_g (lw_at lw_m10 153 rfl) rfl
theorem q2392 : (Jvm.Cond.privateMethod ({ cls := "ContourLabelsModel", name := "puts", desc := "(III)V" } : Jvm.MethodName)) ∈ lw_tbl := lw_at lw_m10 154 rfl
theorem q2393 : (Jvm.Cond.instanceMethod ({ cls := "ContourLabelsModel", name := "puts", desc := "(III)V" } : Jvm.MethodName)) ∈ lw_all := lw_g (lw_at lw_m10 155 rfl) rfl
theorem q2394 : (Jvm.Cond.code ({ cls := "ContourLabelsModel", name := "puts", desc := "(III)V" } : Jvm.MethodName) prog_13_method_9_code (4 : Nat) (Option.none : Option Jvm.ClassFile.FieldType)) ∈ lw_all := lw_g (lw_at lw_m10 156 rfl) rfl
theorem q2395 : (Jvm.Cond.methodLink "ContourLabelsModel" (118 : Nat) ({ cls := "ContourLabelsModel", name := "wipes", desc := "(I)I" } : Jvm.MethodName)) ∈ lw_all := lw_g (lw_at lw_m10 157 rfl) rfl
theorem q2396 : (Jvm.Cond.privateMethod ({ cls := "ContourLabelsModel", name := "wipes", desc := "(I)I" } : Jvm.MethodName)) ∈ lw_tbl := lw_at lw_m10 158 rfl
theorem q2397 : (Jvm.Cond.instanceMethod ({ cls := "ContourLabelsModel", name := "wipes", desc := "(I)I" } : Jvm.MethodName)) ∈ lw_all := lw_g (lw_at lw_m10 159 rfl) rfl
theorem q2398 : (Jvm.Cond.code ({ cls := "ContourLabelsModel", name := "wipes", desc := "(I)I" } : Jvm.MethodName) prog_13_method_33_code (3 : Nat) (Option.some Jvm.ClassFile.FieldType.int)) ∈ lw_all := lw_g (lw_at lw_m10 160 rfl) rfl
theorem q2399 : (Jvm.Cond.methodLink "ContourLabelsModel" (121 : Nat) ({ cls := "ContourLabelsModel", name := "labelsAll", desc := "()I" } : Jvm.MethodName)) ∈ lw_all := lw_g (lw_at lw_m10 161 rfl) rfl
theorem q2400 : (Jvm.Cond.privateMethod ({ cls := "ContourLabelsModel", name := "labelsAll", desc := "()I" } : Jvm.MethodName)) ∈ lw_tbl := lw_at lw_m10 162 rfl
theorem q2401 : (Jvm.Cond.instanceMethod ({ cls := "ContourLabelsModel", name := "labelsAll", desc := "()I" } : Jvm.MethodName)) ∈ lw_all := lw_g (lw_at lw_m10 163 rfl) rfl
theorem q2402 : (Jvm.Cond.code ({ cls := "ContourLabelsModel", name := "labelsAll", desc := "()I" } : Jvm.MethodName) prog_13_method_34_code (3 : Nat) (Option.some Jvm.ClassFile.FieldType.int)) ∈ lw_all := lw_g (lw_at lw_m10 164 rfl) rfl
theorem q2403 : (Jvm.Cond.methodLink "ContourLabelsModel" (111 : Nat) ({ cls := "ContourLabelsModel", name := "byLevel", desc := "(I)I" } : Jvm.MethodName)) ∈ lw_all := lw_g (lw_at lw_m10 165 rfl) rfl
theorem q2404 : (Jvm.Cond.privateMethod ({ cls := "ContourLabelsModel", name := "byLevel", desc := "(I)I" } : Jvm.MethodName)) ∈ lw_tbl := lw_at lw_m10 166 rfl
theorem q2405 : (Jvm.Cond.instanceMethod ({ cls := "ContourLabelsModel", name := "byLevel", desc := "(I)I" } : Jvm.MethodName)) ∈ lw_all := lw_g (lw_at lw_m10 167 rfl) rfl
theorem q2406 : (Jvm.Cond.code ({ cls := "ContourLabelsModel", name := "byLevel", desc := "(I)I" } : Jvm.MethodName) prog_13_method_30_code (7 : Nat) (Option.some Jvm.ClassFile.FieldType.int)) ∈ lw_all := lw_g (lw_at lw_m10 168 rfl) rfl
theorem q2407 : (Jvm.Cond.methodLink "ContourLabelsModel" (114 : Nat) ({ cls := "ContourLabelsModel", name := "labelled", desc := "()I" } : Jvm.MethodName)) ∈ lw_all := lw_g (lw_at lw_m10 169 rfl) rfl
theorem q2408 : (Jvm.Cond.privateMethod ({ cls := "ContourLabelsModel", name := "labelled", desc := "()I" } : Jvm.MethodName)) ∈ lw_tbl := lw_at lw_m10 170 rfl
theorem q2409 : (Jvm.Cond.instanceMethod ({ cls := "ContourLabelsModel", name := "labelled", desc := "()I" } : Jvm.MethodName)) ∈ lw_all := lw_g (lw_at lw_m10 171 rfl) rfl
theorem q2410 : (Jvm.Cond.code ({ cls := "ContourLabelsModel", name := "labelled", desc := "()I" } : Jvm.MethodName) prog_13_method_29_code (3 : Nat) (Option.some Jvm.ClassFile.FieldType.int)) ∈ lw_all := lw_g (lw_at lw_m10 172 rfl) rfl
theorem q2412 : (Jvm.Cond.instanceMethod ({ cls := "ContourLabelsModel", name := "step", desc := "(II)Z" } : Jvm.MethodName)) ∈ lw_all := lw_g (lw_at lw_m10 174 rfl) rfl
theorem q2413 : (Jvm.Cond.selects "ContourLabelsModel" ({ cls := "ContourLabelsModel", name := "step", desc := "(II)Z" } : Jvm.MethodName) ({ cls := "ContourLabelsModel", name := "step", desc := "(II)Z" } : Jvm.MethodName)) ∈ lw_all := lw_g (lw_at lw_m10 175 rfl) rfl
theorem q2414 : (Jvm.Cond.code ({ cls := "ContourLabelsModel", name := "step", desc := "(II)Z" } : Jvm.MethodName) prog_13_method_38_code (3 : Nat) (Option.some Jvm.ClassFile.FieldType.boolean)) ∈ lw_all := lw_g (lw_at lw_m10 176 rfl) rfl
theorem q2416 : (Jvm.Cond.instanceMethod ({ cls := "ContourLabelsModel", name := "wipe", desc := "(I)I" } : Jvm.MethodName)) ∈ lw_all := lw_g (lw_at lw_m10 178 rfl) rfl
theorem q2417 : (Jvm.Cond.selects "ContourLabelsModel" ({ cls := "ContourLabelsModel", name := "wipe", desc := "(I)I" } : Jvm.MethodName) ({ cls := "ContourLabelsModel", name := "wipe", desc := "(I)I" } : Jvm.MethodName)) ∈ lw_all := lw_g (lw_at lw_m10 179 rfl) rfl
theorem q2418 : (Jvm.Cond.code ({ cls := "ContourLabelsModel", name := "wipe", desc := "(I)I" } : Jvm.MethodName) prog_13_method_39_code (2 : Nat) (Option.some Jvm.ClassFile.FieldType.int)) ∈ lw_all := lw_g (lw_at lw_m10 180 rfl) rfl
theorem q2420 : (Jvm.Cond.instanceMethod ({ cls := "ContourLabelsModel", name := "setLevel", desc := "(II)I" } : Jvm.MethodName)) ∈ lw_all := lw_g (lw_at lw_m10 182 rfl) rfl
theorem q2421 : (Jvm.Cond.selects "ContourLabelsModel" ({ cls := "ContourLabelsModel", name := "setLevel", desc := "(II)I" } : Jvm.MethodName) ({ cls := "ContourLabelsModel", name := "setLevel", desc := "(II)I" } : Jvm.MethodName)) ∈ lw_all := lw_g (lw_at lw_m10 183 rfl) rfl
theorem q2422 : (Jvm.Cond.code ({ cls := "ContourLabelsModel", name := "setLevel", desc := "(II)I" } : Jvm.MethodName) prog_13_method_40_code (4 : Nat) (Option.some Jvm.ClassFile.FieldType.int)) ∈ lw_all := lw_g (lw_at lw_m10 184 rfl) rfl
theorem q2424 : (Jvm.Cond.instanceMethod ({ cls := "ContourLabelsModel", name := "label", desc := "(II)I" } : Jvm.MethodName)) ∈ lw_all := lw_g (lw_at lw_m10 186 rfl) rfl
theorem q2425 : (Jvm.Cond.selects "ContourLabelsModel" ({ cls := "ContourLabelsModel", name := "label", desc := "(II)I" } : Jvm.MethodName) ({ cls := "ContourLabelsModel", name := "label", desc := "(II)I" } : Jvm.MethodName)) ∈ lw_all := lw_g (lw_at lw_m10 187 rfl) rfl
theorem q2426 : (Jvm.Cond.code ({ cls := "ContourLabelsModel", name := "label", desc := "(II)I" } : Jvm.MethodName) prog_13_method_41_code (3 : Nat) (Option.some Jvm.ClassFile.FieldType.int)) ∈ lw_all := lw_g (lw_at lw_m10 188 rfl) rfl
theorem q2428 : (Jvm.Cond.instanceMethod ({ cls := "ContourLabelsModel", name := "unlabel", desc := "(I)I" } : Jvm.MethodName)) ∈ lw_all := lw_g (lw_at lw_m10 190 rfl) rfl
theorem q2429 : (Jvm.Cond.selects "ContourLabelsModel" ({ cls := "ContourLabelsModel", name := "unlabel", desc := "(I)I" } : Jvm.MethodName) ({ cls := "ContourLabelsModel", name := "unlabel", desc := "(I)I" } : Jvm.MethodName)) ∈ lw_all := lw_g (lw_at lw_m10 191 rfl) rfl
theorem q2430 : (Jvm.Cond.code ({ cls := "ContourLabelsModel", name := "unlabel", desc := "(I)I" } : Jvm.MethodName) prog_13_method_42_code (2 : Nat) (Option.some Jvm.ClassFile.FieldType.int)) ∈ lw_all := lw_g (lw_at lw_m10 192 rfl) rfl
theorem q2432 : (Jvm.Cond.instanceMethod ({ cls := "ContourLabelsModel", name := "labelBest", desc := "(I)I" } : Jvm.MethodName)) ∈ lw_all := lw_g (lw_at lw_m10 194 rfl) rfl
theorem q2433 : (Jvm.Cond.selects "ContourLabelsModel" ({ cls := "ContourLabelsModel", name := "labelBest", desc := "(I)I" } : Jvm.MethodName) ({ cls := "ContourLabelsModel", name := "labelBest", desc := "(I)I" } : Jvm.MethodName)) ∈ lw_all := lw_g (lw_at lw_m10 195 rfl) rfl
theorem q2434 : (Jvm.Cond.code ({ cls := "ContourLabelsModel", name := "labelBest", desc := "(I)I" } : Jvm.MethodName) prog_13_method_43_code (2 : Nat) (Option.some Jvm.ClassFile.FieldType.int)) ∈ lw_all := lw_g (lw_at lw_m10 196 rfl) rfl
theorem q2436 : (Jvm.Cond.instanceMethod ({ cls := "ContourLabelsModel", name := "labelAll", desc := "()I" } : Jvm.MethodName)) ∈ lw_all := lw_g (lw_at lw_m10 198 rfl) rfl
theorem q2437 : (Jvm.Cond.selects "ContourLabelsModel" ({ cls := "ContourLabelsModel", name := "labelAll", desc := "()I" } : Jvm.MethodName) ({ cls := "ContourLabelsModel", name := "labelAll", desc := "()I" } : Jvm.MethodName)) ∈ lw_all := lw_g (lw_at lw_m10 199 rfl) rfl
theorem q2438 : (Jvm.Cond.code ({ cls := "ContourLabelsModel", name := "labelAll", desc := "()I" } : Jvm.MethodName) prog_13_method_44_code (1 : Nat) (Option.some Jvm.ClassFile.FieldType.int)) ∈ lw_all := lw_g (lw_at lw_m10 200 rfl) rfl
theorem q2440 : (Jvm.Cond.instanceMethod ({ cls := "ContourLabelsModel", name := "setGap", desc := "(I)I" } : Jvm.MethodName)) ∈ lw_all := lw_g (lw_at lw_m10 202 rfl) rfl
theorem q2441 : (Jvm.Cond.selects "ContourLabelsModel" ({ cls := "ContourLabelsModel", name := "setGap", desc := "(I)I" } : Jvm.MethodName) ({ cls := "ContourLabelsModel", name := "setGap", desc := "(I)I" } : Jvm.MethodName)) ∈ lw_all := lw_g (lw_at lw_m10 203 rfl) rfl
theorem q2442 : (Jvm.Cond.code ({ cls := "ContourLabelsModel", name := "setGap", desc := "(I)I" } : Jvm.MethodName) prog_13_method_45_code (2 : Nat) (Option.some Jvm.ClassFile.FieldType.int)) ∈ lw_all := lw_g (lw_at lw_m10 204 rfl) rfl
theorem q2444 : (Jvm.Cond.instanceMethod ({ cls := "ContourLabelsModel", name := "lines", desc := "()I" } : Jvm.MethodName)) ∈ lw_all := lw_g (lw_at lw_m10 206 rfl) rfl
theorem q2445 : (Jvm.Cond.selects "ContourLabelsModel" ({ cls := "ContourLabelsModel", name := "lines", desc := "()I" } : Jvm.MethodName) ({ cls := "ContourLabelsModel", name := "lines", desc := "()I" } : Jvm.MethodName)) ∈ lw_all := lw_g (lw_at lw_m10 207 rfl) rfl
theorem q2446 : (Jvm.Cond.code ({ cls := "ContourLabelsModel", name := "lines", desc := "()I" } : Jvm.MethodName) prog_13_method_49_code (1 : Nat) (Option.some Jvm.ClassFile.FieldType.int)) ∈ lw_all := lw_g (lw_at lw_m10 208 rfl) rfl
theorem q2448 : (Jvm.Cond.instanceMethod ({ cls := "ContourLabelsModel", name := "levelOf", desc := "(I)I" } : Jvm.MethodName)) ∈ lw_all := lw_g (lw_at lw_m10 210 rfl) rfl
theorem q2449 : (Jvm.Cond.selects "ContourLabelsModel" ({ cls := "ContourLabelsModel", name := "levelOf", desc := "(I)I" } : Jvm.MethodName) ({ cls := "ContourLabelsModel", name := "levelOf", desc := "(I)I" } : Jvm.MethodName)) ∈ lw_all := lw_g (lw_at lw_m10 211 rfl) rfl
theorem q2450 : (Jvm.Cond.code ({ cls := "ContourLabelsModel", name := "levelOf", desc := "(I)I" } : Jvm.MethodName) prog_13_method_50_code (2 : Nat) (Option.some Jvm.ClassFile.FieldType.int)) ∈ lw_all := lw_g (lw_at lw_m10 212 rfl) rfl
theorem q2451 : (Jvm.Cond.methodLink "ContourLabelsModel" (140 : Nat) ({ cls := "ContourLabelsModel", name := "look", desc := "(II)I" } : Jvm.MethodName)) ∈ lw_all := lw_g (lw_at lw_m10 213 rfl) rfl
theorem q2452 : (Jvm.Cond.privateMethod ({ cls := "ContourLabelsModel", name := "look", desc := "(II)I" } : Jvm.MethodName)) ∈ lw_tbl := lw_at lw_m10 214 rfl
theorem q2453 : (Jvm.Cond.instanceMethod ({ cls := "ContourLabelsModel", name := "look", desc := "(II)I" } : Jvm.MethodName)) ∈ lw_all := lw_g (lw_at lw_m10 215 rfl) rfl
theorem q2454 : (Jvm.Cond.code ({ cls := "ContourLabelsModel", name := "look", desc := "(II)I" } : Jvm.MethodName) prog_13_method_46_code (3 : Nat) (Option.some Jvm.ClassFile.FieldType.int)) ∈ lw_all := lw_g (lw_at lw_m10 216 rfl) rfl
theorem q2455 : (Jvm.Cond.methodLink "ContourLabelsModel" (137 : Nat) ({ cls := "ContourLabelsModel", name := "fails", desc := "(I)I" } : Jvm.MethodName)) ∈ lw_all := lw_g (lw_at lw_m10 217 rfl) rfl
theorem q2456 : (Jvm.Cond.privateMethod ({ cls := "ContourLabelsModel", name := "fails", desc := "(I)I" } : Jvm.MethodName)) ∈ lw_tbl := lw_at lw_m10 218 rfl
theorem q2457 : (Jvm.Cond.instanceMethod ({ cls := "ContourLabelsModel", name := "fails", desc := "(I)I" } : Jvm.MethodName)) ∈ lw_all := lw_g (lw_at lw_m10 219 rfl) rfl
theorem q2458 : (Jvm.Cond.code ({ cls := "ContourLabelsModel", name := "fails", desc := "(I)I" } : Jvm.MethodName) prog_13_method_3_code (2 : Nat) (Option.some Jvm.ClassFile.FieldType.int)) ∈ lw_all := lw_g (lw_at lw_m10 220 rfl) rfl
theorem q2460 : (Jvm.Cond.instanceMethod ({ cls := "ContourLabelsModel", name := "stepsOf", desc := "(I)I" } : Jvm.MethodName)) ∈ lw_all := lw_g (lw_at lw_m10 222 rfl) rfl
theorem q2461 : (Jvm.Cond.selects "ContourLabelsModel" ({ cls := "ContourLabelsModel", name := "stepsOf", desc := "(I)I" } : Jvm.MethodName) ({ cls := "ContourLabelsModel", name := "stepsOf", desc := "(I)I" } : Jvm.MethodName)) ∈ lw_all := lw_g (lw_at lw_m10 223 rfl) rfl
theorem q2462 : (Jvm.Cond.code ({ cls := "ContourLabelsModel", name := "stepsOf", desc := "(I)I" } : Jvm.MethodName) prog_13_method_51_code (2 : Nat) (Option.some Jvm.ClassFile.FieldType.int)) ∈ lw_all := lw_g (lw_at lw_m10 224 rfl) rfl
theorem q2464 : (Jvm.Cond.instanceMethod ({ cls := "ContourLabelsModel", name := "pointOf", desc := "(II)I" } : Jvm.MethodName)) ∈ lw_all := lw_g (lw_at lw_m10 226 rfl) rfl
theorem q2465 : (Jvm.Cond.selects "ContourLabelsModel" ({ cls := "ContourLabelsModel", name := "pointOf", desc := "(II)I" } : Jvm.MethodName) ({ cls := "ContourLabelsModel", name := "pointOf", desc := "(II)I" } : Jvm.MethodName)) ∈ lw_all := lw_g (lw_at lw_m10 227 rfl) rfl
theorem q2466 : (Jvm.Cond.code ({ cls := "ContourLabelsModel", name := "pointOf", desc := "(II)I" } : Jvm.MethodName) prog_13_method_52_code (3 : Nat) (Option.some Jvm.ClassFile.FieldType.int)) ∈ lw_all := lw_g (lw_at lw_m10 228 rfl) rfl
theorem q2467 : (Jvm.Cond.methodLink "ContourLabelsModel" (143 : Nat) ({ cls := "ContourLabelsModel", name := "has", desc := "(II)Z" } : Jvm.MethodName)) ∈ lw_all := lw_g (lw_at lw_m10 229 rfl) rfl
theorem q2468 : (Jvm.Cond.privateMethod ({ cls := "ContourLabelsModel", name := "has", desc := "(II)Z" } : Jvm.MethodName)) ∈ lw_tbl := lw_at lw_m10 230 rfl
theorem q2469 : (Jvm.Cond.instanceMethod ({ cls := "ContourLabelsModel", name := "has", desc := "(II)Z" } : Jvm.MethodName)) ∈ lw_all := lw_g (lw_at lw_m10 231 rfl) rfl
theorem q2470 : (Jvm.Cond.code ({ cls := "ContourLabelsModel", name := "has", desc := "(II)Z" } : Jvm.MethodName) prog_13_method_47_code (3 : Nat) (Option.some Jvm.ClassFile.FieldType.boolean)) ∈ lw_all := lw_g (lw_at lw_m10 232 rfl) rfl
theorem q2472 : (Jvm.Cond.instanceMethod ({ cls := "ContourLabelsModel", name := "lineAt", desc := "(I)I" } : Jvm.MethodName)) ∈ lw_all := lw_g (lw_at lw_m10 234 rfl) rfl
theorem q2473 : (Jvm.Cond.selects "ContourLabelsModel" ({ cls := "ContourLabelsModel", name := "lineAt", desc := "(I)I" } : Jvm.MethodName) ({ cls := "ContourLabelsModel", name := "lineAt", desc := "(I)I" } : Jvm.MethodName)) ∈ lw_all := lw_g (lw_at lw_m10 235 rfl) rfl
theorem q2474 : (Jvm.Cond.code ({ cls := "ContourLabelsModel", name := "lineAt", desc := "(I)I" } : Jvm.MethodName) prog_13_method_53_code (2 : Nat) (Option.some Jvm.ClassFile.FieldType.int)) ∈ lw_all := lw_g (lw_at lw_m10 236 rfl) rfl
theorem q2476 : (Jvm.Cond.instanceMethod ({ cls := "ContourLabelsModel", name := "isClosed", desc := "(I)Z" } : Jvm.MethodName)) ∈ lw_all := lw_g (lw_at lw_m10 238 rfl) rfl
theorem q2477 : (Jvm.Cond.selects "ContourLabelsModel" ({ cls := "ContourLabelsModel", name := "isClosed", desc := "(I)Z" } : Jvm.MethodName) ({ cls := "ContourLabelsModel", name := "isClosed", desc := "(I)Z" } : Jvm.MethodName)) ∈ lw_all := lw_g (lw_at lw_m10 239 rfl) rfl
theorem q2478 : (Jvm.Cond.code ({ cls := "ContourLabelsModel", name := "isClosed", desc := "(I)Z" } : Jvm.MethodName) prog_13_method_54_code (2 : Nat) (Option.some Jvm.ClassFile.FieldType.boolean)) ∈ lw_all := lw_g (lw_at lw_m11 0 rfl) rfl
theorem q2479 : (Jvm.Cond.methodLink "ContourLabelsModel" (146 : Nat) ({ cls := "ContourLabelsModel", name := "knows", desc := "(I)Z" } : Jvm.MethodName)) ∈ lw_all := lw_g (lw_at lw_m11 1 rfl) rfl
theorem q2480 : (Jvm.Cond.privateMethod ({ cls := "ContourLabelsModel", name := "knows", desc := "(I)Z" } : Jvm.MethodName)) ∈ lw_tbl := lw_at lw_m11 2 rfl
theorem q2481 : (Jvm.Cond.instanceMethod ({ cls := "ContourLabelsModel", name := "knows", desc := "(I)Z" } : Jvm.MethodName)) ∈ lw_all := lw_g (lw_at lw_m11 3 rfl) rfl
theorem q2482 : (Jvm.Cond.code ({ cls := "ContourLabelsModel", name := "knows", desc := "(I)Z" } : Jvm.MethodName) prog_13_method_48_code (2 : Nat) (Option.some Jvm.ClassFile.FieldType.boolean)) ∈ lw_all := lw_g (lw_at lw_m11 4 rfl) rfl
theorem q2484 : (Jvm.Cond.instanceMethod ({ cls := "ContourLabelsModel", name := "whyNotStepped", desc := "(II)I" } : Jvm.MethodName)) ∈ lw_all := lw_g (lw_at lw_m11 6 rfl) rfl
theorem q2485 : (Jvm.Cond.selects "ContourLabelsModel" ({ cls := "ContourLabelsModel", name := "whyNotStepped", desc := "(II)I" } : Jvm.MethodName) ({ cls := "ContourLabelsModel", name := "whyNotStepped", desc := "(II)I" } : Jvm.MethodName)) ∈ lw_all := lw_g (lw_at lw_m11 7 rfl) rfl
theorem q2486 : (Jvm.Cond.code ({ cls := "ContourLabelsModel", name := "whyNotStepped", desc := "(II)I" } : Jvm.MethodName) prog_13_method_55_code (3 : Nat) (Option.some Jvm.ClassFile.FieldType.int)) ∈ lw_all := lw_g (lw_at lw_m11 8 rfl) rfl
theorem q2488 : (Jvm.Cond.instanceMethod ({ cls := "ContourLabelsModel", name := "bendAt", desc := "(II)I" } : Jvm.MethodName)) ∈ lw_all := lw_g (lw_at lw_m11 10 rfl) rfl
theorem q2489 : (Jvm.Cond.selects "ContourLabelsModel" ({ cls := "ContourLabelsModel", name := "bendAt", desc := "(II)I" } : Jvm.MethodName) ({ cls := "ContourLabelsModel", name := "bendAt", desc := "(II)I" } : Jvm.MethodName)) ∈ lw_all := lw_g (lw_at lw_m11 11 rfl) rfl
theorem q2490 : (Jvm.Cond.code ({ cls := "ContourLabelsModel", name := "bendAt", desc := "(II)I" } : Jvm.MethodName) prog_13_method_56_code (3 : Nat) (Option.some Jvm.ClassFile.FieldType.int)) ∈ lw_all := lw_g (lw_at lw_m11 12 rfl) rfl
theorem q2492 : (Jvm.Cond.instanceMethod ({ cls := "ContourLabelsModel", name := "lengthByKinds", desc := "(I)D" } : Jvm.MethodName)) ∈ lw_all := lw_g (lw_at lw_m11 14 rfl) rfl
theorem q2493 : (Jvm.Cond.selects "ContourLabelsModel" ({ cls := "ContourLabelsModel", name := "lengthByKinds", desc := "(I)D" } : Jvm.MethodName) ({ cls := "ContourLabelsModel", name := "lengthByKinds", desc := "(I)D" } : Jvm.MethodName)) ∈ lw_all := lw_g (lw_at lw_m11 15 rfl) rfl
theorem q2494 : (Jvm.Cond.code ({ cls := "ContourLabelsModel", name := "lengthByKinds", desc := "(I)D" } : Jvm.MethodName) prog_13_method_58_code (2 : Nat) (Option.some Jvm.ClassFile.FieldType.double)) ∈ lw_all := lw_g (lw_at lw_m11 16 rfl) rfl
theorem q2495 : (Jvm.Cond.methodLink "ContourLabelsModel" (149 : Nat) ({ cls := "ContourLabelsModel", name := "slanting", desc := "(I)I" } : Jvm.MethodName)) ∈ lw_all := lw_g (lw_at lw_m11 17 rfl) rfl
theorem q2496 : (Jvm.Cond.privateMethod ({ cls := "ContourLabelsModel", name := "slanting", desc := "(I)I" } : Jvm.MethodName)) ∈ lw_tbl := lw_at lw_m11 18 rfl
theorem q2497 : (Jvm.Cond.instanceMethod ({ cls := "ContourLabelsModel", name := "slanting", desc := "(I)I" } : Jvm.MethodName)) ∈ lw_all := lw_g (lw_at lw_m11 19 rfl) rfl
theorem q2498 : (Jvm.Cond.code ({ cls := "ContourLabelsModel", name := "slanting", desc := "(I)I" } : Jvm.MethodName) prog_13_method_57_code (4 : Nat) (Option.some Jvm.ClassFile.FieldType.int)) ∈ lw_all := lw_g (lw_at lw_m11 20 rfl) rfl
theorem q2499 : (Jvm.Cond.constantDouble "ContourLabelsModel" (152 : Nat) (4609047870845172685 : UInt64)) ∈ lw_all := lw_g (lw_at lw_m11 21 rfl) rfl
theorem q2501 : (Jvm.Cond.instanceMethod ({ cls := "ContourLabelsModel", name := "lengthBySteps", desc := "(I)D" } : Jvm.MethodName)) ∈ lw_all := lw_g (lw_at lw_m11 23 rfl) rfl
theorem q2502 : (Jvm.Cond.selects "ContourLabelsModel" ({ cls := "ContourLabelsModel", name := "lengthBySteps", desc := "(I)D" } : Jvm.MethodName) ({ cls := "ContourLabelsModel", name := "lengthBySteps", desc := "(I)D" } : Jvm.MethodName)) ∈ lw_all := lw_g (lw_at lw_m11 24 rfl) rfl
theorem q2503 : (Jvm.Cond.code ({ cls := "ContourLabelsModel", name := "lengthBySteps", desc := "(I)D" } : Jvm.MethodName) prog_13_method_59_code (6 : Nat) (Option.some Jvm.ClassFile.FieldType.double)) ∈ lw_all := lw_g (lw_at lw_m11 25 rfl) rfl
theorem q2505 : (Jvm.Cond.instanceMethod ({ cls := "ContourLabelsModel", name := "gap", desc := "()I" } : Jvm.MethodName)) ∈ lw_all := lw_g (lw_at lw_m11 27 rfl) rfl
theorem q2506 : (Jvm.Cond.selects "ContourLabelsModel" ({ cls := "ContourLabelsModel", name := "gap", desc := "()I" } : Jvm.MethodName) ({ cls := "ContourLabelsModel", name := "gap", desc := "()I" } : Jvm.MethodName)) ∈ lw_all := lw_g (lw_at lw_m11 28 rfl) rfl
theorem q2507 : (Jvm.Cond.code ({ cls := "ContourLabelsModel", name := "gap", desc := "()I" } : Jvm.MethodName) prog_13_method_60_code (1 : Nat) (Option.some Jvm.ClassFile.FieldType.int)) ∈ lw_all := lw_g (lw_at lw_m11 29 rfl) rfl
theorem q2509 : (Jvm.Cond.instanceMethod ({ cls := "ContourLabelsModel", name := "labels", desc := "()I" } : Jvm.MethodName)) ∈ lw_all := lw_g (lw_at lw_m11 31 rfl) rfl
theorem q2510 : (Jvm.Cond.selects "ContourLabelsModel" ({ cls := "ContourLabelsModel", name := "labels", desc := "()I" } : Jvm.MethodName) ({ cls := "ContourLabelsModel", name := "labels", desc := "()I" } : Jvm.MethodName)) ∈ lw_all := lw_g (lw_at lw_m11 32 rfl) rfl
theorem q2511 : (Jvm.Cond.code ({ cls := "ContourLabelsModel", name := "labels", desc := "()I" } : Jvm.MethodName) prog_13_method_61_code (1 : Nat) (Option.some Jvm.ClassFile.FieldType.int)) ∈ lw_all := lw_g (lw_at lw_m11 33 rfl) rfl
theorem q2513 : (Jvm.Cond.instanceMethod ({ cls := "ContourLabelsModel", name := "labelOf", desc := "(I)I" } : Jvm.MethodName)) ∈ lw_all := lw_g (lw_at lw_m11 35 rfl) rfl
theorem q2514 : (Jvm.Cond.selects "ContourLabelsModel" ({ cls := "ContourLabelsModel", name := "labelOf", desc := "(I)I" } : Jvm.MethodName) ({ cls := "ContourLabelsModel", name := "labelOf", desc := "(I)I" } : Jvm.MethodName)) ∈ lw_all := lw_g (lw_at lw_m11 36 rfl) rfl
theorem q2515 : (Jvm.Cond.code ({ cls := "ContourLabelsModel", name := "labelOf", desc := "(I)I" } : Jvm.MethodName) prog_13_method_62_code (2 : Nat) (Option.some Jvm.ClassFile.FieldType.int)) ∈ lw_all := lw_g (lw_at lw_m11 37 rfl) rfl
theorem q2517 : (Jvm.Cond.instanceMethod ({ cls := "ContourLabelsModel", name := "isTurned", desc := "(I)Z" } : Jvm.MethodName)) ∈ lw_all := lw_g (lw_at lw_m11 39 rfl) rfl
theorem q2518 : (Jvm.Cond.selects "ContourLabelsModel" ({ cls := "ContourLabelsModel", name := "isTurned", desc := "(I)Z" } : Jvm.MethodName) ({ cls := "ContourLabelsModel", name := "isTurned", desc := "(I)Z" } : Jvm.MethodName)) ∈ lw_all := lw_g (lw_at lw_m11 40 rfl) rfl
theorem q2519 : (Jvm.Cond.code ({ cls := "ContourLabelsModel", name := "isTurned", desc := "(I)Z" } : Jvm.MethodName) prog_13_method_65_code (2 : Nat) (Option.some Jvm.ClassFile.FieldType.boolean)) ∈ lw_all := lw_g (lw_at lw_m11 41 rfl) rfl
theorem q2520 : (Jvm.Cond.methodLink "ContourLabelsModel" (157 : Nat) ({ cls := "ContourLabelsModel", name := "isLeft", desc := "(I)Z" } : Jvm.MethodName)) ∈ lw_all := lw_g (lw_at lw_m11 42 rfl) rfl
theorem q2521 : (Jvm.Cond.privateMethod ({ cls := "ContourLabelsModel", name := "isLeft", desc := "(I)Z" } : Jvm.MethodName)) ∈ lw_tbl := lw_at lw_m11 43 rfl
theorem q2522 : (Jvm.Cond.instanceMethod ({ cls := "ContourLabelsModel", name := "isLeft", desc := "(I)Z" } : Jvm.MethodName)) ∈ lw_all := lw_g (lw_at lw_m11 44 rfl) rfl
theorem q2523 : (Jvm.Cond.code ({ cls := "ContourLabelsModel", name := "isLeft", desc := "(I)Z" } : Jvm.MethodName) prog_13_method_64_code (2 : Nat) (Option.some Jvm.ClassFile.FieldType.boolean)) ∈ lw_all := lw_g (lw_at lw_m11 45 rfl) rfl
theorem q2524 : (Jvm.Cond.methodLink "ContourLabelsModel" (154 : Nat) ({ cls := "ContourLabelsModel", name := "labelEnd", desc := "(I)I" } : Jvm.MethodName)) ∈ lw_all := lw_g (lw_at lw_m11 46 rfl) rfl
theorem q2525 : (Jvm.Cond.privateMethod ({ cls := "ContourLabelsModel", name := "labelEnd", desc := "(I)I" } : Jvm.MethodName)) ∈ lw_tbl := lw_at lw_m11 47 rfl
theorem q2526 : (Jvm.Cond.instanceMethod ({ cls := "ContourLabelsModel", name := "labelEnd", desc := "(I)I" } : Jvm.MethodName)) ∈ lw_all := lw_g (lw_at lw_m11 48 rfl) rfl
theorem q2527 : (Jvm.Cond.code ({ cls := "ContourLabelsModel", name := "labelEnd", desc := "(I)I" } : Jvm.MethodName) prog_13_method_63_code (2 : Nat) (Option.some Jvm.ClassFile.FieldType.int)) ∈ lw_all := lw_g (lw_at lw_m11 49 rfl) rfl
theorem q2529 : (Jvm.Cond.instanceMethod ({ cls := "ContourLabelsModel", name := "readFrom", desc := "(I)I" } : Jvm.MethodName)) ∈ lw_all := lw_g (lw_at lw_m11 51 rfl) rfl
theorem q2530 : (Jvm.Cond.selects "ContourLabelsModel" ({ cls := "ContourLabelsModel", name := "readFrom", desc := "(I)I" } : Jvm.MethodName) ({ cls := "ContourLabelsModel", name := "readFrom", desc := "(I)I" } : Jvm.MethodName)) ∈ lw_all := lw_g (lw_at lw_m11 52 rfl) rfl
theorem q2531 : (Jvm.Cond.code ({ cls := "ContourLabelsModel", name := "readFrom", desc := "(I)I" } : Jvm.MethodName) prog_13_method_66_code (2 : Nat) (Option.some Jvm.ClassFile.FieldType.int)) ∈ lw_all := lw_g (lw_at lw_m11 53 rfl) rfl
theorem q2533 : (Jvm.Cond.instanceMethod ({ cls := "ContourLabelsModel", name := "sizeOf", desc := "(I)I" } : Jvm.MethodName)) ∈ lw_all := lw_g (lw_at lw_m11 55 rfl) rfl
theorem q2534 : (Jvm.Cond.selects "ContourLabelsModel" ({ cls := "ContourLabelsModel", name := "sizeOf", desc := "(I)I" } : Jvm.MethodName) ({ cls := "ContourLabelsModel", name := "sizeOf", desc := "(I)I" } : Jvm.MethodName)) ∈ lw_all := lw_g (lw_at lw_m11 56 rfl) rfl
theorem q2535 : (Jvm.Cond.code ({ cls := "ContourLabelsModel", name := "sizeOf", desc := "(I)I" } : Jvm.MethodName) prog_13_method_67_code (2 : Nat) (Option.some Jvm.ClassFile.FieldType.int)) ∈ lw_all := lw_g (lw_at lw_m11 57 rfl) rfl
theorem q2537 : (Jvm.Cond.instanceMethod ({ cls := "ContourLabelsModel", name := "bendOf", desc := "(II)I" } : Jvm.MethodName)) ∈ lw_all := lw_g (lw_at lw_m11 59 rfl) rfl
theorem q2538 : (Jvm.Cond.selects "ContourLabelsModel" ({ cls := "ContourLabelsModel", name := "bendOf", desc := "(II)I" } : Jvm.MethodName) ({ cls := "ContourLabelsModel", name := "bendOf", desc := "(II)I" } : Jvm.MethodName)) ∈ lw_all := lw_g (lw_at lw_m11 60 rfl) rfl
theorem q2539 : (Jvm.Cond.code ({ cls := "ContourLabelsModel", name := "bendOf", desc := "(II)I" } : Jvm.MethodName) prog_13_method_68_code (3 : Nat) (Option.some Jvm.ClassFile.FieldType.int)) ∈ lw_all := lw_g (lw_at lw_m11 61 rfl) rfl
theorem q2541 : (Jvm.Cond.instanceMethod ({ cls := "ContourLabelsModel", name := "whyNotLabelled", desc := "(II)I" } : Jvm.MethodName)) ∈ lw_all := lw_g (lw_at lw_m11 63 rfl) rfl
theorem q2542 : (Jvm.Cond.selects "ContourLabelsModel" ({ cls := "ContourLabelsModel", name := "whyNotLabelled", desc := "(II)I" } : Jvm.MethodName) ({ cls := "ContourLabelsModel", name := "whyNotLabelled", desc := "(II)I" } : Jvm.MethodName)) ∈ lw_all := lw_g (lw_at lw_m11 64 rfl) rfl
theorem q2543 : (Jvm.Cond.code ({ cls := "ContourLabelsModel", name := "whyNotLabelled", desc := "(II)I" } : Jvm.MethodName) prog_13_method_69_code (3 : Nat) (Option.some Jvm.ClassFile.FieldType.int)) ∈ lw_all := lw_g (lw_at lw_m11 65 rfl) rfl
theorem q2545 : (Jvm.Cond.instanceMethod ({ cls := "ContourLabelsModel", name := "placesOf", desc := "(I)I" } : Jvm.MethodName)) ∈ lw_all := lw_g (lw_at lw_m11 67 rfl) rfl
theorem q2546 : (Jvm.Cond.selects "ContourLabelsModel" ({ cls := "ContourLabelsModel", name := "placesOf", desc := "(I)I" } : Jvm.MethodName) ({ cls := "ContourLabelsModel", name := "placesOf", desc := "(I)I" } : Jvm.MethodName)) ∈ lw_all := lw_g (lw_at lw_m11 68 rfl) rfl
theorem q2547 : (Jvm.Cond.code ({ cls := "ContourLabelsModel", name := "placesOf", desc := "(I)I" } : Jvm.MethodName) prog_13_method_70_code (5 : Nat) (Option.some Jvm.ClassFile.FieldType.int)) ∈ lw_all := lw_g (lw_at lw_m11 69 rfl) rfl
theorem q2549 : (Jvm.Cond.instanceMethod ({ cls := "ContourLabelsModel", name := "bestPlace", desc := "(I)I" } : Jvm.MethodName)) ∈ lw_all := lw_g (lw_at lw_m11 71 rfl) rfl
theorem q2550 : (Jvm.Cond.selects "ContourLabelsModel" ({ cls := "ContourLabelsModel", name := "bestPlace", desc := "(I)I" } : Jvm.MethodName) ({ cls := "ContourLabelsModel", name := "bestPlace", desc := "(I)I" } : Jvm.MethodName)) ∈ lw_all := lw_g (lw_at lw_m11 72 rfl) rfl
theorem q2551 : (Jvm.Cond.code ({ cls := "ContourLabelsModel", name := "bestPlace", desc := "(I)I" } : Jvm.MethodName) prog_13_method_71_code (2 : Nat) (Option.some Jvm.ClassFile.FieldType.int)) ∈ lw_all := lw_g (lw_at lw_m11 73 rfl) rfl
theorem q2553 : (Jvm.Cond.instanceMethod ({ cls := "ContourLabelsModel", name := "tooNear", desc := "()I" } : Jvm.MethodName)) ∈ lw_all := lw_g (lw_at lw_m11 75 rfl) rfl
theorem q2554 : (Jvm.Cond.selects "ContourLabelsModel" ({ cls := "ContourLabelsModel", name := "tooNear", desc := "()I" } : Jvm.MethodName) ({ cls := "ContourLabelsModel", name := "tooNear", desc := "()I" } : Jvm.MethodName)) ∈ lw_all := lw_g (lw_at lw_m11 76 rfl) rfl
theorem q2555 : (Jvm.Cond.code ({ cls := "ContourLabelsModel", name := "tooNear", desc := "()I" } : Jvm.MethodName) prog_13_method_72_code (5 : Nat) (Option.some Jvm.ClassFile.FieldType.int)) ∈ lw_all := lw_g (lw_at lw_m11 77 rfl) rfl
theorem q2557 : (Jvm.Cond.instanceMethod ({ cls := "ContourLabelsModel", name := "isWithinByRays", desc := "(II)Z" } : Jvm.MethodName)) ∈ lw_all := lw_g (lw_at lw_m11 79 rfl) rfl
theorem q2558 : (Jvm.Cond.selects "ContourLabelsModel" ({ cls := "ContourLabelsModel", name := "isWithinByRays", desc := "(II)Z" } : Jvm.MethodName) ({ cls := "ContourLabelsModel", name := "isWithinByRays", desc := "(II)Z" } : Jvm.MethodName)) ∈ lw_all := lw_g (lw_at lw_m11 80 rfl) rfl
theorem q2559 : (Jvm.Cond.code ({ cls := "ContourLabelsModel", name := "isWithinByRays", desc := "(II)Z" } : Jvm.MethodName) prog_13_method_74_code (3 : Nat) (Option.some Jvm.ClassFile.FieldType.boolean)) ∈ lw_all := lw_g (lw_at lw_m11 81 rfl) rfl
theorem q2560 : (Jvm.Cond.methodLink "ContourLabelsModel" (160 : Nat) ({ cls := "ContourLabelsModel", name := "contains", desc := "(II)Z" } : Jvm.MethodName)) ∈ lw_all := lw_g (lw_at lw_m11 82 rfl) rfl
theorem q2561 : (Jvm.Cond.privateMethod ({ cls := "ContourLabelsModel", name := "contains", desc := "(II)Z" } : Jvm.MethodName)) ∈ lw_tbl := lw_at lw_m11 83 rfl
theorem q2562 : (Jvm.Cond.instanceMethod ({ cls := "ContourLabelsModel", name := "contains", desc := "(II)Z" } : Jvm.MethodName)) ∈ lw_all := lw_g (lw_at lw_m11 84 rfl) rfl
theorem q2563 : (Jvm.Cond.code ({ cls := "ContourLabelsModel", name := "contains", desc := "(II)Z" } : Jvm.MethodName) prog_13_method_73_code (9 : Nat) (Option.some Jvm.ClassFile.FieldType.boolean)) ∈ lw_all := lw_g (lw_at lw_m11 85 rfl) rfl
theorem q2565 : (Jvm.Cond.instanceMethod ({ cls := "ContourLabelsModel", name := "isWithinBySpreading", desc := "(II)Z" } : Jvm.MethodName)) ∈ lw_all := lw_g (lw_at lw_m11 87 rfl) rfl
theorem q2566 : (Jvm.Cond.selects "ContourLabelsModel" ({ cls := "ContourLabelsModel", name := "isWithinBySpreading", desc := "(II)Z" } : Jvm.MethodName) ({ cls := "ContourLabelsModel", name := "isWithinBySpreading", desc := "(II)Z" } : Jvm.MethodName)) ∈ lw_all := lw_g (lw_at lw_m11 88 rfl) rfl
theorem q2567 : (Jvm.Cond.code ({ cls := "ContourLabelsModel", name := "isWithinBySpreading", desc := "(II)Z" } : Jvm.MethodName) prog_13_method_75_code (3 : Nat) (Option.some Jvm.ClassFile.FieldType.boolean)) ∈ lw_all := lw_g (lw_at lw_m11 89 rfl) rfl
theorem q2568 : (Jvm.Cond.methodLink "ContourLabelsModel" (163 : Nat) ({ cls := "ContourLabelsModel", name := "isWithinByRays", desc := "(II)Z" } : Jvm.MethodName)) ∈ lw_all := lw_g (lw_at lw_m11 90 rfl) rfl
theorem q2570 : (Jvm.Cond.instanceMethod ({ cls := "ContourLabelsModel", name := "pointsWithin", desc := "(I)I" } : Jvm.MethodName)) ∈ lw_all := lw_g (lw_at lw_m11 92 rfl) rfl
theorem q2571 : (Jvm.Cond.selects "ContourLabelsModel" ({ cls := "ContourLabelsModel", name := "pointsWithin", desc := "(I)I" } : Jvm.MethodName) ({ cls := "ContourLabelsModel", name := "pointsWithin", desc := "(I)I" } : Jvm.MethodName)) ∈ lw_all := lw_g (lw_at lw_m11 93 rfl) rfl
theorem q2572 : (Jvm.Cond.code ({ cls := "ContourLabelsModel", name := "pointsWithin", desc := "(I)I" } : Jvm.MethodName) prog_13_method_76_code (5 : Nat) (Option.some Jvm.ClassFile.FieldType.int)) ∈ lw_all := lw_g (lw_at lw_m11 94 rfl) rfl
theorem q2574 : (Jvm.Cond.instanceMethod ({ cls := "ContourLabelsModel", name := "lineRound", desc := "(I)I" } : Jvm.MethodName)) ∈ lw_all := lw_g (lw_at lw_m11 96 rfl) rfl
theorem q2575 : (Jvm.Cond.selects "ContourLabelsModel" ({ cls := "ContourLabelsModel", name := "lineRound", desc := "(I)I" } : Jvm.MethodName) ({ cls := "ContourLabelsModel", name := "lineRound", desc := "(I)I" } : Jvm.MethodName)) ∈ lw_all := lw_g (lw_at lw_m11 97 rfl) rfl
theorem q2576 : (Jvm.Cond.code ({ cls := "ContourLabelsModel", name := "lineRound", desc := "(I)I" } : Jvm.MethodName) prog_13_method_78_code (2 : Nat) (Option.some Jvm.ClassFile.FieldType.int)) ∈ lw_all := lw_g (lw_at lw_m11 98 rfl) rfl
theorem q2577 : (Jvm.Cond.methodLink "ContourLabelsModel" (166 : Nat) ({ cls := "ContourLabelsModel", name := "round", desc := "(I)I" } : Jvm.MethodName)) ∈ lw_all := lw_g (lw_at lw_m11 99 rfl) rfl
theorem q2578 : (Jvm.Cond.privateMethod ({ cls := "ContourLabelsModel", name := "round", desc := "(I)I" } : Jvm.MethodName)) ∈ lw_tbl := lw_at lw_m11 100 rfl
theorem q2579 : (Jvm.Cond.instanceMethod ({ cls := "ContourLabelsModel", name := "round", desc := "(I)I" } : Jvm.MethodName)) ∈ lw_all := lw_g (lw_at lw_m11 101 rfl) rfl
theorem q2580 : (Jvm.Cond.code ({ cls := "ContourLabelsModel", name := "round", desc := "(I)I" } : Jvm.MethodName) prog_13_method_77_code (5 : Nat) (Option.some Jvm.ClassFile.FieldType.int)) ∈ lw_all := lw_g (lw_at lw_m11 102 rfl) rfl
theorem q2582 : (Jvm.Cond.instanceMethod ({ cls := "ContourLabelsModel", name := "isSteady", desc := "(I)Z" } : Jvm.MethodName)) ∈ lw_all := lw_g (lw_at lw_m11 104 rfl) rfl
theorem q2583 : (Jvm.Cond.selects "ContourLabelsModel" ({ cls := "ContourLabelsModel", name := "isSteady", desc := "(I)Z" } : Jvm.MethodName) ({ cls := "ContourLabelsModel", name := "isSteady", desc := "(I)Z" } : Jvm.MethodName)) ∈ lw_all := lw_g (lw_at lw_m11 105 rfl) rfl
theorem q2584 : (Jvm.Cond.code ({ cls := "ContourLabelsModel", name := "isSteady", desc := "(I)Z" } : Jvm.MethodName) prog_13_method_79_code (3 : Nat) (Option.some Jvm.ClassFile.FieldType.boolean)) ∈ lw_all := lw_g (lw_at lw_m11 106 rfl) rfl
theorem q2586 : (Jvm.Cond.instanceMethod ({ cls := "ContourLabelsModel", name := "lineByLevel", desc := "(I)I" } : Jvm.MethodName)) ∈ lw_all := lw_g (lw_at lw_m11 108 rfl) rfl
theorem q2587 : (Jvm.Cond.selects "ContourLabelsModel" ({ cls := "ContourLabelsModel", name := "lineByLevel", desc := "(I)I" } : Jvm.MethodName) ({ cls := "ContourLabelsModel", name := "lineByLevel", desc := "(I)I" } : Jvm.MethodName)) ∈ lw_all := lw_g (lw_at lw_m11 109 rfl) rfl
theorem q2588 : (Jvm.Cond.code ({ cls := "ContourLabelsModel", name := "lineByLevel", desc := "(I)I" } : Jvm.MethodName) prog_13_method_80_code (2 : Nat) (Option.some Jvm.ClassFile.FieldType.int)) ∈ lw_all := lw_g (lw_at lw_m11 110 rfl) rfl
theorem q2590 : (Jvm.Cond.instanceMethod ({ cls := "ContourLabelsModel", name := "append", desc := "(I)I" } : Jvm.MethodName)) ∈ lw_all := lw_g (lw_at lw_m11 112 rfl) rfl
theorem q2591 : (Jvm.Cond.selects "ContourLabelsModel" ({ cls := "ContourLabelsModel", name := "append", desc := "(I)I" } : Jvm.MethodName) ({ cls := "ContourLabelsModel", name := "append", desc := "(I)I" } : Jvm.MethodName)) ∈ lw_all := lw_g (lw_at lw_m11 113 rfl) rfl
theorem q2592 : (Jvm.Cond.code ({ cls := "ContourLabelsModel", name := "append", desc := "(I)I" } : Jvm.MethodName) prog_13_method_81_code (2 : Nat) (Option.some Jvm.ClassFile.FieldType.int)) ∈ lw_all := lw_g (lw_at lw_m11 114 rfl) rfl
theorem q2594 : (Jvm.Cond.instanceMethod ({ cls := "ContourLabelsModel", name := "clearText", desc := "()I" } : Jvm.MethodName)) ∈ lw_all := lw_g (lw_at lw_m11 116 rfl) rfl
theorem q2595 : (Jvm.Cond.selects "ContourLabelsModel" ({ cls := "ContourLabelsModel", name := "clearText", desc := "()I" } : Jvm.MethodName) ({ cls := "ContourLabelsModel", name := "clearText", desc := "()I" } : Jvm.MethodName)) ∈ lw_all := lw_g (lw_at lw_m11 117 rfl) rfl
theorem q2596 : (Jvm.Cond.code ({ cls := "ContourLabelsModel", name := "clearText", desc := "()I" } : Jvm.MethodName) prog_13_method_82_code (2 : Nat) (Option.some Jvm.ClassFile.FieldType.int)) ∈ lw_all := lw_g (lw_at lw_m11 118 rfl) rfl
theorem q2598 : (Jvm.Cond.instanceMethod ({ cls := "ContourLabelsModel", name := "errorPosition", desc := "()I" } : Jvm.MethodName)) ∈ lw_all := lw_g (lw_at lw_m11 120 rfl) rfl
theorem q2599 : (Jvm.Cond.selects "ContourLabelsModel" ({ cls := "ContourLabelsModel", name := "errorPosition", desc := "()I" } : Jvm.MethodName) ({ cls := "ContourLabelsModel", name := "errorPosition", desc := "()I" } : Jvm.MethodName)) ∈ lw_all := lw_g (lw_at lw_m11 121 rfl) rfl
theorem q2600 : (Jvm.Cond.code ({ cls := "ContourLabelsModel", name := "errorPosition", desc := "()I" } : Jvm.MethodName) prog_13_method_88_code (1 : Nat) (Option.some Jvm.ClassFile.FieldType.int)) ∈ lw_all := lw_g (lw_at lw_m11 122 rfl) rfl
theorem q2601 : (Jvm.Cond.methodLink "ContourLabelsModel" (201 : Nat) ({ cls := "ContourLabelsModel", name := "isText", desc := "()Z" } : Jvm.MethodName)) ∈ lw_all := lw_g (lw_at lw_m11 123 rfl) rfl
theorem q2602 : (Jvm.Cond.privateMethod ({ cls := "ContourLabelsModel", name := "isText", desc := "()Z" } : Jvm.MethodName)) ∈ lw_tbl := lw_at lw_m11 124 rfl
theorem q2603 : (Jvm.Cond.instanceMethod ({ cls := "ContourLabelsModel", name := "isText", desc := "()Z" } : Jvm.MethodName)) ∈ lw_all := lw_g (lw_at lw_m11 125 rfl) rfl
theorem q2604 : (Jvm.Cond.code ({ cls := "ContourLabelsModel", name := "isText", desc := "()Z" } : Jvm.MethodName) prog_13_method_87_code (1 : Nat) (Option.some Jvm.ClassFile.FieldType.boolean)) ∈ lw_all := lw_g (lw_at lw_m11 126 rfl) rfl
theorem q2605 : (Jvm.Cond.methodLink "ContourLabelsModel" (198 : Nat) ({ cls := "ContourLabelsModel", name := "reads", desc := "()V" } : Jvm.MethodName)) ∈ lw_all := lw_g (lw_at lw_m11 127 rfl) rfl
theorem q2606 : (Jvm.Cond.privateMethod ({ cls := "ContourLabelsModel", name := "reads", desc := "()V" } : Jvm.MethodName)) ∈ lw_tbl := lw_at lw_m11 128 rfl
theorem q2607 : (Jvm.Cond.instanceMethod ({ cls := "ContourLabelsModel", name := "reads", desc := "()V" } : Jvm.MethodName)) ∈ lw_all := lw_g (lw_at lw_m11 129 rfl) rfl
theorem q2608 : (Jvm.Cond.code ({ cls := "ContourLabelsModel", name := "reads", desc := "()V" } : Jvm.MethodName) prog_13_method_86_code (1 : Nat) (Option.none : Option Jvm.ClassFile.FieldType)) ∈ lw_all := lw_g (lw_at lw_m11 130 rfl) rfl
theorem q2609 : (Jvm.Cond.methodLink "ContourLabelsModel" (179 : Nat) ({ cls := "ContourLabelsModel", name := "sign", desc := "()I" } : Jvm.MethodName)) ∈ lw_all := lw_g (lw_at lw_m11 131 rfl) rfl
theorem q2610 : (Jvm.Cond.privateMethod ({ cls := "ContourLabelsModel", name := "sign", desc := "()I" } : Jvm.MethodName)) ∈ lw_tbl := lw_at lw_m11 132 rfl
theorem q2611 : (Jvm.Cond.instanceMethod ({ cls := "ContourLabelsModel", name := "sign", desc := "()I" } : Jvm.MethodName)) ∈ lw_all := lw_g (lw_at lw_m11 133 rfl) rfl
theorem q2612 : (Jvm.Cond.code ({ cls := "ContourLabelsModel", name := "sign", desc := "()I" } : Jvm.MethodName) prog_13_method_83_code (1 : Nat) (Option.some Jvm.ClassFile.FieldType.int)) ∈ lw_all := lw_g (lw_at lw_m11 134 rfl) rfl
theorem q2613 : (Jvm.Cond.methodLink "ContourLabelsModel" (191 : Nat) ({ cls := "ContourLabelsModel", name := "number", desc := "(II)I" } : Jvm.MethodName)) ∈ lw_all := lw_g (lw_at lw_m11 135 rfl) rfl
theorem q2614 : (Jvm.Cond.privateMethod ({ cls := "ContourLabelsModel", name := "number", desc := "(II)I" } : Jvm.MethodName)) ∈ lw_tbl := lw_at lw_m11 136 rfl
theorem q2615 : (Jvm.Cond.instanceMethod ({ cls := "ContourLabelsModel", name := "number", desc := "(II)I" } : Jvm.MethodName)) ∈ lw_all := lw_g (lw_at lw_m11 137 rfl) rfl
theorem q2616 : (Jvm.Cond.code ({ cls := "ContourLabelsModel", name := "number", desc := "(II)I" } : Jvm.MethodName) prog_13_method_85_code (4 : Nat) (Option.some Jvm.ClassFile.FieldType.int)) ∈ lw_all := lw_g (lw_at lw_m11 138 rfl) rfl
theorem q2617 : (Jvm.Cond.methodLink "ContourLabelsModel" (194 : Nat) ({ cls := "ContourLabelsModel", name := "needs", desc := "(I)V" } : Jvm.MethodName)) ∈ lw_all := lw_g (lw_at lw_m11 139 rfl) rfl
theorem q2618 : (Jvm.Cond.privateMethod ({ cls := "ContourLabelsModel", name := "needs", desc := "(I)V" } : Jvm.MethodName)) ∈ lw_tbl := lw_at lw_m11 140 rfl
theorem q2619 : (Jvm.Cond.instanceMethod ({ cls := "ContourLabelsModel", name := "needs", desc := "(I)V" } : Jvm.MethodName)) ∈ lw_all := lw_g (lw_at lw_m11 141 rfl) rfl
theorem q2620 : (Jvm.Cond.code ({ cls := "ContourLabelsModel", name := "needs", desc := "(I)V" } : Jvm.MethodName) prog_13_method_84_code (2 : Nat) (Option.none : Option Jvm.ClassFile.FieldType)) ∈ lw_all := lw_g (lw_at lw_m11 142 rfl) rfl
theorem q2622 : (Jvm.Cond.instanceMethod ({ cls := "ContourLabelsModel", name := "runText", desc := "()I" } : Jvm.MethodName)) ∈ lw_all := lw_g (lw_at lw_m11 144 rfl) rfl
theorem q2623 : (Jvm.Cond.selects "ContourLabelsModel" ({ cls := "ContourLabelsModel", name := "runText", desc := "()I" } : Jvm.MethodName) ({ cls := "ContourLabelsModel", name := "runText", desc := "()I" } : Jvm.MethodName)) ∈ lw_all := lw_g (lw_at lw_m11 145 rfl) rfl
theorem q2624 : (Jvm.Cond.code ({ cls := "ContourLabelsModel", name := "runText", desc := "()I" } : Jvm.MethodName) prog_13_method_90_code (3 : Nat) (Option.some Jvm.ClassFile.FieldType.int)) ∈ lw_all := lw_g (lw_at lw_m11 146 rfl) rfl
theorem q2625 : (Jvm.Cond.methodLink "ContourLabelsModel" (205 : Nat) ({ cls := "ContourLabelsModel", name := "carries", desc := "()Z" } : Jvm.MethodName)) ∈ lw_all := lw_g (lw_at lw_m11 147 rfl) rfl
theorem q2626 : (Jvm.Cond.privateMethod ({ cls := "ContourLabelsModel", name := "carries", desc := "()Z" } : Jvm.MethodName)) ∈ lw_tbl := lw_at lw_m11 148 rfl
theorem q2627 : (Jvm.Cond.instanceMethod ({ cls := "ContourLabelsModel", name := "carries", desc := "()Z" } : Jvm.MethodName)) ∈ lw_all := lw_g (lw_at lw_m11 149 rfl) rfl
theorem q2628 : (Jvm.Cond.code ({ cls := "ContourLabelsModel", name := "carries", desc := "()Z" } : Jvm.MethodName) prog_13_method_89_code (4 : Nat) (Option.some Jvm.ClassFile.FieldType.boolean)) ∈ lw_all := lw_g (lw_at lw_m11 150 rfl) rfl
theorem q2630 : (Jvm.Cond.instanceMethod ({ cls := "ContourLabelsModel", name := "undo", desc := "()I" } : Jvm.MethodName)) ∈ lw_all := lw_g (lw_at lw_m11 152 rfl) rfl
theorem q2631 : (Jvm.Cond.selects "ContourLabelsModel" ({ cls := "ContourLabelsModel", name := "undo", desc := "()I" } : Jvm.MethodName) ({ cls := "ContourLabelsModel", name := "undo", desc := "()I" } : Jvm.MethodName)) ∈ lw_all := lw_g (lw_at lw_m11 153 rfl) rfl
theorem q2632 : (Jvm.Cond.code ({ cls := "ContourLabelsModel", name := "undo", desc := "()I" } : Jvm.MethodName) prog_13_method_91_code (2 : Nat) (Option.some Jvm.ClassFile.FieldType.int)) ∈ lw_all := lw_g (lw_at lw_m11 154 rfl) rfl
theorem q2634 : (Jvm.Cond.instanceMethod ({ cls := "ContourLabelsModel", name := "savedStates", desc := "()I" } : Jvm.MethodName)) ∈ lw_all := lw_g (lw_at lw_m11 156 rfl) rfl
theorem q2635 : (Jvm.Cond.selects "ContourLabelsModel" ({ cls := "ContourLabelsModel", name := "savedStates", desc := "()I" } : Jvm.MethodName) ({ cls := "ContourLabelsModel", name := "savedStates", desc := "()I" } : Jvm.MethodName)) ∈ lw_all := lw_g (lw_at lw_m11 157 rfl) rfl
theorem q2636 : (Jvm.Cond.code ({ cls := "ContourLabelsModel", name := "savedStates", desc := "()I" } : Jvm.MethodName) prog_13_method_92_code (1 : Nat) (Option.some Jvm.ClassFile.FieldType.int)) ∈ lw_all := lw_g (lw_at lw_m11 158 rfl) rfl
theorem q2638 : (Jvm.Cond.instanceMethod ({ cls := "ContourLabelsModel", name := "takeSnapshot", desc := "()I" } : Jvm.MethodName)) ∈ lw_all := lw_g (lw_at lw_m11 160 rfl) rfl
theorem q2639 : (Jvm.Cond.selects "ContourLabelsModel" ({ cls := "ContourLabelsModel", name := "takeSnapshot", desc := "()I" } : Jvm.MethodName) ({ cls := "ContourLabelsModel", name := "takeSnapshot", desc := "()I" } : Jvm.MethodName)) ∈ lw_all := lw_g (lw_at lw_m11 161 rfl) rfl
theorem q2640 : (Jvm.Cond.code ({ cls := "ContourLabelsModel", name := "takeSnapshot", desc := "()I" } : Jvm.MethodName) prog_13_method_93_code (2 : Nat) (Option.some Jvm.ClassFile.FieldType.int)) ∈ lw_all := lw_g (lw_at lw_m11 162 rfl) rfl
theorem q2642 : (Jvm.Cond.instanceMethod ({ cls := "ContourLabelsModel", name := "restoreSnapshot", desc := "()I" } : Jvm.MethodName)) ∈ lw_all := lw_g (lw_at lw_m11 164 rfl) rfl
theorem q2643 : (Jvm.Cond.selects "ContourLabelsModel" ({ cls := "ContourLabelsModel", name := "restoreSnapshot", desc := "()I" } : Jvm.MethodName) ({ cls := "ContourLabelsModel", name := "restoreSnapshot", desc := "()I" } : Jvm.MethodName)) ∈ lw_all := lw_g (lw_at lw_m11 165 rfl) rfl
theorem q2644 : (Jvm.Cond.code ({ cls := "ContourLabelsModel", name := "restoreSnapshot", desc := "()I" } : Jvm.MethodName) prog_13_method_94_code (2 : Nat) (Option.some Jvm.ClassFile.FieldType.int)) ∈ lw_all := lw_g (lw_at lw_m11 166 rfl) rfl
theorem q2672 : (Jvm.Cond.castable "ContourLabelsModel" "java/lang/Object") ∈ lw_tbl := lw_at lw_m11 194 rfl
theorem in_X3 : ∀ w ∈ wsX30, w ∈ lw_all := lw_in wsX30 [2251, 2253, 2255, 2257, 2259, 2261, 2263, 2265, 2267, 2269, 2271, 2273, 2275] (by decide +kernel) (by decide +kernel)


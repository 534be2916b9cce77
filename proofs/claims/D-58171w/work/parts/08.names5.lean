/-! ContourLabelsLaw -/
set_option maxRecDepth 100000
def RX0 : String := "ContourLabelsLaw"
abbrev cX0_begin : ByteArray := method_3_code
def yX0_begin : MethodName := ⟨RX0, "begin", "(LContourLabels;II[J)I"⟩
def dkwX0_begin_1 : List UInt8 := [172, 3, 172]
abbrev dktX0_begin_1 : List UInt8 := dkwX0_begin_1 ++ []
def dkwX0_begin_0 : List UInt8 := [45, 3, 42, 27, 28, 182, 0, 7, 133, 80, 167, 0, 15, 58, 4, 4, 172, 58, 4, 5, 172, 58, 4, 6]
abbrev dktX0_begin_0 : List UInt8 := dkwX0_begin_0 ++ dktX0_begin_1
theorem dksX0_begin_0 : cX0_begin.data.toList.drop 0 = dktX0_begin_0 := by decide +kernel
theorem dksX0_begin_1 : cX0_begin.data.toList.drop 24 = dktX0_begin_1 := dk_seg dksX0_begin_0 24 rfl rfl
theorem dX0_begin_0 : decode cX0_begin 0 = .ok (.aload_n 3, 1) := dk_45 (dk_at dksX0_begin_0 0 rfl rfl)
theorem dX0_begin_1 : decode cX0_begin 1 = .ok (.iconst 0, 1) := dk_3 (dk_at dksX0_begin_0 1 rfl rfl)
theorem dX0_begin_2 : decode cX0_begin 2 = .ok (.aload_n 0, 1) := dk_42 (dk_at dksX0_begin_0 2 rfl rfl)
theorem dX0_begin_3 : decode cX0_begin 3 = .ok (.iload_n 1, 1) := dk_27 (dk_at dksX0_begin_0 3 rfl rfl)
theorem dX0_begin_4 : decode cX0_begin 4 = .ok (.iload_n 2, 1) := dk_28 (dk_at dksX0_begin_0 4 rfl rfl)
theorem dX0_begin_5 : decode cX0_begin 5 = .ok (.invokevirtual 7, 3) := dk_182 0 7 (dk_at dksX0_begin_0 5 rfl rfl)
theorem dX0_begin_8 : decode cX0_begin 8 = .ok (.i2l, 1) := dk_133 (dk_at dksX0_begin_0 8 rfl rfl)
theorem dX0_begin_9 : decode cX0_begin 9 = .ok (.lastore, 1) := dk_80 (dk_at dksX0_begin_0 9 rfl rfl)
theorem dX0_begin_10 : decode cX0_begin 10 = .ok (.goto 15, 3) := dk_167 0 15 (dk_at dksX0_begin_0 10 rfl rfl)
theorem dX0_begin_13 : decode cX0_begin 13 = .ok (.astore 4, 2) := dk_58 4 (dk_at dksX0_begin_0 13 rfl rfl)
theorem dX0_begin_15 : decode cX0_begin 15 = .ok (.iconst 1, 1) := dk_4 (dk_at dksX0_begin_0 15 rfl rfl)
theorem dX0_begin_16 : decode cX0_begin 16 = .ok (.ireturn, 1) := dk_172 (dk_at dksX0_begin_0 16 rfl rfl)
theorem dX0_begin_17 : decode cX0_begin 17 = .ok (.astore 4, 2) := dk_58 4 (dk_at dksX0_begin_0 17 rfl rfl)
theorem dX0_begin_19 : decode cX0_begin 19 = .ok (.iconst 2, 1) := dk_5 (dk_at dksX0_begin_0 19 rfl rfl)
theorem dX0_begin_20 : decode cX0_begin 20 = .ok (.ireturn, 1) := dk_172 (dk_at dksX0_begin_0 20 rfl rfl)
theorem dX0_begin_21 : decode cX0_begin 21 = .ok (.astore 4, 2) := dk_58 4 (dk_at dksX0_begin_0 21 rfl rfl)
theorem dX0_begin_23 : decode cX0_begin 23 = .ok (.iconst 3, 1) := dk_6 (dk_at dksX0_begin_0 23 rfl rfl)
theorem dX0_begin_24 : decode cX0_begin 24 = .ok (.ireturn, 1) := dk_172 (dk_at dksX0_begin_1 0 rfl rfl)
theorem dX0_begin_25 : decode cX0_begin 25 = .ok (.iconst 0, 1) := dk_3 (dk_at dksX0_begin_1 1 rfl rfl)
theorem dX0_begin_26 : decode cX0_begin 26 = .ok (.ireturn, 1) := dk_172 (dk_at dksX0_begin_1 2 rfl rfl)
abbrev cX0_step : ByteArray := method_4_code
def yX0_step : MethodName := ⟨RX0, "step", "(LContourLabels;II[J)I"⟩
def dkwX0_step_1 : List UInt8 := [58, 4, 5, 172, 58, 4, 6, 172, 3, 172]
abbrev dktX0_step_1 : List UInt8 := dkwX0_step_1 ++ []
def dkwX0_step_0 : List UInt8 := [45, 3, 42, 27, 28, 182, 0, 19, 153, 0, 7, 10, 167, 0, 4, 9, 80, 167, 0, 15, 58, 4, 4, 172]
abbrev dktX0_step_0 : List UInt8 := dkwX0_step_0 ++ dktX0_step_1
theorem dksX0_step_0 : cX0_step.data.toList.drop 0 = dktX0_step_0 := by decide +kernel
theorem dksX0_step_1 : cX0_step.data.toList.drop 24 = dktX0_step_1 := dk_seg dksX0_step_0 24 rfl rfl
theorem dX0_step_0 : decode cX0_step 0 = .ok (.aload_n 3, 1) := dk_45 (dk_at dksX0_step_0 0 rfl rfl)
theorem dX0_step_1 : decode cX0_step 1 = .ok (.iconst 0, 1) := dk_3 (dk_at dksX0_step_0 1 rfl rfl)
theorem dX0_step_2 : decode cX0_step 2 = .ok (.aload_n 0, 1) := dk_42 (dk_at dksX0_step_0 2 rfl rfl)
theorem dX0_step_3 : decode cX0_step 3 = .ok (.iload_n 1, 1) := dk_27 (dk_at dksX0_step_0 3 rfl rfl)
theorem dX0_step_4 : decode cX0_step 4 = .ok (.iload_n 2, 1) := dk_28 (dk_at dksX0_step_0 4 rfl rfl)
theorem dX0_step_5 : decode cX0_step 5 = .ok (.invokevirtual 19, 3) := dk_182 0 19 (dk_at dksX0_step_0 5 rfl rfl)
theorem dX0_step_8 : decode cX0_step 8 = .ok (.ifCond .eq 7, 3) := dk_153 0 7 (dk_at dksX0_step_0 8 rfl rfl)
theorem dX0_step_11 : decode cX0_step 11 = .ok (.lconst 1, 1) := dk_10 (dk_at dksX0_step_0 11 rfl rfl)
theorem dX0_step_12 : decode cX0_step 12 = .ok (.goto 4, 3) := dk_167 0 4 (dk_at dksX0_step_0 12 rfl rfl)
theorem dX0_step_15 : decode cX0_step 15 = .ok (.lconst 0, 1) := dk_9 (dk_at dksX0_step_0 15 rfl rfl)
theorem dX0_step_16 : decode cX0_step 16 = .ok (.lastore, 1) := dk_80 (dk_at dksX0_step_0 16 rfl rfl)
theorem dX0_step_17 : decode cX0_step 17 = .ok (.goto 15, 3) := dk_167 0 15 (dk_at dksX0_step_0 17 rfl rfl)
theorem dX0_step_20 : decode cX0_step 20 = .ok (.astore 4, 2) := dk_58 4 (dk_at dksX0_step_0 20 rfl rfl)
theorem dX0_step_22 : decode cX0_step 22 = .ok (.iconst 1, 1) := dk_4 (dk_at dksX0_step_0 22 rfl rfl)
theorem dX0_step_23 : decode cX0_step 23 = .ok (.ireturn, 1) := dk_172 (dk_at dksX0_step_0 23 rfl rfl)
theorem dX0_step_24 : decode cX0_step 24 = .ok (.astore 4, 2) := dk_58 4 (dk_at dksX0_step_1 0 rfl rfl)
theorem dX0_step_26 : decode cX0_step 26 = .ok (.iconst 2, 1) := dk_5 (dk_at dksX0_step_1 2 rfl rfl)
theorem dX0_step_27 : decode cX0_step 27 = .ok (.ireturn, 1) := dk_172 (dk_at dksX0_step_1 3 rfl rfl)
theorem dX0_step_28 : decode cX0_step 28 = .ok (.astore 4, 2) := dk_58 4 (dk_at dksX0_step_1 4 rfl rfl)
theorem dX0_step_30 : decode cX0_step 30 = .ok (.iconst 3, 1) := dk_6 (dk_at dksX0_step_1 6 rfl rfl)
theorem dX0_step_31 : decode cX0_step 31 = .ok (.ireturn, 1) := dk_172 (dk_at dksX0_step_1 7 rfl rfl)
theorem dX0_step_32 : decode cX0_step 32 = .ok (.iconst 0, 1) := dk_3 (dk_at dksX0_step_1 8 rfl rfl)
theorem dX0_step_33 : decode cX0_step 33 = .ok (.ireturn, 1) := dk_172 (dk_at dksX0_step_1 9 rfl rfl)
abbrev cX0_wipe : ByteArray := method_5_code
def yX0_wipe : MethodName := ⟨RX0, "wipe", "(LContourLabels;I[J)I"⟩
def dkwX0_wipe_0 : List UInt8 := [44, 3, 42, 27, 182, 0, 23, 133, 80, 167, 0, 6, 78, 4, 172, 3, 172]
abbrev dktX0_wipe_0 : List UInt8 := dkwX0_wipe_0 ++ []
theorem dksX0_wipe_0 : cX0_wipe.data.toList.drop 0 = dktX0_wipe_0 := by decide +kernel
theorem dX0_wipe_0 : decode cX0_wipe 0 = .ok (.aload_n 2, 1) := dk_44 (dk_at dksX0_wipe_0 0 rfl rfl)
theorem dX0_wipe_1 : decode cX0_wipe 1 = .ok (.iconst 0, 1) := dk_3 (dk_at dksX0_wipe_0 1 rfl rfl)
theorem dX0_wipe_2 : decode cX0_wipe 2 = .ok (.aload_n 0, 1) := dk_42 (dk_at dksX0_wipe_0 2 rfl rfl)
theorem dX0_wipe_3 : decode cX0_wipe 3 = .ok (.iload_n 1, 1) := dk_27 (dk_at dksX0_wipe_0 3 rfl rfl)
theorem dX0_wipe_4 : decode cX0_wipe 4 = .ok (.invokevirtual 23, 3) := dk_182 0 23 (dk_at dksX0_wipe_0 4 rfl rfl)
theorem dX0_wipe_7 : decode cX0_wipe 7 = .ok (.i2l, 1) := dk_133 (dk_at dksX0_wipe_0 7 rfl rfl)
theorem dX0_wipe_8 : decode cX0_wipe 8 = .ok (.lastore, 1) := dk_80 (dk_at dksX0_wipe_0 8 rfl rfl)
theorem dX0_wipe_9 : decode cX0_wipe 9 = .ok (.goto 6, 3) := dk_167 0 6 (dk_at dksX0_wipe_0 9 rfl rfl)
theorem dX0_wipe_12 : decode cX0_wipe 12 = .ok (.astore_n 3, 1) := dk_78 (dk_at dksX0_wipe_0 12 rfl rfl)
theorem dX0_wipe_13 : decode cX0_wipe 13 = .ok (.iconst 1, 1) := dk_4 (dk_at dksX0_wipe_0 13 rfl rfl)
theorem dX0_wipe_14 : decode cX0_wipe 14 = .ok (.ireturn, 1) := dk_172 (dk_at dksX0_wipe_0 14 rfl rfl)
theorem dX0_wipe_15 : decode cX0_wipe 15 = .ok (.iconst 0, 1) := dk_3 (dk_at dksX0_wipe_0 15 rfl rfl)
theorem dX0_wipe_16 : decode cX0_wipe 16 = .ok (.ireturn, 1) := dk_172 (dk_at dksX0_wipe_0 16 rfl rfl)
abbrev cX0_setLevel : ByteArray := method_6_code
def yX0_setLevel : MethodName := ⟨RX0, "setLevel", "(LContourLabels;II[J)I"⟩
def dkwX0_setLevel_0 : List UInt8 := [45, 3, 42, 27, 28, 182, 0, 27, 133, 80, 167, 0, 11, 58, 4, 4, 172, 58, 4, 5, 172, 3, 172]
abbrev dktX0_setLevel_0 : List UInt8 := dkwX0_setLevel_0 ++ []
theorem dksX0_setLevel_0 : cX0_setLevel.data.toList.drop 0 = dktX0_setLevel_0 := by decide +kernel
theorem dX0_setLevel_0 : decode cX0_setLevel 0 = .ok (.aload_n 3, 1) := dk_45 (dk_at dksX0_setLevel_0 0 rfl rfl)
theorem dX0_setLevel_1 : decode cX0_setLevel 1 = .ok (.iconst 0, 1) := dk_3 (dk_at dksX0_setLevel_0 1 rfl rfl)
theorem dX0_setLevel_2 : decode cX0_setLevel 2 = .ok (.aload_n 0, 1) := dk_42 (dk_at dksX0_setLevel_0 2 rfl rfl)
theorem dX0_setLevel_3 : decode cX0_setLevel 3 = .ok (.iload_n 1, 1) := dk_27 (dk_at dksX0_setLevel_0 3 rfl rfl)
theorem dX0_setLevel_4 : decode cX0_setLevel 4 = .ok (.iload_n 2, 1) := dk_28 (dk_at dksX0_setLevel_0 4 rfl rfl)
theorem dX0_setLevel_5 : decode cX0_setLevel 5 = .ok (.invokevirtual 27, 3) := dk_182 0 27 (dk_at dksX0_setLevel_0 5 rfl rfl)
theorem dX0_setLevel_8 : decode cX0_setLevel 8 = .ok (.i2l, 1) := dk_133 (dk_at dksX0_setLevel_0 8 rfl rfl)
theorem dX0_setLevel_9 : decode cX0_setLevel 9 = .ok (.lastore, 1) := dk_80 (dk_at dksX0_setLevel_0 9 rfl rfl)
theorem dX0_setLevel_10 : decode cX0_setLevel 10 = .ok (.goto 11, 3) := dk_167 0 11 (dk_at dksX0_setLevel_0 10 rfl rfl)
theorem dX0_setLevel_13 : decode cX0_setLevel 13 = .ok (.astore 4, 2) := dk_58 4 (dk_at dksX0_setLevel_0 13 rfl rfl)
theorem dX0_setLevel_15 : decode cX0_setLevel 15 = .ok (.iconst 1, 1) := dk_4 (dk_at dksX0_setLevel_0 15 rfl rfl)
theorem dX0_setLevel_16 : decode cX0_setLevel 16 = .ok (.ireturn, 1) := dk_172 (dk_at dksX0_setLevel_0 16 rfl rfl)
theorem dX0_setLevel_17 : decode cX0_setLevel 17 = .ok (.astore 4, 2) := dk_58 4 (dk_at dksX0_setLevel_0 17 rfl rfl)
theorem dX0_setLevel_19 : decode cX0_setLevel 19 = .ok (.iconst 2, 1) := dk_5 (dk_at dksX0_setLevel_0 19 rfl rfl)
theorem dX0_setLevel_20 : decode cX0_setLevel 20 = .ok (.ireturn, 1) := dk_172 (dk_at dksX0_setLevel_0 20 rfl rfl)
theorem dX0_setLevel_21 : decode cX0_setLevel 21 = .ok (.iconst 0, 1) := dk_3 (dk_at dksX0_setLevel_0 21 rfl rfl)
theorem dX0_setLevel_22 : decode cX0_setLevel 22 = .ok (.ireturn, 1) := dk_172 (dk_at dksX0_setLevel_0 22 rfl rfl)
abbrev cX0_label : ByteArray := method_7_code
def yX0_label : MethodName := ⟨RX0, "label", "(LContourLabels;II[J)I"⟩
def dkwX0_label_0 : List UInt8 := [45, 3, 42, 27, 28, 182, 0, 30, 133, 80, 167, 0, 11, 58, 4, 4, 172, 58, 4, 5, 172, 3, 172]
abbrev dktX0_label_0 : List UInt8 := dkwX0_label_0 ++ []
theorem dksX0_label_0 : cX0_label.data.toList.drop 0 = dktX0_label_0 := by decide +kernel
theorem dX0_label_0 : decode cX0_label 0 = .ok (.aload_n 3, 1) := dk_45 (dk_at dksX0_label_0 0 rfl rfl)
theorem dX0_label_1 : decode cX0_label 1 = .ok (.iconst 0, 1) := dk_3 (dk_at dksX0_label_0 1 rfl rfl)
theorem dX0_label_2 : decode cX0_label 2 = .ok (.aload_n 0, 1) := dk_42 (dk_at dksX0_label_0 2 rfl rfl)
theorem dX0_label_3 : decode cX0_label 3 = .ok (.iload_n 1, 1) := dk_27 (dk_at dksX0_label_0 3 rfl rfl)
theorem dX0_label_4 : decode cX0_label 4 = .ok (.iload_n 2, 1) := dk_28 (dk_at dksX0_label_0 4 rfl rfl)
theorem dX0_label_5 : decode cX0_label 5 = .ok (.invokevirtual 30, 3) := dk_182 0 30 (dk_at dksX0_label_0 5 rfl rfl)
theorem dX0_label_8 : decode cX0_label 8 = .ok (.i2l, 1) := dk_133 (dk_at dksX0_label_0 8 rfl rfl)
theorem dX0_label_9 : decode cX0_label 9 = .ok (.lastore, 1) := dk_80 (dk_at dksX0_label_0 9 rfl rfl)
theorem dX0_label_10 : decode cX0_label 10 = .ok (.goto 11, 3) := dk_167 0 11 (dk_at dksX0_label_0 10 rfl rfl)
theorem dX0_label_13 : decode cX0_label 13 = .ok (.astore 4, 2) := dk_58 4 (dk_at dksX0_label_0 13 rfl rfl)
theorem dX0_label_15 : decode cX0_label 15 = .ok (.iconst 1, 1) := dk_4 (dk_at dksX0_label_0 15 rfl rfl)
theorem dX0_label_16 : decode cX0_label 16 = .ok (.ireturn, 1) := dk_172 (dk_at dksX0_label_0 16 rfl rfl)
theorem dX0_label_17 : decode cX0_label 17 = .ok (.astore 4, 2) := dk_58 4 (dk_at dksX0_label_0 17 rfl rfl)
theorem dX0_label_19 : decode cX0_label 19 = .ok (.iconst 2, 1) := dk_5 (dk_at dksX0_label_0 19 rfl rfl)
theorem dX0_label_20 : decode cX0_label 20 = .ok (.ireturn, 1) := dk_172 (dk_at dksX0_label_0 20 rfl rfl)
theorem dX0_label_21 : decode cX0_label 21 = .ok (.iconst 0, 1) := dk_3 (dk_at dksX0_label_0 21 rfl rfl)
theorem dX0_label_22 : decode cX0_label 22 = .ok (.ireturn, 1) := dk_172 (dk_at dksX0_label_0 22 rfl rfl)
abbrev cX0_unlabel : ByteArray := method_8_code
def yX0_unlabel : MethodName := ⟨RX0, "unlabel", "(LContourLabels;I[J)I"⟩
def dkwX0_unlabel_0 : List UInt8 := [44, 3, 42, 27, 182, 0, 33, 133, 80, 167, 0, 9, 78, 4, 172, 78, 5, 172, 3, 172]
abbrev dktX0_unlabel_0 : List UInt8 := dkwX0_unlabel_0 ++ []
theorem dksX0_unlabel_0 : cX0_unlabel.data.toList.drop 0 = dktX0_unlabel_0 := by decide +kernel
theorem dX0_unlabel_0 : decode cX0_unlabel 0 = .ok (.aload_n 2, 1) := dk_44 (dk_at dksX0_unlabel_0 0 rfl rfl)
theorem dX0_unlabel_1 : decode cX0_unlabel 1 = .ok (.iconst 0, 1) := dk_3 (dk_at dksX0_unlabel_0 1 rfl rfl)
theorem dX0_unlabel_2 : decode cX0_unlabel 2 = .ok (.aload_n 0, 1) := dk_42 (dk_at dksX0_unlabel_0 2 rfl rfl)
theorem dX0_unlabel_3 : decode cX0_unlabel 3 = .ok (.iload_n 1, 1) := dk_27 (dk_at dksX0_unlabel_0 3 rfl rfl)
theorem dX0_unlabel_4 : decode cX0_unlabel 4 = .ok (.invokevirtual 33, 3) := dk_182 0 33 (dk_at dksX0_unlabel_0 4 rfl rfl)
theorem dX0_unlabel_7 : decode cX0_unlabel 7 = .ok (.i2l, 1) := dk_133 (dk_at dksX0_unlabel_0 7 rfl rfl)
theorem dX0_unlabel_8 : decode cX0_unlabel 8 = .ok (.lastore, 1) := dk_80 (dk_at dksX0_unlabel_0 8 rfl rfl)
theorem dX0_unlabel_9 : decode cX0_unlabel 9 = .ok (.goto 9, 3) := dk_167 0 9 (dk_at dksX0_unlabel_0 9 rfl rfl)
theorem dX0_unlabel_12 : decode cX0_unlabel 12 = .ok (.astore_n 3, 1) := dk_78 (dk_at dksX0_unlabel_0 12 rfl rfl)
theorem dX0_unlabel_13 : decode cX0_unlabel 13 = .ok (.iconst 1, 1) := dk_4 (dk_at dksX0_unlabel_0 13 rfl rfl)
theorem dX0_unlabel_14 : decode cX0_unlabel 14 = .ok (.ireturn, 1) := dk_172 (dk_at dksX0_unlabel_0 14 rfl rfl)
theorem dX0_unlabel_15 : decode cX0_unlabel 15 = .ok (.astore_n 3, 1) := dk_78 (dk_at dksX0_unlabel_0 15 rfl rfl)
theorem dX0_unlabel_16 : decode cX0_unlabel 16 = .ok (.iconst 2, 1) := dk_5 (dk_at dksX0_unlabel_0 16 rfl rfl)
theorem dX0_unlabel_17 : decode cX0_unlabel 17 = .ok (.ireturn, 1) := dk_172 (dk_at dksX0_unlabel_0 17 rfl rfl)
theorem dX0_unlabel_18 : decode cX0_unlabel 18 = .ok (.iconst 0, 1) := dk_3 (dk_at dksX0_unlabel_0 18 rfl rfl)
theorem dX0_unlabel_19 : decode cX0_unlabel 19 = .ok (.ireturn, 1) := dk_172 (dk_at dksX0_unlabel_0 19 rfl rfl)
abbrev cX0_labelBest : ByteArray := method_9_code
def yX0_labelBest : MethodName := ⟨RX0, "labelBest", "(LContourLabels;I[J)I"⟩
def dkwX0_labelBest_0 : List UInt8 := [44, 3, 42, 27, 182, 0, 36, 133, 80, 167, 0, 9, 78, 4, 172, 78, 5, 172, 3, 172]
abbrev dktX0_labelBest_0 : List UInt8 := dkwX0_labelBest_0 ++ []
theorem dksX0_labelBest_0 : cX0_labelBest.data.toList.drop 0 = dktX0_labelBest_0 := by decide +kernel
theorem dX0_labelBest_0 : decode cX0_labelBest 0 = .ok (.aload_n 2, 1) := dk_44 (dk_at dksX0_labelBest_0 0 rfl rfl)
theorem dX0_labelBest_1 : decode cX0_labelBest 1 = .ok (.iconst 0, 1) := dk_3 (dk_at dksX0_labelBest_0 1 rfl rfl)
theorem dX0_labelBest_2 : decode cX0_labelBest 2 = .ok (.aload_n 0, 1) := dk_42 (dk_at dksX0_labelBest_0 2 rfl rfl)
theorem dX0_labelBest_3 : decode cX0_labelBest 3 = .ok (.iload_n 1, 1) := dk_27 (dk_at dksX0_labelBest_0 3 rfl rfl)
theorem dX0_labelBest_4 : decode cX0_labelBest 4 = .ok (.invokevirtual 36, 3) := dk_182 0 36 (dk_at dksX0_labelBest_0 4 rfl rfl)
theorem dX0_labelBest_7 : decode cX0_labelBest 7 = .ok (.i2l, 1) := dk_133 (dk_at dksX0_labelBest_0 7 rfl rfl)
theorem dX0_labelBest_8 : decode cX0_labelBest 8 = .ok (.lastore, 1) := dk_80 (dk_at dksX0_labelBest_0 8 rfl rfl)
theorem dX0_labelBest_9 : decode cX0_labelBest 9 = .ok (.goto 9, 3) := dk_167 0 9 (dk_at dksX0_labelBest_0 9 rfl rfl)
theorem dX0_labelBest_12 : decode cX0_labelBest 12 = .ok (.astore_n 3, 1) := dk_78 (dk_at dksX0_labelBest_0 12 rfl rfl)
theorem dX0_labelBest_13 : decode cX0_labelBest 13 = .ok (.iconst 1, 1) := dk_4 (dk_at dksX0_labelBest_0 13 rfl rfl)
theorem dX0_labelBest_14 : decode cX0_labelBest 14 = .ok (.ireturn, 1) := dk_172 (dk_at dksX0_labelBest_0 14 rfl rfl)
theorem dX0_labelBest_15 : decode cX0_labelBest 15 = .ok (.astore_n 3, 1) := dk_78 (dk_at dksX0_labelBest_0 15 rfl rfl)
theorem dX0_labelBest_16 : decode cX0_labelBest 16 = .ok (.iconst 2, 1) := dk_5 (dk_at dksX0_labelBest_0 16 rfl rfl)
theorem dX0_labelBest_17 : decode cX0_labelBest 17 = .ok (.ireturn, 1) := dk_172 (dk_at dksX0_labelBest_0 17 rfl rfl)
theorem dX0_labelBest_18 : decode cX0_labelBest 18 = .ok (.iconst 0, 1) := dk_3 (dk_at dksX0_labelBest_0 18 rfl rfl)
theorem dX0_labelBest_19 : decode cX0_labelBest 19 = .ok (.ireturn, 1) := dk_172 (dk_at dksX0_labelBest_0 19 rfl rfl)
abbrev cX0_setGap : ByteArray := method_10_code
def yX0_setGap : MethodName := ⟨RX0, "setGap", "(LContourLabels;I[J)I"⟩
def dkwX0_setGap_0 : List UInt8 := [44, 3, 42, 27, 182, 0, 39, 133, 80, 167, 0, 6, 78, 4, 172, 3, 172]
abbrev dktX0_setGap_0 : List UInt8 := dkwX0_setGap_0 ++ []
theorem dksX0_setGap_0 : cX0_setGap.data.toList.drop 0 = dktX0_setGap_0 := by decide +kernel
theorem dX0_setGap_0 : decode cX0_setGap 0 = .ok (.aload_n 2, 1) := dk_44 (dk_at dksX0_setGap_0 0 rfl rfl)
theorem dX0_setGap_1 : decode cX0_setGap 1 = .ok (.iconst 0, 1) := dk_3 (dk_at dksX0_setGap_0 1 rfl rfl)
theorem dX0_setGap_2 : decode cX0_setGap 2 = .ok (.aload_n 0, 1) := dk_42 (dk_at dksX0_setGap_0 2 rfl rfl)
theorem dX0_setGap_3 : decode cX0_setGap 3 = .ok (.iload_n 1, 1) := dk_27 (dk_at dksX0_setGap_0 3 rfl rfl)
theorem dX0_setGap_4 : decode cX0_setGap 4 = .ok (.invokevirtual 39, 3) := dk_182 0 39 (dk_at dksX0_setGap_0 4 rfl rfl)
theorem dX0_setGap_7 : decode cX0_setGap 7 = .ok (.i2l, 1) := dk_133 (dk_at dksX0_setGap_0 7 rfl rfl)
theorem dX0_setGap_8 : decode cX0_setGap 8 = .ok (.lastore, 1) := dk_80 (dk_at dksX0_setGap_0 8 rfl rfl)
theorem dX0_setGap_9 : decode cX0_setGap 9 = .ok (.goto 6, 3) := dk_167 0 6 (dk_at dksX0_setGap_0 9 rfl rfl)
theorem dX0_setGap_12 : decode cX0_setGap 12 = .ok (.astore_n 3, 1) := dk_78 (dk_at dksX0_setGap_0 12 rfl rfl)
theorem dX0_setGap_13 : decode cX0_setGap 13 = .ok (.iconst 1, 1) := dk_4 (dk_at dksX0_setGap_0 13 rfl rfl)
theorem dX0_setGap_14 : decode cX0_setGap 14 = .ok (.ireturn, 1) := dk_172 (dk_at dksX0_setGap_0 14 rfl rfl)
theorem dX0_setGap_15 : decode cX0_setGap 15 = .ok (.iconst 0, 1) := dk_3 (dk_at dksX0_setGap_0 15 rfl rfl)
theorem dX0_setGap_16 : decode cX0_setGap 16 = .ok (.ireturn, 1) := dk_172 (dk_at dksX0_setGap_0 16 rfl rfl)
abbrev cX0_levelOf : ByteArray := method_11_code
def yX0_levelOf : MethodName := ⟨RX0, "levelOf", "(LContourLabels;I[J)I"⟩
def dkwX0_levelOf_0 : List UInt8 := [44, 3, 42, 27, 182, 0, 42, 133, 80, 167, 0, 6, 78, 4, 172, 3, 172]
abbrev dktX0_levelOf_0 : List UInt8 := dkwX0_levelOf_0 ++ []
theorem dksX0_levelOf_0 : cX0_levelOf.data.toList.drop 0 = dktX0_levelOf_0 := by decide +kernel
theorem dX0_levelOf_0 : decode cX0_levelOf 0 = .ok (.aload_n 2, 1) := dk_44 (dk_at dksX0_levelOf_0 0 rfl rfl)
theorem dX0_levelOf_1 : decode cX0_levelOf 1 = .ok (.iconst 0, 1) := dk_3 (dk_at dksX0_levelOf_0 1 rfl rfl)
theorem dX0_levelOf_2 : decode cX0_levelOf 2 = .ok (.aload_n 0, 1) := dk_42 (dk_at dksX0_levelOf_0 2 rfl rfl)
theorem dX0_levelOf_3 : decode cX0_levelOf 3 = .ok (.iload_n 1, 1) := dk_27 (dk_at dksX0_levelOf_0 3 rfl rfl)
theorem dX0_levelOf_4 : decode cX0_levelOf 4 = .ok (.invokevirtual 42, 3) := dk_182 0 42 (dk_at dksX0_levelOf_0 4 rfl rfl)
theorem dX0_levelOf_7 : decode cX0_levelOf 7 = .ok (.i2l, 1) := dk_133 (dk_at dksX0_levelOf_0 7 rfl rfl)
theorem dX0_levelOf_8 : decode cX0_levelOf 8 = .ok (.lastore, 1) := dk_80 (dk_at dksX0_levelOf_0 8 rfl rfl)
theorem dX0_levelOf_9 : decode cX0_levelOf 9 = .ok (.goto 6, 3) := dk_167 0 6 (dk_at dksX0_levelOf_0 9 rfl rfl)
theorem dX0_levelOf_12 : decode cX0_levelOf 12 = .ok (.astore_n 3, 1) := dk_78 (dk_at dksX0_levelOf_0 12 rfl rfl)
theorem dX0_levelOf_13 : decode cX0_levelOf 13 = .ok (.iconst 1, 1) := dk_4 (dk_at dksX0_levelOf_0 13 rfl rfl)
theorem dX0_levelOf_14 : decode cX0_levelOf 14 = .ok (.ireturn, 1) := dk_172 (dk_at dksX0_levelOf_0 14 rfl rfl)
theorem dX0_levelOf_15 : decode cX0_levelOf 15 = .ok (.iconst 0, 1) := dk_3 (dk_at dksX0_levelOf_0 15 rfl rfl)
theorem dX0_levelOf_16 : decode cX0_levelOf 16 = .ok (.ireturn, 1) := dk_172 (dk_at dksX0_levelOf_0 16 rfl rfl)
abbrev cX0_stepsOf : ByteArray := method_12_code
def yX0_stepsOf : MethodName := ⟨RX0, "stepsOf", "(LContourLabels;I[J)I"⟩
def dkwX0_stepsOf_0 : List UInt8 := [44, 3, 42, 27, 182, 0, 45, 133, 80, 167, 0, 6, 78, 4, 172, 3, 172]
abbrev dktX0_stepsOf_0 : List UInt8 := dkwX0_stepsOf_0 ++ []
theorem dksX0_stepsOf_0 : cX0_stepsOf.data.toList.drop 0 = dktX0_stepsOf_0 := by decide +kernel
theorem dX0_stepsOf_0 : decode cX0_stepsOf 0 = .ok (.aload_n 2, 1) := dk_44 (dk_at dksX0_stepsOf_0 0 rfl rfl)
theorem dX0_stepsOf_1 : decode cX0_stepsOf 1 = .ok (.iconst 0, 1) := dk_3 (dk_at dksX0_stepsOf_0 1 rfl rfl)
theorem dX0_stepsOf_2 : decode cX0_stepsOf 2 = .ok (.aload_n 0, 1) := dk_42 (dk_at dksX0_stepsOf_0 2 rfl rfl)
theorem dX0_stepsOf_3 : decode cX0_stepsOf 3 = .ok (.iload_n 1, 1) := dk_27 (dk_at dksX0_stepsOf_0 3 rfl rfl)
theorem dX0_stepsOf_4 : decode cX0_stepsOf 4 = .ok (.invokevirtual 45, 3) := dk_182 0 45 (dk_at dksX0_stepsOf_0 4 rfl rfl)
theorem dX0_stepsOf_7 : decode cX0_stepsOf 7 = .ok (.i2l, 1) := dk_133 (dk_at dksX0_stepsOf_0 7 rfl rfl)
theorem dX0_stepsOf_8 : decode cX0_stepsOf 8 = .ok (.lastore, 1) := dk_80 (dk_at dksX0_stepsOf_0 8 rfl rfl)
theorem dX0_stepsOf_9 : decode cX0_stepsOf 9 = .ok (.goto 6, 3) := dk_167 0 6 (dk_at dksX0_stepsOf_0 9 rfl rfl)
theorem dX0_stepsOf_12 : decode cX0_stepsOf 12 = .ok (.astore_n 3, 1) := dk_78 (dk_at dksX0_stepsOf_0 12 rfl rfl)
theorem dX0_stepsOf_13 : decode cX0_stepsOf 13 = .ok (.iconst 1, 1) := dk_4 (dk_at dksX0_stepsOf_0 13 rfl rfl)
theorem dX0_stepsOf_14 : decode cX0_stepsOf 14 = .ok (.ireturn, 1) := dk_172 (dk_at dksX0_stepsOf_0 14 rfl rfl)
theorem dX0_stepsOf_15 : decode cX0_stepsOf 15 = .ok (.iconst 0, 1) := dk_3 (dk_at dksX0_stepsOf_0 15 rfl rfl)
theorem dX0_stepsOf_16 : decode cX0_stepsOf 16 = .ok (.ireturn, 1) := dk_172 (dk_at dksX0_stepsOf_0 16 rfl rfl)
abbrev cX0_pointOf : ByteArray := method_13_code
def yX0_pointOf : MethodName := ⟨RX0, "pointOf", "(LContourLabels;II[J)I"⟩
def dkwX0_pointOf_0 : List UInt8 := [45, 3, 42, 27, 28, 182, 0, 48, 133, 80, 167, 0, 7, 58, 4, 4, 172, 3, 172]
abbrev dktX0_pointOf_0 : List UInt8 := dkwX0_pointOf_0 ++ []
theorem dksX0_pointOf_0 : cX0_pointOf.data.toList.drop 0 = dktX0_pointOf_0 := by decide +kernel
theorem dX0_pointOf_0 : decode cX0_pointOf 0 = .ok (.aload_n 3, 1) := dk_45 (dk_at dksX0_pointOf_0 0 rfl rfl)
theorem dX0_pointOf_1 : decode cX0_pointOf 1 = .ok (.iconst 0, 1) := dk_3 (dk_at dksX0_pointOf_0 1 rfl rfl)
theorem dX0_pointOf_2 : decode cX0_pointOf 2 = .ok (.aload_n 0, 1) := dk_42 (dk_at dksX0_pointOf_0 2 rfl rfl)
theorem dX0_pointOf_3 : decode cX0_pointOf 3 = .ok (.iload_n 1, 1) := dk_27 (dk_at dksX0_pointOf_0 3 rfl rfl)
theorem dX0_pointOf_4 : decode cX0_pointOf 4 = .ok (.iload_n 2, 1) := dk_28 (dk_at dksX0_pointOf_0 4 rfl rfl)
theorem dX0_pointOf_5 : decode cX0_pointOf 5 = .ok (.invokevirtual 48, 3) := dk_182 0 48 (dk_at dksX0_pointOf_0 5 rfl rfl)
theorem dX0_pointOf_8 : decode cX0_pointOf 8 = .ok (.i2l, 1) := dk_133 (dk_at dksX0_pointOf_0 8 rfl rfl)
theorem dX0_pointOf_9 : decode cX0_pointOf 9 = .ok (.lastore, 1) := dk_80 (dk_at dksX0_pointOf_0 9 rfl rfl)
theorem dX0_pointOf_10 : decode cX0_pointOf 10 = .ok (.goto 7, 3) := dk_167 0 7 (dk_at dksX0_pointOf_0 10 rfl rfl)
theorem dX0_pointOf_13 : decode cX0_pointOf 13 = .ok (.astore 4, 2) := dk_58 4 (dk_at dksX0_pointOf_0 13 rfl rfl)
theorem dX0_pointOf_15 : decode cX0_pointOf 15 = .ok (.iconst 1, 1) := dk_4 (dk_at dksX0_pointOf_0 15 rfl rfl)
theorem dX0_pointOf_16 : decode cX0_pointOf 16 = .ok (.ireturn, 1) := dk_172 (dk_at dksX0_pointOf_0 16 rfl rfl)
theorem dX0_pointOf_17 : decode cX0_pointOf 17 = .ok (.iconst 0, 1) := dk_3 (dk_at dksX0_pointOf_0 17 rfl rfl)
theorem dX0_pointOf_18 : decode cX0_pointOf 18 = .ok (.ireturn, 1) := dk_172 (dk_at dksX0_pointOf_0 18 rfl rfl)
abbrev cX0_lineAt : ByteArray := method_14_code
def yX0_lineAt : MethodName := ⟨RX0, "lineAt", "(LContourLabels;I[J)I"⟩
def dkwX0_lineAt_0 : List UInt8 := [44, 3, 42, 27, 182, 0, 51, 133, 80, 167, 0, 6, 78, 4, 172, 3, 172]
abbrev dktX0_lineAt_0 : List UInt8 := dkwX0_lineAt_0 ++ []
theorem dksX0_lineAt_0 : cX0_lineAt.data.toList.drop 0 = dktX0_lineAt_0 := by decide +kernel
theorem dX0_lineAt_0 : decode cX0_lineAt 0 = .ok (.aload_n 2, 1) := dk_44 (dk_at dksX0_lineAt_0 0 rfl rfl)
theorem dX0_lineAt_1 : decode cX0_lineAt 1 = .ok (.iconst 0, 1) := dk_3 (dk_at dksX0_lineAt_0 1 rfl rfl)
theorem dX0_lineAt_2 : decode cX0_lineAt 2 = .ok (.aload_n 0, 1) := dk_42 (dk_at dksX0_lineAt_0 2 rfl rfl)
theorem dX0_lineAt_3 : decode cX0_lineAt 3 = .ok (.iload_n 1, 1) := dk_27 (dk_at dksX0_lineAt_0 3 rfl rfl)
theorem dX0_lineAt_4 : decode cX0_lineAt 4 = .ok (.invokevirtual 51, 3) := dk_182 0 51 (dk_at dksX0_lineAt_0 4 rfl rfl)
theorem dX0_lineAt_7 : decode cX0_lineAt 7 = .ok (.i2l, 1) := dk_133 (dk_at dksX0_lineAt_0 7 rfl rfl)
theorem dX0_lineAt_8 : decode cX0_lineAt 8 = .ok (.lastore, 1) := dk_80 (dk_at dksX0_lineAt_0 8 rfl rfl)
theorem dX0_lineAt_9 : decode cX0_lineAt 9 = .ok (.goto 6, 3) := dk_167 0 6 (dk_at dksX0_lineAt_0 9 rfl rfl)
theorem dX0_lineAt_12 : decode cX0_lineAt 12 = .ok (.astore_n 3, 1) := dk_78 (dk_at dksX0_lineAt_0 12 rfl rfl)
theorem dX0_lineAt_13 : decode cX0_lineAt 13 = .ok (.iconst 1, 1) := dk_4 (dk_at dksX0_lineAt_0 13 rfl rfl)
theorem dX0_lineAt_14 : decode cX0_lineAt 14 = .ok (.ireturn, 1) := dk_172 (dk_at dksX0_lineAt_0 14 rfl rfl)
theorem dX0_lineAt_15 : decode cX0_lineAt 15 = .ok (.iconst 0, 1) := dk_3 (dk_at dksX0_lineAt_0 15 rfl rfl)
theorem dX0_lineAt_16 : decode cX0_lineAt 16 = .ok (.ireturn, 1) := dk_172 (dk_at dksX0_lineAt_0 16 rfl rfl)
abbrev cX0_isClosed : ByteArray := method_15_code
def yX0_isClosed : MethodName := ⟨RX0, "isClosed", "(LContourLabels;I[J)I"⟩
def dkwX0_isClosed_0 : List UInt8 := [44, 3, 42, 27, 182, 0, 54, 153, 0, 7, 10, 167, 0, 4, 9, 80, 167, 0, 6, 78, 4, 172, 3, 172]
abbrev dktX0_isClosed_0 : List UInt8 := dkwX0_isClosed_0 ++ []
theorem dksX0_isClosed_0 : cX0_isClosed.data.toList.drop 0 = dktX0_isClosed_0 := by decide +kernel
theorem dX0_isClosed_0 : decode cX0_isClosed 0 = .ok (.aload_n 2, 1) := dk_44 (dk_at dksX0_isClosed_0 0 rfl rfl)
theorem dX0_isClosed_1 : decode cX0_isClosed 1 = .ok (.iconst 0, 1) := dk_3 (dk_at dksX0_isClosed_0 1 rfl rfl)
theorem dX0_isClosed_2 : decode cX0_isClosed 2 = .ok (.aload_n 0, 1) := dk_42 (dk_at dksX0_isClosed_0 2 rfl rfl)
theorem dX0_isClosed_3 : decode cX0_isClosed 3 = .ok (.iload_n 1, 1) := dk_27 (dk_at dksX0_isClosed_0 3 rfl rfl)
theorem dX0_isClosed_4 : decode cX0_isClosed 4 = .ok (.invokevirtual 54, 3) := dk_182 0 54 (dk_at dksX0_isClosed_0 4 rfl rfl)
theorem dX0_isClosed_7 : decode cX0_isClosed 7 = .ok (.ifCond .eq 7, 3) := dk_153 0 7 (dk_at dksX0_isClosed_0 7 rfl rfl)
theorem dX0_isClosed_10 : decode cX0_isClosed 10 = .ok (.lconst 1, 1) := dk_10 (dk_at dksX0_isClosed_0 10 rfl rfl)
theorem dX0_isClosed_11 : decode cX0_isClosed 11 = .ok (.goto 4, 3) := dk_167 0 4 (dk_at dksX0_isClosed_0 11 rfl rfl)
theorem dX0_isClosed_14 : decode cX0_isClosed 14 = .ok (.lconst 0, 1) := dk_9 (dk_at dksX0_isClosed_0 14 rfl rfl)
theorem dX0_isClosed_15 : decode cX0_isClosed 15 = .ok (.lastore, 1) := dk_80 (dk_at dksX0_isClosed_0 15 rfl rfl)
theorem dX0_isClosed_16 : decode cX0_isClosed 16 = .ok (.goto 6, 3) := dk_167 0 6 (dk_at dksX0_isClosed_0 16 rfl rfl)
theorem dX0_isClosed_19 : decode cX0_isClosed 19 = .ok (.astore_n 3, 1) := dk_78 (dk_at dksX0_isClosed_0 19 rfl rfl)
theorem dX0_isClosed_20 : decode cX0_isClosed 20 = .ok (.iconst 1, 1) := dk_4 (dk_at dksX0_isClosed_0 20 rfl rfl)
theorem dX0_isClosed_21 : decode cX0_isClosed 21 = .ok (.ireturn, 1) := dk_172 (dk_at dksX0_isClosed_0 21 rfl rfl)
theorem dX0_isClosed_22 : decode cX0_isClosed 22 = .ok (.iconst 0, 1) := dk_3 (dk_at dksX0_isClosed_0 22 rfl rfl)
theorem dX0_isClosed_23 : decode cX0_isClosed 23 = .ok (.ireturn, 1) := dk_172 (dk_at dksX0_isClosed_0 23 rfl rfl)
abbrev cX0_whyNotStepped : ByteArray := method_16_code
def yX0_whyNotStepped : MethodName := ⟨RX0, "whyNotStepped", "(LContourLabels;II[J)I"⟩
def dkwX0_whyNotStepped_0 : List UInt8 := [45, 3, 42, 27, 28, 182, 0, 58, 133, 80, 167, 0, 11, 58, 4, 4, 172, 58, 4, 5, 172, 3, 172]
abbrev dktX0_whyNotStepped_0 : List UInt8 := dkwX0_whyNotStepped_0 ++ []
theorem dksX0_whyNotStepped_0 : cX0_whyNotStepped.data.toList.drop 0 = dktX0_whyNotStepped_0 := by decide +kernel
theorem dX0_whyNotStepped_0 : decode cX0_whyNotStepped 0 = .ok (.aload_n 3, 1) := dk_45 (dk_at dksX0_whyNotStepped_0 0 rfl rfl)
theorem dX0_whyNotStepped_1 : decode cX0_whyNotStepped 1 = .ok (.iconst 0, 1) := dk_3 (dk_at dksX0_whyNotStepped_0 1 rfl rfl)
theorem dX0_whyNotStepped_2 : decode cX0_whyNotStepped 2 = .ok (.aload_n 0, 1) := dk_42 (dk_at dksX0_whyNotStepped_0 2 rfl rfl)
theorem dX0_whyNotStepped_3 : decode cX0_whyNotStepped 3 = .ok (.iload_n 1, 1) := dk_27 (dk_at dksX0_whyNotStepped_0 3 rfl rfl)
theorem dX0_whyNotStepped_4 : decode cX0_whyNotStepped 4 = .ok (.iload_n 2, 1) := dk_28 (dk_at dksX0_whyNotStepped_0 4 rfl rfl)
theorem dX0_whyNotStepped_5 : decode cX0_whyNotStepped 5 = .ok (.invokevirtual 58, 3) := dk_182 0 58 (dk_at dksX0_whyNotStepped_0 5 rfl rfl)
theorem dX0_whyNotStepped_8 : decode cX0_whyNotStepped 8 = .ok (.i2l, 1) := dk_133 (dk_at dksX0_whyNotStepped_0 8 rfl rfl)
theorem dX0_whyNotStepped_9 : decode cX0_whyNotStepped 9 = .ok (.lastore, 1) := dk_80 (dk_at dksX0_whyNotStepped_0 9 rfl rfl)
theorem dX0_whyNotStepped_10 : decode cX0_whyNotStepped 10 = .ok (.goto 11, 3) := dk_167 0 11 (dk_at dksX0_whyNotStepped_0 10 rfl rfl)
theorem dX0_whyNotStepped_13 : decode cX0_whyNotStepped 13 = .ok (.astore 4, 2) := dk_58 4 (dk_at dksX0_whyNotStepped_0 13 rfl rfl)
theorem dX0_whyNotStepped_15 : decode cX0_whyNotStepped 15 = .ok (.iconst 1, 1) := dk_4 (dk_at dksX0_whyNotStepped_0 15 rfl rfl)
theorem dX0_whyNotStepped_16 : decode cX0_whyNotStepped 16 = .ok (.ireturn, 1) := dk_172 (dk_at dksX0_whyNotStepped_0 16 rfl rfl)
theorem dX0_whyNotStepped_17 : decode cX0_whyNotStepped 17 = .ok (.astore 4, 2) := dk_58 4 (dk_at dksX0_whyNotStepped_0 17 rfl rfl)
theorem dX0_whyNotStepped_19 : decode cX0_whyNotStepped 19 = .ok (.iconst 2, 1) := dk_5 (dk_at dksX0_whyNotStepped_0 19 rfl rfl)
theorem dX0_whyNotStepped_20 : decode cX0_whyNotStepped 20 = .ok (.ireturn, 1) := dk_172 (dk_at dksX0_whyNotStepped_0 20 rfl rfl)
theorem dX0_whyNotStepped_21 : decode cX0_whyNotStepped 21 = .ok (.iconst 0, 1) := dk_3 (dk_at dksX0_whyNotStepped_0 21 rfl rfl)
theorem dX0_whyNotStepped_22 : decode cX0_whyNotStepped 22 = .ok (.ireturn, 1) := dk_172 (dk_at dksX0_whyNotStepped_0 22 rfl rfl)
abbrev cX0_bendAt : ByteArray := method_17_code
def yX0_bendAt : MethodName := ⟨RX0, "bendAt", "(LContourLabels;II[J)I"⟩
def dkwX0_bendAt_0 : List UInt8 := [45, 3, 42, 27, 28, 182, 0, 61, 133, 80, 167, 0, 7, 58, 4, 4, 172, 3, 172]
abbrev dktX0_bendAt_0 : List UInt8 := dkwX0_bendAt_0 ++ []
theorem dksX0_bendAt_0 : cX0_bendAt.data.toList.drop 0 = dktX0_bendAt_0 := by decide +kernel
theorem dX0_bendAt_0 : decode cX0_bendAt 0 = .ok (.aload_n 3, 1) := dk_45 (dk_at dksX0_bendAt_0 0 rfl rfl)
theorem dX0_bendAt_1 : decode cX0_bendAt 1 = .ok (.iconst 0, 1) := dk_3 (dk_at dksX0_bendAt_0 1 rfl rfl)
theorem dX0_bendAt_2 : decode cX0_bendAt 2 = .ok (.aload_n 0, 1) := dk_42 (dk_at dksX0_bendAt_0 2 rfl rfl)
theorem dX0_bendAt_3 : decode cX0_bendAt 3 = .ok (.iload_n 1, 1) := dk_27 (dk_at dksX0_bendAt_0 3 rfl rfl)
theorem dX0_bendAt_4 : decode cX0_bendAt 4 = .ok (.iload_n 2, 1) := dk_28 (dk_at dksX0_bendAt_0 4 rfl rfl)
theorem dX0_bendAt_5 : decode cX0_bendAt 5 = .ok (.invokevirtual 61, 3) := dk_182 0 61 (dk_at dksX0_bendAt_0 5 rfl rfl)
theorem dX0_bendAt_8 : decode cX0_bendAt 8 = .ok (.i2l, 1) := dk_133 (dk_at dksX0_bendAt_0 8 rfl rfl)
theorem dX0_bendAt_9 : decode cX0_bendAt 9 = .ok (.lastore, 1) := dk_80 (dk_at dksX0_bendAt_0 9 rfl rfl)
theorem dX0_bendAt_10 : decode cX0_bendAt 10 = .ok (.goto 7, 3) := dk_167 0 7 (dk_at dksX0_bendAt_0 10 rfl rfl)
theorem dX0_bendAt_13 : decode cX0_bendAt 13 = .ok (.astore 4, 2) := dk_58 4 (dk_at dksX0_bendAt_0 13 rfl rfl)
theorem dX0_bendAt_15 : decode cX0_bendAt 15 = .ok (.iconst 1, 1) := dk_4 (dk_at dksX0_bendAt_0 15 rfl rfl)
theorem dX0_bendAt_16 : decode cX0_bendAt 16 = .ok (.ireturn, 1) := dk_172 (dk_at dksX0_bendAt_0 16 rfl rfl)
theorem dX0_bendAt_17 : decode cX0_bendAt 17 = .ok (.iconst 0, 1) := dk_3 (dk_at dksX0_bendAt_0 17 rfl rfl)
theorem dX0_bendAt_18 : decode cX0_bendAt 18 = .ok (.ireturn, 1) := dk_172 (dk_at dksX0_bendAt_0 18 rfl rfl)
abbrev cX0_lengthByKinds : ByteArray := method_18_code
def yX0_lengthByKinds : MethodName := ⟨RX0, "lengthByKinds", "(LContourLabels;I[D)I"⟩
def dkwX0_lengthByKinds_0 : List UInt8 := [44, 3, 42, 27, 182, 0, 64, 82, 167, 0, 6, 78, 4, 172, 3, 172]
abbrev dktX0_lengthByKinds_0 : List UInt8 := dkwX0_lengthByKinds_0 ++ []
theorem dksX0_lengthByKinds_0 : cX0_lengthByKinds.data.toList.drop 0 = dktX0_lengthByKinds_0 := by decide +kernel
theorem dX0_lengthByKinds_0 : decode cX0_lengthByKinds 0 = .ok (.aload_n 2, 1) := dk_44 (dk_at dksX0_lengthByKinds_0 0 rfl rfl)
theorem dX0_lengthByKinds_1 : decode cX0_lengthByKinds 1 = .ok (.iconst 0, 1) := dk_3 (dk_at dksX0_lengthByKinds_0 1 rfl rfl)
theorem dX0_lengthByKinds_2 : decode cX0_lengthByKinds 2 = .ok (.aload_n 0, 1) := dk_42 (dk_at dksX0_lengthByKinds_0 2 rfl rfl)
theorem dX0_lengthByKinds_3 : decode cX0_lengthByKinds 3 = .ok (.iload_n 1, 1) := dk_27 (dk_at dksX0_lengthByKinds_0 3 rfl rfl)
theorem dX0_lengthByKinds_4 : decode cX0_lengthByKinds 4 = .ok (.invokevirtual 64, 3) := dk_182 0 64 (dk_at dksX0_lengthByKinds_0 4 rfl rfl)
theorem dX0_lengthByKinds_7 : decode cX0_lengthByKinds 7 = .ok (.dastore, 1) := dk_82 (dk_at dksX0_lengthByKinds_0 7 rfl rfl)
theorem dX0_lengthByKinds_8 : decode cX0_lengthByKinds 8 = .ok (.goto 6, 3) := dk_167 0 6 (dk_at dksX0_lengthByKinds_0 8 rfl rfl)
theorem dX0_lengthByKinds_11 : decode cX0_lengthByKinds 11 = .ok (.astore_n 3, 1) := dk_78 (dk_at dksX0_lengthByKinds_0 11 rfl rfl)
theorem dX0_lengthByKinds_12 : decode cX0_lengthByKinds 12 = .ok (.iconst 1, 1) := dk_4 (dk_at dksX0_lengthByKinds_0 12 rfl rfl)
theorem dX0_lengthByKinds_13 : decode cX0_lengthByKinds 13 = .ok (.ireturn, 1) := dk_172 (dk_at dksX0_lengthByKinds_0 13 rfl rfl)
theorem dX0_lengthByKinds_14 : decode cX0_lengthByKinds 14 = .ok (.iconst 0, 1) := dk_3 (dk_at dksX0_lengthByKinds_0 14 rfl rfl)
theorem dX0_lengthByKinds_15 : decode cX0_lengthByKinds 15 = .ok (.ireturn, 1) := dk_172 (dk_at dksX0_lengthByKinds_0 15 rfl rfl)
abbrev cX0_lengthBySteps : ByteArray := method_19_code
def yX0_lengthBySteps : MethodName := ⟨RX0, "lengthBySteps", "(LContourLabels;I[D)I"⟩
def dkwX0_lengthBySteps_0 : List UInt8 := [44, 3, 42, 27, 182, 0, 68, 82, 167, 0, 6, 78, 4, 172, 3, 172]
abbrev dktX0_lengthBySteps_0 : List UInt8 := dkwX0_lengthBySteps_0 ++ []
theorem dksX0_lengthBySteps_0 : cX0_lengthBySteps.data.toList.drop 0 = dktX0_lengthBySteps_0 := by decide +kernel
theorem dX0_lengthBySteps_0 : decode cX0_lengthBySteps 0 = .ok (.aload_n 2, 1) := dk_44 (dk_at dksX0_lengthBySteps_0 0 rfl rfl)
theorem dX0_lengthBySteps_1 : decode cX0_lengthBySteps 1 = .ok (.iconst 0, 1) := dk_3 (dk_at dksX0_lengthBySteps_0 1 rfl rfl)
theorem dX0_lengthBySteps_2 : decode cX0_lengthBySteps 2 = .ok (.aload_n 0, 1) := dk_42 (dk_at dksX0_lengthBySteps_0 2 rfl rfl)
theorem dX0_lengthBySteps_3 : decode cX0_lengthBySteps 3 = .ok (.iload_n 1, 1) := dk_27 (dk_at dksX0_lengthBySteps_0 3 rfl rfl)
theorem dX0_lengthBySteps_4 : decode cX0_lengthBySteps 4 = .ok (.invokevirtual 68, 3) := dk_182 0 68 (dk_at dksX0_lengthBySteps_0 4 rfl rfl)
theorem dX0_lengthBySteps_7 : decode cX0_lengthBySteps 7 = .ok (.dastore, 1) := dk_82 (dk_at dksX0_lengthBySteps_0 7 rfl rfl)
theorem dX0_lengthBySteps_8 : decode cX0_lengthBySteps 8 = .ok (.goto 6, 3) := dk_167 0 6 (dk_at dksX0_lengthBySteps_0 8 rfl rfl)
theorem dX0_lengthBySteps_11 : decode cX0_lengthBySteps 11 = .ok (.astore_n 3, 1) := dk_78 (dk_at dksX0_lengthBySteps_0 11 rfl rfl)
theorem dX0_lengthBySteps_12 : decode cX0_lengthBySteps 12 = .ok (.iconst 1, 1) := dk_4 (dk_at dksX0_lengthBySteps_0 12 rfl rfl)
theorem dX0_lengthBySteps_13 : decode cX0_lengthBySteps 13 = .ok (.ireturn, 1) := dk_172 (dk_at dksX0_lengthBySteps_0 13 rfl rfl)
theorem dX0_lengthBySteps_14 : decode cX0_lengthBySteps 14 = .ok (.iconst 0, 1) := dk_3 (dk_at dksX0_lengthBySteps_0 14 rfl rfl)
theorem dX0_lengthBySteps_15 : decode cX0_lengthBySteps 15 = .ok (.ireturn, 1) := dk_172 (dk_at dksX0_lengthBySteps_0 15 rfl rfl)
abbrev cX0_labelOf : ByteArray := method_20_code
def yX0_labelOf : MethodName := ⟨RX0, "labelOf", "(LContourLabels;I[J)I"⟩
def dkwX0_labelOf_0 : List UInt8 := [44, 3, 42, 27, 182, 0, 71, 133, 80, 167, 0, 6, 78, 4, 172, 3, 172]
abbrev dktX0_labelOf_0 : List UInt8 := dkwX0_labelOf_0 ++ []
theorem dksX0_labelOf_0 : cX0_labelOf.data.toList.drop 0 = dktX0_labelOf_0 := by decide +kernel
theorem dX0_labelOf_0 : decode cX0_labelOf 0 = .ok (.aload_n 2, 1) := dk_44 (dk_at dksX0_labelOf_0 0 rfl rfl)
theorem dX0_labelOf_1 : decode cX0_labelOf 1 = .ok (.iconst 0, 1) := dk_3 (dk_at dksX0_labelOf_0 1 rfl rfl)
theorem dX0_labelOf_2 : decode cX0_labelOf 2 = .ok (.aload_n 0, 1) := dk_42 (dk_at dksX0_labelOf_0 2 rfl rfl)
theorem dX0_labelOf_3 : decode cX0_labelOf 3 = .ok (.iload_n 1, 1) := dk_27 (dk_at dksX0_labelOf_0 3 rfl rfl)
theorem dX0_labelOf_4 : decode cX0_labelOf 4 = .ok (.invokevirtual 71, 3) := dk_182 0 71 (dk_at dksX0_labelOf_0 4 rfl rfl)
theorem dX0_labelOf_7 : decode cX0_labelOf 7 = .ok (.i2l, 1) := dk_133 (dk_at dksX0_labelOf_0 7 rfl rfl)
theorem dX0_labelOf_8 : decode cX0_labelOf 8 = .ok (.lastore, 1) := dk_80 (dk_at dksX0_labelOf_0 8 rfl rfl)
theorem dX0_labelOf_9 : decode cX0_labelOf 9 = .ok (.goto 6, 3) := dk_167 0 6 (dk_at dksX0_labelOf_0 9 rfl rfl)
theorem dX0_labelOf_12 : decode cX0_labelOf 12 = .ok (.astore_n 3, 1) := dk_78 (dk_at dksX0_labelOf_0 12 rfl rfl)
theorem dX0_labelOf_13 : decode cX0_labelOf 13 = .ok (.iconst 1, 1) := dk_4 (dk_at dksX0_labelOf_0 13 rfl rfl)
theorem dX0_labelOf_14 : decode cX0_labelOf 14 = .ok (.ireturn, 1) := dk_172 (dk_at dksX0_labelOf_0 14 rfl rfl)
theorem dX0_labelOf_15 : decode cX0_labelOf 15 = .ok (.iconst 0, 1) := dk_3 (dk_at dksX0_labelOf_0 15 rfl rfl)
theorem dX0_labelOf_16 : decode cX0_labelOf 16 = .ok (.ireturn, 1) := dk_172 (dk_at dksX0_labelOf_0 16 rfl rfl)
abbrev cX0_isTurned : ByteArray := method_21_code
def yX0_isTurned : MethodName := ⟨RX0, "isTurned", "(LContourLabels;I[J)I"⟩
def dkwX0_isTurned_0 : List UInt8 := [44, 3, 42, 27, 182, 0, 74, 153, 0, 7, 10, 167, 0, 4, 9, 80, 167, 0, 6, 78, 4, 172, 3, 172]
abbrev dktX0_isTurned_0 : List UInt8 := dkwX0_isTurned_0 ++ []
theorem dksX0_isTurned_0 : cX0_isTurned.data.toList.drop 0 = dktX0_isTurned_0 := by decide +kernel
theorem dX0_isTurned_0 : decode cX0_isTurned 0 = .ok (.aload_n 2, 1) := dk_44 (dk_at dksX0_isTurned_0 0 rfl rfl)
theorem dX0_isTurned_1 : decode cX0_isTurned 1 = .ok (.iconst 0, 1) := dk_3 (dk_at dksX0_isTurned_0 1 rfl rfl)
theorem dX0_isTurned_2 : decode cX0_isTurned 2 = .ok (.aload_n 0, 1) := dk_42 (dk_at dksX0_isTurned_0 2 rfl rfl)
theorem dX0_isTurned_3 : decode cX0_isTurned 3 = .ok (.iload_n 1, 1) := dk_27 (dk_at dksX0_isTurned_0 3 rfl rfl)
theorem dX0_isTurned_4 : decode cX0_isTurned 4 = .ok (.invokevirtual 74, 3) := dk_182 0 74 (dk_at dksX0_isTurned_0 4 rfl rfl)
theorem dX0_isTurned_7 : decode cX0_isTurned 7 = .ok (.ifCond .eq 7, 3) := dk_153 0 7 (dk_at dksX0_isTurned_0 7 rfl rfl)
theorem dX0_isTurned_10 : decode cX0_isTurned 10 = .ok (.lconst 1, 1) := dk_10 (dk_at dksX0_isTurned_0 10 rfl rfl)
theorem dX0_isTurned_11 : decode cX0_isTurned 11 = .ok (.goto 4, 3) := dk_167 0 4 (dk_at dksX0_isTurned_0 11 rfl rfl)
theorem dX0_isTurned_14 : decode cX0_isTurned 14 = .ok (.lconst 0, 1) := dk_9 (dk_at dksX0_isTurned_0 14 rfl rfl)
theorem dX0_isTurned_15 : decode cX0_isTurned 15 = .ok (.lastore, 1) := dk_80 (dk_at dksX0_isTurned_0 15 rfl rfl)
theorem dX0_isTurned_16 : decode cX0_isTurned 16 = .ok (.goto 6, 3) := dk_167 0 6 (dk_at dksX0_isTurned_0 16 rfl rfl)
theorem dX0_isTurned_19 : decode cX0_isTurned 19 = .ok (.astore_n 3, 1) := dk_78 (dk_at dksX0_isTurned_0 19 rfl rfl)
theorem dX0_isTurned_20 : decode cX0_isTurned 20 = .ok (.iconst 1, 1) := dk_4 (dk_at dksX0_isTurned_0 20 rfl rfl)
theorem dX0_isTurned_21 : decode cX0_isTurned 21 = .ok (.ireturn, 1) := dk_172 (dk_at dksX0_isTurned_0 21 rfl rfl)
theorem dX0_isTurned_22 : decode cX0_isTurned 22 = .ok (.iconst 0, 1) := dk_3 (dk_at dksX0_isTurned_0 22 rfl rfl)
theorem dX0_isTurned_23 : decode cX0_isTurned 23 = .ok (.ireturn, 1) := dk_172 (dk_at dksX0_isTurned_0 23 rfl rfl)
abbrev cX0_readFrom : ByteArray := method_22_code
def yX0_readFrom : MethodName := ⟨RX0, "readFrom", "(LContourLabels;I[J)I"⟩
def dkwX0_readFrom_0 : List UInt8 := [44, 3, 42, 27, 182, 0, 77, 133, 80, 167, 0, 6, 78, 4, 172, 3, 172]
abbrev dktX0_readFrom_0 : List UInt8 := dkwX0_readFrom_0 ++ []
theorem dksX0_readFrom_0 : cX0_readFrom.data.toList.drop 0 = dktX0_readFrom_0 := by decide +kernel
theorem dX0_readFrom_0 : decode cX0_readFrom 0 = .ok (.aload_n 2, 1) := dk_44 (dk_at dksX0_readFrom_0 0 rfl rfl)
theorem dX0_readFrom_1 : decode cX0_readFrom 1 = .ok (.iconst 0, 1) := dk_3 (dk_at dksX0_readFrom_0 1 rfl rfl)
theorem dX0_readFrom_2 : decode cX0_readFrom 2 = .ok (.aload_n 0, 1) := dk_42 (dk_at dksX0_readFrom_0 2 rfl rfl)
theorem dX0_readFrom_3 : decode cX0_readFrom 3 = .ok (.iload_n 1, 1) := dk_27 (dk_at dksX0_readFrom_0 3 rfl rfl)
theorem dX0_readFrom_4 : decode cX0_readFrom 4 = .ok (.invokevirtual 77, 3) := dk_182 0 77 (dk_at dksX0_readFrom_0 4 rfl rfl)
theorem dX0_readFrom_7 : decode cX0_readFrom 7 = .ok (.i2l, 1) := dk_133 (dk_at dksX0_readFrom_0 7 rfl rfl)
theorem dX0_readFrom_8 : decode cX0_readFrom 8 = .ok (.lastore, 1) := dk_80 (dk_at dksX0_readFrom_0 8 rfl rfl)
theorem dX0_readFrom_9 : decode cX0_readFrom 9 = .ok (.goto 6, 3) := dk_167 0 6 (dk_at dksX0_readFrom_0 9 rfl rfl)
theorem dX0_readFrom_12 : decode cX0_readFrom 12 = .ok (.astore_n 3, 1) := dk_78 (dk_at dksX0_readFrom_0 12 rfl rfl)
theorem dX0_readFrom_13 : decode cX0_readFrom 13 = .ok (.iconst 1, 1) := dk_4 (dk_at dksX0_readFrom_0 13 rfl rfl)
theorem dX0_readFrom_14 : decode cX0_readFrom 14 = .ok (.ireturn, 1) := dk_172 (dk_at dksX0_readFrom_0 14 rfl rfl)
theorem dX0_readFrom_15 : decode cX0_readFrom 15 = .ok (.iconst 0, 1) := dk_3 (dk_at dksX0_readFrom_0 15 rfl rfl)
theorem dX0_readFrom_16 : decode cX0_readFrom 16 = .ok (.ireturn, 1) := dk_172 (dk_at dksX0_readFrom_0 16 rfl rfl)
abbrev cX0_sizeOf : ByteArray := method_23_code
def yX0_sizeOf : MethodName := ⟨RX0, "sizeOf", "(LContourLabels;I[J)I"⟩
def dkwX0_sizeOf_0 : List UInt8 := [44, 3, 42, 27, 182, 0, 80, 133, 80, 167, 0, 6, 78, 4, 172, 3, 172]
abbrev dktX0_sizeOf_0 : List UInt8 := dkwX0_sizeOf_0 ++ []
theorem dksX0_sizeOf_0 : cX0_sizeOf.data.toList.drop 0 = dktX0_sizeOf_0 := by decide +kernel
theorem dX0_sizeOf_0 : decode cX0_sizeOf 0 = .ok (.aload_n 2, 1) := dk_44 (dk_at dksX0_sizeOf_0 0 rfl rfl)
theorem dX0_sizeOf_1 : decode cX0_sizeOf 1 = .ok (.iconst 0, 1) := dk_3 (dk_at dksX0_sizeOf_0 1 rfl rfl)
theorem dX0_sizeOf_2 : decode cX0_sizeOf 2 = .ok (.aload_n 0, 1) := dk_42 (dk_at dksX0_sizeOf_0 2 rfl rfl)
theorem dX0_sizeOf_3 : decode cX0_sizeOf 3 = .ok (.iload_n 1, 1) := dk_27 (dk_at dksX0_sizeOf_0 3 rfl rfl)
theorem dX0_sizeOf_4 : decode cX0_sizeOf 4 = .ok (.invokevirtual 80, 3) := dk_182 0 80 (dk_at dksX0_sizeOf_0 4 rfl rfl)
theorem dX0_sizeOf_7 : decode cX0_sizeOf 7 = .ok (.i2l, 1) := dk_133 (dk_at dksX0_sizeOf_0 7 rfl rfl)
theorem dX0_sizeOf_8 : decode cX0_sizeOf 8 = .ok (.lastore, 1) := dk_80 (dk_at dksX0_sizeOf_0 8 rfl rfl)
theorem dX0_sizeOf_9 : decode cX0_sizeOf 9 = .ok (.goto 6, 3) := dk_167 0 6 (dk_at dksX0_sizeOf_0 9 rfl rfl)
theorem dX0_sizeOf_12 : decode cX0_sizeOf 12 = .ok (.astore_n 3, 1) := dk_78 (dk_at dksX0_sizeOf_0 12 rfl rfl)
theorem dX0_sizeOf_13 : decode cX0_sizeOf 13 = .ok (.iconst 1, 1) := dk_4 (dk_at dksX0_sizeOf_0 13 rfl rfl)
theorem dX0_sizeOf_14 : decode cX0_sizeOf 14 = .ok (.ireturn, 1) := dk_172 (dk_at dksX0_sizeOf_0 14 rfl rfl)
theorem dX0_sizeOf_15 : decode cX0_sizeOf 15 = .ok (.iconst 0, 1) := dk_3 (dk_at dksX0_sizeOf_0 15 rfl rfl)
theorem dX0_sizeOf_16 : decode cX0_sizeOf 16 = .ok (.ireturn, 1) := dk_172 (dk_at dksX0_sizeOf_0 16 rfl rfl)
abbrev cX0_bendOf : ByteArray := method_24_code
def yX0_bendOf : MethodName := ⟨RX0, "bendOf", "(LContourLabels;II[J)I"⟩
def dkwX0_bendOf_0 : List UInt8 := [45, 3, 42, 27, 28, 182, 0, 83, 133, 80, 167, 0, 7, 58, 4, 4, 172, 3, 172]
abbrev dktX0_bendOf_0 : List UInt8 := dkwX0_bendOf_0 ++ []
theorem dksX0_bendOf_0 : cX0_bendOf.data.toList.drop 0 = dktX0_bendOf_0 := by decide +kernel
theorem dX0_bendOf_0 : decode cX0_bendOf 0 = .ok (.aload_n 3, 1) := dk_45 (dk_at dksX0_bendOf_0 0 rfl rfl)
theorem dX0_bendOf_1 : decode cX0_bendOf 1 = .ok (.iconst 0, 1) := dk_3 (dk_at dksX0_bendOf_0 1 rfl rfl)
theorem dX0_bendOf_2 : decode cX0_bendOf 2 = .ok (.aload_n 0, 1) := dk_42 (dk_at dksX0_bendOf_0 2 rfl rfl)
theorem dX0_bendOf_3 : decode cX0_bendOf 3 = .ok (.iload_n 1, 1) := dk_27 (dk_at dksX0_bendOf_0 3 rfl rfl)
theorem dX0_bendOf_4 : decode cX0_bendOf 4 = .ok (.iload_n 2, 1) := dk_28 (dk_at dksX0_bendOf_0 4 rfl rfl)
theorem dX0_bendOf_5 : decode cX0_bendOf 5 = .ok (.invokevirtual 83, 3) := dk_182 0 83 (dk_at dksX0_bendOf_0 5 rfl rfl)
theorem dX0_bendOf_8 : decode cX0_bendOf 8 = .ok (.i2l, 1) := dk_133 (dk_at dksX0_bendOf_0 8 rfl rfl)
theorem dX0_bendOf_9 : decode cX0_bendOf 9 = .ok (.lastore, 1) := dk_80 (dk_at dksX0_bendOf_0 9 rfl rfl)
theorem dX0_bendOf_10 : decode cX0_bendOf 10 = .ok (.goto 7, 3) := dk_167 0 7 (dk_at dksX0_bendOf_0 10 rfl rfl)
theorem dX0_bendOf_13 : decode cX0_bendOf 13 = .ok (.astore 4, 2) := dk_58 4 (dk_at dksX0_bendOf_0 13 rfl rfl)
theorem dX0_bendOf_15 : decode cX0_bendOf 15 = .ok (.iconst 1, 1) := dk_4 (dk_at dksX0_bendOf_0 15 rfl rfl)
theorem dX0_bendOf_16 : decode cX0_bendOf 16 = .ok (.ireturn, 1) := dk_172 (dk_at dksX0_bendOf_0 16 rfl rfl)
theorem dX0_bendOf_17 : decode cX0_bendOf 17 = .ok (.iconst 0, 1) := dk_3 (dk_at dksX0_bendOf_0 17 rfl rfl)
theorem dX0_bendOf_18 : decode cX0_bendOf 18 = .ok (.ireturn, 1) := dk_172 (dk_at dksX0_bendOf_0 18 rfl rfl)
abbrev cX0_whyNotLabelled : ByteArray := method_25_code
def yX0_whyNotLabelled : MethodName := ⟨RX0, "whyNotLabelled", "(LContourLabels;II[J)I"⟩
def dkwX0_whyNotLabelled_0 : List UInt8 := [45, 3, 42, 27, 28, 182, 0, 86, 133, 80, 167, 0, 7, 58, 4, 4, 172, 3, 172]
abbrev dktX0_whyNotLabelled_0 : List UInt8 := dkwX0_whyNotLabelled_0 ++ []
theorem dksX0_whyNotLabelled_0 : cX0_whyNotLabelled.data.toList.drop 0 = dktX0_whyNotLabelled_0 := by decide +kernel
theorem dX0_whyNotLabelled_0 : decode cX0_whyNotLabelled 0 = .ok (.aload_n 3, 1) := dk_45 (dk_at dksX0_whyNotLabelled_0 0 rfl rfl)
theorem dX0_whyNotLabelled_1 : decode cX0_whyNotLabelled 1 = .ok (.iconst 0, 1) := dk_3 (dk_at dksX0_whyNotLabelled_0 1 rfl rfl)
theorem dX0_whyNotLabelled_2 : decode cX0_whyNotLabelled 2 = .ok (.aload_n 0, 1) := dk_42 (dk_at dksX0_whyNotLabelled_0 2 rfl rfl)
theorem dX0_whyNotLabelled_3 : decode cX0_whyNotLabelled 3 = .ok (.iload_n 1, 1) := dk_27 (dk_at dksX0_whyNotLabelled_0 3 rfl rfl)
theorem dX0_whyNotLabelled_4 : decode cX0_whyNotLabelled 4 = .ok (.iload_n 2, 1) := dk_28 (dk_at dksX0_whyNotLabelled_0 4 rfl rfl)
theorem dX0_whyNotLabelled_5 : decode cX0_whyNotLabelled 5 = .ok (.invokevirtual 86, 3) := dk_182 0 86 (dk_at dksX0_whyNotLabelled_0 5 rfl rfl)
theorem dX0_whyNotLabelled_8 : decode cX0_whyNotLabelled 8 = .ok (.i2l, 1) := dk_133 (dk_at dksX0_whyNotLabelled_0 8 rfl rfl)
theorem dX0_whyNotLabelled_9 : decode cX0_whyNotLabelled 9 = .ok (.lastore, 1) := dk_80 (dk_at dksX0_whyNotLabelled_0 9 rfl rfl)
theorem dX0_whyNotLabelled_10 : decode cX0_whyNotLabelled 10 = .ok (.goto 7, 3) := dk_167 0 7 (dk_at dksX0_whyNotLabelled_0 10 rfl rfl)
theorem dX0_whyNotLabelled_13 : decode cX0_whyNotLabelled 13 = .ok (.astore 4, 2) := dk_58 4 (dk_at dksX0_whyNotLabelled_0 13 rfl rfl)
theorem dX0_whyNotLabelled_15 : decode cX0_whyNotLabelled 15 = .ok (.iconst 1, 1) := dk_4 (dk_at dksX0_whyNotLabelled_0 15 rfl rfl)
theorem dX0_whyNotLabelled_16 : decode cX0_whyNotLabelled 16 = .ok (.ireturn, 1) := dk_172 (dk_at dksX0_whyNotLabelled_0 16 rfl rfl)
theorem dX0_whyNotLabelled_17 : decode cX0_whyNotLabelled 17 = .ok (.iconst 0, 1) := dk_3 (dk_at dksX0_whyNotLabelled_0 17 rfl rfl)
theorem dX0_whyNotLabelled_18 : decode cX0_whyNotLabelled 18 = .ok (.ireturn, 1) := dk_172 (dk_at dksX0_whyNotLabelled_0 18 rfl rfl)
abbrev cX0_placesOf : ByteArray := method_26_code
def yX0_placesOf : MethodName := ⟨RX0, "placesOf", "(LContourLabels;I[J)I"⟩
def dkwX0_placesOf_0 : List UInt8 := [44, 3, 42, 27, 182, 0, 89, 133, 80, 167, 0, 6, 78, 4, 172, 3, 172]
abbrev dktX0_placesOf_0 : List UInt8 := dkwX0_placesOf_0 ++ []
theorem dksX0_placesOf_0 : cX0_placesOf.data.toList.drop 0 = dktX0_placesOf_0 := by decide +kernel
theorem dX0_placesOf_0 : decode cX0_placesOf 0 = .ok (.aload_n 2, 1) := dk_44 (dk_at dksX0_placesOf_0 0 rfl rfl)
theorem dX0_placesOf_1 : decode cX0_placesOf 1 = .ok (.iconst 0, 1) := dk_3 (dk_at dksX0_placesOf_0 1 rfl rfl)
theorem dX0_placesOf_2 : decode cX0_placesOf 2 = .ok (.aload_n 0, 1) := dk_42 (dk_at dksX0_placesOf_0 2 rfl rfl)
theorem dX0_placesOf_3 : decode cX0_placesOf 3 = .ok (.iload_n 1, 1) := dk_27 (dk_at dksX0_placesOf_0 3 rfl rfl)
theorem dX0_placesOf_4 : decode cX0_placesOf 4 = .ok (.invokevirtual 89, 3) := dk_182 0 89 (dk_at dksX0_placesOf_0 4 rfl rfl)
theorem dX0_placesOf_7 : decode cX0_placesOf 7 = .ok (.i2l, 1) := dk_133 (dk_at dksX0_placesOf_0 7 rfl rfl)
theorem dX0_placesOf_8 : decode cX0_placesOf 8 = .ok (.lastore, 1) := dk_80 (dk_at dksX0_placesOf_0 8 rfl rfl)
theorem dX0_placesOf_9 : decode cX0_placesOf 9 = .ok (.goto 6, 3) := dk_167 0 6 (dk_at dksX0_placesOf_0 9 rfl rfl)
theorem dX0_placesOf_12 : decode cX0_placesOf 12 = .ok (.astore_n 3, 1) := dk_78 (dk_at dksX0_placesOf_0 12 rfl rfl)
theorem dX0_placesOf_13 : decode cX0_placesOf 13 = .ok (.iconst 1, 1) := dk_4 (dk_at dksX0_placesOf_0 13 rfl rfl)
theorem dX0_placesOf_14 : decode cX0_placesOf 14 = .ok (.ireturn, 1) := dk_172 (dk_at dksX0_placesOf_0 14 rfl rfl)
theorem dX0_placesOf_15 : decode cX0_placesOf 15 = .ok (.iconst 0, 1) := dk_3 (dk_at dksX0_placesOf_0 15 rfl rfl)
theorem dX0_placesOf_16 : decode cX0_placesOf 16 = .ok (.ireturn, 1) := dk_172 (dk_at dksX0_placesOf_0 16 rfl rfl)
abbrev cX0_bestPlace : ByteArray := method_27_code
def yX0_bestPlace : MethodName := ⟨RX0, "bestPlace", "(LContourLabels;I[J)I"⟩
def dkwX0_bestPlace_0 : List UInt8 := [44, 3, 42, 27, 182, 0, 92, 133, 80, 167, 0, 6, 78, 4, 172, 3, 172]
abbrev dktX0_bestPlace_0 : List UInt8 := dkwX0_bestPlace_0 ++ []
theorem dksX0_bestPlace_0 : cX0_bestPlace.data.toList.drop 0 = dktX0_bestPlace_0 := by decide +kernel
theorem dX0_bestPlace_0 : decode cX0_bestPlace 0 = .ok (.aload_n 2, 1) := dk_44 (dk_at dksX0_bestPlace_0 0 rfl rfl)
theorem dX0_bestPlace_1 : decode cX0_bestPlace 1 = .ok (.iconst 0, 1) := dk_3 (dk_at dksX0_bestPlace_0 1 rfl rfl)
theorem dX0_bestPlace_2 : decode cX0_bestPlace 2 = .ok (.aload_n 0, 1) := dk_42 (dk_at dksX0_bestPlace_0 2 rfl rfl)
theorem dX0_bestPlace_3 : decode cX0_bestPlace 3 = .ok (.iload_n 1, 1) := dk_27 (dk_at dksX0_bestPlace_0 3 rfl rfl)
theorem dX0_bestPlace_4 : decode cX0_bestPlace 4 = .ok (.invokevirtual 92, 3) := dk_182 0 92 (dk_at dksX0_bestPlace_0 4 rfl rfl)
theorem dX0_bestPlace_7 : decode cX0_bestPlace 7 = .ok (.i2l, 1) := dk_133 (dk_at dksX0_bestPlace_0 7 rfl rfl)
theorem dX0_bestPlace_8 : decode cX0_bestPlace 8 = .ok (.lastore, 1) := dk_80 (dk_at dksX0_bestPlace_0 8 rfl rfl)
theorem dX0_bestPlace_9 : decode cX0_bestPlace 9 = .ok (.goto 6, 3) := dk_167 0 6 (dk_at dksX0_bestPlace_0 9 rfl rfl)
theorem dX0_bestPlace_12 : decode cX0_bestPlace 12 = .ok (.astore_n 3, 1) := dk_78 (dk_at dksX0_bestPlace_0 12 rfl rfl)
theorem dX0_bestPlace_13 : decode cX0_bestPlace 13 = .ok (.iconst 1, 1) := dk_4 (dk_at dksX0_bestPlace_0 13 rfl rfl)
theorem dX0_bestPlace_14 : decode cX0_bestPlace 14 = .ok (.ireturn, 1) := dk_172 (dk_at dksX0_bestPlace_0 14 rfl rfl)
theorem dX0_bestPlace_15 : decode cX0_bestPlace 15 = .ok (.iconst 0, 1) := dk_3 (dk_at dksX0_bestPlace_0 15 rfl rfl)
theorem dX0_bestPlace_16 : decode cX0_bestPlace 16 = .ok (.ireturn, 1) := dk_172 (dk_at dksX0_bestPlace_0 16 rfl rfl)
abbrev cX0_isWithinByRays : ByteArray := method_28_code
def yX0_isWithinByRays : MethodName := ⟨RX0, "isWithinByRays", "(LContourLabels;II[J)I"⟩
def dkwX0_isWithinByRays_1 : List UInt8 := [3, 172]
abbrev dktX0_isWithinByRays_1 : List UInt8 := dkwX0_isWithinByRays_1 ++ []
def dkwX0_isWithinByRays_0 : List UInt8 := [45, 3, 42, 27, 28, 182, 0, 95, 153, 0, 7, 10, 167, 0, 4, 9, 80, 167, 0, 7, 58, 4, 4, 172]
abbrev dktX0_isWithinByRays_0 : List UInt8 := dkwX0_isWithinByRays_0 ++ dktX0_isWithinByRays_1
theorem dksX0_isWithinByRays_0 : cX0_isWithinByRays.data.toList.drop 0 = dktX0_isWithinByRays_0 := by decide +kernel
theorem dksX0_isWithinByRays_1 : cX0_isWithinByRays.data.toList.drop 24 = dktX0_isWithinByRays_1 := dk_seg dksX0_isWithinByRays_0 24 rfl rfl
theorem dX0_isWithinByRays_0 : decode cX0_isWithinByRays 0 = .ok (.aload_n 3, 1) := dk_45 (dk_at dksX0_isWithinByRays_0 0 rfl rfl)
theorem dX0_isWithinByRays_1 : decode cX0_isWithinByRays 1 = .ok (.iconst 0, 1) := dk_3 (dk_at dksX0_isWithinByRays_0 1 rfl rfl)
theorem dX0_isWithinByRays_2 : decode cX0_isWithinByRays 2 = .ok (.aload_n 0, 1) := dk_42 (dk_at dksX0_isWithinByRays_0 2 rfl rfl)
theorem dX0_isWithinByRays_3 : decode cX0_isWithinByRays 3 = .ok (.iload_n 1, 1) := dk_27 (dk_at dksX0_isWithinByRays_0 3 rfl rfl)
theorem dX0_isWithinByRays_4 : decode cX0_isWithinByRays 4 = .ok (.iload_n 2, 1) := dk_28 (dk_at dksX0_isWithinByRays_0 4 rfl rfl)
theorem dX0_isWithinByRays_5 : decode cX0_isWithinByRays 5 = .ok (.invokevirtual 95, 3) := dk_182 0 95 (dk_at dksX0_isWithinByRays_0 5 rfl rfl)
theorem dX0_isWithinByRays_8 : decode cX0_isWithinByRays 8 = .ok (.ifCond .eq 7, 3) := dk_153 0 7 (dk_at dksX0_isWithinByRays_0 8 rfl rfl)
theorem dX0_isWithinByRays_11 : decode cX0_isWithinByRays 11 = .ok (.lconst 1, 1) := dk_10 (dk_at dksX0_isWithinByRays_0 11 rfl rfl)
theorem dX0_isWithinByRays_12 : decode cX0_isWithinByRays 12 = .ok (.goto 4, 3) := dk_167 0 4 (dk_at dksX0_isWithinByRays_0 12 rfl rfl)
theorem dX0_isWithinByRays_15 : decode cX0_isWithinByRays 15 = .ok (.lconst 0, 1) := dk_9 (dk_at dksX0_isWithinByRays_0 15 rfl rfl)
theorem dX0_isWithinByRays_16 : decode cX0_isWithinByRays 16 = .ok (.lastore, 1) := dk_80 (dk_at dksX0_isWithinByRays_0 16 rfl rfl)
theorem dX0_isWithinByRays_17 : decode cX0_isWithinByRays 17 = .ok (.goto 7, 3) := dk_167 0 7 (dk_at dksX0_isWithinByRays_0 17 rfl rfl)
theorem dX0_isWithinByRays_20 : decode cX0_isWithinByRays 20 = .ok (.astore 4, 2) := dk_58 4 (dk_at dksX0_isWithinByRays_0 20 rfl rfl)
theorem dX0_isWithinByRays_22 : decode cX0_isWithinByRays 22 = .ok (.iconst 1, 1) := dk_4 (dk_at dksX0_isWithinByRays_0 22 rfl rfl)
theorem dX0_isWithinByRays_23 : decode cX0_isWithinByRays 23 = .ok (.ireturn, 1) := dk_172 (dk_at dksX0_isWithinByRays_0 23 rfl rfl)
theorem dX0_isWithinByRays_24 : decode cX0_isWithinByRays 24 = .ok (.iconst 0, 1) := dk_3 (dk_at dksX0_isWithinByRays_1 0 rfl rfl)
theorem dX0_isWithinByRays_25 : decode cX0_isWithinByRays 25 = .ok (.ireturn, 1) := dk_172 (dk_at dksX0_isWithinByRays_1 1 rfl rfl)
abbrev cX0_isWithinBySpreading : ByteArray := method_29_code
def yX0_isWithinBySpreading : MethodName := ⟨RX0, "isWithinBySpreading", "(LContourLabels;II[J)I"⟩
def dkwX0_isWithinBySpreading_1 : List UInt8 := [3, 172]
abbrev dktX0_isWithinBySpreading_1 : List UInt8 := dkwX0_isWithinBySpreading_1 ++ []
def dkwX0_isWithinBySpreading_0 : List UInt8 := [45, 3, 42, 27, 28, 182, 0, 98, 153, 0, 7, 10, 167, 0, 4, 9, 80, 167, 0, 7, 58, 4, 4, 172]
abbrev dktX0_isWithinBySpreading_0 : List UInt8 := dkwX0_isWithinBySpreading_0 ++ dktX0_isWithinBySpreading_1
theorem dksX0_isWithinBySpreading_0 : cX0_isWithinBySpreading.data.toList.drop 0 = dktX0_isWithinBySpreading_0 := by decide +kernel
theorem dksX0_isWithinBySpreading_1 : cX0_isWithinBySpreading.data.toList.drop 24 = dktX0_isWithinBySpreading_1 := dk_seg dksX0_isWithinBySpreading_0 24 rfl rfl
theorem dX0_isWithinBySpreading_0 : decode cX0_isWithinBySpreading 0 = .ok (.aload_n 3, 1) := dk_45 (dk_at dksX0_isWithinBySpreading_0 0 rfl rfl)
theorem dX0_isWithinBySpreading_1 : decode cX0_isWithinBySpreading 1 = .ok (.iconst 0, 1) := dk_3 (dk_at dksX0_isWithinBySpreading_0 1 rfl rfl)
theorem dX0_isWithinBySpreading_2 : decode cX0_isWithinBySpreading 2 = .ok (.aload_n 0, 1) := dk_42 (dk_at dksX0_isWithinBySpreading_0 2 rfl rfl)
theorem dX0_isWithinBySpreading_3 : decode cX0_isWithinBySpreading 3 = .ok (.iload_n 1, 1) := dk_27 (dk_at dksX0_isWithinBySpreading_0 3 rfl rfl)
theorem dX0_isWithinBySpreading_4 : decode cX0_isWithinBySpreading 4 = .ok (.iload_n 2, 1) := dk_28 (dk_at dksX0_isWithinBySpreading_0 4 rfl rfl)
theorem dX0_isWithinBySpreading_5 : decode cX0_isWithinBySpreading 5 = .ok (.invokevirtual 98, 3) := dk_182 0 98 (dk_at dksX0_isWithinBySpreading_0 5 rfl rfl)
theorem dX0_isWithinBySpreading_8 : decode cX0_isWithinBySpreading 8 = .ok (.ifCond .eq 7, 3) := dk_153 0 7 (dk_at dksX0_isWithinBySpreading_0 8 rfl rfl)
theorem dX0_isWithinBySpreading_11 : decode cX0_isWithinBySpreading 11 = .ok (.lconst 1, 1) := dk_10 (dk_at dksX0_isWithinBySpreading_0 11 rfl rfl)
theorem dX0_isWithinBySpreading_12 : decode cX0_isWithinBySpreading 12 = .ok (.goto 4, 3) := dk_167 0 4 (dk_at dksX0_isWithinBySpreading_0 12 rfl rfl)
theorem dX0_isWithinBySpreading_15 : decode cX0_isWithinBySpreading 15 = .ok (.lconst 0, 1) := dk_9 (dk_at dksX0_isWithinBySpreading_0 15 rfl rfl)
theorem dX0_isWithinBySpreading_16 : decode cX0_isWithinBySpreading 16 = .ok (.lastore, 1) := dk_80 (dk_at dksX0_isWithinBySpreading_0 16 rfl rfl)
theorem dX0_isWithinBySpreading_17 : decode cX0_isWithinBySpreading 17 = .ok (.goto 7, 3) := dk_167 0 7 (dk_at dksX0_isWithinBySpreading_0 17 rfl rfl)
theorem dX0_isWithinBySpreading_20 : decode cX0_isWithinBySpreading 20 = .ok (.astore 4, 2) := dk_58 4 (dk_at dksX0_isWithinBySpreading_0 20 rfl rfl)
theorem dX0_isWithinBySpreading_22 : decode cX0_isWithinBySpreading 22 = .ok (.iconst 1, 1) := dk_4 (dk_at dksX0_isWithinBySpreading_0 22 rfl rfl)
theorem dX0_isWithinBySpreading_23 : decode cX0_isWithinBySpreading 23 = .ok (.ireturn, 1) := dk_172 (dk_at dksX0_isWithinBySpreading_0 23 rfl rfl)
theorem dX0_isWithinBySpreading_24 : decode cX0_isWithinBySpreading 24 = .ok (.iconst 0, 1) := dk_3 (dk_at dksX0_isWithinBySpreading_1 0 rfl rfl)
theorem dX0_isWithinBySpreading_25 : decode cX0_isWithinBySpreading 25 = .ok (.ireturn, 1) := dk_172 (dk_at dksX0_isWithinBySpreading_1 1 rfl rfl)
abbrev cX0_pointsWithin : ByteArray := method_30_code
def yX0_pointsWithin : MethodName := ⟨RX0, "pointsWithin", "(LContourLabels;I[J)I"⟩
def dkwX0_pointsWithin_0 : List UInt8 := [44, 3, 42, 27, 182, 0, 101, 133, 80, 167, 0, 6, 78, 4, 172, 3, 172]
abbrev dktX0_pointsWithin_0 : List UInt8 := dkwX0_pointsWithin_0 ++ []
theorem dksX0_pointsWithin_0 : cX0_pointsWithin.data.toList.drop 0 = dktX0_pointsWithin_0 := by decide +kernel
theorem dX0_pointsWithin_0 : decode cX0_pointsWithin 0 = .ok (.aload_n 2, 1) := dk_44 (dk_at dksX0_pointsWithin_0 0 rfl rfl)
theorem dX0_pointsWithin_1 : decode cX0_pointsWithin 1 = .ok (.iconst 0, 1) := dk_3 (dk_at dksX0_pointsWithin_0 1 rfl rfl)
theorem dX0_pointsWithin_2 : decode cX0_pointsWithin 2 = .ok (.aload_n 0, 1) := dk_42 (dk_at dksX0_pointsWithin_0 2 rfl rfl)
theorem dX0_pointsWithin_3 : decode cX0_pointsWithin 3 = .ok (.iload_n 1, 1) := dk_27 (dk_at dksX0_pointsWithin_0 3 rfl rfl)
theorem dX0_pointsWithin_4 : decode cX0_pointsWithin 4 = .ok (.invokevirtual 101, 3) := dk_182 0 101 (dk_at dksX0_pointsWithin_0 4 rfl rfl)
theorem dX0_pointsWithin_7 : decode cX0_pointsWithin 7 = .ok (.i2l, 1) := dk_133 (dk_at dksX0_pointsWithin_0 7 rfl rfl)
theorem dX0_pointsWithin_8 : decode cX0_pointsWithin 8 = .ok (.lastore, 1) := dk_80 (dk_at dksX0_pointsWithin_0 8 rfl rfl)
theorem dX0_pointsWithin_9 : decode cX0_pointsWithin 9 = .ok (.goto 6, 3) := dk_167 0 6 (dk_at dksX0_pointsWithin_0 9 rfl rfl)
theorem dX0_pointsWithin_12 : decode cX0_pointsWithin 12 = .ok (.astore_n 3, 1) := dk_78 (dk_at dksX0_pointsWithin_0 12 rfl rfl)
theorem dX0_pointsWithin_13 : decode cX0_pointsWithin 13 = .ok (.iconst 1, 1) := dk_4 (dk_at dksX0_pointsWithin_0 13 rfl rfl)
theorem dX0_pointsWithin_14 : decode cX0_pointsWithin 14 = .ok (.ireturn, 1) := dk_172 (dk_at dksX0_pointsWithin_0 14 rfl rfl)
theorem dX0_pointsWithin_15 : decode cX0_pointsWithin 15 = .ok (.iconst 0, 1) := dk_3 (dk_at dksX0_pointsWithin_0 15 rfl rfl)
theorem dX0_pointsWithin_16 : decode cX0_pointsWithin 16 = .ok (.ireturn, 1) := dk_172 (dk_at dksX0_pointsWithin_0 16 rfl rfl)
abbrev cX0_lineRound : ByteArray := method_31_code
def yX0_lineRound : MethodName := ⟨RX0, "lineRound", "(LContourLabels;I[J)I"⟩
def dkwX0_lineRound_0 : List UInt8 := [44, 3, 42, 27, 182, 0, 104, 133, 80, 167, 0, 6, 78, 4, 172, 3, 172]
abbrev dktX0_lineRound_0 : List UInt8 := dkwX0_lineRound_0 ++ []
theorem dksX0_lineRound_0 : cX0_lineRound.data.toList.drop 0 = dktX0_lineRound_0 := by decide +kernel
theorem dX0_lineRound_0 : decode cX0_lineRound 0 = .ok (.aload_n 2, 1) := dk_44 (dk_at dksX0_lineRound_0 0 rfl rfl)
theorem dX0_lineRound_1 : decode cX0_lineRound 1 = .ok (.iconst 0, 1) := dk_3 (dk_at dksX0_lineRound_0 1 rfl rfl)
theorem dX0_lineRound_2 : decode cX0_lineRound 2 = .ok (.aload_n 0, 1) := dk_42 (dk_at dksX0_lineRound_0 2 rfl rfl)
theorem dX0_lineRound_3 : decode cX0_lineRound 3 = .ok (.iload_n 1, 1) := dk_27 (dk_at dksX0_lineRound_0 3 rfl rfl)
theorem dX0_lineRound_4 : decode cX0_lineRound 4 = .ok (.invokevirtual 104, 3) := dk_182 0 104 (dk_at dksX0_lineRound_0 4 rfl rfl)
theorem dX0_lineRound_7 : decode cX0_lineRound 7 = .ok (.i2l, 1) := dk_133 (dk_at dksX0_lineRound_0 7 rfl rfl)
theorem dX0_lineRound_8 : decode cX0_lineRound 8 = .ok (.lastore, 1) := dk_80 (dk_at dksX0_lineRound_0 8 rfl rfl)
theorem dX0_lineRound_9 : decode cX0_lineRound 9 = .ok (.goto 6, 3) := dk_167 0 6 (dk_at dksX0_lineRound_0 9 rfl rfl)
theorem dX0_lineRound_12 : decode cX0_lineRound 12 = .ok (.astore_n 3, 1) := dk_78 (dk_at dksX0_lineRound_0 12 rfl rfl)
theorem dX0_lineRound_13 : decode cX0_lineRound 13 = .ok (.iconst 1, 1) := dk_4 (dk_at dksX0_lineRound_0 13 rfl rfl)
theorem dX0_lineRound_14 : decode cX0_lineRound 14 = .ok (.ireturn, 1) := dk_172 (dk_at dksX0_lineRound_0 14 rfl rfl)
theorem dX0_lineRound_15 : decode cX0_lineRound 15 = .ok (.iconst 0, 1) := dk_3 (dk_at dksX0_lineRound_0 15 rfl rfl)
theorem dX0_lineRound_16 : decode cX0_lineRound 16 = .ok (.ireturn, 1) := dk_172 (dk_at dksX0_lineRound_0 16 rfl rfl)
abbrev cX0_isSteady : ByteArray := method_32_code
def yX0_isSteady : MethodName := ⟨RX0, "isSteady", "(LContourLabels;I[J)I"⟩
def dkwX0_isSteady_0 : List UInt8 := [44, 3, 42, 27, 182, 0, 107, 153, 0, 7, 10, 167, 0, 4, 9, 80, 167, 0, 6, 78, 4, 172, 3, 172]
abbrev dktX0_isSteady_0 : List UInt8 := dkwX0_isSteady_0 ++ []
theorem dksX0_isSteady_0 : cX0_isSteady.data.toList.drop 0 = dktX0_isSteady_0 := by decide +kernel
theorem dX0_isSteady_0 : decode cX0_isSteady 0 = .ok (.aload_n 2, 1) := dk_44 (dk_at dksX0_isSteady_0 0 rfl rfl)
theorem dX0_isSteady_1 : decode cX0_isSteady 1 = .ok (.iconst 0, 1) := dk_3 (dk_at dksX0_isSteady_0 1 rfl rfl)
theorem dX0_isSteady_2 : decode cX0_isSteady 2 = .ok (.aload_n 0, 1) := dk_42 (dk_at dksX0_isSteady_0 2 rfl rfl)
theorem dX0_isSteady_3 : decode cX0_isSteady 3 = .ok (.iload_n 1, 1) := dk_27 (dk_at dksX0_isSteady_0 3 rfl rfl)
theorem dX0_isSteady_4 : decode cX0_isSteady 4 = .ok (.invokevirtual 107, 3) := dk_182 0 107 (dk_at dksX0_isSteady_0 4 rfl rfl)
theorem dX0_isSteady_7 : decode cX0_isSteady 7 = .ok (.ifCond .eq 7, 3) := dk_153 0 7 (dk_at dksX0_isSteady_0 7 rfl rfl)
theorem dX0_isSteady_10 : decode cX0_isSteady 10 = .ok (.lconst 1, 1) := dk_10 (dk_at dksX0_isSteady_0 10 rfl rfl)
theorem dX0_isSteady_11 : decode cX0_isSteady 11 = .ok (.goto 4, 3) := dk_167 0 4 (dk_at dksX0_isSteady_0 11 rfl rfl)
theorem dX0_isSteady_14 : decode cX0_isSteady 14 = .ok (.lconst 0, 1) := dk_9 (dk_at dksX0_isSteady_0 14 rfl rfl)
theorem dX0_isSteady_15 : decode cX0_isSteady 15 = .ok (.lastore, 1) := dk_80 (dk_at dksX0_isSteady_0 15 rfl rfl)
theorem dX0_isSteady_16 : decode cX0_isSteady 16 = .ok (.goto 6, 3) := dk_167 0 6 (dk_at dksX0_isSteady_0 16 rfl rfl)
theorem dX0_isSteady_19 : decode cX0_isSteady 19 = .ok (.astore_n 3, 1) := dk_78 (dk_at dksX0_isSteady_0 19 rfl rfl)
theorem dX0_isSteady_20 : decode cX0_isSteady 20 = .ok (.iconst 1, 1) := dk_4 (dk_at dksX0_isSteady_0 20 rfl rfl)
theorem dX0_isSteady_21 : decode cX0_isSteady 21 = .ok (.ireturn, 1) := dk_172 (dk_at dksX0_isSteady_0 21 rfl rfl)
theorem dX0_isSteady_22 : decode cX0_isSteady 22 = .ok (.iconst 0, 1) := dk_3 (dk_at dksX0_isSteady_0 22 rfl rfl)
theorem dX0_isSteady_23 : decode cX0_isSteady 23 = .ok (.ireturn, 1) := dk_172 (dk_at dksX0_isSteady_0 23 rfl rfl)
abbrev cX0_lineByLevel : ByteArray := method_33_code
def yX0_lineByLevel : MethodName := ⟨RX0, "lineByLevel", "(LContourLabels;I[J)I"⟩
def dkwX0_lineByLevel_0 : List UInt8 := [44, 3, 42, 27, 182, 0, 110, 133, 80, 167, 0, 6, 78, 4, 172, 3, 172]
abbrev dktX0_lineByLevel_0 : List UInt8 := dkwX0_lineByLevel_0 ++ []
theorem dksX0_lineByLevel_0 : cX0_lineByLevel.data.toList.drop 0 = dktX0_lineByLevel_0 := by decide +kernel
theorem dX0_lineByLevel_0 : decode cX0_lineByLevel 0 = .ok (.aload_n 2, 1) := dk_44 (dk_at dksX0_lineByLevel_0 0 rfl rfl)
theorem dX0_lineByLevel_1 : decode cX0_lineByLevel 1 = .ok (.iconst 0, 1) := dk_3 (dk_at dksX0_lineByLevel_0 1 rfl rfl)
theorem dX0_lineByLevel_2 : decode cX0_lineByLevel 2 = .ok (.aload_n 0, 1) := dk_42 (dk_at dksX0_lineByLevel_0 2 rfl rfl)
theorem dX0_lineByLevel_3 : decode cX0_lineByLevel 3 = .ok (.iload_n 1, 1) := dk_27 (dk_at dksX0_lineByLevel_0 3 rfl rfl)
theorem dX0_lineByLevel_4 : decode cX0_lineByLevel 4 = .ok (.invokevirtual 110, 3) := dk_182 0 110 (dk_at dksX0_lineByLevel_0 4 rfl rfl)
theorem dX0_lineByLevel_7 : decode cX0_lineByLevel 7 = .ok (.i2l, 1) := dk_133 (dk_at dksX0_lineByLevel_0 7 rfl rfl)
theorem dX0_lineByLevel_8 : decode cX0_lineByLevel 8 = .ok (.lastore, 1) := dk_80 (dk_at dksX0_lineByLevel_0 8 rfl rfl)
theorem dX0_lineByLevel_9 : decode cX0_lineByLevel 9 = .ok (.goto 6, 3) := dk_167 0 6 (dk_at dksX0_lineByLevel_0 9 rfl rfl)
theorem dX0_lineByLevel_12 : decode cX0_lineByLevel 12 = .ok (.astore_n 3, 1) := dk_78 (dk_at dksX0_lineByLevel_0 12 rfl rfl)
theorem dX0_lineByLevel_13 : decode cX0_lineByLevel 13 = .ok (.iconst 1, 1) := dk_4 (dk_at dksX0_lineByLevel_0 13 rfl rfl)
theorem dX0_lineByLevel_14 : decode cX0_lineByLevel 14 = .ok (.ireturn, 1) := dk_172 (dk_at dksX0_lineByLevel_0 14 rfl rfl)
theorem dX0_lineByLevel_15 : decode cX0_lineByLevel 15 = .ok (.iconst 0, 1) := dk_3 (dk_at dksX0_lineByLevel_0 15 rfl rfl)
theorem dX0_lineByLevel_16 : decode cX0_lineByLevel 16 = .ok (.ireturn, 1) := dk_172 (dk_at dksX0_lineByLevel_0 16 rfl rfl)
abbrev cX0_append : ByteArray := method_34_code
def yX0_append : MethodName := ⟨RX0, "append", "(LContourLabels;I[J)I"⟩
def dkwX0_append_0 : List UInt8 := [44, 3, 42, 27, 182, 0, 113, 133, 80, 167, 0, 9, 78, 4, 172, 78, 5, 172, 3, 172]
abbrev dktX0_append_0 : List UInt8 := dkwX0_append_0 ++ []
theorem dksX0_append_0 : cX0_append.data.toList.drop 0 = dktX0_append_0 := by decide +kernel
theorem dX0_append_0 : decode cX0_append 0 = .ok (.aload_n 2, 1) := dk_44 (dk_at dksX0_append_0 0 rfl rfl)
theorem dX0_append_1 : decode cX0_append 1 = .ok (.iconst 0, 1) := dk_3 (dk_at dksX0_append_0 1 rfl rfl)
theorem dX0_append_2 : decode cX0_append 2 = .ok (.aload_n 0, 1) := dk_42 (dk_at dksX0_append_0 2 rfl rfl)
theorem dX0_append_3 : decode cX0_append 3 = .ok (.iload_n 1, 1) := dk_27 (dk_at dksX0_append_0 3 rfl rfl)
theorem dX0_append_4 : decode cX0_append 4 = .ok (.invokevirtual 113, 3) := dk_182 0 113 (dk_at dksX0_append_0 4 rfl rfl)
theorem dX0_append_7 : decode cX0_append 7 = .ok (.i2l, 1) := dk_133 (dk_at dksX0_append_0 7 rfl rfl)
theorem dX0_append_8 : decode cX0_append 8 = .ok (.lastore, 1) := dk_80 (dk_at dksX0_append_0 8 rfl rfl)
theorem dX0_append_9 : decode cX0_append 9 = .ok (.goto 9, 3) := dk_167 0 9 (dk_at dksX0_append_0 9 rfl rfl)
theorem dX0_append_12 : decode cX0_append 12 = .ok (.astore_n 3, 1) := dk_78 (dk_at dksX0_append_0 12 rfl rfl)
theorem dX0_append_13 : decode cX0_append 13 = .ok (.iconst 1, 1) := dk_4 (dk_at dksX0_append_0 13 rfl rfl)
theorem dX0_append_14 : decode cX0_append 14 = .ok (.ireturn, 1) := dk_172 (dk_at dksX0_append_0 14 rfl rfl)
theorem dX0_append_15 : decode cX0_append 15 = .ok (.astore_n 3, 1) := dk_78 (dk_at dksX0_append_0 15 rfl rfl)
theorem dX0_append_16 : decode cX0_append 16 = .ok (.iconst 2, 1) := dk_5 (dk_at dksX0_append_0 16 rfl rfl)
theorem dX0_append_17 : decode cX0_append 17 = .ok (.ireturn, 1) := dk_172 (dk_at dksX0_append_0 17 rfl rfl)
theorem dX0_append_18 : decode cX0_append 18 = .ok (.iconst 0, 1) := dk_3 (dk_at dksX0_append_0 18 rfl rfl)
theorem dX0_append_19 : decode cX0_append 19 = .ok (.ireturn, 1) := dk_172 (dk_at dksX0_append_0 19 rfl rfl)
abbrev cX0_runText : ByteArray := method_35_code
def yX0_runText : MethodName := ⟨RX0, "runText", "(LContourLabels;[J)I"⟩
def dkwX0_runText_0 : List UInt8 := [43, 3, 42, 182, 0, 116, 133, 80, 167, 0, 6, 77, 4, 172, 3, 172]
abbrev dktX0_runText_0 : List UInt8 := dkwX0_runText_0 ++ []
theorem dksX0_runText_0 : cX0_runText.data.toList.drop 0 = dktX0_runText_0 := by decide +kernel
theorem dX0_runText_0 : decode cX0_runText 0 = .ok (.aload_n 1, 1) := dk_43 (dk_at dksX0_runText_0 0 rfl rfl)
theorem dX0_runText_1 : decode cX0_runText 1 = .ok (.iconst 0, 1) := dk_3 (dk_at dksX0_runText_0 1 rfl rfl)
theorem dX0_runText_2 : decode cX0_runText 2 = .ok (.aload_n 0, 1) := dk_42 (dk_at dksX0_runText_0 2 rfl rfl)
theorem dX0_runText_3 : decode cX0_runText 3 = .ok (.invokevirtual 116, 3) := dk_182 0 116 (dk_at dksX0_runText_0 3 rfl rfl)
theorem dX0_runText_6 : decode cX0_runText 6 = .ok (.i2l, 1) := dk_133 (dk_at dksX0_runText_0 6 rfl rfl)
theorem dX0_runText_7 : decode cX0_runText 7 = .ok (.lastore, 1) := dk_80 (dk_at dksX0_runText_0 7 rfl rfl)
theorem dX0_runText_8 : decode cX0_runText 8 = .ok (.goto 6, 3) := dk_167 0 6 (dk_at dksX0_runText_0 8 rfl rfl)
theorem dX0_runText_11 : decode cX0_runText 11 = .ok (.astore_n 2, 1) := dk_77 (dk_at dksX0_runText_0 11 rfl rfl)
theorem dX0_runText_12 : decode cX0_runText 12 = .ok (.iconst 1, 1) := dk_4 (dk_at dksX0_runText_0 12 rfl rfl)
theorem dX0_runText_13 : decode cX0_runText 13 = .ok (.ireturn, 1) := dk_172 (dk_at dksX0_runText_0 13 rfl rfl)
theorem dX0_runText_14 : decode cX0_runText 14 = .ok (.iconst 0, 1) := dk_3 (dk_at dksX0_runText_0 14 rfl rfl)
theorem dX0_runText_15 : decode cX0_runText 15 = .ok (.ireturn, 1) := dk_172 (dk_at dksX0_runText_0 15 rfl rfl)
abbrev cX0_undo : ByteArray := method_36_code
def yX0_undo : MethodName := ⟨RX0, "undo", "(LContourLabels;[J)I"⟩
def dkwX0_undo_0 : List UInt8 := [43, 3, 42, 182, 0, 120, 133, 80, 167, 0, 6, 77, 4, 172, 3, 172]
abbrev dktX0_undo_0 : List UInt8 := dkwX0_undo_0 ++ []
theorem dksX0_undo_0 : cX0_undo.data.toList.drop 0 = dktX0_undo_0 := by decide +kernel
theorem dX0_undo_0 : decode cX0_undo 0 = .ok (.aload_n 1, 1) := dk_43 (dk_at dksX0_undo_0 0 rfl rfl)
theorem dX0_undo_1 : decode cX0_undo 1 = .ok (.iconst 0, 1) := dk_3 (dk_at dksX0_undo_0 1 rfl rfl)
theorem dX0_undo_2 : decode cX0_undo 2 = .ok (.aload_n 0, 1) := dk_42 (dk_at dksX0_undo_0 2 rfl rfl)
theorem dX0_undo_3 : decode cX0_undo 3 = .ok (.invokevirtual 120, 3) := dk_182 0 120 (dk_at dksX0_undo_0 3 rfl rfl)
theorem dX0_undo_6 : decode cX0_undo 6 = .ok (.i2l, 1) := dk_133 (dk_at dksX0_undo_0 6 rfl rfl)
theorem dX0_undo_7 : decode cX0_undo 7 = .ok (.lastore, 1) := dk_80 (dk_at dksX0_undo_0 7 rfl rfl)
theorem dX0_undo_8 : decode cX0_undo 8 = .ok (.goto 6, 3) := dk_167 0 6 (dk_at dksX0_undo_0 8 rfl rfl)
theorem dX0_undo_11 : decode cX0_undo 11 = .ok (.astore_n 2, 1) := dk_77 (dk_at dksX0_undo_0 11 rfl rfl)
theorem dX0_undo_12 : decode cX0_undo 12 = .ok (.iconst 1, 1) := dk_4 (dk_at dksX0_undo_0 12 rfl rfl)
theorem dX0_undo_13 : decode cX0_undo 13 = .ok (.ireturn, 1) := dk_172 (dk_at dksX0_undo_0 13 rfl rfl)
theorem dX0_undo_14 : decode cX0_undo 14 = .ok (.iconst 0, 1) := dk_3 (dk_at dksX0_undo_0 14 rfl rfl)
theorem dX0_undo_15 : decode cX0_undo 15 = .ok (.ireturn, 1) := dk_172 (dk_at dksX0_undo_0 15 rfl rfl)
abbrev cX0_restoreSnapshot : ByteArray := method_37_code
def yX0_restoreSnapshot : MethodName := ⟨RX0, "restoreSnapshot", "(LContourLabels;[J)I"⟩
def dkwX0_restoreSnapshot_0 : List UInt8 := [43, 3, 42, 182, 0, 123, 133, 80, 167, 0, 6, 77, 4, 172, 3, 172]
abbrev dktX0_restoreSnapshot_0 : List UInt8 := dkwX0_restoreSnapshot_0 ++ []
theorem dksX0_restoreSnapshot_0 : cX0_restoreSnapshot.data.toList.drop 0 = dktX0_restoreSnapshot_0 := by decide +kernel
theorem dX0_restoreSnapshot_0 : decode cX0_restoreSnapshot 0 = .ok (.aload_n 1, 1) := dk_43 (dk_at dksX0_restoreSnapshot_0 0 rfl rfl)
theorem dX0_restoreSnapshot_1 : decode cX0_restoreSnapshot 1 = .ok (.iconst 0, 1) := dk_3 (dk_at dksX0_restoreSnapshot_0 1 rfl rfl)
theorem dX0_restoreSnapshot_2 : decode cX0_restoreSnapshot 2 = .ok (.aload_n 0, 1) := dk_42 (dk_at dksX0_restoreSnapshot_0 2 rfl rfl)
theorem dX0_restoreSnapshot_3 : decode cX0_restoreSnapshot 3 = .ok (.invokevirtual 123, 3) := dk_182 0 123 (dk_at dksX0_restoreSnapshot_0 3 rfl rfl)
theorem dX0_restoreSnapshot_6 : decode cX0_restoreSnapshot 6 = .ok (.i2l, 1) := dk_133 (dk_at dksX0_restoreSnapshot_0 6 rfl rfl)
theorem dX0_restoreSnapshot_7 : decode cX0_restoreSnapshot 7 = .ok (.lastore, 1) := dk_80 (dk_at dksX0_restoreSnapshot_0 7 rfl rfl)
theorem dX0_restoreSnapshot_8 : decode cX0_restoreSnapshot 8 = .ok (.goto 6, 3) := dk_167 0 6 (dk_at dksX0_restoreSnapshot_0 8 rfl rfl)
theorem dX0_restoreSnapshot_11 : decode cX0_restoreSnapshot 11 = .ok (.astore_n 2, 1) := dk_77 (dk_at dksX0_restoreSnapshot_0 11 rfl rfl)
theorem dX0_restoreSnapshot_12 : decode cX0_restoreSnapshot 12 = .ok (.iconst 1, 1) := dk_4 (dk_at dksX0_restoreSnapshot_0 12 rfl rfl)
theorem dX0_restoreSnapshot_13 : decode cX0_restoreSnapshot 13 = .ok (.ireturn, 1) := dk_172 (dk_at dksX0_restoreSnapshot_0 13 rfl rfl)
theorem dX0_restoreSnapshot_14 : decode cX0_restoreSnapshot 14 = .ok (.iconst 0, 1) := dk_3 (dk_at dksX0_restoreSnapshot_0 14 rfl rfl)
theorem dX0_restoreSnapshot_15 : decode cX0_restoreSnapshot 15 = .ok (.ireturn, 1) := dk_172 (dk_at dksX0_restoreSnapshot_0 15 rfl rfl)
theorem q78 : (Jvm.Cond.initialized "ContourLabelsLaw") ∈ lw_all := lw_g (lw_at lw_m1 0 rfl) rfl
theorem q127 : (Jvm.Cond.classLink "ContourLabelsLaw" (8 : Nat) "ContourLabels") ∈ lw_all := lw_g (lw_at lw_m1 49 rfl) rfl
theorem q129 : (Jvm.Cond.methodLink "ContourLabelsLaw" (126 : Nat) ({ cls := "ContourLabels", name := "<init>", desc := "()V" } : Jvm.MethodName)) ∈ lw_all := lw_g (lw_at lw_m1 51 rfl) rfl
theorem q243 : (Jvm.Cond.methodLink "ContourLabelsLaw" (158 : Nat) ({ cls := "ContourLabels", name := "labelAll", desc := "()I" } : Jvm.MethodName)) ∈ lw_all := lw_g (lw_at lw_m1 165 rfl) rfl
theorem q1262 : (Jvm.Cond.methodLink "ContourLabelsLaw" (165 : Nat) ({ cls := "ContourLabels", name := "lines", desc := "()I" } : Jvm.MethodName)) ∈ lw_all := lw_g (lw_at lw_m5 224 rfl) rfl
theorem q1268 : (Jvm.Cond.methodLink "ContourLabelsLaw" (197 : Nat) ({ cls := "ContourLabels", name := "gap", desc := "()I" } : Jvm.MethodName)) ∈ lw_all := lw_g (lw_at lw_m5 230 rfl) rfl
theorem q1272 : (Jvm.Cond.methodLink "ContourLabelsLaw" (201 : Nat) ({ cls := "ContourLabels", name := "labels", desc := "()I" } : Jvm.MethodName)) ∈ lw_all := lw_g (lw_at lw_m5 234 rfl) rfl
theorem q1280 : (Jvm.Cond.methodLink "ContourLabelsLaw" (229 : Nat) ({ cls := "ContourLabels", name := "tooNear", desc := "()I" } : Jvm.MethodName)) ∈ lw_all := lw_g (lw_at lw_m6 2 rfl) rfl
theorem q1288 : (Jvm.Cond.methodLink "ContourLabelsLaw" (254 : Nat) ({ cls := "ContourLabels", name := "clearText", desc := "()I" } : Jvm.MethodName)) ∈ lw_all := lw_g (lw_at lw_m6 10 rfl) rfl
theorem q1529 : (Jvm.Cond.methodLink "ContourLabelsLaw" (258 : Nat) ({ cls := "ContourLabels", name := "errorPosition", desc := "()I" } : Jvm.MethodName)) ∈ lw_all := lw_g (lw_at lw_m7 11 rfl) rfl
theorem q1797 : (Jvm.Cond.methodLink "ContourLabelsLaw" (269 : Nat) ({ cls := "ContourLabels", name := "savedStates", desc := "()I" } : Jvm.MethodName)) ∈ lw_all := lw_g (lw_at lw_m8 39 rfl) rfl
theorem q1801 : (Jvm.Cond.methodLink "ContourLabelsLaw" (273 : Nat) ({ cls := "ContourLabels", name := "takeSnapshot", desc := "()I" } : Jvm.MethodName)) ∈ lw_all := lw_g (lw_at lw_m8 43 rfl) rfl
theorem q1805 : (Jvm.Cond.methodLink "ContourLabelsLaw" (130 : Nat) ({ cls := "ContourLabelsLaw", name := "begin", desc := "(LContourLabels;II[J)I" } : Jvm.MethodName)) ∈ lw_all := lw_g (lw_at lw_m8 47 rfl) rfl
theorem q1806 : (Jvm.Cond.static ({ cls := "ContourLabelsLaw", name := "begin", desc := "(LContourLabels;II[J)I" } : Jvm.MethodName)) ∈ lw_all := lw_g (lw_at lw_m8 48 rfl) rfl
theorem q1807 : (Jvm.Cond.codeWith ({ cls := "ContourLabelsLaw", name := "begin", desc := "(LContourLabels;II[J)I" } : Jvm.MethodName) method_3_code (5 : Nat) (Option.some Jvm.ClassFile.FieldType.int) [((0 : Nat), (10 : Nat), (13 : Nat), (13 : Nat)), ((0 : Nat), (10 : Nat), (17 : Nat), (15 : Nat)), ((0 : Nat), (10 : Nat), (21 : Nat), (17 : Nat))]) ∈ lw_all := lw_g (lw_at lw_m8 49 rfl) rfl
theorem q1808 : (Jvm.Cond.classLink "ContourLabelsLaw" (13 : Nat) "java/lang/IndexOutOfBoundsException") ∈ lw_all := lw_g (lw_at lw_m8 50 rfl) rfl
theorem q1811 : (Jvm.Cond.classLink "ContourLabelsLaw" (15 : Nat) "java/lang/IllegalArgumentException") ∈ lw_all := lw_g (lw_at lw_m8 53 rfl) rfl
theorem q1812 : (Jvm.Cond.classLink "ContourLabelsLaw" (17 : Nat) "java/lang/IllegalStateException") ∈ lw_all := lw_g (lw_at lw_m8 54 rfl) rfl
theorem q1813 : (Jvm.Cond.methodLink "ContourLabelsLaw" (7 : Nat) ({ cls := "ContourLabels", name := "begin", desc := "(II)I" } : Jvm.MethodName)) ∈ lw_all := lw_g (lw_at lw_m8 55 rfl) rfl
theorem q1853 : (Jvm.Cond.methodLink "ContourLabelsLaw" (139 : Nat) ({ cls := "ContourLabelsLaw", name := "step", desc := "(LContourLabels;II[J)I" } : Jvm.MethodName)) ∈ lw_all := lw_g (lw_at lw_m8 95 rfl) rfl
theorem q1854 : (Jvm.Cond.static ({ cls := "ContourLabelsLaw", name := "step", desc := "(LContourLabels;II[J)I" } : Jvm.MethodName)) ∈ lw_all := lw_g (lw_at lw_m8 96 rfl) rfl
theorem q1855 : (Jvm.Cond.codeWith ({ cls := "ContourLabelsLaw", name := "step", desc := "(LContourLabels;II[J)I" } : Jvm.MethodName) method_4_code (5 : Nat) (Option.some Jvm.ClassFile.FieldType.int) [((0 : Nat), (17 : Nat), (20 : Nat), (13 : Nat)), ((0 : Nat), (17 : Nat), (24 : Nat), (15 : Nat)), ((0 : Nat), (17 : Nat), (28 : Nat), (17 : Nat))]) ∈ lw_all := lw_g (lw_at lw_m8 97 rfl) rfl
theorem q1856 : (Jvm.Cond.methodLink "ContourLabelsLaw" (19 : Nat) ({ cls := "ContourLabels", name := "step", desc := "(II)Z" } : Jvm.MethodName)) ∈ lw_all := lw_g (lw_at lw_m8 98 rfl) rfl
theorem q1874 : (Jvm.Cond.methodLink "ContourLabelsLaw" (142 : Nat) ({ cls := "ContourLabelsLaw", name := "wipe", desc := "(LContourLabels;I[J)I" } : Jvm.MethodName)) ∈ lw_all := lw_g (lw_at lw_m8 116 rfl) rfl
theorem q1875 : (Jvm.Cond.static ({ cls := "ContourLabelsLaw", name := "wipe", desc := "(LContourLabels;I[J)I" } : Jvm.MethodName)) ∈ lw_all := lw_g (lw_at lw_m8 117 rfl) rfl
theorem q1876 : (Jvm.Cond.codeWith ({ cls := "ContourLabelsLaw", name := "wipe", desc := "(LContourLabels;I[J)I" } : Jvm.MethodName) method_5_code (4 : Nat) (Option.some Jvm.ClassFile.FieldType.int) [((0 : Nat), (9 : Nat), (12 : Nat), (13 : Nat))]) ∈ lw_all := lw_g (lw_at lw_m8 118 rfl) rfl
theorem q1877 : (Jvm.Cond.methodLink "ContourLabelsLaw" (23 : Nat) ({ cls := "ContourLabels", name := "wipe", desc := "(I)I" } : Jvm.MethodName)) ∈ lw_all := lw_g (lw_at lw_m8 119 rfl) rfl
theorem q1882 : (Jvm.Cond.methodLink "ContourLabelsLaw" (146 : Nat) ({ cls := "ContourLabelsLaw", name := "setLevel", desc := "(LContourLabels;II[J)I" } : Jvm.MethodName)) ∈ lw_all := lw_g (lw_at lw_m8 124 rfl) rfl
theorem q1883 : (Jvm.Cond.static ({ cls := "ContourLabelsLaw", name := "setLevel", desc := "(LContourLabels;II[J)I" } : Jvm.MethodName)) ∈ lw_all := lw_g (lw_at lw_m8 125 rfl) rfl
theorem q1884 : (Jvm.Cond.codeWith ({ cls := "ContourLabelsLaw", name := "setLevel", desc := "(LContourLabels;II[J)I" } : Jvm.MethodName) method_6_code (5 : Nat) (Option.some Jvm.ClassFile.FieldType.int) [((0 : Nat), (10 : Nat), (13 : Nat), (13 : Nat)), ((0 : Nat), (10 : Nat), (17 : Nat), (15 : Nat))]) ∈ lw_all := lw_g (lw_at lw_m8 126 rfl) rfl
theorem q1885 : (Jvm.Cond.methodLink "ContourLabelsLaw" (27 : Nat) ({ cls := "ContourLabels", name := "setLevel", desc := "(II)I" } : Jvm.MethodName)) ∈ lw_all := lw_g (lw_at lw_m8 127 rfl) rfl
theorem q1889 : (Jvm.Cond.methodLink "ContourLabelsLaw" (149 : Nat) ({ cls := "ContourLabelsLaw", name := "label", desc := "(LContourLabels;II[J)I" } : Jvm.MethodName)) ∈ lw_all := lw_g (lw_at lw_m8 131 rfl) rfl
theorem q1890 : (Jvm.Cond.static ({ cls := "ContourLabelsLaw", name := "label", desc := "(LContourLabels;II[J)I" } : Jvm.MethodName)) ∈ lw_all := lw_g (lw_at lw_m8 132 rfl) rfl
theorem q1891 : (Jvm.Cond.codeWith ({ cls := "ContourLabelsLaw", name := "label", desc := "(LContourLabels;II[J)I" } : Jvm.MethodName) method_7_code (5 : Nat) (Option.some Jvm.ClassFile.FieldType.int) [((0 : Nat), (10 : Nat), (13 : Nat), (13 : Nat)), ((0 : Nat), (10 : Nat), (17 : Nat), (17 : Nat))]) ∈ lw_all := lw_g (lw_at lw_m8 133 rfl) rfl
theorem q1892 : (Jvm.Cond.methodLink "ContourLabelsLaw" (30 : Nat) ({ cls := "ContourLabels", name := "label", desc := "(II)I" } : Jvm.MethodName)) ∈ lw_all := lw_g (lw_at lw_m8 134 rfl) rfl
theorem q1907 : (Jvm.Cond.methodLink "ContourLabelsLaw" (152 : Nat) ({ cls := "ContourLabelsLaw", name := "unlabel", desc := "(LContourLabels;I[J)I" } : Jvm.MethodName)) ∈ lw_all := lw_g (lw_at lw_m8 149 rfl) rfl
theorem q1908 : (Jvm.Cond.static ({ cls := "ContourLabelsLaw", name := "unlabel", desc := "(LContourLabels;I[J)I" } : Jvm.MethodName)) ∈ lw_all := lw_g (lw_at lw_m8 150 rfl) rfl
theorem q1909 : (Jvm.Cond.codeWith ({ cls := "ContourLabelsLaw", name := "unlabel", desc := "(LContourLabels;I[J)I" } : Jvm.MethodName) method_8_code (4 : Nat) (Option.some Jvm.ClassFile.FieldType.int) [((0 : Nat), (9 : Nat), (12 : Nat), (13 : Nat)), ((0 : Nat), (9 : Nat), (15 : Nat), (17 : Nat))]) ∈ lw_all := lw_g (lw_at lw_m8 151 rfl) rfl
theorem q1910 : (Jvm.Cond.methodLink "ContourLabelsLaw" (33 : Nat) ({ cls := "ContourLabels", name := "unlabel", desc := "(I)I" } : Jvm.MethodName)) ∈ lw_all := lw_g (lw_at lw_m8 152 rfl) rfl
theorem q1915 : (Jvm.Cond.methodLink "ContourLabelsLaw" (155 : Nat) ({ cls := "ContourLabelsLaw", name := "labelBest", desc := "(LContourLabels;I[J)I" } : Jvm.MethodName)) ∈ lw_all := lw_g (lw_at lw_m8 157 rfl) rfl
theorem q1916 : (Jvm.Cond.static ({ cls := "ContourLabelsLaw", name := "labelBest", desc := "(LContourLabels;I[J)I" } : Jvm.MethodName)) ∈ lw_all := lw_g (lw_at lw_m8 158 rfl) rfl
theorem q1917 : (Jvm.Cond.codeWith ({ cls := "ContourLabelsLaw", name := "labelBest", desc := "(LContourLabels;I[J)I" } : Jvm.MethodName) method_9_code (4 : Nat) (Option.some Jvm.ClassFile.FieldType.int) [((0 : Nat), (9 : Nat), (12 : Nat), (13 : Nat)), ((0 : Nat), (9 : Nat), (15 : Nat), (17 : Nat))]) ∈ lw_all := lw_g (lw_at lw_m8 159 rfl) rfl
theorem q1918 : (Jvm.Cond.methodLink "ContourLabelsLaw" (36 : Nat) ({ cls := "ContourLabels", name := "labelBest", desc := "(I)I" } : Jvm.MethodName)) ∈ lw_all := lw_g (lw_at lw_m8 160 rfl) rfl
theorem q1924 : (Jvm.Cond.methodLink "ContourLabelsLaw" (162 : Nat) ({ cls := "ContourLabelsLaw", name := "setGap", desc := "(LContourLabels;I[J)I" } : Jvm.MethodName)) ∈ lw_all := lw_g (lw_at lw_m8 166 rfl) rfl
theorem q1925 : (Jvm.Cond.static ({ cls := "ContourLabelsLaw", name := "setGap", desc := "(LContourLabels;I[J)I" } : Jvm.MethodName)) ∈ lw_all := lw_g (lw_at lw_m8 167 rfl) rfl
theorem q1926 : (Jvm.Cond.codeWith ({ cls := "ContourLabelsLaw", name := "setGap", desc := "(LContourLabels;I[J)I" } : Jvm.MethodName) method_10_code (4 : Nat) (Option.some Jvm.ClassFile.FieldType.int) [((0 : Nat), (9 : Nat), (12 : Nat), (15 : Nat))]) ∈ lw_all := lw_g (lw_at lw_m8 168 rfl) rfl
theorem q1927 : (Jvm.Cond.methodLink "ContourLabelsLaw" (39 : Nat) ({ cls := "ContourLabels", name := "setGap", desc := "(I)I" } : Jvm.MethodName)) ∈ lw_all := lw_g (lw_at lw_m8 169 rfl) rfl
theorem q1931 : (Jvm.Cond.methodLink "ContourLabelsLaw" (169 : Nat) ({ cls := "ContourLabelsLaw", name := "levelOf", desc := "(LContourLabels;I[J)I" } : Jvm.MethodName)) ∈ lw_all := lw_g (lw_at lw_m8 173 rfl) rfl
theorem q1932 : (Jvm.Cond.static ({ cls := "ContourLabelsLaw", name := "levelOf", desc := "(LContourLabels;I[J)I" } : Jvm.MethodName)) ∈ lw_all := lw_g (lw_at lw_m8 174 rfl) rfl
theorem q1933 : (Jvm.Cond.codeWith ({ cls := "ContourLabelsLaw", name := "levelOf", desc := "(LContourLabels;I[J)I" } : Jvm.MethodName) method_11_code (4 : Nat) (Option.some Jvm.ClassFile.FieldType.int) [((0 : Nat), (9 : Nat), (12 : Nat), (13 : Nat))]) ∈ lw_all := lw_g (lw_at lw_m8 175 rfl) rfl
theorem q1934 : (Jvm.Cond.methodLink "ContourLabelsLaw" (42 : Nat) ({ cls := "ContourLabels", name := "levelOf", desc := "(I)I" } : Jvm.MethodName)) ∈ lw_all := lw_g (lw_at lw_m8 176 rfl) rfl
theorem q1938 : (Jvm.Cond.methodLink "ContourLabelsLaw" (172 : Nat) ({ cls := "ContourLabelsLaw", name := "stepsOf", desc := "(LContourLabels;I[J)I" } : Jvm.MethodName)) ∈ lw_all := lw_g (lw_at lw_m8 180 rfl) rfl
theorem q1939 : (Jvm.Cond.static ({ cls := "ContourLabelsLaw", name := "stepsOf", desc := "(LContourLabels;I[J)I" } : Jvm.MethodName)) ∈ lw_all := lw_g (lw_at lw_m8 181 rfl) rfl
theorem q1940 : (Jvm.Cond.codeWith ({ cls := "ContourLabelsLaw", name := "stepsOf", desc := "(LContourLabels;I[J)I" } : Jvm.MethodName) method_12_code (4 : Nat) (Option.some Jvm.ClassFile.FieldType.int) [((0 : Nat), (9 : Nat), (12 : Nat), (13 : Nat))]) ∈ lw_all := lw_g (lw_at lw_m8 182 rfl) rfl
theorem q1941 : (Jvm.Cond.methodLink "ContourLabelsLaw" (45 : Nat) ({ cls := "ContourLabels", name := "stepsOf", desc := "(I)I" } : Jvm.MethodName)) ∈ lw_all := lw_g (lw_at lw_m8 183 rfl) rfl
theorem q1945 : (Jvm.Cond.methodLink "ContourLabelsLaw" (175 : Nat) ({ cls := "ContourLabelsLaw", name := "pointOf", desc := "(LContourLabels;II[J)I" } : Jvm.MethodName)) ∈ lw_all := lw_g (lw_at lw_m8 187 rfl) rfl
theorem q1946 : (Jvm.Cond.static ({ cls := "ContourLabelsLaw", name := "pointOf", desc := "(LContourLabels;II[J)I" } : Jvm.MethodName)) ∈ lw_all := lw_g (lw_at lw_m8 188 rfl) rfl
theorem q1947 : (Jvm.Cond.codeWith ({ cls := "ContourLabelsLaw", name := "pointOf", desc := "(LContourLabels;II[J)I" } : Jvm.MethodName) method_13_code (5 : Nat) (Option.some Jvm.ClassFile.FieldType.int) [((0 : Nat), (10 : Nat), (13 : Nat), (13 : Nat))]) ∈ lw_all := lw_g (lw_at lw_m8 189 rfl) rfl
theorem q1948 : (Jvm.Cond.methodLink "ContourLabelsLaw" (48 : Nat) ({ cls := "ContourLabels", name := "pointOf", desc := "(II)I" } : Jvm.MethodName)) ∈ lw_all := lw_g (lw_at lw_m8 190 rfl) rfl
theorem q1952 : (Jvm.Cond.methodLink "ContourLabelsLaw" (178 : Nat) ({ cls := "ContourLabelsLaw", name := "lineAt", desc := "(LContourLabels;I[J)I" } : Jvm.MethodName)) ∈ lw_all := lw_g (lw_at lw_m8 194 rfl) rfl
theorem q1953 : (Jvm.Cond.static ({ cls := "ContourLabelsLaw", name := "lineAt", desc := "(LContourLabels;I[J)I" } : Jvm.MethodName)) ∈ lw_all := lw_g (lw_at lw_m8 195 rfl) rfl
theorem q1954 : (Jvm.Cond.codeWith ({ cls := "ContourLabelsLaw", name := "lineAt", desc := "(LContourLabels;I[J)I" } : Jvm.MethodName) method_14_code (4 : Nat) (Option.some Jvm.ClassFile.FieldType.int) [((0 : Nat), (9 : Nat), (12 : Nat), (13 : Nat))]) ∈ lw_all := lw_g (lw_at lw_m8 196 rfl) rfl
theorem q1955 : (Jvm.Cond.methodLink "ContourLabelsLaw" (51 : Nat) ({ cls := "ContourLabels", name := "lineAt", desc := "(I)I" } : Jvm.MethodName)) ∈ lw_all := lw_g (lw_at lw_m8 197 rfl) rfl
theorem q1959 : (Jvm.Cond.methodLink "ContourLabelsLaw" (181 : Nat) ({ cls := "ContourLabelsLaw", name := "isClosed", desc := "(LContourLabels;I[J)I" } : Jvm.MethodName)) ∈ lw_all := lw_g (lw_at lw_m8 201 rfl) rfl
theorem q1960 : (Jvm.Cond.static ({ cls := "ContourLabelsLaw", name := "isClosed", desc := "(LContourLabels;I[J)I" } : Jvm.MethodName)) ∈ lw_all := lw_g (lw_at lw_m8 202 rfl) rfl
theorem q1961 : (Jvm.Cond.codeWith ({ cls := "ContourLabelsLaw", name := "isClosed", desc := "(LContourLabels;I[J)I" } : Jvm.MethodName) method_15_code (4 : Nat) (Option.some Jvm.ClassFile.FieldType.int) [((0 : Nat), (16 : Nat), (19 : Nat), (13 : Nat))]) ∈ lw_all := lw_g (lw_at lw_m8 203 rfl) rfl
theorem q1962 : (Jvm.Cond.methodLink "ContourLabelsLaw" (54 : Nat) ({ cls := "ContourLabels", name := "isClosed", desc := "(I)Z" } : Jvm.MethodName)) ∈ lw_all := lw_g (lw_at lw_m8 204 rfl) rfl
theorem q1966 : (Jvm.Cond.methodLink "ContourLabelsLaw" (184 : Nat) ({ cls := "ContourLabelsLaw", name := "whyNotStepped", desc := "(LContourLabels;II[J)I" } : Jvm.MethodName)) ∈ lw_all := lw_g (lw_at lw_m8 208 rfl) rfl
theorem q1967 : (Jvm.Cond.static ({ cls := "ContourLabelsLaw", name := "whyNotStepped", desc := "(LContourLabels;II[J)I" } : Jvm.MethodName)) ∈ lw_all := lw_g (lw_at lw_m8 209 rfl) rfl
theorem q1968 : (Jvm.Cond.codeWith ({ cls := "ContourLabelsLaw", name := "whyNotStepped", desc := "(LContourLabels;II[J)I" } : Jvm.MethodName) method_16_code (5 : Nat) (Option.some Jvm.ClassFile.FieldType.int) [((0 : Nat), (10 : Nat), (13 : Nat), (13 : Nat)), ((0 : Nat), (10 : Nat), (17 : Nat), (15 : Nat))]) ∈ lw_all := lw_g (lw_at lw_m8 210 rfl) rfl
theorem q1969 : (Jvm.Cond.methodLink "ContourLabelsLaw" (58 : Nat) ({ cls := "ContourLabels", name := "whyNotStepped", desc := "(II)I" } : Jvm.MethodName)) ∈ lw_all := lw_g (lw_at lw_m8 211 rfl) rfl
theorem q1970 : (Jvm.Cond.methodLink "ContourLabelsLaw" (187 : Nat) ({ cls := "ContourLabelsLaw", name := "bendAt", desc := "(LContourLabels;II[J)I" } : Jvm.MethodName)) ∈ lw_all := lw_g (lw_at lw_m8 212 rfl) rfl
theorem q1971 : (Jvm.Cond.static ({ cls := "ContourLabelsLaw", name := "bendAt", desc := "(LContourLabels;II[J)I" } : Jvm.MethodName)) ∈ lw_all := lw_g (lw_at lw_m8 213 rfl) rfl
theorem q1972 : (Jvm.Cond.codeWith ({ cls := "ContourLabelsLaw", name := "bendAt", desc := "(LContourLabels;II[J)I" } : Jvm.MethodName) method_17_code (5 : Nat) (Option.some Jvm.ClassFile.FieldType.int) [((0 : Nat), (10 : Nat), (13 : Nat), (13 : Nat))]) ∈ lw_all := lw_g (lw_at lw_m8 214 rfl) rfl
theorem q1973 : (Jvm.Cond.methodLink "ContourLabelsLaw" (61 : Nat) ({ cls := "ContourLabels", name := "bendAt", desc := "(II)I" } : Jvm.MethodName)) ∈ lw_all := lw_g (lw_at lw_m8 215 rfl) rfl
theorem q1978 : (Jvm.Cond.methodLink "ContourLabelsLaw" (190 : Nat) ({ cls := "ContourLabelsLaw", name := "lengthByKinds", desc := "(LContourLabels;I[D)I" } : Jvm.MethodName)) ∈ lw_all := lw_g (lw_at lw_m8 220 rfl) rfl
theorem q1979 : (Jvm.Cond.static ({ cls := "ContourLabelsLaw", name := "lengthByKinds", desc := "(LContourLabels;I[D)I" } : Jvm.MethodName)) ∈ lw_all := lw_g (lw_at lw_m8 221 rfl) rfl
theorem q1980 : (Jvm.Cond.codeWith ({ cls := "ContourLabelsLaw", name := "lengthByKinds", desc := "(LContourLabels;I[D)I" } : Jvm.MethodName) method_18_code (4 : Nat) (Option.some Jvm.ClassFile.FieldType.int) [((0 : Nat), (8 : Nat), (11 : Nat), (13 : Nat))]) ∈ lw_all := lw_g (lw_at lw_m8 222 rfl) rfl
theorem q1981 : (Jvm.Cond.methodLink "ContourLabelsLaw" (64 : Nat) ({ cls := "ContourLabels", name := "lengthByKinds", desc := "(I)D" } : Jvm.MethodName)) ∈ lw_all := lw_g (lw_at lw_m8 223 rfl) rfl
theorem q1991 : (Jvm.Cond.methodLink "ContourLabelsLaw" (194 : Nat) ({ cls := "ContourLabelsLaw", name := "lengthBySteps", desc := "(LContourLabels;I[D)I" } : Jvm.MethodName)) ∈ lw_all := lw_g (lw_at lw_m8 233 rfl) rfl
theorem q1992 : (Jvm.Cond.static ({ cls := "ContourLabelsLaw", name := "lengthBySteps", desc := "(LContourLabels;I[D)I" } : Jvm.MethodName)) ∈ lw_all := lw_g (lw_at lw_m8 234 rfl) rfl
theorem q1993 : (Jvm.Cond.codeWith ({ cls := "ContourLabelsLaw", name := "lengthBySteps", desc := "(LContourLabels;I[D)I" } : Jvm.MethodName) method_19_code (4 : Nat) (Option.some Jvm.ClassFile.FieldType.int) [((0 : Nat), (8 : Nat), (11 : Nat), (13 : Nat))]) ∈ lw_all := lw_g (lw_at lw_m8 235 rfl) rfl
theorem q1994 : (Jvm.Cond.methodLink "ContourLabelsLaw" (68 : Nat) ({ cls := "ContourLabels", name := "lengthBySteps", desc := "(I)D" } : Jvm.MethodName)) ∈ lw_all := lw_g (lw_at lw_m8 236 rfl) rfl
theorem q2003 : (Jvm.Cond.methodLink "ContourLabelsLaw" (205 : Nat) ({ cls := "ContourLabelsLaw", name := "labelOf", desc := "(LContourLabels;I[J)I" } : Jvm.MethodName)) ∈ lw_all := lw_g (lw_at lw_m9 5 rfl) rfl
theorem q2004 : (Jvm.Cond.static ({ cls := "ContourLabelsLaw", name := "labelOf", desc := "(LContourLabels;I[J)I" } : Jvm.MethodName)) ∈ lw_all := lw_g (lw_at lw_m9 6 rfl) rfl
theorem q2005 : (Jvm.Cond.codeWith ({ cls := "ContourLabelsLaw", name := "labelOf", desc := "(LContourLabels;I[J)I" } : Jvm.MethodName) method_20_code (4 : Nat) (Option.some Jvm.ClassFile.FieldType.int) [((0 : Nat), (9 : Nat), (12 : Nat), (13 : Nat))]) ∈ lw_all := lw_g (lw_at lw_m9 7 rfl) rfl
theorem q2006 : (Jvm.Cond.methodLink "ContourLabelsLaw" (71 : Nat) ({ cls := "ContourLabels", name := "labelOf", desc := "(I)I" } : Jvm.MethodName)) ∈ lw_all := lw_g (lw_at lw_m9 8 rfl) rfl
theorem q2010 : (Jvm.Cond.methodLink "ContourLabelsLaw" (208 : Nat) ({ cls := "ContourLabelsLaw", name := "isTurned", desc := "(LContourLabels;I[J)I" } : Jvm.MethodName)) ∈ lw_all := lw_g (lw_at lw_m9 12 rfl) rfl
theorem q2011 : (Jvm.Cond.static ({ cls := "ContourLabelsLaw", name := "isTurned", desc := "(LContourLabels;I[J)I" } : Jvm.MethodName)) ∈ lw_all := lw_g (lw_at lw_m9 13 rfl) rfl
theorem q2012 : (Jvm.Cond.codeWith ({ cls := "ContourLabelsLaw", name := "isTurned", desc := "(LContourLabels;I[J)I" } : Jvm.MethodName) method_21_code (4 : Nat) (Option.some Jvm.ClassFile.FieldType.int) [((0 : Nat), (16 : Nat), (19 : Nat), (13 : Nat))]) ∈ lw_all := lw_g (lw_at lw_m9 14 rfl) rfl
theorem q2013 : (Jvm.Cond.methodLink "ContourLabelsLaw" (74 : Nat) ({ cls := "ContourLabels", name := "isTurned", desc := "(I)Z" } : Jvm.MethodName)) ∈ lw_all := lw_g (lw_at lw_m9 15 rfl) rfl
theorem q2021 : (Jvm.Cond.methodLink "ContourLabelsLaw" (211 : Nat) ({ cls := "ContourLabelsLaw", name := "readFrom", desc := "(LContourLabels;I[J)I" } : Jvm.MethodName)) ∈ lw_all := lw_g (lw_at lw_m9 23 rfl) rfl
theorem q2022 : (Jvm.Cond.static ({ cls := "ContourLabelsLaw", name := "readFrom", desc := "(LContourLabels;I[J)I" } : Jvm.MethodName)) ∈ lw_all := lw_g (lw_at lw_m9 24 rfl) rfl
theorem q2023 : (Jvm.Cond.codeWith ({ cls := "ContourLabelsLaw", name := "readFrom", desc := "(LContourLabels;I[J)I" } : Jvm.MethodName) method_22_code (4 : Nat) (Option.some Jvm.ClassFile.FieldType.int) [((0 : Nat), (9 : Nat), (12 : Nat), (13 : Nat))]) ∈ lw_all := lw_g (lw_at lw_m9 25 rfl) rfl
theorem q2024 : (Jvm.Cond.methodLink "ContourLabelsLaw" (77 : Nat) ({ cls := "ContourLabels", name := "readFrom", desc := "(I)I" } : Jvm.MethodName)) ∈ lw_all := lw_g (lw_at lw_m9 26 rfl) rfl
theorem q2033 : (Jvm.Cond.methodLink "ContourLabelsLaw" (214 : Nat) ({ cls := "ContourLabelsLaw", name := "sizeOf", desc := "(LContourLabels;I[J)I" } : Jvm.MethodName)) ∈ lw_all := lw_g (lw_at lw_m9 35 rfl) rfl
theorem q2034 : (Jvm.Cond.static ({ cls := "ContourLabelsLaw", name := "sizeOf", desc := "(LContourLabels;I[J)I" } : Jvm.MethodName)) ∈ lw_all := lw_g (lw_at lw_m9 36 rfl) rfl
theorem q2035 : (Jvm.Cond.codeWith ({ cls := "ContourLabelsLaw", name := "sizeOf", desc := "(LContourLabels;I[J)I" } : Jvm.MethodName) method_23_code (4 : Nat) (Option.some Jvm.ClassFile.FieldType.int) [((0 : Nat), (9 : Nat), (12 : Nat), (13 : Nat))]) ∈ lw_all := lw_g (lw_at lw_m9 37 rfl) rfl
theorem q2036 : (Jvm.Cond.methodLink "ContourLabelsLaw" (80 : Nat) ({ cls := "ContourLabels", name := "sizeOf", desc := "(I)I" } : Jvm.MethodName)) ∈ lw_all := lw_g (lw_at lw_m9 38 rfl) rfl
theorem q2041 : (Jvm.Cond.methodLink "ContourLabelsLaw" (217 : Nat) ({ cls := "ContourLabelsLaw", name := "bendOf", desc := "(LContourLabels;II[J)I" } : Jvm.MethodName)) ∈ lw_all := lw_g (lw_at lw_m9 43 rfl) rfl
theorem q2042 : (Jvm.Cond.static ({ cls := "ContourLabelsLaw", name := "bendOf", desc := "(LContourLabels;II[J)I" } : Jvm.MethodName)) ∈ lw_all := lw_g (lw_at lw_m9 44 rfl) rfl
theorem q2043 : (Jvm.Cond.codeWith ({ cls := "ContourLabelsLaw", name := "bendOf", desc := "(LContourLabels;II[J)I" } : Jvm.MethodName) method_24_code (5 : Nat) (Option.some Jvm.ClassFile.FieldType.int) [((0 : Nat), (10 : Nat), (13 : Nat), (13 : Nat))]) ∈ lw_all := lw_g (lw_at lw_m9 45 rfl) rfl
theorem q2044 : (Jvm.Cond.methodLink "ContourLabelsLaw" (83 : Nat) ({ cls := "ContourLabels", name := "bendOf", desc := "(II)I" } : Jvm.MethodName)) ∈ lw_all := lw_g (lw_at lw_m9 46 rfl) rfl
theorem q2049 : (Jvm.Cond.methodLink "ContourLabelsLaw" (220 : Nat) ({ cls := "ContourLabelsLaw", name := "whyNotLabelled", desc := "(LContourLabels;II[J)I" } : Jvm.MethodName)) ∈ lw_all := lw_g (lw_at lw_m9 51 rfl) rfl
theorem q2050 : (Jvm.Cond.static ({ cls := "ContourLabelsLaw", name := "whyNotLabelled", desc := "(LContourLabels;II[J)I" } : Jvm.MethodName)) ∈ lw_all := lw_g (lw_at lw_m9 52 rfl) rfl
theorem q2051 : (Jvm.Cond.codeWith ({ cls := "ContourLabelsLaw", name := "whyNotLabelled", desc := "(LContourLabels;II[J)I" } : Jvm.MethodName) method_25_code (5 : Nat) (Option.some Jvm.ClassFile.FieldType.int) [((0 : Nat), (10 : Nat), (13 : Nat), (13 : Nat))]) ∈ lw_all := lw_g (lw_at lw_m9 53 rfl) rfl
theorem q2052 : (Jvm.Cond.methodLink "ContourLabelsLaw" (86 : Nat) ({ cls := "ContourLabels", name := "whyNotLabelled", desc := "(II)I" } : Jvm.MethodName)) ∈ lw_all := lw_g (lw_at lw_m9 54 rfl) rfl
theorem q2053 : (Jvm.Cond.methodLink "ContourLabelsLaw" (223 : Nat) ({ cls := "ContourLabelsLaw", name := "placesOf", desc := "(LContourLabels;I[J)I" } : Jvm.MethodName)) ∈ lw_all := lw_g (lw_at lw_m9 55 rfl) rfl
theorem q2054 : (Jvm.Cond.static ({ cls := "ContourLabelsLaw", name := "placesOf", desc := "(LContourLabels;I[J)I" } : Jvm.MethodName)) ∈ lw_all := lw_g (lw_at lw_m9 56 rfl) rfl
theorem q2055 : (Jvm.Cond.codeWith ({ cls := "ContourLabelsLaw", name := "placesOf", desc := "(LContourLabels;I[J)I" } : Jvm.MethodName) method_26_code (4 : Nat) (Option.some Jvm.ClassFile.FieldType.int) [((0 : Nat), (9 : Nat), (12 : Nat), (13 : Nat))]) ∈ lw_all := lw_g (lw_at lw_m9 57 rfl) rfl
theorem q2056 : (Jvm.Cond.methodLink "ContourLabelsLaw" (89 : Nat) ({ cls := "ContourLabels", name := "placesOf", desc := "(I)I" } : Jvm.MethodName)) ∈ lw_all := lw_g (lw_at lw_m9 58 rfl) rfl
theorem q2064 : (Jvm.Cond.methodLink "ContourLabelsLaw" (226 : Nat) ({ cls := "ContourLabelsLaw", name := "bestPlace", desc := "(LContourLabels;I[J)I" } : Jvm.MethodName)) ∈ lw_all := lw_g (lw_at lw_m9 66 rfl) rfl
theorem q2065 : (Jvm.Cond.static ({ cls := "ContourLabelsLaw", name := "bestPlace", desc := "(LContourLabels;I[J)I" } : Jvm.MethodName)) ∈ lw_all := lw_g (lw_at lw_m9 67 rfl) rfl
theorem q2066 : (Jvm.Cond.codeWith ({ cls := "ContourLabelsLaw", name := "bestPlace", desc := "(LContourLabels;I[J)I" } : Jvm.MethodName) method_27_code (4 : Nat) (Option.some Jvm.ClassFile.FieldType.int) [((0 : Nat), (9 : Nat), (12 : Nat), (13 : Nat))]) ∈ lw_all := lw_g (lw_at lw_m9 68 rfl) rfl
theorem q2067 : (Jvm.Cond.methodLink "ContourLabelsLaw" (92 : Nat) ({ cls := "ContourLabels", name := "bestPlace", desc := "(I)I" } : Jvm.MethodName)) ∈ lw_all := lw_g (lw_at lw_m9 69 rfl) rfl
theorem q2071 : (Jvm.Cond.methodLink "ContourLabelsLaw" (233 : Nat) ({ cls := "ContourLabelsLaw", name := "isWithinByRays", desc := "(LContourLabels;II[J)I" } : Jvm.MethodName)) ∈ lw_all := lw_g (lw_at lw_m9 73 rfl) rfl
theorem q2072 : (Jvm.Cond.static ({ cls := "ContourLabelsLaw", name := "isWithinByRays", desc := "(LContourLabels;II[J)I" } : Jvm.MethodName)) ∈ lw_all := lw_g (lw_at lw_m9 74 rfl) rfl
theorem q2073 : (Jvm.Cond.codeWith ({ cls := "ContourLabelsLaw", name := "isWithinByRays", desc := "(LContourLabels;II[J)I" } : Jvm.MethodName) method_28_code (5 : Nat) (Option.some Jvm.ClassFile.FieldType.int) [((0 : Nat), (17 : Nat), (20 : Nat), (13 : Nat))]) ∈ lw_all := lw_g (lw_at lw_m9 75 rfl) rfl
theorem q2074 : (Jvm.Cond.methodLink "ContourLabelsLaw" (95 : Nat) ({ cls := "ContourLabels", name := "isWithinByRays", desc := "(II)Z" } : Jvm.MethodName)) ∈ lw_all := lw_g (lw_at lw_m9 76 rfl) rfl
theorem q2086 : (Jvm.Cond.methodLink "ContourLabelsLaw" (236 : Nat) ({ cls := "ContourLabelsLaw", name := "isWithinBySpreading", desc := "(LContourLabels;II[J)I" } : Jvm.MethodName)) ∈ lw_all := lw_g (lw_at lw_m9 88 rfl) rfl
theorem q2087 : (Jvm.Cond.static ({ cls := "ContourLabelsLaw", name := "isWithinBySpreading", desc := "(LContourLabels;II[J)I" } : Jvm.MethodName)) ∈ lw_all := lw_g (lw_at lw_m9 89 rfl) rfl
theorem q2088 : (Jvm.Cond.codeWith ({ cls := "ContourLabelsLaw", name := "isWithinBySpreading", desc := "(LContourLabels;II[J)I" } : Jvm.MethodName) method_29_code (5 : Nat) (Option.some Jvm.ClassFile.FieldType.int) [((0 : Nat), (17 : Nat), (20 : Nat), (13 : Nat))]) ∈ lw_all := lw_g (lw_at lw_m9 90 rfl) rfl
theorem q2089 : (Jvm.Cond.methodLink "ContourLabelsLaw" (98 : Nat) ({ cls := "ContourLabels", name := "isWithinBySpreading", desc := "(II)Z" } : Jvm.MethodName)) ∈ lw_all := lw_g (lw_at lw_m9 91 rfl) rfl
theorem q2117 : (Jvm.Cond.methodLink "ContourLabelsLaw" (239 : Nat) ({ cls := "ContourLabelsLaw", name := "pointsWithin", desc := "(LContourLabels;I[J)I" } : Jvm.MethodName)) ∈ lw_all := lw_g (lw_at lw_m9 119 rfl) rfl
theorem q2118 : (Jvm.Cond.static ({ cls := "ContourLabelsLaw", name := "pointsWithin", desc := "(LContourLabels;I[J)I" } : Jvm.MethodName)) ∈ lw_all := lw_g (lw_at lw_m9 120 rfl) rfl
theorem q2119 : (Jvm.Cond.codeWith ({ cls := "ContourLabelsLaw", name := "pointsWithin", desc := "(LContourLabels;I[J)I" } : Jvm.MethodName) method_30_code (4 : Nat) (Option.some Jvm.ClassFile.FieldType.int) [((0 : Nat), (9 : Nat), (12 : Nat), (13 : Nat))]) ∈ lw_all := lw_g (lw_at lw_m9 121 rfl) rfl
theorem q2120 : (Jvm.Cond.methodLink "ContourLabelsLaw" (101 : Nat) ({ cls := "ContourLabels", name := "pointsWithin", desc := "(I)I" } : Jvm.MethodName)) ∈ lw_all := lw_g (lw_at lw_m9 122 rfl) rfl
theorem q2129 : (Jvm.Cond.methodLink "ContourLabelsLaw" (242 : Nat) ({ cls := "ContourLabelsLaw", name := "lineRound", desc := "(LContourLabels;I[J)I" } : Jvm.MethodName)) ∈ lw_all := lw_g (lw_at lw_m9 131 rfl) rfl
theorem q2130 : (Jvm.Cond.static ({ cls := "ContourLabelsLaw", name := "lineRound", desc := "(LContourLabels;I[J)I" } : Jvm.MethodName)) ∈ lw_all := lw_g (lw_at lw_m9 132 rfl) rfl
theorem q2131 : (Jvm.Cond.codeWith ({ cls := "ContourLabelsLaw", name := "lineRound", desc := "(LContourLabels;I[J)I" } : Jvm.MethodName) method_31_code (4 : Nat) (Option.some Jvm.ClassFile.FieldType.int) [((0 : Nat), (9 : Nat), (12 : Nat), (13 : Nat))]) ∈ lw_all := lw_g (lw_at lw_m9 133 rfl) rfl
theorem q2132 : (Jvm.Cond.methodLink "ContourLabelsLaw" (104 : Nat) ({ cls := "ContourLabels", name := "lineRound", desc := "(I)I" } : Jvm.MethodName)) ∈ lw_all := lw_g (lw_at lw_m9 134 rfl) rfl
theorem q2140 : (Jvm.Cond.methodLink "ContourLabelsLaw" (245 : Nat) ({ cls := "ContourLabelsLaw", name := "isSteady", desc := "(LContourLabels;I[J)I" } : Jvm.MethodName)) ∈ lw_all := lw_g (lw_at lw_m9 142 rfl) rfl
theorem q2141 : (Jvm.Cond.static ({ cls := "ContourLabelsLaw", name := "isSteady", desc := "(LContourLabels;I[J)I" } : Jvm.MethodName)) ∈ lw_all := lw_g (lw_at lw_m9 143 rfl) rfl
theorem q2142 : (Jvm.Cond.codeWith ({ cls := "ContourLabelsLaw", name := "isSteady", desc := "(LContourLabels;I[J)I" } : Jvm.MethodName) method_32_code (4 : Nat) (Option.some Jvm.ClassFile.FieldType.int) [((0 : Nat), (16 : Nat), (19 : Nat), (13 : Nat))]) ∈ lw_all := lw_g (lw_at lw_m9 144 rfl) rfl
theorem q2143 : (Jvm.Cond.methodLink "ContourLabelsLaw" (107 : Nat) ({ cls := "ContourLabels", name := "isSteady", desc := "(I)Z" } : Jvm.MethodName)) ∈ lw_all := lw_g (lw_at lw_m9 145 rfl) rfl
theorem q2153 : (Jvm.Cond.methodLink "ContourLabelsLaw" (248 : Nat) ({ cls := "ContourLabelsLaw", name := "lineByLevel", desc := "(LContourLabels;I[J)I" } : Jvm.MethodName)) ∈ lw_all := lw_g (lw_at lw_m9 155 rfl) rfl
theorem q2154 : (Jvm.Cond.static ({ cls := "ContourLabelsLaw", name := "lineByLevel", desc := "(LContourLabels;I[J)I" } : Jvm.MethodName)) ∈ lw_all := lw_g (lw_at lw_m9 156 rfl) rfl
theorem q2155 : (Jvm.Cond.codeWith ({ cls := "ContourLabelsLaw", name := "lineByLevel", desc := "(LContourLabels;I[J)I" } : Jvm.MethodName) method_33_code (4 : Nat) (Option.some Jvm.ClassFile.FieldType.int) [((0 : Nat), (9 : Nat), (12 : Nat), (13 : Nat))]) ∈ lw_all := lw_g (lw_at lw_m9 157 rfl) rfl
theorem q2156 : (Jvm.Cond.methodLink "ContourLabelsLaw" (110 : Nat) ({ cls := "ContourLabels", name := "lineByLevel", desc := "(I)I" } : Jvm.MethodName)) ∈ lw_all := lw_g (lw_at lw_m9 158 rfl) rfl
theorem q2164 : (Jvm.Cond.methodLink "ContourLabelsLaw" (251 : Nat) ({ cls := "ContourLabelsLaw", name := "append", desc := "(LContourLabels;I[J)I" } : Jvm.MethodName)) ∈ lw_all := lw_g (lw_at lw_m9 166 rfl) rfl
theorem q2165 : (Jvm.Cond.static ({ cls := "ContourLabelsLaw", name := "append", desc := "(LContourLabels;I[J)I" } : Jvm.MethodName)) ∈ lw_all := lw_g (lw_at lw_m9 167 rfl) rfl
theorem q2166 : (Jvm.Cond.codeWith ({ cls := "ContourLabelsLaw", name := "append", desc := "(LContourLabels;I[J)I" } : Jvm.MethodName) method_34_code (4 : Nat) (Option.some Jvm.ClassFile.FieldType.int) [((0 : Nat), (9 : Nat), (12 : Nat), (15 : Nat)), ((0 : Nat), (9 : Nat), (15 : Nat), (17 : Nat))]) ∈ lw_all := lw_g (lw_at lw_m9 168 rfl) rfl
theorem q2167 : (Jvm.Cond.methodLink "ContourLabelsLaw" (113 : Nat) ({ cls := "ContourLabels", name := "append", desc := "(I)I" } : Jvm.MethodName)) ∈ lw_all := lw_g (lw_at lw_m9 169 rfl) rfl
theorem q2188 : (Jvm.Cond.methodLink "ContourLabelsLaw" (262 : Nat) ({ cls := "ContourLabelsLaw", name := "runText", desc := "(LContourLabels;[J)I" } : Jvm.MethodName)) ∈ lw_all := lw_g (lw_at lw_m9 190 rfl) rfl
theorem q2189 : (Jvm.Cond.static ({ cls := "ContourLabelsLaw", name := "runText", desc := "(LContourLabels;[J)I" } : Jvm.MethodName)) ∈ lw_all := lw_g (lw_at lw_m9 191 rfl) rfl
theorem q2190 : (Jvm.Cond.codeWith ({ cls := "ContourLabelsLaw", name := "runText", desc := "(LContourLabels;[J)I" } : Jvm.MethodName) method_35_code (3 : Nat) (Option.some Jvm.ClassFile.FieldType.int) [((0 : Nat), (8 : Nat), (11 : Nat), (15 : Nat))]) ∈ lw_all := lw_g (lw_at lw_m9 192 rfl) rfl
theorem q2191 : (Jvm.Cond.methodLink "ContourLabelsLaw" (116 : Nat) ({ cls := "ContourLabels", name := "runText", desc := "()I" } : Jvm.MethodName)) ∈ lw_all := lw_g (lw_at lw_m9 193 rfl) rfl
theorem q2203 : (Jvm.Cond.methodLink "ContourLabelsLaw" (266 : Nat) ({ cls := "ContourLabelsLaw", name := "undo", desc := "(LContourLabels;[J)I" } : Jvm.MethodName)) ∈ lw_all := lw_g (lw_at lw_m9 205 rfl) rfl
theorem q2204 : (Jvm.Cond.static ({ cls := "ContourLabelsLaw", name := "undo", desc := "(LContourLabels;[J)I" } : Jvm.MethodName)) ∈ lw_all := lw_g (lw_at lw_m9 206 rfl) rfl
theorem q2205 : (Jvm.Cond.codeWith ({ cls := "ContourLabelsLaw", name := "undo", desc := "(LContourLabels;[J)I" } : Jvm.MethodName) method_36_code (3 : Nat) (Option.some Jvm.ClassFile.FieldType.int) [((0 : Nat), (8 : Nat), (11 : Nat), (17 : Nat))]) ∈ lw_all := lw_g (lw_at lw_m9 207 rfl) rfl
theorem q2206 : (Jvm.Cond.methodLink "ContourLabelsLaw" (120 : Nat) ({ cls := "ContourLabels", name := "undo", desc := "()I" } : Jvm.MethodName)) ∈ lw_all := lw_g (lw_at lw_m9 208 rfl) rfl
theorem q2225 : (Jvm.Cond.methodLink "ContourLabelsLaw" (277 : Nat) ({ cls := "ContourLabelsLaw", name := "restoreSnapshot", desc := "(LContourLabels;[J)I" } : Jvm.MethodName)) ∈ lw_all := lw_g (lw_at lw_m9 227 rfl) rfl
theorem q2226 : (Jvm.Cond.static ({ cls := "ContourLabelsLaw", name := "restoreSnapshot", desc := "(LContourLabels;[J)I" } : Jvm.MethodName)) ∈ lw_all := lw_g (lw_at lw_m9 228 rfl) rfl
theorem q2227 : (Jvm.Cond.codeWith ({ cls := "ContourLabelsLaw", name := "restoreSnapshot", desc := "(LContourLabels;[J)I" } : Jvm.MethodName) method_37_code (3 : Nat) (Option.some Jvm.ClassFile.FieldType.int) [((0 : Nat), (8 : Nat), (11 : Nat), (17 : Nat))]) ∈ lw_all := lw_g (lw_at lw_m9 229 rfl) rfl
theorem q2228 : (Jvm.Cond.methodLink "ContourLabelsLaw" (123 : Nat) ({ cls := "ContourLabels", name := "restoreSnapshot", desc := "()I" } : Jvm.MethodName)) ∈ lw_all := lw_g (lw_at lw_m9 230 rfl) rfl
theorem q2232 : (Jvm.Cond.classLink "ContourLabelsLaw" (127 : Nat) "ContourLabelsModel") ∈ lw_all := lw_g (lw_at lw_m9 234 rfl) rfl
theorem q2234 : (Jvm.Cond.methodLink "ContourLabelsLaw" (129 : Nat) ({ cls := "ContourLabelsModel", name := "<init>", desc := "()V" } : Jvm.MethodName)) ∈ lw_all := lw_g (lw_at lw_m9 236 rfl) rfl
theorem q2278 : (Jvm.Cond.methodLink "ContourLabelsLaw" (136 : Nat) ({ cls := "ContourLabelsModel", name := "thrown", desc := "()I" } : Jvm.MethodName)) ∈ lw_all := lw_g (lw_at lw_m10 40 rfl) rfl
theorem q2282 : (Jvm.Cond.methodLink "ContourLabelsLaw" (135 : Nat) ({ cls := "ContourLabelsModel", name := "begin", desc := "(II)I" } : Jvm.MethodName)) ∈ lw_all := lw_g (lw_at lw_m10 44 rfl) rfl
theorem q2411 : (Jvm.Cond.methodLink "ContourLabelsLaw" (141 : Nat) ({ cls := "ContourLabelsModel", name := "step", desc := "(II)Z" } : Jvm.MethodName)) ∈ lw_all := lw_g (lw_at lw_m10 173 rfl) rfl
theorem q2415 : (Jvm.Cond.methodLink "ContourLabelsLaw" (145 : Nat) ({ cls := "ContourLabelsModel", name := "wipe", desc := "(I)I" } : Jvm.MethodName)) ∈ lw_all := lw_g (lw_at lw_m10 177 rfl) rfl
theorem q2419 : (Jvm.Cond.methodLink "ContourLabelsLaw" (148 : Nat) ({ cls := "ContourLabelsModel", name := "setLevel", desc := "(II)I" } : Jvm.MethodName)) ∈ lw_all := lw_g (lw_at lw_m10 181 rfl) rfl
theorem q2423 : (Jvm.Cond.methodLink "ContourLabelsLaw" (151 : Nat) ({ cls := "ContourLabelsModel", name := "label", desc := "(II)I" } : Jvm.MethodName)) ∈ lw_all := lw_g (lw_at lw_m10 185 rfl) rfl
theorem q2427 : (Jvm.Cond.methodLink "ContourLabelsLaw" (154 : Nat) ({ cls := "ContourLabelsModel", name := "unlabel", desc := "(I)I" } : Jvm.MethodName)) ∈ lw_all := lw_g (lw_at lw_m10 189 rfl) rfl
theorem q2431 : (Jvm.Cond.methodLink "ContourLabelsLaw" (157 : Nat) ({ cls := "ContourLabelsModel", name := "labelBest", desc := "(I)I" } : Jvm.MethodName)) ∈ lw_all := lw_g (lw_at lw_m10 193 rfl) rfl
theorem q2435 : (Jvm.Cond.methodLink "ContourLabelsLaw" (161 : Nat) ({ cls := "ContourLabelsModel", name := "labelAll", desc := "()I" } : Jvm.MethodName)) ∈ lw_all := lw_g (lw_at lw_m10 197 rfl) rfl
theorem q2439 : (Jvm.Cond.methodLink "ContourLabelsLaw" (164 : Nat) ({ cls := "ContourLabelsModel", name := "setGap", desc := "(I)I" } : Jvm.MethodName)) ∈ lw_all := lw_g (lw_at lw_m10 201 rfl) rfl
theorem q2443 : (Jvm.Cond.methodLink "ContourLabelsLaw" (168 : Nat) ({ cls := "ContourLabelsModel", name := "lines", desc := "()I" } : Jvm.MethodName)) ∈ lw_all := lw_g (lw_at lw_m10 205 rfl) rfl
theorem q2447 : (Jvm.Cond.methodLink "ContourLabelsLaw" (171 : Nat) ({ cls := "ContourLabelsModel", name := "levelOf", desc := "(I)I" } : Jvm.MethodName)) ∈ lw_all := lw_g (lw_at lw_m10 209 rfl) rfl
theorem q2459 : (Jvm.Cond.methodLink "ContourLabelsLaw" (174 : Nat) ({ cls := "ContourLabelsModel", name := "stepsOf", desc := "(I)I" } : Jvm.MethodName)) ∈ lw_all := lw_g (lw_at lw_m10 221 rfl) rfl
theorem q2463 : (Jvm.Cond.methodLink "ContourLabelsLaw" (177 : Nat) ({ cls := "ContourLabelsModel", name := "pointOf", desc := "(II)I" } : Jvm.MethodName)) ∈ lw_all := lw_g (lw_at lw_m10 225 rfl) rfl
theorem q2471 : (Jvm.Cond.methodLink "ContourLabelsLaw" (180 : Nat) ({ cls := "ContourLabelsModel", name := "lineAt", desc := "(I)I" } : Jvm.MethodName)) ∈ lw_all := lw_g (lw_at lw_m10 233 rfl) rfl
theorem q2475 : (Jvm.Cond.methodLink "ContourLabelsLaw" (183 : Nat) ({ cls := "ContourLabelsModel", name := "isClosed", desc := "(I)Z" } : Jvm.MethodName)) ∈ lw_all := lw_g (lw_at lw_m10 237 rfl) rfl
theorem q2483 : (Jvm.Cond.methodLink "ContourLabelsLaw" (186 : Nat) ({ cls := "ContourLabelsModel", name := "whyNotStepped", desc := "(II)I" } : Jvm.MethodName)) ∈ lw_all := lw_g (lw_at lw_m11 5 rfl) rfl
theorem q2487 : (Jvm.Cond.methodLink "ContourLabelsLaw" (189 : Nat) ({ cls := "ContourLabelsModel", name := "bendAt", desc := "(II)I" } : Jvm.MethodName)) ∈ lw_all := lw_g (lw_at lw_m11 9 rfl) rfl
theorem q2491 : (Jvm.Cond.methodLink "ContourLabelsLaw" (193 : Nat) ({ cls := "ContourLabelsModel", name := "lengthByKinds", desc := "(I)D" } : Jvm.MethodName)) ∈ lw_all := lw_g (lw_at lw_m11 13 rfl) rfl
theorem q2500 : (Jvm.Cond.methodLink "ContourLabelsLaw" (196 : Nat) ({ cls := "ContourLabelsModel", name := "lengthBySteps", desc := "(I)D" } : Jvm.MethodName)) ∈ lw_all := lw_g (lw_at lw_m11 22 rfl) rfl
theorem q2504 : (Jvm.Cond.methodLink "ContourLabelsLaw" (200 : Nat) ({ cls := "ContourLabelsModel", name := "gap", desc := "()I" } : Jvm.MethodName)) ∈ lw_all := lw_g (lw_at lw_m11 26 rfl) rfl
theorem q2508 : (Jvm.Cond.methodLink "ContourLabelsLaw" (204 : Nat) ({ cls := "ContourLabelsModel", name := "labels", desc := "()I" } : Jvm.MethodName)) ∈ lw_all := lw_g (lw_at lw_m11 30 rfl) rfl
theorem q2512 : (Jvm.Cond.methodLink "ContourLabelsLaw" (207 : Nat) ({ cls := "ContourLabelsModel", name := "labelOf", desc := "(I)I" } : Jvm.MethodName)) ∈ lw_all := lw_g (lw_at lw_m11 34 rfl) rfl
theorem q2516 : (Jvm.Cond.methodLink "ContourLabelsLaw" (210 : Nat) ({ cls := "ContourLabelsModel", name := "isTurned", desc := "(I)Z" } : Jvm.MethodName)) ∈ lw_all := lw_g (lw_at lw_m11 38 rfl) rfl
theorem q2528 : (Jvm.Cond.methodLink "ContourLabelsLaw" (213 : Nat) ({ cls := "ContourLabelsModel", name := "readFrom", desc := "(I)I" } : Jvm.MethodName)) ∈ lw_all := lw_g (lw_at lw_m11 50 rfl) rfl
theorem q2532 : (Jvm.Cond.methodLink "ContourLabelsLaw" (216 : Nat) ({ cls := "ContourLabelsModel", name := "sizeOf", desc := "(I)I" } : Jvm.MethodName)) ∈ lw_all := lw_g (lw_at lw_m11 54 rfl) rfl
theorem q2536 : (Jvm.Cond.methodLink "ContourLabelsLaw" (219 : Nat) ({ cls := "ContourLabelsModel", name := "bendOf", desc := "(II)I" } : Jvm.MethodName)) ∈ lw_all := lw_g (lw_at lw_m11 58 rfl) rfl
theorem q2540 : (Jvm.Cond.methodLink "ContourLabelsLaw" (222 : Nat) ({ cls := "ContourLabelsModel", name := "whyNotLabelled", desc := "(II)I" } : Jvm.MethodName)) ∈ lw_all := lw_g (lw_at lw_m11 62 rfl) rfl
theorem q2544 : (Jvm.Cond.methodLink "ContourLabelsLaw" (225 : Nat) ({ cls := "ContourLabelsModel", name := "placesOf", desc := "(I)I" } : Jvm.MethodName)) ∈ lw_all := lw_g (lw_at lw_m11 66 rfl) rfl
theorem q2548 : (Jvm.Cond.methodLink "ContourLabelsLaw" (228 : Nat) ({ cls := "ContourLabelsModel", name := "bestPlace", desc := "(I)I" } : Jvm.MethodName)) ∈ lw_all := lw_g (lw_at lw_m11 70 rfl) rfl
theorem q2552 : (Jvm.Cond.methodLink "ContourLabelsLaw" (232 : Nat) ({ cls := "ContourLabelsModel", name := "tooNear", desc := "()I" } : Jvm.MethodName)) ∈ lw_all := lw_g (lw_at lw_m11 74 rfl) rfl
theorem q2556 : (Jvm.Cond.methodLink "ContourLabelsLaw" (235 : Nat) ({ cls := "ContourLabelsModel", name := "isWithinByRays", desc := "(II)Z" } : Jvm.MethodName)) ∈ lw_all := lw_g (lw_at lw_m11 78 rfl) rfl
theorem q2564 : (Jvm.Cond.methodLink "ContourLabelsLaw" (238 : Nat) ({ cls := "ContourLabelsModel", name := "isWithinBySpreading", desc := "(II)Z" } : Jvm.MethodName)) ∈ lw_all := lw_g (lw_at lw_m11 86 rfl) rfl
theorem q2569 : (Jvm.Cond.methodLink "ContourLabelsLaw" (241 : Nat) ({ cls := "ContourLabelsModel", name := "pointsWithin", desc := "(I)I" } : Jvm.MethodName)) ∈ lw_all := lw_g (lw_at lw_m11 91 rfl) rfl
theorem q2573 : (Jvm.Cond.methodLink "ContourLabelsLaw" (244 : Nat) ({ cls := "ContourLabelsModel", name := "lineRound", desc := "(I)I" } : Jvm.MethodName)) ∈ lw_all := lw_g (lw_at lw_m11 95 rfl) rfl
theorem q2581 : (Jvm.Cond.methodLink "ContourLabelsLaw" (247 : Nat) ({ cls := "ContourLabelsModel", name := "isSteady", desc := "(I)Z" } : Jvm.MethodName)) ∈ lw_all := lw_g (lw_at lw_m11 103 rfl) rfl
theorem q2585 : (Jvm.Cond.methodLink "ContourLabelsLaw" (250 : Nat) ({ cls := "ContourLabelsModel", name := "lineByLevel", desc := "(I)I" } : Jvm.MethodName)) ∈ lw_all := lw_g (lw_at lw_m11 107 rfl) rfl
theorem q2589 : (Jvm.Cond.methodLink "ContourLabelsLaw" (253 : Nat) ({ cls := "ContourLabelsModel", name := "append", desc := "(I)I" } : Jvm.MethodName)) ∈ lw_all := lw_g (lw_at lw_m11 111 rfl) rfl
theorem q2593 : (Jvm.Cond.methodLink "ContourLabelsLaw" (257 : Nat) ({ cls := "ContourLabelsModel", name := "clearText", desc := "()I" } : Jvm.MethodName)) ∈ lw_all := lw_g (lw_at lw_m11 115 rfl) rfl
theorem q2597 : (Jvm.Cond.methodLink "ContourLabelsLaw" (261 : Nat) ({ cls := "ContourLabelsModel", name := "errorPosition", desc := "()I" } : Jvm.MethodName)) ∈ lw_all := lw_g (lw_at lw_m11 119 rfl) rfl
theorem q2621 : (Jvm.Cond.methodLink "ContourLabelsLaw" (265 : Nat) ({ cls := "ContourLabelsModel", name := "runText", desc := "()I" } : Jvm.MethodName)) ∈ lw_all := lw_g (lw_at lw_m11 143 rfl) rfl
theorem q2629 : (Jvm.Cond.methodLink "ContourLabelsLaw" (268 : Nat) ({ cls := "ContourLabelsModel", name := "undo", desc := "()I" } : Jvm.MethodName)) ∈ lw_all := lw_g (lw_at lw_m11 151 rfl) rfl
theorem q2633 : (Jvm.Cond.methodLink "ContourLabelsLaw" (272 : Nat) ({ cls := "ContourLabelsModel", name := "savedStates", desc := "()I" } : Jvm.MethodName)) ∈ lw_all := lw_g (lw_at lw_m11 155 rfl) rfl
theorem q2637 : (Jvm.Cond.methodLink "ContourLabelsLaw" (276 : Nat) ({ cls := "ContourLabelsModel", name := "takeSnapshot", desc := "()I" } : Jvm.MethodName)) ∈ lw_all := lw_g (lw_at lw_m11 159 rfl) rfl
theorem q2641 : (Jvm.Cond.methodLink "ContourLabelsLaw" (279 : Nat) ({ cls := "ContourLabelsModel", name := "restoreSnapshot", desc := "()I" } : Jvm.MethodName)) ∈ lw_all := lw_g (lw_at lw_m11 163 rfl) rfl

/-! the law's own entry -/
set_option maxRecDepth 100000
abbrev cL_law : ByteArray := code
def dkwL_law_99 : List UInt8 := [148, 153, 0, 5, 3, 172, 167, 0, 3, 132, 5, 3, 167, 246, 92, 4, 172]
abbrev dktL_law_99 : List UInt8 := dkwL_law_99 ++ []
def dkwL_law_98 : List UInt8 := [54, 7, 44, 182, 0, 136, 21, 6, 159, 0, 5, 3, 172, 21, 6, 154, 0, 15, 45, 3, 47, 21, 7, 133]
abbrev dktL_law_98 : List UInt8 := dkwL_law_98 ++ dktL_law_99
def dkwL_law_97 : List UInt8 := [182, 1, 17, 44, 182, 1, 20, 159, 0, 49, 3, 172, 43, 45, 184, 1, 21, 54, 6, 44, 182, 1, 23]
abbrev dktL_law_97 : List UInt8 := dkwL_law_97 ++ dktL_law_98
def dkwL_law_96 : List UInt8 := [148, 153, 0, 5, 3, 172, 167, 0, 73, 43, 182, 1, 13, 44, 182, 1, 16, 159, 0, 62, 3, 172, 43]
abbrev dktL_law_96 : List UInt8 := dkwL_law_96 ++ dktL_law_97
def dkwL_law_95 : List UInt8 := [54, 7, 44, 182, 0, 136, 21, 6, 159, 0, 5, 3, 172, 21, 6, 154, 0, 15, 45, 3, 47, 21, 7, 133]
abbrev dktL_law_95 : List UInt8 := dkwL_law_95 ++ dktL_law_96
def dkwL_law_94 : List UInt8 := [21, 7, 133, 148, 153, 0, 5, 3, 172, 167, 0, 117, 43, 45, 184, 1, 10, 54, 6, 44, 182, 1, 12]
abbrev dktL_law_94 : List UInt8 := dkwL_law_94 ++ dktL_law_95
def dkwL_law_93 : List UInt8 := [182, 1, 9, 54, 7, 44, 182, 0, 136, 21, 6, 159, 0, 5, 3, 172, 21, 6, 154, 0, 15, 45, 3, 47]
abbrev dktL_law_93 : List UInt8 := dkwL_law_93 ++ dktL_law_94
def dkwL_law_92 : List UInt8 := [172, 43, 182, 1, 2, 44, 182, 1, 5, 159, 0, 163, 3, 172, 43, 45, 184, 1, 6, 54, 6, 44]
abbrev dktL_law_92 : List UInt8 := dkwL_law_92 ++ dktL_law_93
def dkwL_law_91 : List UInt8 := [21, 7, 133, 148, 153, 0, 5, 3, 172, 167, 0, 187, 43, 182, 0, 254, 44, 182, 1, 1, 159, 0, 176, 3]
abbrev dktL_law_91 : List UInt8 := dkwL_law_91 ++ dktL_law_92
def dkwL_law_90 : List UInt8 := [182, 0, 253, 54, 7, 44, 182, 0, 136, 21, 6, 159, 0, 5, 3, 172, 21, 6, 154, 0, 15, 45, 3, 47]
abbrev dktL_law_90 : List UInt8 := dkwL_law_90 ++ dktL_law_91
def dkwL_law_89 : List UInt8 := [167, 0, 243, 43, 42, 21, 5, 4, 96, 46, 45, 184, 0, 251, 54, 6, 44, 42, 21, 5, 4, 96, 46]
abbrev dktL_law_89 : List UInt8 := dkwL_law_89 ++ dktL_law_90
def dkwL_law_88 : List UInt8 := [21, 6, 159, 0, 5, 3, 172, 21, 6, 154, 0, 15, 45, 3, 47, 21, 7, 133, 148, 153, 0, 5, 3, 172]
abbrev dktL_law_88 : List UInt8 := dkwL_law_88 ++ dktL_law_89
def dkwL_law_87 : List UInt8 := [96, 46, 45, 184, 0, 248, 54, 6, 44, 42, 21, 5, 4, 96, 46, 182, 0, 250, 54, 7, 44, 182, 0, 136]
abbrev dktL_law_87 : List UInt8 := dkwL_law_87 ++ dktL_law_88
def dkwL_law_86 : List UInt8 := [21, 7, 153, 0, 7, 10, 167, 0, 4, 9, 148, 153, 0, 5, 3, 172, 167, 1, 43, 43, 42, 21, 5, 4]
abbrev dktL_law_86 : List UInt8 := dkwL_law_86 ++ dktL_law_87
def dkwL_law_85 : List UInt8 := [182, 0, 247, 54, 7, 44, 182, 0, 136, 21, 6, 159, 0, 5, 3, 172, 21, 6, 154, 0, 22, 45, 3, 47]
abbrev dktL_law_85 : List UInt8 := dkwL_law_85 ++ dktL_law_86
def dkwL_law_84 : List UInt8 := [167, 1, 106, 43, 42, 21, 5, 4, 96, 46, 45, 184, 0, 245, 54, 6, 44, 42, 21, 5, 4, 96, 46]
abbrev dktL_law_84 : List UInt8 := dkwL_law_84 ++ dktL_law_85
def dkwL_law_83 : List UInt8 := [21, 6, 159, 0, 5, 3, 172, 21, 6, 154, 0, 15, 45, 3, 47, 21, 7, 133, 148, 153, 0, 5, 3, 172]
abbrev dktL_law_83 : List UInt8 := dkwL_law_83 ++ dktL_law_84
def dkwL_law_82 : List UInt8 := [46, 45, 184, 0, 242, 54, 6, 44, 42, 21, 5, 4, 96, 46, 182, 0, 244, 54, 7, 44, 182, 0, 136]
abbrev dktL_law_82 : List UInt8 := dkwL_law_82 ++ dktL_law_83
def dkwL_law_81 : List UInt8 := [154, 0, 15, 45, 3, 47, 21, 7, 133, 148, 153, 0, 5, 3, 172, 167, 1, 162, 43, 42, 21, 5, 4, 96]
abbrev dktL_law_81 : List UInt8 := dkwL_law_81 ++ dktL_law_82
def dkwL_law_80 : List UInt8 := [21, 5, 4, 96, 46, 182, 0, 241, 54, 7, 44, 182, 0, 136, 21, 6, 159, 0, 5, 3, 172, 21, 6]
abbrev dktL_law_80 : List UInt8 := dkwL_law_80 ++ dktL_law_81
def dkwL_law_79 : List UInt8 := [153, 0, 5, 3, 172, 167, 1, 218, 43, 42, 21, 5, 4, 96, 46, 45, 184, 0, 239, 54, 6, 44, 42]
abbrev dktL_law_79 : List UInt8 := dkwL_law_79 ++ dktL_law_80
def dkwL_law_78 : List UInt8 := [159, 0, 5, 3, 172, 21, 6, 154, 0, 22, 45, 3, 47, 21, 7, 153, 0, 7, 10, 167, 0, 4, 9, 148]
abbrev dktL_law_78 : List UInt8 := dkwL_law_78 ++ dktL_law_79
def dkwL_law_77 : List UInt8 := [42, 21, 5, 4, 96, 46, 42, 21, 5, 5, 96, 46, 182, 0, 238, 54, 7, 44, 182, 0, 136, 21, 6]
abbrev dktL_law_77 : List UInt8 := dkwL_law_77 ++ dktL_law_78
def dkwL_law_76 : List UInt8 := [172, 167, 2, 37, 43, 42, 21, 5, 4, 96, 46, 42, 21, 5, 5, 96, 46, 45, 184, 0, 236, 54, 6, 44]
abbrev dktL_law_76 : List UInt8 := dkwL_law_76 ++ dktL_law_77
def dkwL_law_75 : List UInt8 := [172, 21, 6, 154, 0, 22, 45, 3, 47, 21, 7, 153, 0, 7, 10, 167, 0, 4, 9, 148, 153, 0, 5, 3]
abbrev dktL_law_75 : List UInt8 := dkwL_law_75 ++ dktL_law_76
def dkwL_law_74 : List UInt8 := [4, 96, 46, 42, 21, 5, 5, 96, 46, 182, 0, 235, 54, 7, 44, 182, 0, 136, 21, 6, 159, 0, 5, 3]
abbrev dktL_law_74 : List UInt8 := dkwL_law_74 ++ dktL_law_75
def dkwL_law_73 : List UInt8 := [172, 43, 42, 21, 5, 4, 96, 46, 42, 21, 5, 5, 96, 46, 45, 184, 0, 233, 54, 6, 44, 42, 21, 5]
abbrev dktL_law_73 : List UInt8 := dkwL_law_73 ++ dktL_law_74
def dkwL_law_72 : List UInt8 := [21, 7, 133, 148, 153, 0, 5, 3, 172, 167, 2, 125, 43, 182, 0, 229, 44, 182, 0, 232, 159, 2, 114, 3]
abbrev dktL_law_72 : List UInt8 := dkwL_law_72 ++ dktL_law_73
def dkwL_law_71 : List UInt8 := [182, 0, 228, 54, 7, 44, 182, 0, 136, 21, 6, 159, 0, 5, 3, 172, 21, 6, 154, 0, 15, 45, 3, 47]
abbrev dktL_law_71 : List UInt8 := dkwL_law_71 ++ dktL_law_72
def dkwL_law_70 : List UInt8 := [167, 2, 181, 43, 42, 21, 5, 4, 96, 46, 45, 184, 0, 226, 54, 6, 44, 42, 21, 5, 4, 96, 46]
abbrev dktL_law_70 : List UInt8 := dkwL_law_70 ++ dktL_law_71
def dkwL_law_69 : List UInt8 := [159, 0, 5, 3, 172, 21, 6, 154, 0, 15, 45, 3, 47, 21, 7, 133, 148, 153, 0, 5, 3, 172]
abbrev dktL_law_69 : List UInt8 := dkwL_law_69 ++ dktL_law_70
def dkwL_law_68 : List UInt8 := [184, 0, 223, 54, 6, 44, 42, 21, 5, 4, 96, 46, 182, 0, 225, 54, 7, 44, 182, 0, 136, 21, 6]
abbrev dktL_law_68 : List UInt8 := dkwL_law_68 ++ dktL_law_69
def dkwL_law_67 : List UInt8 := [3, 47, 21, 7, 133, 148, 153, 0, 5, 3, 172, 167, 2, 237, 43, 42, 21, 5, 4, 96, 46, 45]
abbrev dktL_law_67 : List UInt8 := dkwL_law_67 ++ dktL_law_68
def dkwL_law_66 : List UInt8 := [96, 46, 182, 0, 222, 54, 7, 44, 182, 0, 136, 21, 6, 159, 0, 5, 3, 172, 21, 6, 154, 0, 15, 45]
abbrev dktL_law_66 : List UInt8 := dkwL_law_66 ++ dktL_law_67
def dkwL_law_65 : List UInt8 := [46, 42, 21, 5, 5, 96, 46, 45, 184, 0, 220, 54, 6, 44, 42, 21, 5, 4, 96, 46, 42, 21, 5, 5]
abbrev dktL_law_65 : List UInt8 := dkwL_law_65 ++ dktL_law_66
def dkwL_law_64 : List UInt8 := [154, 0, 15, 45, 3, 47, 21, 7, 133, 148, 153, 0, 5, 3, 172, 167, 3, 49, 43, 42, 21, 5, 4, 96]
abbrev dktL_law_64 : List UInt8 := dkwL_law_64 ++ dktL_law_65
def dkwL_law_63 : List UInt8 := [42, 21, 5, 5, 96, 46, 182, 0, 219, 54, 7, 44, 182, 0, 136, 21, 6, 159, 0, 5, 3, 172, 21, 6]
abbrev dktL_law_63 : List UInt8 := dkwL_law_63 ++ dktL_law_64
def dkwL_law_62 : List UInt8 := [21, 5, 4, 96, 46, 42, 21, 5, 5, 96, 46, 45, 184, 0, 217, 54, 6, 44, 42, 21, 5, 4, 96, 46]
abbrev dktL_law_62 : List UInt8 := dkwL_law_62 ++ dktL_law_63
def dkwL_law_61 : List UInt8 := [172, 21, 6, 154, 0, 15, 45, 3, 47, 21, 7, 133, 148, 153, 0, 5, 3, 172, 167, 3, 117, 43, 42]
abbrev dktL_law_61 : List UInt8 := dkwL_law_61 ++ dktL_law_62
def dkwL_law_60 : List UInt8 := [54, 6, 44, 42, 21, 5, 4, 96, 46, 182, 0, 216, 54, 7, 44, 182, 0, 136, 21, 6, 159, 0, 5, 3]
abbrev dktL_law_60 : List UInt8 := dkwL_law_60 ++ dktL_law_61
def dkwL_law_59 : List UInt8 := [21, 7, 133, 148, 153, 0, 5, 3, 172, 167, 3, 173, 43, 42, 21, 5, 4, 96, 46, 45, 184, 0, 214]
abbrev dktL_law_59 : List UInt8 := dkwL_law_59 ++ dktL_law_60
def dkwL_law_58 : List UInt8 := [182, 0, 213, 54, 7, 44, 182, 0, 136, 21, 6, 159, 0, 5, 3, 172, 21, 6, 154, 0, 15, 45, 3, 47]
abbrev dktL_law_58 : List UInt8 := dkwL_law_58 ++ dktL_law_59
def dkwL_law_57 : List UInt8 := [167, 3, 229, 43, 42, 21, 5, 4, 96, 46, 45, 184, 0, 211, 54, 6, 44, 42, 21, 5, 4, 96, 46]
abbrev dktL_law_57 : List UInt8 := dkwL_law_57 ++ dktL_law_58
def dkwL_law_56 : List UInt8 := [154, 0, 22, 45, 3, 47, 21, 7, 153, 0, 7, 10, 167, 0, 4, 9, 148, 153, 0, 5, 3, 172]
abbrev dktL_law_56 : List UInt8 := dkwL_law_56 ++ dktL_law_57
def dkwL_law_55 : List UInt8 := [21, 5, 4, 96, 46, 182, 0, 210, 54, 7, 44, 182, 0, 136, 21, 6, 159, 0, 5, 3, 172, 21, 6]
abbrev dktL_law_55 : List UInt8 := dkwL_law_55 ++ dktL_law_56
def dkwL_law_54 : List UInt8 := [148, 153, 0, 5, 3, 172, 167, 4, 36, 43, 42, 21, 5, 4, 96, 46, 45, 184, 0, 208, 54, 6, 44, 42]
abbrev dktL_law_54 : List UInt8 := dkwL_law_54 ++ dktL_law_55
def dkwL_law_53 : List UInt8 := [54, 7, 44, 182, 0, 136, 21, 6, 159, 0, 5, 3, 172, 21, 6, 154, 0, 15, 45, 3, 47, 21, 7, 133]
abbrev dktL_law_53 : List UInt8 := dkwL_law_53 ++ dktL_law_54
def dkwL_law_52 : List UInt8 := [172, 43, 42, 21, 5, 4, 96, 46, 45, 184, 0, 205, 54, 6, 44, 42, 21, 5, 4, 96, 46, 182, 0, 207]
abbrev dktL_law_52 : List UInt8 := dkwL_law_52 ++ dktL_law_53
def dkwL_law_51 : List UInt8 := [182, 0, 197, 44, 182, 0, 200, 159, 4, 107, 3, 172, 43, 182, 0, 201, 44, 182, 0, 204, 159, 4, 94, 3]
abbrev dktL_law_51 : List UInt8 := dkwL_law_51 ++ dktL_law_52
def dkwL_law_50 : List UInt8 := [3, 49, 25, 4, 3, 49, 151, 153, 0, 11, 24, 7, 24, 7, 151, 154, 0, 5, 3, 172, 167, 4, 118, 43]
abbrev dktL_law_50 : List UInt8 := dkwL_law_50 ++ dktL_law_51
def dkwL_law_49 : List UInt8 := [21, 6, 159, 0, 5, 3, 172, 21, 6, 154, 0, 35, 25, 4, 3, 49, 24, 7, 151, 153, 0, 25, 25, 4]
abbrev dktL_law_49 : List UInt8 := dkwL_law_49 ++ dktL_law_50
def dkwL_law_48 : List UInt8 := [25, 4, 184, 0, 194, 54, 6, 44, 42, 21, 5, 4, 96, 46, 182, 0, 196, 57, 7, 44, 182, 0, 136]
abbrev dktL_law_48 : List UInt8 := dkwL_law_48 ++ dktL_law_49
def dkwL_law_47 : List UInt8 := [153, 0, 11, 24, 7, 24, 7, 151, 154, 0, 5, 3, 172, 167, 4, 195, 43, 42, 21, 5, 4, 96, 46]
abbrev dktL_law_47 : List UInt8 := dkwL_law_47 ++ dktL_law_48
def dkwL_law_46 : List UInt8 := [154, 0, 35, 25, 4, 3, 49, 24, 7, 151, 153, 0, 25, 25, 4, 3, 49, 25, 4, 3, 49, 151]
abbrev dktL_law_46 : List UInt8 := dkwL_law_46 ++ dktL_law_47
def dkwL_law_45 : List UInt8 := [21, 5, 4, 96, 46, 182, 0, 193, 57, 7, 44, 182, 0, 136, 21, 6, 159, 0, 5, 3, 172, 21, 6]
abbrev dktL_law_45 : List UInt8 := dkwL_law_45 ++ dktL_law_46
def dkwL_law_44 : List UInt8 := [153, 0, 5, 3, 172, 167, 5, 16, 43, 42, 21, 5, 4, 96, 46, 25, 4, 184, 0, 190, 54, 6, 44, 42]
abbrev dktL_law_44 : List UInt8 := dkwL_law_44 ++ dktL_law_45
def dkwL_law_43 : List UInt8 := [182, 0, 136, 21, 6, 159, 0, 5, 3, 172, 21, 6, 154, 0, 15, 45, 3, 47, 21, 7, 133, 148]
abbrev dktL_law_43 : List UInt8 := dkwL_law_43 ++ dktL_law_44
def dkwL_law_42 : List UInt8 := [184, 0, 187, 54, 6, 44, 42, 21, 5, 4, 96, 46, 42, 21, 5, 5, 96, 46, 182, 0, 189, 54, 7, 44]
abbrev dktL_law_42 : List UInt8 := dkwL_law_42 ++ dktL_law_43
def dkwL_law_41 : List UInt8 := [153, 0, 5, 3, 172, 167, 5, 84, 43, 42, 21, 5, 4, 96, 46, 42, 21, 5, 5, 96, 46, 45]
abbrev dktL_law_41 : List UInt8 := dkwL_law_41 ++ dktL_law_42
def dkwL_law_40 : List UInt8 := [182, 0, 136, 21, 6, 159, 0, 5, 3, 172, 21, 6, 154, 0, 15, 45, 3, 47, 21, 7, 133, 148]
abbrev dktL_law_40 : List UInt8 := dkwL_law_40 ++ dktL_law_41
def dkwL_law_39 : List UInt8 := [184, 0, 184, 54, 6, 44, 42, 21, 5, 4, 96, 46, 42, 21, 5, 5, 96, 46, 182, 0, 186, 54, 7, 44]
abbrev dktL_law_39 : List UInt8 := dkwL_law_39 ++ dktL_law_40
def dkwL_law_38 : List UInt8 := [9, 148, 153, 0, 5, 3, 172, 167, 5, 152, 43, 42, 21, 5, 4, 96, 46, 42, 21, 5, 5, 96, 46, 45]
abbrev dktL_law_38 : List UInt8 := dkwL_law_38 ++ dktL_law_39
def dkwL_law_37 : List UInt8 := [21, 6, 159, 0, 5, 3, 172, 21, 6, 154, 0, 22, 45, 3, 47, 21, 7, 153, 0, 7, 10, 167, 0, 4]
abbrev dktL_law_37 : List UInt8 := dkwL_law_37 ++ dktL_law_38
def dkwL_law_36 : List UInt8 := [46, 45, 184, 0, 181, 54, 6, 44, 42, 21, 5, 4, 96, 46, 182, 0, 183, 54, 7, 44, 182, 0, 136]
abbrev dktL_law_36 : List UInt8 := dkwL_law_36 ++ dktL_law_37
def dkwL_law_35 : List UInt8 := [154, 0, 15, 45, 3, 47, 21, 7, 133, 148, 153, 0, 5, 3, 172, 167, 5, 215, 43, 42, 21, 5, 4, 96]
abbrev dktL_law_35 : List UInt8 := dkwL_law_35 ++ dktL_law_36
def dkwL_law_34 : List UInt8 := [21, 5, 4, 96, 46, 182, 0, 180, 54, 7, 44, 182, 0, 136, 21, 6, 159, 0, 5, 3, 172, 21, 6]
abbrev dktL_law_34 : List UInt8 := dkwL_law_34 ++ dktL_law_35
def dkwL_law_33 : List UInt8 := [148, 153, 0, 5, 3, 172, 167, 6, 15, 43, 42, 21, 5, 4, 96, 46, 45, 184, 0, 178, 54, 6, 44, 42]
abbrev dktL_law_33 : List UInt8 := dkwL_law_33 ++ dktL_law_34
def dkwL_law_32 : List UInt8 := [54, 7, 44, 182, 0, 136, 21, 6, 159, 0, 5, 3, 172, 21, 6, 154, 0, 15, 45, 3, 47, 21, 7, 133]
abbrev dktL_law_32 : List UInt8 := dkwL_law_32 ++ dktL_law_33
def dkwL_law_31 : List UInt8 := [46, 45, 184, 0, 175, 54, 6, 44, 42, 21, 5, 4, 96, 46, 42, 21, 5, 5, 96, 46, 182, 0, 177]
abbrev dktL_law_31 : List UInt8 := dkwL_law_31 ++ dktL_law_32
def dkwL_law_30 : List UInt8 := [21, 7, 133, 148, 153, 0, 5, 3, 172, 167, 6, 83, 43, 42, 21, 5, 4, 96, 46, 42, 21, 5, 5, 96]
abbrev dktL_law_30 : List UInt8 := dkwL_law_30 ++ dktL_law_31
def dkwL_law_29 : List UInt8 := [182, 0, 174, 54, 7, 44, 182, 0, 136, 21, 6, 159, 0, 5, 3, 172, 21, 6, 154, 0, 15, 45, 3, 47]
abbrev dktL_law_29 : List UInt8 := dkwL_law_29 ++ dktL_law_30
def dkwL_law_28 : List UInt8 := [167, 6, 139, 43, 42, 21, 5, 4, 96, 46, 45, 184, 0, 172, 54, 6, 44, 42, 21, 5, 4, 96, 46]
abbrev dktL_law_28 : List UInt8 := dkwL_law_28 ++ dktL_law_29
def dkwL_law_27 : List UInt8 := [159, 0, 5, 3, 172, 21, 6, 154, 0, 15, 45, 3, 47, 21, 7, 133, 148, 153, 0, 5, 3, 172]
abbrev dktL_law_27 : List UInt8 := dkwL_law_27 ++ dktL_law_28
def dkwL_law_26 : List UInt8 := [184, 0, 169, 54, 6, 44, 42, 21, 5, 4, 96, 46, 182, 0, 171, 54, 7, 44, 182, 0, 136, 21, 6]
abbrev dktL_law_26 : List UInt8 := dkwL_law_26 ++ dktL_law_27
def dkwL_law_25 : List UInt8 := [167, 6, 208, 43, 182, 0, 165, 44, 182, 0, 168, 159, 6, 197, 3, 172, 43, 42, 21, 5, 4, 96, 46, 45]
abbrev dktL_law_25 : List UInt8 := dkwL_law_25 ++ dktL_law_26
def dkwL_law_24 : List UInt8 := [159, 0, 5, 3, 172, 21, 6, 154, 0, 15, 45, 3, 47, 21, 7, 133, 148, 153, 0, 5, 3, 172]
abbrev dktL_law_24 : List UInt8 := dkwL_law_24 ++ dktL_law_25
def dkwL_law_23 : List UInt8 := [184, 0, 162, 54, 6, 44, 42, 21, 5, 4, 96, 46, 182, 0, 164, 54, 7, 44, 182, 0, 136, 21, 6]
abbrev dktL_law_23 : List UInt8 := dkwL_law_23 ++ dktL_law_24
def dkwL_law_22 : List UInt8 := [167, 7, 21, 43, 182, 0, 158, 44, 182, 0, 161, 159, 7, 10, 3, 172, 43, 42, 21, 5, 4, 96, 46, 45]
abbrev dktL_law_22 : List UInt8 := dkwL_law_22 ++ dktL_law_23
def dkwL_law_21 : List UInt8 := [21, 6, 159, 0, 5, 3, 172, 21, 6, 154, 0, 15, 45, 3, 47, 21, 7, 133, 148, 153, 0, 5, 3, 172]
abbrev dktL_law_21 : List UInt8 := dkwL_law_21 ++ dktL_law_22
def dkwL_law_20 : List UInt8 := [46, 45, 184, 0, 155, 54, 6, 44, 42, 21, 5, 4, 96, 46, 182, 0, 157, 54, 7, 44, 182, 0, 136]
abbrev dktL_law_20 : List UInt8 := dkwL_law_20 ++ dktL_law_21
def dkwL_law_19 : List UInt8 := [154, 0, 15, 45, 3, 47, 21, 7, 133, 148, 153, 0, 5, 3, 172, 167, 7, 77, 43, 42, 21, 5, 4, 96]
abbrev dktL_law_19 : List UInt8 := dkwL_law_19 ++ dktL_law_20
def dkwL_law_18 : List UInt8 := [21, 5, 4, 96, 46, 182, 0, 154, 54, 7, 44, 182, 0, 136, 21, 6, 159, 0, 5, 3, 172, 21, 6]
abbrev dktL_law_18 : List UInt8 := dkwL_law_18 ++ dktL_law_19
def dkwL_law_17 : List UInt8 := [153, 0, 5, 3, 172, 167, 7, 133, 43, 42, 21, 5, 4, 96, 46, 45, 184, 0, 152, 54, 6, 44, 42]
abbrev dktL_law_17 : List UInt8 := dkwL_law_17 ++ dktL_law_18
def dkwL_law_16 : List UInt8 := [182, 0, 136, 21, 6, 159, 0, 5, 3, 172, 21, 6, 154, 0, 15, 45, 3, 47, 21, 7, 133, 148]
abbrev dktL_law_16 : List UInt8 := dkwL_law_16 ++ dktL_law_17
def dkwL_law_15 : List UInt8 := [184, 0, 149, 54, 6, 44, 42, 21, 5, 4, 96, 46, 42, 21, 5, 5, 96, 46, 182, 0, 151, 54, 7, 44]
abbrev dktL_law_15 : List UInt8 := dkwL_law_15 ++ dktL_law_16
def dkwL_law_14 : List UInt8 := [148, 153, 0, 5, 3, 172, 167, 7, 201, 43, 42, 21, 5, 4, 96, 46, 42, 21, 5, 5, 96, 46, 45]
abbrev dktL_law_14 : List UInt8 := dkwL_law_14 ++ dktL_law_15
def dkwL_law_13 : List UInt8 := [54, 7, 44, 182, 0, 136, 21, 6, 159, 0, 5, 3, 172, 21, 6, 154, 0, 15, 45, 3, 47, 21, 7, 133]
abbrev dktL_law_13 : List UInt8 := dkwL_law_13 ++ dktL_law_14
def dkwL_law_12 : List UInt8 := [46, 45, 184, 0, 146, 54, 6, 44, 42, 21, 5, 4, 96, 46, 42, 21, 5, 5, 96, 46, 182, 0, 148]
abbrev dktL_law_12 : List UInt8 := dkwL_law_12 ++ dktL_law_13
def dkwL_law_11 : List UInt8 := [21, 7, 133, 148, 153, 0, 5, 3, 172, 167, 8, 13, 43, 42, 21, 5, 4, 96, 46, 42, 21, 5, 5, 96]
abbrev dktL_law_11 : List UInt8 := dkwL_law_11 ++ dktL_law_12
def dkwL_law_10 : List UInt8 := [182, 0, 145, 54, 7, 44, 182, 0, 136, 21, 6, 159, 0, 5, 3, 172, 21, 6, 154, 0, 15, 45, 3, 47]
abbrev dktL_law_10 : List UInt8 := dkwL_law_10 ++ dktL_law_11
def dkwL_law_9 : List UInt8 := [167, 8, 69, 43, 42, 21, 5, 4, 96, 46, 45, 184, 0, 142, 54, 6, 44, 42, 21, 5, 4, 96, 46]
abbrev dktL_law_9 : List UInt8 := dkwL_law_9 ++ dktL_law_10
def dkwL_law_8 : List UInt8 := [154, 0, 22, 45, 3, 47, 21, 7, 153, 0, 7, 10, 167, 0, 4, 9, 148, 153, 0, 5, 3, 172]
abbrev dktL_law_8 : List UInt8 := dkwL_law_8 ++ dktL_law_9
def dkwL_law_7 : List UInt8 := [21, 5, 5, 96, 46, 182, 0, 141, 54, 7, 44, 182, 0, 136, 21, 6, 159, 0, 5, 3, 172, 21, 6]
abbrev dktL_law_7 : List UInt8 := dkwL_law_7 ++ dktL_law_8
def dkwL_law_6 : List UInt8 := [4, 96, 46, 42, 21, 5, 5, 96, 46, 45, 184, 0, 139, 54, 6, 44, 42, 21, 5, 4, 96, 46, 42]
abbrev dktL_law_6 : List UInt8 := dkwL_law_6 ++ dktL_law_7
def dkwL_law_5 : List UInt8 := [21, 6, 154, 0, 15, 45, 3, 47, 21, 7, 133, 148, 153, 0, 5, 3, 172, 167, 8, 144, 43, 42, 21, 5]
abbrev dktL_law_5 : List UInt8 := dkwL_law_5 ++ dktL_law_6
def dkwL_law_4 : List UInt8 := [96, 46, 42, 21, 5, 5, 96, 46, 182, 0, 135, 54, 7, 44, 182, 0, 136, 21, 6, 159, 0, 5, 3, 172]
abbrev dktL_law_4 : List UInt8 := dkwL_law_4 ++ dktL_law_5
def dkwL_law_3 : List UInt8 := [43, 42, 21, 5, 4, 96, 46, 42, 21, 5, 5, 96, 46, 45, 184, 0, 130, 54, 6, 44, 42, 21, 5, 4]
abbrev dktL_law_3 : List UInt8 := dkwL_law_3 ++ dktL_law_4
def dkwL_law_2 : List UInt8 := [170, 0, 0, 0, 0, 0, 9, 145, 0, 0, 0, 0, 0, 0, 0, 43, 0, 0, 0, 192, 0, 0, 1, 4, 0, 0, 1, 79, 0, 0, 1, 135, 0, 0, 1, 203, 0, 0, 2, 15, 0, 0, 2, 71, 0, 0, 2, 127, 0, 0, 2, 140, 0, 0, 2, 196, 0, 0, 2, 209, 0, 0, 3, 9, 0, 0, 3, 65, 0, 0, 3, 133, 0, 0, 3, 189, 0, 0, 3, 252, 0, 0, 4, 64, 0, 0, 4, 132, 0, 0, 4, 209, 0, 0, 5, 30, 0, 0, 5, 43, 0, 0, 5, 56, 0, 0, 5, 112, 0, 0, 5, 175, 0, 0, 5, 231, 0, 0, 6, 31, 0, 0, 6, 99, 0, 0, 6, 167, 0, 0, 6, 223, 0, 0, 7, 23, 0, 0, 7, 36, 0, 0, 7, 111, 0, 0, 7, 186, 0, 0, 7, 242, 0, 0, 8, 42, 0, 0, 8, 105, 0, 0, 8, 161, 0, 0, 8, 217, 0, 0, 8, 230, 0, 0, 8, 243, 0, 0, 9, 31, 0, 0, 9, 75, 0, 0, 9, 88, 0, 0, 9, 101]
abbrev dktL_law_2 : List UInt8 := dkwL_law_2 ++ dktL_law_3
def dkwL_law_1 : List UInt8 := [58, 4, 3, 54, 5, 21, 5, 42, 190, 6, 100, 163, 9, 161, 42, 21, 5, 46, 16, 63, 126]
abbrev dktL_law_1 : List UInt8 := dkwL_law_1 ++ dktL_law_2
def dkwL_law_0 : List UInt8 := [187, 0, 8, 89, 183, 0, 126, 76, 187, 0, 127, 89, 183, 0, 129, 77, 4, 188, 11, 78, 4, 188, 7]
abbrev dktL_law_0 : List UInt8 := dkwL_law_0 ++ dktL_law_1
theorem dksL_law_0 : cL_law.data.toList.drop 0 = dktL_law_0 := by decide +kernel
theorem dksL_law_1 : cL_law.data.toList.drop 23 = dktL_law_1 := dk_seg dksL_law_0 23 rfl rfl
theorem dksL_law_2 : cL_law.data.toList.drop 44 = dktL_law_2 := dk_seg dksL_law_1 21 rfl rfl
theorem dksL_law_3 : cL_law.data.toList.drop 236 = dktL_law_3 := dk_seg dksL_law_2 192 rfl rfl
theorem dksL_law_4 : cL_law.data.toList.drop 260 = dktL_law_4 := dk_seg dksL_law_3 24 rfl rfl
theorem dksL_law_5 : cL_law.data.toList.drop 284 = dktL_law_5 := dk_seg dksL_law_4 24 rfl rfl
theorem dksL_law_6 : cL_law.data.toList.drop 308 = dktL_law_6 := dk_seg dksL_law_5 24 rfl rfl
theorem dksL_law_7 : cL_law.data.toList.drop 331 = dktL_law_7 := dk_seg dksL_law_6 23 rfl rfl
theorem dksL_law_8 : cL_law.data.toList.drop 354 = dktL_law_8 := dk_seg dksL_law_7 23 rfl rfl
theorem dksL_law_9 : cL_law.data.toList.drop 376 = dktL_law_9 := dk_seg dksL_law_8 22 rfl rfl
theorem dksL_law_10 : cL_law.data.toList.drop 399 = dktL_law_10 := dk_seg dksL_law_9 23 rfl rfl
theorem dksL_law_11 : cL_law.data.toList.drop 423 = dktL_law_11 := dk_seg dksL_law_10 24 rfl rfl
theorem dksL_law_12 : cL_law.data.toList.drop 447 = dktL_law_12 := dk_seg dksL_law_11 24 rfl rfl
theorem dksL_law_13 : cL_law.data.toList.drop 470 = dktL_law_13 := dk_seg dksL_law_12 23 rfl rfl
theorem dksL_law_14 : cL_law.data.toList.drop 494 = dktL_law_14 := dk_seg dksL_law_13 24 rfl rfl
theorem dksL_law_15 : cL_law.data.toList.drop 517 = dktL_law_15 := dk_seg dksL_law_14 23 rfl rfl
theorem dksL_law_16 : cL_law.data.toList.drop 541 = dktL_law_16 := dk_seg dksL_law_15 24 rfl rfl
theorem dksL_law_17 : cL_law.data.toList.drop 563 = dktL_law_17 := dk_seg dksL_law_16 22 rfl rfl
theorem dksL_law_18 : cL_law.data.toList.drop 586 = dktL_law_18 := dk_seg dksL_law_17 23 rfl rfl
theorem dksL_law_19 : cL_law.data.toList.drop 609 = dktL_law_19 := dk_seg dksL_law_18 23 rfl rfl
theorem dksL_law_20 : cL_law.data.toList.drop 633 = dktL_law_20 := dk_seg dksL_law_19 24 rfl rfl
theorem dksL_law_21 : cL_law.data.toList.drop 656 = dktL_law_21 := dk_seg dksL_law_20 23 rfl rfl
theorem dksL_law_22 : cL_law.data.toList.drop 680 = dktL_law_22 := dk_seg dksL_law_21 24 rfl rfl
theorem dksL_law_23 : cL_law.data.toList.drop 704 = dktL_law_23 := dk_seg dksL_law_22 24 rfl rfl
theorem dksL_law_24 : cL_law.data.toList.drop 727 = dktL_law_24 := dk_seg dksL_law_23 23 rfl rfl
theorem dksL_law_25 : cL_law.data.toList.drop 749 = dktL_law_25 := dk_seg dksL_law_24 22 rfl rfl
theorem dksL_law_26 : cL_law.data.toList.drop 773 = dktL_law_26 := dk_seg dksL_law_25 24 rfl rfl
theorem dksL_law_27 : cL_law.data.toList.drop 796 = dktL_law_27 := dk_seg dksL_law_26 23 rfl rfl
theorem dksL_law_28 : cL_law.data.toList.drop 818 = dktL_law_28 := dk_seg dksL_law_27 22 rfl rfl
theorem dksL_law_29 : cL_law.data.toList.drop 841 = dktL_law_29 := dk_seg dksL_law_28 23 rfl rfl
theorem dksL_law_30 : cL_law.data.toList.drop 865 = dktL_law_30 := dk_seg dksL_law_29 24 rfl rfl
theorem dksL_law_31 : cL_law.data.toList.drop 889 = dktL_law_31 := dk_seg dksL_law_30 24 rfl rfl
theorem dksL_law_32 : cL_law.data.toList.drop 912 = dktL_law_32 := dk_seg dksL_law_31 23 rfl rfl
theorem dksL_law_33 : cL_law.data.toList.drop 936 = dktL_law_33 := dk_seg dksL_law_32 24 rfl rfl
theorem dksL_law_34 : cL_law.data.toList.drop 960 = dktL_law_34 := dk_seg dksL_law_33 24 rfl rfl
theorem dksL_law_35 : cL_law.data.toList.drop 983 = dktL_law_35 := dk_seg dksL_law_34 23 rfl rfl
theorem dksL_law_36 : cL_law.data.toList.drop 1007 = dktL_law_36 := dk_seg dksL_law_35 24 rfl rfl
theorem dksL_law_37 : cL_law.data.toList.drop 1030 = dktL_law_37 := dk_seg dksL_law_36 23 rfl rfl
theorem dksL_law_38 : cL_law.data.toList.drop 1054 = dktL_law_38 := dk_seg dksL_law_37 24 rfl rfl
theorem dksL_law_39 : cL_law.data.toList.drop 1078 = dktL_law_39 := dk_seg dksL_law_38 24 rfl rfl
theorem dksL_law_40 : cL_law.data.toList.drop 1102 = dktL_law_40 := dk_seg dksL_law_39 24 rfl rfl
theorem dksL_law_41 : cL_law.data.toList.drop 1124 = dktL_law_41 := dk_seg dksL_law_40 22 rfl rfl
theorem dksL_law_42 : cL_law.data.toList.drop 1146 = dktL_law_42 := dk_seg dksL_law_41 22 rfl rfl
theorem dksL_law_43 : cL_law.data.toList.drop 1170 = dktL_law_43 := dk_seg dksL_law_42 24 rfl rfl
theorem dksL_law_44 : cL_law.data.toList.drop 1192 = dktL_law_44 := dk_seg dksL_law_43 22 rfl rfl
theorem dksL_law_45 : cL_law.data.toList.drop 1216 = dktL_law_45 := dk_seg dksL_law_44 24 rfl rfl
theorem dksL_law_46 : cL_law.data.toList.drop 1239 = dktL_law_46 := dk_seg dksL_law_45 23 rfl rfl
theorem dksL_law_47 : cL_law.data.toList.drop 1261 = dktL_law_47 := dk_seg dksL_law_46 22 rfl rfl
theorem dksL_law_48 : cL_law.data.toList.drop 1284 = dktL_law_48 := dk_seg dksL_law_47 23 rfl rfl
theorem dksL_law_49 : cL_law.data.toList.drop 1307 = dktL_law_49 := dk_seg dksL_law_48 23 rfl rfl
theorem dksL_law_50 : cL_law.data.toList.drop 1331 = dktL_law_50 := dk_seg dksL_law_49 24 rfl rfl
theorem dksL_law_51 : cL_law.data.toList.drop 1355 = dktL_law_51 := dk_seg dksL_law_50 24 rfl rfl
theorem dksL_law_52 : cL_law.data.toList.drop 1379 = dktL_law_52 := dk_seg dksL_law_51 24 rfl rfl
theorem dksL_law_53 : cL_law.data.toList.drop 1403 = dktL_law_53 := dk_seg dksL_law_52 24 rfl rfl
theorem dksL_law_54 : cL_law.data.toList.drop 1427 = dktL_law_54 := dk_seg dksL_law_53 24 rfl rfl
theorem dksL_law_55 : cL_law.data.toList.drop 1451 = dktL_law_55 := dk_seg dksL_law_54 24 rfl rfl
theorem dksL_law_56 : cL_law.data.toList.drop 1474 = dktL_law_56 := dk_seg dksL_law_55 23 rfl rfl
theorem dksL_law_57 : cL_law.data.toList.drop 1496 = dktL_law_57 := dk_seg dksL_law_56 22 rfl rfl
theorem dksL_law_58 : cL_law.data.toList.drop 1519 = dktL_law_58 := dk_seg dksL_law_57 23 rfl rfl
theorem dksL_law_59 : cL_law.data.toList.drop 1543 = dktL_law_59 := dk_seg dksL_law_58 24 rfl rfl
theorem dksL_law_60 : cL_law.data.toList.drop 1566 = dktL_law_60 := dk_seg dksL_law_59 23 rfl rfl
theorem dksL_law_61 : cL_law.data.toList.drop 1590 = dktL_law_61 := dk_seg dksL_law_60 24 rfl rfl
theorem dksL_law_62 : cL_law.data.toList.drop 1613 = dktL_law_62 := dk_seg dksL_law_61 23 rfl rfl
theorem dksL_law_63 : cL_law.data.toList.drop 1637 = dktL_law_63 := dk_seg dksL_law_62 24 rfl rfl
theorem dksL_law_64 : cL_law.data.toList.drop 1661 = dktL_law_64 := dk_seg dksL_law_63 24 rfl rfl
theorem dksL_law_65 : cL_law.data.toList.drop 1685 = dktL_law_65 := dk_seg dksL_law_64 24 rfl rfl
theorem dksL_law_66 : cL_law.data.toList.drop 1709 = dktL_law_66 := dk_seg dksL_law_65 24 rfl rfl
theorem dksL_law_67 : cL_law.data.toList.drop 1733 = dktL_law_67 := dk_seg dksL_law_66 24 rfl rfl
theorem dksL_law_68 : cL_law.data.toList.drop 1755 = dktL_law_68 := dk_seg dksL_law_67 22 rfl rfl
theorem dksL_law_69 : cL_law.data.toList.drop 1778 = dktL_law_69 := dk_seg dksL_law_68 23 rfl rfl
theorem dksL_law_70 : cL_law.data.toList.drop 1800 = dktL_law_70 := dk_seg dksL_law_69 22 rfl rfl
theorem dksL_law_71 : cL_law.data.toList.drop 1823 = dktL_law_71 := dk_seg dksL_law_70 23 rfl rfl
theorem dksL_law_72 : cL_law.data.toList.drop 1847 = dktL_law_72 := dk_seg dksL_law_71 24 rfl rfl
theorem dksL_law_73 : cL_law.data.toList.drop 1871 = dktL_law_73 := dk_seg dksL_law_72 24 rfl rfl
theorem dksL_law_74 : cL_law.data.toList.drop 1895 = dktL_law_74 := dk_seg dksL_law_73 24 rfl rfl
theorem dksL_law_75 : cL_law.data.toList.drop 1919 = dktL_law_75 := dk_seg dksL_law_74 24 rfl rfl
theorem dksL_law_76 : cL_law.data.toList.drop 1943 = dktL_law_76 := dk_seg dksL_law_75 24 rfl rfl
theorem dksL_law_77 : cL_law.data.toList.drop 1967 = dktL_law_77 := dk_seg dksL_law_76 24 rfl rfl
theorem dksL_law_78 : cL_law.data.toList.drop 1990 = dktL_law_78 := dk_seg dksL_law_77 23 rfl rfl
theorem dksL_law_79 : cL_law.data.toList.drop 2014 = dktL_law_79 := dk_seg dksL_law_78 24 rfl rfl
theorem dksL_law_80 : cL_law.data.toList.drop 2037 = dktL_law_80 := dk_seg dksL_law_79 23 rfl rfl
theorem dksL_law_81 : cL_law.data.toList.drop 2060 = dktL_law_81 := dk_seg dksL_law_80 23 rfl rfl
theorem dksL_law_82 : cL_law.data.toList.drop 2084 = dktL_law_82 := dk_seg dksL_law_81 24 rfl rfl
theorem dksL_law_83 : cL_law.data.toList.drop 2107 = dktL_law_83 := dk_seg dksL_law_82 23 rfl rfl
theorem dksL_law_84 : cL_law.data.toList.drop 2131 = dktL_law_84 := dk_seg dksL_law_83 24 rfl rfl
theorem dksL_law_85 : cL_law.data.toList.drop 2154 = dktL_law_85 := dk_seg dksL_law_84 23 rfl rfl
theorem dksL_law_86 : cL_law.data.toList.drop 2178 = dktL_law_86 := dk_seg dksL_law_85 24 rfl rfl
theorem dksL_law_87 : cL_law.data.toList.drop 2202 = dktL_law_87 := dk_seg dksL_law_86 24 rfl rfl
theorem dksL_law_88 : cL_law.data.toList.drop 2226 = dktL_law_88 := dk_seg dksL_law_87 24 rfl rfl
theorem dksL_law_89 : cL_law.data.toList.drop 2250 = dktL_law_89 := dk_seg dksL_law_88 24 rfl rfl
theorem dksL_law_90 : cL_law.data.toList.drop 2273 = dktL_law_90 := dk_seg dksL_law_89 23 rfl rfl
theorem dksL_law_91 : cL_law.data.toList.drop 2297 = dktL_law_91 := dk_seg dksL_law_90 24 rfl rfl
theorem dksL_law_92 : cL_law.data.toList.drop 2321 = dktL_law_92 := dk_seg dksL_law_91 24 rfl rfl
theorem dksL_law_93 : cL_law.data.toList.drop 2343 = dktL_law_93 := dk_seg dksL_law_92 22 rfl rfl
theorem dksL_law_94 : cL_law.data.toList.drop 2367 = dktL_law_94 := dk_seg dksL_law_93 24 rfl rfl
theorem dksL_law_95 : cL_law.data.toList.drop 2390 = dktL_law_95 := dk_seg dksL_law_94 23 rfl rfl
theorem dksL_law_96 : cL_law.data.toList.drop 2414 = dktL_law_96 := dk_seg dksL_law_95 24 rfl rfl
theorem dksL_law_97 : cL_law.data.toList.drop 2437 = dktL_law_97 := dk_seg dksL_law_96 23 rfl rfl
theorem dksL_law_98 : cL_law.data.toList.drop 2460 = dktL_law_98 := dk_seg dksL_law_97 23 rfl rfl
theorem dksL_law_99 : cL_law.data.toList.drop 2484 = dktL_law_99 := dk_seg dksL_law_98 24 rfl rfl
theorem dL_law_0 : decode cL_law 0 = .ok (.new 8, 3) := dk_187 0 8 (dk_at dksL_law_0 0 rfl rfl)
theorem dL_law_3 : decode cL_law 3 = .ok (.dup, 1) := dk_89 (dk_at dksL_law_0 3 rfl rfl)
theorem dL_law_4 : decode cL_law 4 = .ok (.invokespecial 126, 3) := dk_183 0 126 (dk_at dksL_law_0 4 rfl rfl)
theorem dL_law_7 : decode cL_law 7 = .ok (.astore_n 1, 1) := dk_76 (dk_at dksL_law_0 7 rfl rfl)
theorem dL_law_8 : decode cL_law 8 = .ok (.new 127, 3) := dk_187 0 127 (dk_at dksL_law_0 8 rfl rfl)
theorem dL_law_11 : decode cL_law 11 = .ok (.dup, 1) := dk_89 (dk_at dksL_law_0 11 rfl rfl)
theorem dL_law_12 : decode cL_law 12 = .ok (.invokespecial 129, 3) := dk_183 0 129 (dk_at dksL_law_0 12 rfl rfl)
theorem dL_law_15 : decode cL_law 15 = .ok (.astore_n 2, 1) := dk_77 (dk_at dksL_law_0 15 rfl rfl)
theorem dL_law_16 : decode cL_law 16 = .ok (.iconst 1, 1) := dk_4 (dk_at dksL_law_0 16 rfl rfl)
theorem dL_law_17 : decode cL_law 17 = .ok (.newarray .long, 2) := dk_188_11 (dk_at dksL_law_0 17 rfl rfl)
theorem dL_law_19 : decode cL_law 19 = .ok (.astore_n 3, 1) := dk_78 (dk_at dksL_law_0 19 rfl rfl)
theorem dL_law_20 : decode cL_law 20 = .ok (.iconst 1, 1) := dk_4 (dk_at dksL_law_0 20 rfl rfl)
theorem dL_law_21 : decode cL_law 21 = .ok (.newarray .double, 2) := dk_188_7 (dk_at dksL_law_0 21 rfl rfl)
theorem dL_law_23 : decode cL_law 23 = .ok (.astore 4, 2) := dk_58 4 (dk_at dksL_law_1 0 rfl rfl)
theorem dL_law_25 : decode cL_law 25 = .ok (.iconst 0, 1) := dk_3 (dk_at dksL_law_1 2 rfl rfl)
theorem dL_law_26 : decode cL_law 26 = .ok (.istore 5, 2) := dk_54 5 (dk_at dksL_law_1 3 rfl rfl)
theorem dL_law_28 : decode cL_law 28 = .ok (.iload 5, 2) := dk_21 5 (dk_at dksL_law_1 5 rfl rfl)
theorem dL_law_30 : decode cL_law 30 = .ok (.aload_n 0, 1) := dk_42 (dk_at dksL_law_1 7 rfl rfl)
theorem dL_law_31 : decode cL_law 31 = .ok (.arraylength, 1) := dk_190 (dk_at dksL_law_1 8 rfl rfl)
theorem dL_law_32 : decode cL_law 32 = .ok (.iconst 3, 1) := dk_6 (dk_at dksL_law_1 9 rfl rfl)
theorem dL_law_33 : decode cL_law 33 = .ok (.isub, 1) := dk_100 (dk_at dksL_law_1 10 rfl rfl)
theorem dL_law_34 : decode cL_law 34 = .ok (.if_icmp .gt 2465, 3) := dk_163 9 161 (dk_at dksL_law_1 11 rfl rfl)
theorem dL_law_37 : decode cL_law 37 = .ok (.aload_n 0, 1) := dk_42 (dk_at dksL_law_1 14 rfl rfl)
theorem dL_law_38 : decode cL_law 38 = .ok (.iload 5, 2) := dk_21 5 (dk_at dksL_law_1 15 rfl rfl)
theorem dL_law_40 : decode cL_law 40 = .ok (.iaload, 1) := dk_46 (dk_at dksL_law_1 17 rfl rfl)
theorem dL_law_41 : decode cL_law 41 = .ok (.bipush 63, 2) := dk_16 63 (dk_at dksL_law_1 18 rfl rfl)
theorem dL_law_43 : decode cL_law 43 = .ok (.iand, 1) := dk_126 (dk_at dksL_law_1 20 rfl rfl)
theorem dL_law_44 : decode cL_law 44 = .ok (.tableswitch 2449 0 43 #[192, 260, 335, 391, 459, 527, 583, 639, 652, 708, 721, 777, 833, 901, 957, 1020, 1088, 1156, 1233, 1310, 1323, 1336, 1392, 1455, 1511, 1567, 1635, 1703, 1759, 1815, 1828, 1903, 1978, 2034, 2090, 2153, 2209, 2265, 2278, 2291, 2335, 2379, 2392, 2405], 192) := by decide +kernel
theorem dL_law_236 : decode cL_law 236 = .ok (.aload_n 1, 1) := dk_43 (dk_at dksL_law_3 0 rfl rfl)
theorem dL_law_237 : decode cL_law 237 = .ok (.aload_n 0, 1) := dk_42 (dk_at dksL_law_3 1 rfl rfl)
theorem dL_law_238 : decode cL_law 238 = .ok (.iload 5, 2) := dk_21 5 (dk_at dksL_law_3 2 rfl rfl)
theorem dL_law_240 : decode cL_law 240 = .ok (.iconst 1, 1) := dk_4 (dk_at dksL_law_3 4 rfl rfl)
theorem dL_law_241 : decode cL_law 241 = .ok (.iadd, 1) := dk_96 (dk_at dksL_law_3 5 rfl rfl)
theorem dL_law_242 : decode cL_law 242 = .ok (.iaload, 1) := dk_46 (dk_at dksL_law_3 6 rfl rfl)
theorem dL_law_243 : decode cL_law 243 = .ok (.aload_n 0, 1) := dk_42 (dk_at dksL_law_3 7 rfl rfl)
theorem dL_law_244 : decode cL_law 244 = .ok (.iload 5, 2) := dk_21 5 (dk_at dksL_law_3 8 rfl rfl)
theorem dL_law_246 : decode cL_law 246 = .ok (.iconst 2, 1) := dk_5 (dk_at dksL_law_3 10 rfl rfl)
theorem dL_law_247 : decode cL_law 247 = .ok (.iadd, 1) := dk_96 (dk_at dksL_law_3 11 rfl rfl)
theorem dL_law_248 : decode cL_law 248 = .ok (.iaload, 1) := dk_46 (dk_at dksL_law_3 12 rfl rfl)
theorem dL_law_249 : decode cL_law 249 = .ok (.aload_n 3, 1) := dk_45 (dk_at dksL_law_3 13 rfl rfl)
theorem dL_law_250 : decode cL_law 250 = .ok (.invokestatic 130, 3) := dk_184 0 130 (dk_at dksL_law_3 14 rfl rfl)
theorem dL_law_253 : decode cL_law 253 = .ok (.istore 6, 2) := dk_54 6 (dk_at dksL_law_3 17 rfl rfl)
theorem dL_law_255 : decode cL_law 255 = .ok (.aload_n 2, 1) := dk_44 (dk_at dksL_law_3 19 rfl rfl)
theorem dL_law_256 : decode cL_law 256 = .ok (.aload_n 0, 1) := dk_42 (dk_at dksL_law_3 20 rfl rfl)
theorem dL_law_257 : decode cL_law 257 = .ok (.iload 5, 2) := dk_21 5 (dk_at dksL_law_3 21 rfl rfl)
theorem dL_law_259 : decode cL_law 259 = .ok (.iconst 1, 1) := dk_4 (dk_at dksL_law_3 23 rfl rfl)
theorem dL_law_260 : decode cL_law 260 = .ok (.iadd, 1) := dk_96 (dk_at dksL_law_4 0 rfl rfl)
theorem dL_law_261 : decode cL_law 261 = .ok (.iaload, 1) := dk_46 (dk_at dksL_law_4 1 rfl rfl)
theorem dL_law_262 : decode cL_law 262 = .ok (.aload_n 0, 1) := dk_42 (dk_at dksL_law_4 2 rfl rfl)
theorem dL_law_263 : decode cL_law 263 = .ok (.iload 5, 2) := dk_21 5 (dk_at dksL_law_4 3 rfl rfl)
theorem dL_law_265 : decode cL_law 265 = .ok (.iconst 2, 1) := dk_5 (dk_at dksL_law_4 5 rfl rfl)
theorem dL_law_266 : decode cL_law 266 = .ok (.iadd, 1) := dk_96 (dk_at dksL_law_4 6 rfl rfl)
theorem dL_law_267 : decode cL_law 267 = .ok (.iaload, 1) := dk_46 (dk_at dksL_law_4 7 rfl rfl)
theorem dL_law_268 : decode cL_law 268 = .ok (.invokevirtual 135, 3) := dk_182 0 135 (dk_at dksL_law_4 8 rfl rfl)
theorem dL_law_271 : decode cL_law 271 = .ok (.istore 7, 2) := dk_54 7 (dk_at dksL_law_4 11 rfl rfl)
theorem dL_law_273 : decode cL_law 273 = .ok (.aload_n 2, 1) := dk_44 (dk_at dksL_law_4 13 rfl rfl)
theorem dL_law_274 : decode cL_law 274 = .ok (.invokevirtual 136, 3) := dk_182 0 136 (dk_at dksL_law_4 14 rfl rfl)
theorem dL_law_277 : decode cL_law 277 = .ok (.iload 6, 2) := dk_21 6 (dk_at dksL_law_4 17 rfl rfl)
theorem dL_law_279 : decode cL_law 279 = .ok (.if_icmp .eq 5, 3) := dk_159 0 5 (dk_at dksL_law_4 19 rfl rfl)
theorem dL_law_282 : decode cL_law 282 = .ok (.iconst 0, 1) := dk_3 (dk_at dksL_law_4 22 rfl rfl)
theorem dL_law_283 : decode cL_law 283 = .ok (.ireturn, 1) := dk_172 (dk_at dksL_law_4 23 rfl rfl)
theorem dL_law_284 : decode cL_law 284 = .ok (.iload 6, 2) := dk_21 6 (dk_at dksL_law_5 0 rfl rfl)
theorem dL_law_286 : decode cL_law 286 = .ok (.ifCond .ne 15, 3) := dk_154 0 15 (dk_at dksL_law_5 2 rfl rfl)
theorem dL_law_289 : decode cL_law 289 = .ok (.aload_n 3, 1) := dk_45 (dk_at dksL_law_5 5 rfl rfl)
theorem dL_law_290 : decode cL_law 290 = .ok (.iconst 0, 1) := dk_3 (dk_at dksL_law_5 6 rfl rfl)
theorem dL_law_291 : decode cL_law 291 = .ok (.laload, 1) := dk_47 (dk_at dksL_law_5 7 rfl rfl)
theorem dL_law_292 : decode cL_law 292 = .ok (.iload 7, 2) := dk_21 7 (dk_at dksL_law_5 8 rfl rfl)
theorem dL_law_294 : decode cL_law 294 = .ok (.i2l, 1) := dk_133 (dk_at dksL_law_5 10 rfl rfl)
theorem dL_law_295 : decode cL_law 295 = .ok (.lcmp, 1) := dk_148 (dk_at dksL_law_5 11 rfl rfl)
theorem dL_law_296 : decode cL_law 296 = .ok (.ifCond .eq 5, 3) := dk_153 0 5 (dk_at dksL_law_5 12 rfl rfl)
theorem dL_law_299 : decode cL_law 299 = .ok (.iconst 0, 1) := dk_3 (dk_at dksL_law_5 15 rfl rfl)
theorem dL_law_300 : decode cL_law 300 = .ok (.ireturn, 1) := dk_172 (dk_at dksL_law_5 16 rfl rfl)
theorem dL_law_301 : decode cL_law 301 = .ok (.goto 2192, 3) := dk_167 8 144 (dk_at dksL_law_5 17 rfl rfl)
theorem dL_law_304 : decode cL_law 304 = .ok (.aload_n 1, 1) := dk_43 (dk_at dksL_law_5 20 rfl rfl)
theorem dL_law_305 : decode cL_law 305 = .ok (.aload_n 0, 1) := dk_42 (dk_at dksL_law_5 21 rfl rfl)
theorem dL_law_306 : decode cL_law 306 = .ok (.iload 5, 2) := dk_21 5 (dk_at dksL_law_5 22 rfl rfl)
theorem dL_law_308 : decode cL_law 308 = .ok (.iconst 1, 1) := dk_4 (dk_at dksL_law_6 0 rfl rfl)
theorem dL_law_309 : decode cL_law 309 = .ok (.iadd, 1) := dk_96 (dk_at dksL_law_6 1 rfl rfl)
theorem dL_law_310 : decode cL_law 310 = .ok (.iaload, 1) := dk_46 (dk_at dksL_law_6 2 rfl rfl)
theorem dL_law_311 : decode cL_law 311 = .ok (.aload_n 0, 1) := dk_42 (dk_at dksL_law_6 3 rfl rfl)
theorem dL_law_312 : decode cL_law 312 = .ok (.iload 5, 2) := dk_21 5 (dk_at dksL_law_6 4 rfl rfl)
theorem dL_law_314 : decode cL_law 314 = .ok (.iconst 2, 1) := dk_5 (dk_at dksL_law_6 6 rfl rfl)
theorem dL_law_315 : decode cL_law 315 = .ok (.iadd, 1) := dk_96 (dk_at dksL_law_6 7 rfl rfl)
theorem dL_law_316 : decode cL_law 316 = .ok (.iaload, 1) := dk_46 (dk_at dksL_law_6 8 rfl rfl)
theorem dL_law_317 : decode cL_law 317 = .ok (.aload_n 3, 1) := dk_45 (dk_at dksL_law_6 9 rfl rfl)
theorem dL_law_318 : decode cL_law 318 = .ok (.invokestatic 139, 3) := dk_184 0 139 (dk_at dksL_law_6 10 rfl rfl)
theorem dL_law_321 : decode cL_law 321 = .ok (.istore 6, 2) := dk_54 6 (dk_at dksL_law_6 13 rfl rfl)
theorem dL_law_323 : decode cL_law 323 = .ok (.aload_n 2, 1) := dk_44 (dk_at dksL_law_6 15 rfl rfl)
theorem dL_law_324 : decode cL_law 324 = .ok (.aload_n 0, 1) := dk_42 (dk_at dksL_law_6 16 rfl rfl)
theorem dL_law_325 : decode cL_law 325 = .ok (.iload 5, 2) := dk_21 5 (dk_at dksL_law_6 17 rfl rfl)
theorem dL_law_327 : decode cL_law 327 = .ok (.iconst 1, 1) := dk_4 (dk_at dksL_law_6 19 rfl rfl)
theorem dL_law_328 : decode cL_law 328 = .ok (.iadd, 1) := dk_96 (dk_at dksL_law_6 20 rfl rfl)
theorem dL_law_329 : decode cL_law 329 = .ok (.iaload, 1) := dk_46 (dk_at dksL_law_6 21 rfl rfl)
theorem dL_law_330 : decode cL_law 330 = .ok (.aload_n 0, 1) := dk_42 (dk_at dksL_law_6 22 rfl rfl)
theorem dL_law_331 : decode cL_law 331 = .ok (.iload 5, 2) := dk_21 5 (dk_at dksL_law_7 0 rfl rfl)
theorem dL_law_333 : decode cL_law 333 = .ok (.iconst 2, 1) := dk_5 (dk_at dksL_law_7 2 rfl rfl)
theorem dL_law_334 : decode cL_law 334 = .ok (.iadd, 1) := dk_96 (dk_at dksL_law_7 3 rfl rfl)
theorem dL_law_335 : decode cL_law 335 = .ok (.iaload, 1) := dk_46 (dk_at dksL_law_7 4 rfl rfl)
theorem dL_law_336 : decode cL_law 336 = .ok (.invokevirtual 141, 3) := dk_182 0 141 (dk_at dksL_law_7 5 rfl rfl)
theorem dL_law_339 : decode cL_law 339 = .ok (.istore 7, 2) := dk_54 7 (dk_at dksL_law_7 8 rfl rfl)
theorem dL_law_341 : decode cL_law 341 = .ok (.aload_n 2, 1) := dk_44 (dk_at dksL_law_7 10 rfl rfl)
theorem dL_law_342 : decode cL_law 342 = .ok (.invokevirtual 136, 3) := dk_182 0 136 (dk_at dksL_law_7 11 rfl rfl)
theorem dL_law_345 : decode cL_law 345 = .ok (.iload 6, 2) := dk_21 6 (dk_at dksL_law_7 14 rfl rfl)
theorem dL_law_347 : decode cL_law 347 = .ok (.if_icmp .eq 5, 3) := dk_159 0 5 (dk_at dksL_law_7 16 rfl rfl)
theorem dL_law_350 : decode cL_law 350 = .ok (.iconst 0, 1) := dk_3 (dk_at dksL_law_7 19 rfl rfl)
theorem dL_law_351 : decode cL_law 351 = .ok (.ireturn, 1) := dk_172 (dk_at dksL_law_7 20 rfl rfl)
theorem dL_law_352 : decode cL_law 352 = .ok (.iload 6, 2) := dk_21 6 (dk_at dksL_law_7 21 rfl rfl)
theorem dL_law_354 : decode cL_law 354 = .ok (.ifCond .ne 22, 3) := dk_154 0 22 (dk_at dksL_law_8 0 rfl rfl)
theorem dL_law_357 : decode cL_law 357 = .ok (.aload_n 3, 1) := dk_45 (dk_at dksL_law_8 3 rfl rfl)
theorem dL_law_358 : decode cL_law 358 = .ok (.iconst 0, 1) := dk_3 (dk_at dksL_law_8 4 rfl rfl)
theorem dL_law_359 : decode cL_law 359 = .ok (.laload, 1) := dk_47 (dk_at dksL_law_8 5 rfl rfl)
theorem dL_law_360 : decode cL_law 360 = .ok (.iload 7, 2) := dk_21 7 (dk_at dksL_law_8 6 rfl rfl)
theorem dL_law_362 : decode cL_law 362 = .ok (.ifCond .eq 7, 3) := dk_153 0 7 (dk_at dksL_law_8 8 rfl rfl)
theorem dL_law_365 : decode cL_law 365 = .ok (.lconst 1, 1) := dk_10 (dk_at dksL_law_8 11 rfl rfl)
theorem dL_law_366 : decode cL_law 366 = .ok (.goto 4, 3) := dk_167 0 4 (dk_at dksL_law_8 12 rfl rfl)
theorem dL_law_369 : decode cL_law 369 = .ok (.lconst 0, 1) := dk_9 (dk_at dksL_law_8 15 rfl rfl)
theorem dL_law_370 : decode cL_law 370 = .ok (.lcmp, 1) := dk_148 (dk_at dksL_law_8 16 rfl rfl)
theorem dL_law_371 : decode cL_law 371 = .ok (.ifCond .eq 5, 3) := dk_153 0 5 (dk_at dksL_law_8 17 rfl rfl)
theorem dL_law_374 : decode cL_law 374 = .ok (.iconst 0, 1) := dk_3 (dk_at dksL_law_8 20 rfl rfl)
theorem dL_law_375 : decode cL_law 375 = .ok (.ireturn, 1) := dk_172 (dk_at dksL_law_8 21 rfl rfl)
theorem dL_law_376 : decode cL_law 376 = .ok (.goto 2117, 3) := dk_167 8 69 (dk_at dksL_law_9 0 rfl rfl)
theorem dL_law_379 : decode cL_law 379 = .ok (.aload_n 1, 1) := dk_43 (dk_at dksL_law_9 3 rfl rfl)
theorem dL_law_380 : decode cL_law 380 = .ok (.aload_n 0, 1) := dk_42 (dk_at dksL_law_9 4 rfl rfl)
theorem dL_law_381 : decode cL_law 381 = .ok (.iload 5, 2) := dk_21 5 (dk_at dksL_law_9 5 rfl rfl)
theorem dL_law_383 : decode cL_law 383 = .ok (.iconst 1, 1) := dk_4 (dk_at dksL_law_9 7 rfl rfl)
theorem dL_law_384 : decode cL_law 384 = .ok (.iadd, 1) := dk_96 (dk_at dksL_law_9 8 rfl rfl)
theorem dL_law_385 : decode cL_law 385 = .ok (.iaload, 1) := dk_46 (dk_at dksL_law_9 9 rfl rfl)
theorem dL_law_386 : decode cL_law 386 = .ok (.aload_n 3, 1) := dk_45 (dk_at dksL_law_9 10 rfl rfl)
theorem dL_law_387 : decode cL_law 387 = .ok (.invokestatic 142, 3) := dk_184 0 142 (dk_at dksL_law_9 11 rfl rfl)
theorem dL_law_390 : decode cL_law 390 = .ok (.istore 6, 2) := dk_54 6 (dk_at dksL_law_9 14 rfl rfl)
theorem dL_law_392 : decode cL_law 392 = .ok (.aload_n 2, 1) := dk_44 (dk_at dksL_law_9 16 rfl rfl)
theorem dL_law_393 : decode cL_law 393 = .ok (.aload_n 0, 1) := dk_42 (dk_at dksL_law_9 17 rfl rfl)
theorem dL_law_394 : decode cL_law 394 = .ok (.iload 5, 2) := dk_21 5 (dk_at dksL_law_9 18 rfl rfl)
theorem dL_law_396 : decode cL_law 396 = .ok (.iconst 1, 1) := dk_4 (dk_at dksL_law_9 20 rfl rfl)
theorem dL_law_397 : decode cL_law 397 = .ok (.iadd, 1) := dk_96 (dk_at dksL_law_9 21 rfl rfl)
theorem dL_law_398 : decode cL_law 398 = .ok (.iaload, 1) := dk_46 (dk_at dksL_law_9 22 rfl rfl)
theorem dL_law_399 : decode cL_law 399 = .ok (.invokevirtual 145, 3) := dk_182 0 145 (dk_at dksL_law_10 0 rfl rfl)
theorem dL_law_402 : decode cL_law 402 = .ok (.istore 7, 2) := dk_54 7 (dk_at dksL_law_10 3 rfl rfl)
theorem dL_law_404 : decode cL_law 404 = .ok (.aload_n 2, 1) := dk_44 (dk_at dksL_law_10 5 rfl rfl)
theorem dL_law_405 : decode cL_law 405 = .ok (.invokevirtual 136, 3) := dk_182 0 136 (dk_at dksL_law_10 6 rfl rfl)
theorem dL_law_408 : decode cL_law 408 = .ok (.iload 6, 2) := dk_21 6 (dk_at dksL_law_10 9 rfl rfl)
theorem dL_law_410 : decode cL_law 410 = .ok (.if_icmp .eq 5, 3) := dk_159 0 5 (dk_at dksL_law_10 11 rfl rfl)
theorem dL_law_413 : decode cL_law 413 = .ok (.iconst 0, 1) := dk_3 (dk_at dksL_law_10 14 rfl rfl)
theorem dL_law_414 : decode cL_law 414 = .ok (.ireturn, 1) := dk_172 (dk_at dksL_law_10 15 rfl rfl)
theorem dL_law_415 : decode cL_law 415 = .ok (.iload 6, 2) := dk_21 6 (dk_at dksL_law_10 16 rfl rfl)
theorem dL_law_417 : decode cL_law 417 = .ok (.ifCond .ne 15, 3) := dk_154 0 15 (dk_at dksL_law_10 18 rfl rfl)
theorem dL_law_420 : decode cL_law 420 = .ok (.aload_n 3, 1) := dk_45 (dk_at dksL_law_10 21 rfl rfl)
theorem dL_law_421 : decode cL_law 421 = .ok (.iconst 0, 1) := dk_3 (dk_at dksL_law_10 22 rfl rfl)
theorem dL_law_422 : decode cL_law 422 = .ok (.laload, 1) := dk_47 (dk_at dksL_law_10 23 rfl rfl)
theorem dL_law_423 : decode cL_law 423 = .ok (.iload 7, 2) := dk_21 7 (dk_at dksL_law_11 0 rfl rfl)
theorem dL_law_425 : decode cL_law 425 = .ok (.i2l, 1) := dk_133 (dk_at dksL_law_11 2 rfl rfl)
theorem dL_law_426 : decode cL_law 426 = .ok (.lcmp, 1) := dk_148 (dk_at dksL_law_11 3 rfl rfl)
theorem dL_law_427 : decode cL_law 427 = .ok (.ifCond .eq 5, 3) := dk_153 0 5 (dk_at dksL_law_11 4 rfl rfl)
theorem dL_law_430 : decode cL_law 430 = .ok (.iconst 0, 1) := dk_3 (dk_at dksL_law_11 7 rfl rfl)
theorem dL_law_431 : decode cL_law 431 = .ok (.ireturn, 1) := dk_172 (dk_at dksL_law_11 8 rfl rfl)
theorem dL_law_432 : decode cL_law 432 = .ok (.goto 2061, 3) := dk_167 8 13 (dk_at dksL_law_11 9 rfl rfl)
theorem dL_law_435 : decode cL_law 435 = .ok (.aload_n 1, 1) := dk_43 (dk_at dksL_law_11 12 rfl rfl)
theorem dL_law_436 : decode cL_law 436 = .ok (.aload_n 0, 1) := dk_42 (dk_at dksL_law_11 13 rfl rfl)
theorem dL_law_437 : decode cL_law 437 = .ok (.iload 5, 2) := dk_21 5 (dk_at dksL_law_11 14 rfl rfl)
theorem dL_law_439 : decode cL_law 439 = .ok (.iconst 1, 1) := dk_4 (dk_at dksL_law_11 16 rfl rfl)
theorem dL_law_440 : decode cL_law 440 = .ok (.iadd, 1) := dk_96 (dk_at dksL_law_11 17 rfl rfl)
theorem dL_law_441 : decode cL_law 441 = .ok (.iaload, 1) := dk_46 (dk_at dksL_law_11 18 rfl rfl)
theorem dL_law_442 : decode cL_law 442 = .ok (.aload_n 0, 1) := dk_42 (dk_at dksL_law_11 19 rfl rfl)
theorem dL_law_443 : decode cL_law 443 = .ok (.iload 5, 2) := dk_21 5 (dk_at dksL_law_11 20 rfl rfl)
theorem dL_law_445 : decode cL_law 445 = .ok (.iconst 2, 1) := dk_5 (dk_at dksL_law_11 22 rfl rfl)
theorem dL_law_446 : decode cL_law 446 = .ok (.iadd, 1) := dk_96 (dk_at dksL_law_11 23 rfl rfl)
theorem dL_law_447 : decode cL_law 447 = .ok (.iaload, 1) := dk_46 (dk_at dksL_law_12 0 rfl rfl)
theorem dL_law_448 : decode cL_law 448 = .ok (.aload_n 3, 1) := dk_45 (dk_at dksL_law_12 1 rfl rfl)
theorem dL_law_449 : decode cL_law 449 = .ok (.invokestatic 146, 3) := dk_184 0 146 (dk_at dksL_law_12 2 rfl rfl)
theorem dL_law_452 : decode cL_law 452 = .ok (.istore 6, 2) := dk_54 6 (dk_at dksL_law_12 5 rfl rfl)
theorem dL_law_454 : decode cL_law 454 = .ok (.aload_n 2, 1) := dk_44 (dk_at dksL_law_12 7 rfl rfl)
theorem dL_law_455 : decode cL_law 455 = .ok (.aload_n 0, 1) := dk_42 (dk_at dksL_law_12 8 rfl rfl)
theorem dL_law_456 : decode cL_law 456 = .ok (.iload 5, 2) := dk_21 5 (dk_at dksL_law_12 9 rfl rfl)
theorem dL_law_458 : decode cL_law 458 = .ok (.iconst 1, 1) := dk_4 (dk_at dksL_law_12 11 rfl rfl)
theorem dL_law_459 : decode cL_law 459 = .ok (.iadd, 1) := dk_96 (dk_at dksL_law_12 12 rfl rfl)
theorem dL_law_460 : decode cL_law 460 = .ok (.iaload, 1) := dk_46 (dk_at dksL_law_12 13 rfl rfl)
theorem dL_law_461 : decode cL_law 461 = .ok (.aload_n 0, 1) := dk_42 (dk_at dksL_law_12 14 rfl rfl)
theorem dL_law_462 : decode cL_law 462 = .ok (.iload 5, 2) := dk_21 5 (dk_at dksL_law_12 15 rfl rfl)
theorem dL_law_464 : decode cL_law 464 = .ok (.iconst 2, 1) := dk_5 (dk_at dksL_law_12 17 rfl rfl)
theorem dL_law_465 : decode cL_law 465 = .ok (.iadd, 1) := dk_96 (dk_at dksL_law_12 18 rfl rfl)
theorem dL_law_466 : decode cL_law 466 = .ok (.iaload, 1) := dk_46 (dk_at dksL_law_12 19 rfl rfl)
theorem dL_law_467 : decode cL_law 467 = .ok (.invokevirtual 148, 3) := dk_182 0 148 (dk_at dksL_law_12 20 rfl rfl)
theorem dL_law_470 : decode cL_law 470 = .ok (.istore 7, 2) := dk_54 7 (dk_at dksL_law_13 0 rfl rfl)
theorem dL_law_472 : decode cL_law 472 = .ok (.aload_n 2, 1) := dk_44 (dk_at dksL_law_13 2 rfl rfl)
theorem dL_law_473 : decode cL_law 473 = .ok (.invokevirtual 136, 3) := dk_182 0 136 (dk_at dksL_law_13 3 rfl rfl)
theorem dL_law_476 : decode cL_law 476 = .ok (.iload 6, 2) := dk_21 6 (dk_at dksL_law_13 6 rfl rfl)
theorem dL_law_478 : decode cL_law 478 = .ok (.if_icmp .eq 5, 3) := dk_159 0 5 (dk_at dksL_law_13 8 rfl rfl)
theorem dL_law_481 : decode cL_law 481 = .ok (.iconst 0, 1) := dk_3 (dk_at dksL_law_13 11 rfl rfl)
theorem dL_law_482 : decode cL_law 482 = .ok (.ireturn, 1) := dk_172 (dk_at dksL_law_13 12 rfl rfl)
theorem dL_law_483 : decode cL_law 483 = .ok (.iload 6, 2) := dk_21 6 (dk_at dksL_law_13 13 rfl rfl)
theorem dL_law_485 : decode cL_law 485 = .ok (.ifCond .ne 15, 3) := dk_154 0 15 (dk_at dksL_law_13 15 rfl rfl)
theorem dL_law_488 : decode cL_law 488 = .ok (.aload_n 3, 1) := dk_45 (dk_at dksL_law_13 18 rfl rfl)
theorem dL_law_489 : decode cL_law 489 = .ok (.iconst 0, 1) := dk_3 (dk_at dksL_law_13 19 rfl rfl)
theorem dL_law_490 : decode cL_law 490 = .ok (.laload, 1) := dk_47 (dk_at dksL_law_13 20 rfl rfl)
theorem dL_law_491 : decode cL_law 491 = .ok (.iload 7, 2) := dk_21 7 (dk_at dksL_law_13 21 rfl rfl)
theorem dL_law_493 : decode cL_law 493 = .ok (.i2l, 1) := dk_133 (dk_at dksL_law_13 23 rfl rfl)
theorem dL_law_494 : decode cL_law 494 = .ok (.lcmp, 1) := dk_148 (dk_at dksL_law_14 0 rfl rfl)
theorem dL_law_495 : decode cL_law 495 = .ok (.ifCond .eq 5, 3) := dk_153 0 5 (dk_at dksL_law_14 1 rfl rfl)
theorem dL_law_498 : decode cL_law 498 = .ok (.iconst 0, 1) := dk_3 (dk_at dksL_law_14 4 rfl rfl)
theorem dL_law_499 : decode cL_law 499 = .ok (.ireturn, 1) := dk_172 (dk_at dksL_law_14 5 rfl rfl)
theorem dL_law_500 : decode cL_law 500 = .ok (.goto 1993, 3) := dk_167 7 201 (dk_at dksL_law_14 6 rfl rfl)
theorem dL_law_503 : decode cL_law 503 = .ok (.aload_n 1, 1) := dk_43 (dk_at dksL_law_14 9 rfl rfl)
theorem dL_law_504 : decode cL_law 504 = .ok (.aload_n 0, 1) := dk_42 (dk_at dksL_law_14 10 rfl rfl)
theorem dL_law_505 : decode cL_law 505 = .ok (.iload 5, 2) := dk_21 5 (dk_at dksL_law_14 11 rfl rfl)
theorem dL_law_507 : decode cL_law 507 = .ok (.iconst 1, 1) := dk_4 (dk_at dksL_law_14 13 rfl rfl)
theorem dL_law_508 : decode cL_law 508 = .ok (.iadd, 1) := dk_96 (dk_at dksL_law_14 14 rfl rfl)
theorem dL_law_509 : decode cL_law 509 = .ok (.iaload, 1) := dk_46 (dk_at dksL_law_14 15 rfl rfl)
theorem dL_law_510 : decode cL_law 510 = .ok (.aload_n 0, 1) := dk_42 (dk_at dksL_law_14 16 rfl rfl)
theorem dL_law_511 : decode cL_law 511 = .ok (.iload 5, 2) := dk_21 5 (dk_at dksL_law_14 17 rfl rfl)
theorem dL_law_513 : decode cL_law 513 = .ok (.iconst 2, 1) := dk_5 (dk_at dksL_law_14 19 rfl rfl)
theorem dL_law_514 : decode cL_law 514 = .ok (.iadd, 1) := dk_96 (dk_at dksL_law_14 20 rfl rfl)
theorem dL_law_515 : decode cL_law 515 = .ok (.iaload, 1) := dk_46 (dk_at dksL_law_14 21 rfl rfl)
theorem dL_law_516 : decode cL_law 516 = .ok (.aload_n 3, 1) := dk_45 (dk_at dksL_law_14 22 rfl rfl)
theorem dL_law_517 : decode cL_law 517 = .ok (.invokestatic 149, 3) := dk_184 0 149 (dk_at dksL_law_15 0 rfl rfl)
theorem dL_law_520 : decode cL_law 520 = .ok (.istore 6, 2) := dk_54 6 (dk_at dksL_law_15 3 rfl rfl)
theorem dL_law_522 : decode cL_law 522 = .ok (.aload_n 2, 1) := dk_44 (dk_at dksL_law_15 5 rfl rfl)
theorem dL_law_523 : decode cL_law 523 = .ok (.aload_n 0, 1) := dk_42 (dk_at dksL_law_15 6 rfl rfl)
theorem dL_law_524 : decode cL_law 524 = .ok (.iload 5, 2) := dk_21 5 (dk_at dksL_law_15 7 rfl rfl)
theorem dL_law_526 : decode cL_law 526 = .ok (.iconst 1, 1) := dk_4 (dk_at dksL_law_15 9 rfl rfl)
theorem dL_law_527 : decode cL_law 527 = .ok (.iadd, 1) := dk_96 (dk_at dksL_law_15 10 rfl rfl)
theorem dL_law_528 : decode cL_law 528 = .ok (.iaload, 1) := dk_46 (dk_at dksL_law_15 11 rfl rfl)
theorem dL_law_529 : decode cL_law 529 = .ok (.aload_n 0, 1) := dk_42 (dk_at dksL_law_15 12 rfl rfl)
theorem dL_law_530 : decode cL_law 530 = .ok (.iload 5, 2) := dk_21 5 (dk_at dksL_law_15 13 rfl rfl)
theorem dL_law_532 : decode cL_law 532 = .ok (.iconst 2, 1) := dk_5 (dk_at dksL_law_15 15 rfl rfl)
theorem dL_law_533 : decode cL_law 533 = .ok (.iadd, 1) := dk_96 (dk_at dksL_law_15 16 rfl rfl)
theorem dL_law_534 : decode cL_law 534 = .ok (.iaload, 1) := dk_46 (dk_at dksL_law_15 17 rfl rfl)
theorem dL_law_535 : decode cL_law 535 = .ok (.invokevirtual 151, 3) := dk_182 0 151 (dk_at dksL_law_15 18 rfl rfl)
theorem dL_law_538 : decode cL_law 538 = .ok (.istore 7, 2) := dk_54 7 (dk_at dksL_law_15 21 rfl rfl)
theorem dL_law_540 : decode cL_law 540 = .ok (.aload_n 2, 1) := dk_44 (dk_at dksL_law_15 23 rfl rfl)
theorem dL_law_541 : decode cL_law 541 = .ok (.invokevirtual 136, 3) := dk_182 0 136 (dk_at dksL_law_16 0 rfl rfl)
theorem dL_law_544 : decode cL_law 544 = .ok (.iload 6, 2) := dk_21 6 (dk_at dksL_law_16 3 rfl rfl)
theorem dL_law_546 : decode cL_law 546 = .ok (.if_icmp .eq 5, 3) := dk_159 0 5 (dk_at dksL_law_16 5 rfl rfl)
theorem dL_law_549 : decode cL_law 549 = .ok (.iconst 0, 1) := dk_3 (dk_at dksL_law_16 8 rfl rfl)
theorem dL_law_550 : decode cL_law 550 = .ok (.ireturn, 1) := dk_172 (dk_at dksL_law_16 9 rfl rfl)
theorem dL_law_551 : decode cL_law 551 = .ok (.iload 6, 2) := dk_21 6 (dk_at dksL_law_16 10 rfl rfl)
theorem dL_law_553 : decode cL_law 553 = .ok (.ifCond .ne 15, 3) := dk_154 0 15 (dk_at dksL_law_16 12 rfl rfl)
theorem dL_law_556 : decode cL_law 556 = .ok (.aload_n 3, 1) := dk_45 (dk_at dksL_law_16 15 rfl rfl)
theorem dL_law_557 : decode cL_law 557 = .ok (.iconst 0, 1) := dk_3 (dk_at dksL_law_16 16 rfl rfl)
theorem dL_law_558 : decode cL_law 558 = .ok (.laload, 1) := dk_47 (dk_at dksL_law_16 17 rfl rfl)
theorem dL_law_559 : decode cL_law 559 = .ok (.iload 7, 2) := dk_21 7 (dk_at dksL_law_16 18 rfl rfl)
theorem dL_law_561 : decode cL_law 561 = .ok (.i2l, 1) := dk_133 (dk_at dksL_law_16 20 rfl rfl)
theorem dL_law_562 : decode cL_law 562 = .ok (.lcmp, 1) := dk_148 (dk_at dksL_law_16 21 rfl rfl)
theorem dL_law_563 : decode cL_law 563 = .ok (.ifCond .eq 5, 3) := dk_153 0 5 (dk_at dksL_law_17 0 rfl rfl)
theorem dL_law_566 : decode cL_law 566 = .ok (.iconst 0, 1) := dk_3 (dk_at dksL_law_17 3 rfl rfl)
theorem dL_law_567 : decode cL_law 567 = .ok (.ireturn, 1) := dk_172 (dk_at dksL_law_17 4 rfl rfl)
theorem dL_law_568 : decode cL_law 568 = .ok (.goto 1925, 3) := dk_167 7 133 (dk_at dksL_law_17 5 rfl rfl)
theorem dL_law_571 : decode cL_law 571 = .ok (.aload_n 1, 1) := dk_43 (dk_at dksL_law_17 8 rfl rfl)
theorem dL_law_572 : decode cL_law 572 = .ok (.aload_n 0, 1) := dk_42 (dk_at dksL_law_17 9 rfl rfl)
theorem dL_law_573 : decode cL_law 573 = .ok (.iload 5, 2) := dk_21 5 (dk_at dksL_law_17 10 rfl rfl)
theorem dL_law_575 : decode cL_law 575 = .ok (.iconst 1, 1) := dk_4 (dk_at dksL_law_17 12 rfl rfl)
theorem dL_law_576 : decode cL_law 576 = .ok (.iadd, 1) := dk_96 (dk_at dksL_law_17 13 rfl rfl)
theorem dL_law_577 : decode cL_law 577 = .ok (.iaload, 1) := dk_46 (dk_at dksL_law_17 14 rfl rfl)
theorem dL_law_578 : decode cL_law 578 = .ok (.aload_n 3, 1) := dk_45 (dk_at dksL_law_17 15 rfl rfl)
theorem dL_law_579 : decode cL_law 579 = .ok (.invokestatic 152, 3) := dk_184 0 152 (dk_at dksL_law_17 16 rfl rfl)
theorem dL_law_582 : decode cL_law 582 = .ok (.istore 6, 2) := dk_54 6 (dk_at dksL_law_17 19 rfl rfl)
theorem dL_law_584 : decode cL_law 584 = .ok (.aload_n 2, 1) := dk_44 (dk_at dksL_law_17 21 rfl rfl)
theorem dL_law_585 : decode cL_law 585 = .ok (.aload_n 0, 1) := dk_42 (dk_at dksL_law_17 22 rfl rfl)
theorem dL_law_586 : decode cL_law 586 = .ok (.iload 5, 2) := dk_21 5 (dk_at dksL_law_18 0 rfl rfl)
theorem dL_law_588 : decode cL_law 588 = .ok (.iconst 1, 1) := dk_4 (dk_at dksL_law_18 2 rfl rfl)
theorem dL_law_589 : decode cL_law 589 = .ok (.iadd, 1) := dk_96 (dk_at dksL_law_18 3 rfl rfl)
theorem dL_law_590 : decode cL_law 590 = .ok (.iaload, 1) := dk_46 (dk_at dksL_law_18 4 rfl rfl)
theorem dL_law_591 : decode cL_law 591 = .ok (.invokevirtual 154, 3) := dk_182 0 154 (dk_at dksL_law_18 5 rfl rfl)
theorem dL_law_594 : decode cL_law 594 = .ok (.istore 7, 2) := dk_54 7 (dk_at dksL_law_18 8 rfl rfl)
theorem dL_law_596 : decode cL_law 596 = .ok (.aload_n 2, 1) := dk_44 (dk_at dksL_law_18 10 rfl rfl)
theorem dL_law_597 : decode cL_law 597 = .ok (.invokevirtual 136, 3) := dk_182 0 136 (dk_at dksL_law_18 11 rfl rfl)
theorem dL_law_600 : decode cL_law 600 = .ok (.iload 6, 2) := dk_21 6 (dk_at dksL_law_18 14 rfl rfl)
theorem dL_law_602 : decode cL_law 602 = .ok (.if_icmp .eq 5, 3) := dk_159 0 5 (dk_at dksL_law_18 16 rfl rfl)
theorem dL_law_605 : decode cL_law 605 = .ok (.iconst 0, 1) := dk_3 (dk_at dksL_law_18 19 rfl rfl)
theorem dL_law_606 : decode cL_law 606 = .ok (.ireturn, 1) := dk_172 (dk_at dksL_law_18 20 rfl rfl)
theorem dL_law_607 : decode cL_law 607 = .ok (.iload 6, 2) := dk_21 6 (dk_at dksL_law_18 21 rfl rfl)
theorem dL_law_609 : decode cL_law 609 = .ok (.ifCond .ne 15, 3) := dk_154 0 15 (dk_at dksL_law_19 0 rfl rfl)
theorem dL_law_612 : decode cL_law 612 = .ok (.aload_n 3, 1) := dk_45 (dk_at dksL_law_19 3 rfl rfl)
theorem dL_law_613 : decode cL_law 613 = .ok (.iconst 0, 1) := dk_3 (dk_at dksL_law_19 4 rfl rfl)
theorem dL_law_614 : decode cL_law 614 = .ok (.laload, 1) := dk_47 (dk_at dksL_law_19 5 rfl rfl)
theorem dL_law_615 : decode cL_law 615 = .ok (.iload 7, 2) := dk_21 7 (dk_at dksL_law_19 6 rfl rfl)
theorem dL_law_617 : decode cL_law 617 = .ok (.i2l, 1) := dk_133 (dk_at dksL_law_19 8 rfl rfl)
theorem dL_law_618 : decode cL_law 618 = .ok (.lcmp, 1) := dk_148 (dk_at dksL_law_19 9 rfl rfl)
theorem dL_law_619 : decode cL_law 619 = .ok (.ifCond .eq 5, 3) := dk_153 0 5 (dk_at dksL_law_19 10 rfl rfl)
theorem dL_law_622 : decode cL_law 622 = .ok (.iconst 0, 1) := dk_3 (dk_at dksL_law_19 13 rfl rfl)
theorem dL_law_623 : decode cL_law 623 = .ok (.ireturn, 1) := dk_172 (dk_at dksL_law_19 14 rfl rfl)
theorem dL_law_624 : decode cL_law 624 = .ok (.goto 1869, 3) := dk_167 7 77 (dk_at dksL_law_19 15 rfl rfl)
theorem dL_law_627 : decode cL_law 627 = .ok (.aload_n 1, 1) := dk_43 (dk_at dksL_law_19 18 rfl rfl)
theorem dL_law_628 : decode cL_law 628 = .ok (.aload_n 0, 1) := dk_42 (dk_at dksL_law_19 19 rfl rfl)
theorem dL_law_629 : decode cL_law 629 = .ok (.iload 5, 2) := dk_21 5 (dk_at dksL_law_19 20 rfl rfl)
theorem dL_law_631 : decode cL_law 631 = .ok (.iconst 1, 1) := dk_4 (dk_at dksL_law_19 22 rfl rfl)
theorem dL_law_632 : decode cL_law 632 = .ok (.iadd, 1) := dk_96 (dk_at dksL_law_19 23 rfl rfl)
theorem dL_law_633 : decode cL_law 633 = .ok (.iaload, 1) := dk_46 (dk_at dksL_law_20 0 rfl rfl)
theorem dL_law_634 : decode cL_law 634 = .ok (.aload_n 3, 1) := dk_45 (dk_at dksL_law_20 1 rfl rfl)
theorem dL_law_635 : decode cL_law 635 = .ok (.invokestatic 155, 3) := dk_184 0 155 (dk_at dksL_law_20 2 rfl rfl)
theorem dL_law_638 : decode cL_law 638 = .ok (.istore 6, 2) := dk_54 6 (dk_at dksL_law_20 5 rfl rfl)
theorem dL_law_640 : decode cL_law 640 = .ok (.aload_n 2, 1) := dk_44 (dk_at dksL_law_20 7 rfl rfl)
theorem dL_law_641 : decode cL_law 641 = .ok (.aload_n 0, 1) := dk_42 (dk_at dksL_law_20 8 rfl rfl)
theorem dL_law_642 : decode cL_law 642 = .ok (.iload 5, 2) := dk_21 5 (dk_at dksL_law_20 9 rfl rfl)
theorem dL_law_644 : decode cL_law 644 = .ok (.iconst 1, 1) := dk_4 (dk_at dksL_law_20 11 rfl rfl)
theorem dL_law_645 : decode cL_law 645 = .ok (.iadd, 1) := dk_96 (dk_at dksL_law_20 12 rfl rfl)
theorem dL_law_646 : decode cL_law 646 = .ok (.iaload, 1) := dk_46 (dk_at dksL_law_20 13 rfl rfl)
theorem dL_law_647 : decode cL_law 647 = .ok (.invokevirtual 157, 3) := dk_182 0 157 (dk_at dksL_law_20 14 rfl rfl)
theorem dL_law_650 : decode cL_law 650 = .ok (.istore 7, 2) := dk_54 7 (dk_at dksL_law_20 17 rfl rfl)
theorem dL_law_652 : decode cL_law 652 = .ok (.aload_n 2, 1) := dk_44 (dk_at dksL_law_20 19 rfl rfl)
theorem dL_law_653 : decode cL_law 653 = .ok (.invokevirtual 136, 3) := dk_182 0 136 (dk_at dksL_law_20 20 rfl rfl)
theorem dL_law_656 : decode cL_law 656 = .ok (.iload 6, 2) := dk_21 6 (dk_at dksL_law_21 0 rfl rfl)
theorem dL_law_658 : decode cL_law 658 = .ok (.if_icmp .eq 5, 3) := dk_159 0 5 (dk_at dksL_law_21 2 rfl rfl)
theorem dL_law_661 : decode cL_law 661 = .ok (.iconst 0, 1) := dk_3 (dk_at dksL_law_21 5 rfl rfl)
theorem dL_law_662 : decode cL_law 662 = .ok (.ireturn, 1) := dk_172 (dk_at dksL_law_21 6 rfl rfl)
theorem dL_law_663 : decode cL_law 663 = .ok (.iload 6, 2) := dk_21 6 (dk_at dksL_law_21 7 rfl rfl)
theorem dL_law_665 : decode cL_law 665 = .ok (.ifCond .ne 15, 3) := dk_154 0 15 (dk_at dksL_law_21 9 rfl rfl)
theorem dL_law_668 : decode cL_law 668 = .ok (.aload_n 3, 1) := dk_45 (dk_at dksL_law_21 12 rfl rfl)
theorem dL_law_669 : decode cL_law 669 = .ok (.iconst 0, 1) := dk_3 (dk_at dksL_law_21 13 rfl rfl)
theorem dL_law_670 : decode cL_law 670 = .ok (.laload, 1) := dk_47 (dk_at dksL_law_21 14 rfl rfl)
theorem dL_law_671 : decode cL_law 671 = .ok (.iload 7, 2) := dk_21 7 (dk_at dksL_law_21 15 rfl rfl)
theorem dL_law_673 : decode cL_law 673 = .ok (.i2l, 1) := dk_133 (dk_at dksL_law_21 17 rfl rfl)
theorem dL_law_674 : decode cL_law 674 = .ok (.lcmp, 1) := dk_148 (dk_at dksL_law_21 18 rfl rfl)
theorem dL_law_675 : decode cL_law 675 = .ok (.ifCond .eq 5, 3) := dk_153 0 5 (dk_at dksL_law_21 19 rfl rfl)
theorem dL_law_678 : decode cL_law 678 = .ok (.iconst 0, 1) := dk_3 (dk_at dksL_law_21 22 rfl rfl)
theorem dL_law_679 : decode cL_law 679 = .ok (.ireturn, 1) := dk_172 (dk_at dksL_law_21 23 rfl rfl)
theorem dL_law_680 : decode cL_law 680 = .ok (.goto 1813, 3) := dk_167 7 21 (dk_at dksL_law_22 0 rfl rfl)
theorem dL_law_683 : decode cL_law 683 = .ok (.aload_n 1, 1) := dk_43 (dk_at dksL_law_22 3 rfl rfl)
theorem dL_law_684 : decode cL_law 684 = .ok (.invokevirtual 158, 3) := dk_182 0 158 (dk_at dksL_law_22 4 rfl rfl)
theorem dL_law_687 : decode cL_law 687 = .ok (.aload_n 2, 1) := dk_44 (dk_at dksL_law_22 7 rfl rfl)
theorem dL_law_688 : decode cL_law 688 = .ok (.invokevirtual 161, 3) := dk_182 0 161 (dk_at dksL_law_22 8 rfl rfl)
theorem dL_law_691 : decode cL_law 691 = .ok (.if_icmp .eq 1802, 3) := dk_159 7 10 (dk_at dksL_law_22 11 rfl rfl)
theorem dL_law_694 : decode cL_law 694 = .ok (.iconst 0, 1) := dk_3 (dk_at dksL_law_22 14 rfl rfl)
theorem dL_law_695 : decode cL_law 695 = .ok (.ireturn, 1) := dk_172 (dk_at dksL_law_22 15 rfl rfl)
theorem dL_law_696 : decode cL_law 696 = .ok (.aload_n 1, 1) := dk_43 (dk_at dksL_law_22 16 rfl rfl)
theorem dL_law_697 : decode cL_law 697 = .ok (.aload_n 0, 1) := dk_42 (dk_at dksL_law_22 17 rfl rfl)
theorem dL_law_698 : decode cL_law 698 = .ok (.iload 5, 2) := dk_21 5 (dk_at dksL_law_22 18 rfl rfl)
theorem dL_law_700 : decode cL_law 700 = .ok (.iconst 1, 1) := dk_4 (dk_at dksL_law_22 20 rfl rfl)
theorem dL_law_701 : decode cL_law 701 = .ok (.iadd, 1) := dk_96 (dk_at dksL_law_22 21 rfl rfl)
theorem dL_law_702 : decode cL_law 702 = .ok (.iaload, 1) := dk_46 (dk_at dksL_law_22 22 rfl rfl)
theorem dL_law_703 : decode cL_law 703 = .ok (.aload_n 3, 1) := dk_45 (dk_at dksL_law_22 23 rfl rfl)
theorem dL_law_704 : decode cL_law 704 = .ok (.invokestatic 162, 3) := dk_184 0 162 (dk_at dksL_law_23 0 rfl rfl)
theorem dL_law_707 : decode cL_law 707 = .ok (.istore 6, 2) := dk_54 6 (dk_at dksL_law_23 3 rfl rfl)
theorem dL_law_709 : decode cL_law 709 = .ok (.aload_n 2, 1) := dk_44 (dk_at dksL_law_23 5 rfl rfl)
theorem dL_law_710 : decode cL_law 710 = .ok (.aload_n 0, 1) := dk_42 (dk_at dksL_law_23 6 rfl rfl)
theorem dL_law_711 : decode cL_law 711 = .ok (.iload 5, 2) := dk_21 5 (dk_at dksL_law_23 7 rfl rfl)
theorem dL_law_713 : decode cL_law 713 = .ok (.iconst 1, 1) := dk_4 (dk_at dksL_law_23 9 rfl rfl)
theorem dL_law_714 : decode cL_law 714 = .ok (.iadd, 1) := dk_96 (dk_at dksL_law_23 10 rfl rfl)
theorem dL_law_715 : decode cL_law 715 = .ok (.iaload, 1) := dk_46 (dk_at dksL_law_23 11 rfl rfl)
theorem dL_law_716 : decode cL_law 716 = .ok (.invokevirtual 164, 3) := dk_182 0 164 (dk_at dksL_law_23 12 rfl rfl)
theorem dL_law_719 : decode cL_law 719 = .ok (.istore 7, 2) := dk_54 7 (dk_at dksL_law_23 15 rfl rfl)
theorem dL_law_721 : decode cL_law 721 = .ok (.aload_n 2, 1) := dk_44 (dk_at dksL_law_23 17 rfl rfl)
theorem dL_law_722 : decode cL_law 722 = .ok (.invokevirtual 136, 3) := dk_182 0 136 (dk_at dksL_law_23 18 rfl rfl)
theorem dL_law_725 : decode cL_law 725 = .ok (.iload 6, 2) := dk_21 6 (dk_at dksL_law_23 21 rfl rfl)
theorem dL_law_727 : decode cL_law 727 = .ok (.if_icmp .eq 5, 3) := dk_159 0 5 (dk_at dksL_law_24 0 rfl rfl)
theorem dL_law_730 : decode cL_law 730 = .ok (.iconst 0, 1) := dk_3 (dk_at dksL_law_24 3 rfl rfl)
theorem dL_law_731 : decode cL_law 731 = .ok (.ireturn, 1) := dk_172 (dk_at dksL_law_24 4 rfl rfl)
theorem dL_law_732 : decode cL_law 732 = .ok (.iload 6, 2) := dk_21 6 (dk_at dksL_law_24 5 rfl rfl)
theorem dL_law_734 : decode cL_law 734 = .ok (.ifCond .ne 15, 3) := dk_154 0 15 (dk_at dksL_law_24 7 rfl rfl)
theorem dL_law_737 : decode cL_law 737 = .ok (.aload_n 3, 1) := dk_45 (dk_at dksL_law_24 10 rfl rfl)
theorem dL_law_738 : decode cL_law 738 = .ok (.iconst 0, 1) := dk_3 (dk_at dksL_law_24 11 rfl rfl)
theorem dL_law_739 : decode cL_law 739 = .ok (.laload, 1) := dk_47 (dk_at dksL_law_24 12 rfl rfl)
theorem dL_law_740 : decode cL_law 740 = .ok (.iload 7, 2) := dk_21 7 (dk_at dksL_law_24 13 rfl rfl)
theorem dL_law_742 : decode cL_law 742 = .ok (.i2l, 1) := dk_133 (dk_at dksL_law_24 15 rfl rfl)
theorem dL_law_743 : decode cL_law 743 = .ok (.lcmp, 1) := dk_148 (dk_at dksL_law_24 16 rfl rfl)
theorem dL_law_744 : decode cL_law 744 = .ok (.ifCond .eq 5, 3) := dk_153 0 5 (dk_at dksL_law_24 17 rfl rfl)
theorem dL_law_747 : decode cL_law 747 = .ok (.iconst 0, 1) := dk_3 (dk_at dksL_law_24 20 rfl rfl)
theorem dL_law_748 : decode cL_law 748 = .ok (.ireturn, 1) := dk_172 (dk_at dksL_law_24 21 rfl rfl)
theorem dL_law_749 : decode cL_law 749 = .ok (.goto 1744, 3) := dk_167 6 208 (dk_at dksL_law_25 0 rfl rfl)
theorem dL_law_752 : decode cL_law 752 = .ok (.aload_n 1, 1) := dk_43 (dk_at dksL_law_25 3 rfl rfl)
theorem dL_law_753 : decode cL_law 753 = .ok (.invokevirtual 165, 3) := dk_182 0 165 (dk_at dksL_law_25 4 rfl rfl)
theorem dL_law_756 : decode cL_law 756 = .ok (.aload_n 2, 1) := dk_44 (dk_at dksL_law_25 7 rfl rfl)
theorem dL_law_757 : decode cL_law 757 = .ok (.invokevirtual 168, 3) := dk_182 0 168 (dk_at dksL_law_25 8 rfl rfl)
theorem dL_law_760 : decode cL_law 760 = .ok (.if_icmp .eq 1733, 3) := dk_159 6 197 (dk_at dksL_law_25 11 rfl rfl)
theorem dL_law_763 : decode cL_law 763 = .ok (.iconst 0, 1) := dk_3 (dk_at dksL_law_25 14 rfl rfl)
theorem dL_law_764 : decode cL_law 764 = .ok (.ireturn, 1) := dk_172 (dk_at dksL_law_25 15 rfl rfl)
theorem dL_law_765 : decode cL_law 765 = .ok (.aload_n 1, 1) := dk_43 (dk_at dksL_law_25 16 rfl rfl)
theorem dL_law_766 : decode cL_law 766 = .ok (.aload_n 0, 1) := dk_42 (dk_at dksL_law_25 17 rfl rfl)
theorem dL_law_767 : decode cL_law 767 = .ok (.iload 5, 2) := dk_21 5 (dk_at dksL_law_25 18 rfl rfl)
theorem dL_law_769 : decode cL_law 769 = .ok (.iconst 1, 1) := dk_4 (dk_at dksL_law_25 20 rfl rfl)
theorem dL_law_770 : decode cL_law 770 = .ok (.iadd, 1) := dk_96 (dk_at dksL_law_25 21 rfl rfl)
theorem dL_law_771 : decode cL_law 771 = .ok (.iaload, 1) := dk_46 (dk_at dksL_law_25 22 rfl rfl)
theorem dL_law_772 : decode cL_law 772 = .ok (.aload_n 3, 1) := dk_45 (dk_at dksL_law_25 23 rfl rfl)
theorem dL_law_773 : decode cL_law 773 = .ok (.invokestatic 169, 3) := dk_184 0 169 (dk_at dksL_law_26 0 rfl rfl)
theorem dL_law_776 : decode cL_law 776 = .ok (.istore 6, 2) := dk_54 6 (dk_at dksL_law_26 3 rfl rfl)
theorem dL_law_778 : decode cL_law 778 = .ok (.aload_n 2, 1) := dk_44 (dk_at dksL_law_26 5 rfl rfl)
theorem dL_law_779 : decode cL_law 779 = .ok (.aload_n 0, 1) := dk_42 (dk_at dksL_law_26 6 rfl rfl)
theorem dL_law_780 : decode cL_law 780 = .ok (.iload 5, 2) := dk_21 5 (dk_at dksL_law_26 7 rfl rfl)
theorem dL_law_782 : decode cL_law 782 = .ok (.iconst 1, 1) := dk_4 (dk_at dksL_law_26 9 rfl rfl)
theorem dL_law_783 : decode cL_law 783 = .ok (.iadd, 1) := dk_96 (dk_at dksL_law_26 10 rfl rfl)
theorem dL_law_784 : decode cL_law 784 = .ok (.iaload, 1) := dk_46 (dk_at dksL_law_26 11 rfl rfl)
theorem dL_law_785 : decode cL_law 785 = .ok (.invokevirtual 171, 3) := dk_182 0 171 (dk_at dksL_law_26 12 rfl rfl)
theorem dL_law_788 : decode cL_law 788 = .ok (.istore 7, 2) := dk_54 7 (dk_at dksL_law_26 15 rfl rfl)
theorem dL_law_790 : decode cL_law 790 = .ok (.aload_n 2, 1) := dk_44 (dk_at dksL_law_26 17 rfl rfl)
theorem dL_law_791 : decode cL_law 791 = .ok (.invokevirtual 136, 3) := dk_182 0 136 (dk_at dksL_law_26 18 rfl rfl)
theorem dL_law_794 : decode cL_law 794 = .ok (.iload 6, 2) := dk_21 6 (dk_at dksL_law_26 21 rfl rfl)
theorem dL_law_796 : decode cL_law 796 = .ok (.if_icmp .eq 5, 3) := dk_159 0 5 (dk_at dksL_law_27 0 rfl rfl)
theorem dL_law_799 : decode cL_law 799 = .ok (.iconst 0, 1) := dk_3 (dk_at dksL_law_27 3 rfl rfl)
theorem dL_law_800 : decode cL_law 800 = .ok (.ireturn, 1) := dk_172 (dk_at dksL_law_27 4 rfl rfl)
theorem dL_law_801 : decode cL_law 801 = .ok (.iload 6, 2) := dk_21 6 (dk_at dksL_law_27 5 rfl rfl)
theorem dL_law_803 : decode cL_law 803 = .ok (.ifCond .ne 15, 3) := dk_154 0 15 (dk_at dksL_law_27 7 rfl rfl)
theorem dL_law_806 : decode cL_law 806 = .ok (.aload_n 3, 1) := dk_45 (dk_at dksL_law_27 10 rfl rfl)
theorem dL_law_807 : decode cL_law 807 = .ok (.iconst 0, 1) := dk_3 (dk_at dksL_law_27 11 rfl rfl)
theorem dL_law_808 : decode cL_law 808 = .ok (.laload, 1) := dk_47 (dk_at dksL_law_27 12 rfl rfl)
theorem dL_law_809 : decode cL_law 809 = .ok (.iload 7, 2) := dk_21 7 (dk_at dksL_law_27 13 rfl rfl)
theorem dL_law_811 : decode cL_law 811 = .ok (.i2l, 1) := dk_133 (dk_at dksL_law_27 15 rfl rfl)
theorem dL_law_812 : decode cL_law 812 = .ok (.lcmp, 1) := dk_148 (dk_at dksL_law_27 16 rfl rfl)
theorem dL_law_813 : decode cL_law 813 = .ok (.ifCond .eq 5, 3) := dk_153 0 5 (dk_at dksL_law_27 17 rfl rfl)
theorem dL_law_816 : decode cL_law 816 = .ok (.iconst 0, 1) := dk_3 (dk_at dksL_law_27 20 rfl rfl)
theorem dL_law_817 : decode cL_law 817 = .ok (.ireturn, 1) := dk_172 (dk_at dksL_law_27 21 rfl rfl)
theorem dL_law_818 : decode cL_law 818 = .ok (.goto 1675, 3) := dk_167 6 139 (dk_at dksL_law_28 0 rfl rfl)
theorem dL_law_821 : decode cL_law 821 = .ok (.aload_n 1, 1) := dk_43 (dk_at dksL_law_28 3 rfl rfl)
theorem dL_law_822 : decode cL_law 822 = .ok (.aload_n 0, 1) := dk_42 (dk_at dksL_law_28 4 rfl rfl)
theorem dL_law_823 : decode cL_law 823 = .ok (.iload 5, 2) := dk_21 5 (dk_at dksL_law_28 5 rfl rfl)
theorem dL_law_825 : decode cL_law 825 = .ok (.iconst 1, 1) := dk_4 (dk_at dksL_law_28 7 rfl rfl)
theorem dL_law_826 : decode cL_law 826 = .ok (.iadd, 1) := dk_96 (dk_at dksL_law_28 8 rfl rfl)
theorem dL_law_827 : decode cL_law 827 = .ok (.iaload, 1) := dk_46 (dk_at dksL_law_28 9 rfl rfl)
theorem dL_law_828 : decode cL_law 828 = .ok (.aload_n 3, 1) := dk_45 (dk_at dksL_law_28 10 rfl rfl)
theorem dL_law_829 : decode cL_law 829 = .ok (.invokestatic 172, 3) := dk_184 0 172 (dk_at dksL_law_28 11 rfl rfl)
theorem dL_law_832 : decode cL_law 832 = .ok (.istore 6, 2) := dk_54 6 (dk_at dksL_law_28 14 rfl rfl)
theorem dL_law_834 : decode cL_law 834 = .ok (.aload_n 2, 1) := dk_44 (dk_at dksL_law_28 16 rfl rfl)
theorem dL_law_835 : decode cL_law 835 = .ok (.aload_n 0, 1) := dk_42 (dk_at dksL_law_28 17 rfl rfl)
theorem dL_law_836 : decode cL_law 836 = .ok (.iload 5, 2) := dk_21 5 (dk_at dksL_law_28 18 rfl rfl)
theorem dL_law_838 : decode cL_law 838 = .ok (.iconst 1, 1) := dk_4 (dk_at dksL_law_28 20 rfl rfl)
theorem dL_law_839 : decode cL_law 839 = .ok (.iadd, 1) := dk_96 (dk_at dksL_law_28 21 rfl rfl)
theorem dL_law_840 : decode cL_law 840 = .ok (.iaload, 1) := dk_46 (dk_at dksL_law_28 22 rfl rfl)
theorem dL_law_841 : decode cL_law 841 = .ok (.invokevirtual 174, 3) := dk_182 0 174 (dk_at dksL_law_29 0 rfl rfl)
theorem dL_law_844 : decode cL_law 844 = .ok (.istore 7, 2) := dk_54 7 (dk_at dksL_law_29 3 rfl rfl)
theorem dL_law_846 : decode cL_law 846 = .ok (.aload_n 2, 1) := dk_44 (dk_at dksL_law_29 5 rfl rfl)
theorem dL_law_847 : decode cL_law 847 = .ok (.invokevirtual 136, 3) := dk_182 0 136 (dk_at dksL_law_29 6 rfl rfl)
theorem dL_law_850 : decode cL_law 850 = .ok (.iload 6, 2) := dk_21 6 (dk_at dksL_law_29 9 rfl rfl)
theorem dL_law_852 : decode cL_law 852 = .ok (.if_icmp .eq 5, 3) := dk_159 0 5 (dk_at dksL_law_29 11 rfl rfl)
theorem dL_law_855 : decode cL_law 855 = .ok (.iconst 0, 1) := dk_3 (dk_at dksL_law_29 14 rfl rfl)
theorem dL_law_856 : decode cL_law 856 = .ok (.ireturn, 1) := dk_172 (dk_at dksL_law_29 15 rfl rfl)
theorem dL_law_857 : decode cL_law 857 = .ok (.iload 6, 2) := dk_21 6 (dk_at dksL_law_29 16 rfl rfl)
theorem dL_law_859 : decode cL_law 859 = .ok (.ifCond .ne 15, 3) := dk_154 0 15 (dk_at dksL_law_29 18 rfl rfl)
theorem dL_law_862 : decode cL_law 862 = .ok (.aload_n 3, 1) := dk_45 (dk_at dksL_law_29 21 rfl rfl)
theorem dL_law_863 : decode cL_law 863 = .ok (.iconst 0, 1) := dk_3 (dk_at dksL_law_29 22 rfl rfl)
theorem dL_law_864 : decode cL_law 864 = .ok (.laload, 1) := dk_47 (dk_at dksL_law_29 23 rfl rfl)
theorem dL_law_865 : decode cL_law 865 = .ok (.iload 7, 2) := dk_21 7 (dk_at dksL_law_30 0 rfl rfl)
theorem dL_law_867 : decode cL_law 867 = .ok (.i2l, 1) := dk_133 (dk_at dksL_law_30 2 rfl rfl)
theorem dL_law_868 : decode cL_law 868 = .ok (.lcmp, 1) := dk_148 (dk_at dksL_law_30 3 rfl rfl)
theorem dL_law_869 : decode cL_law 869 = .ok (.ifCond .eq 5, 3) := dk_153 0 5 (dk_at dksL_law_30 4 rfl rfl)
theorem dL_law_872 : decode cL_law 872 = .ok (.iconst 0, 1) := dk_3 (dk_at dksL_law_30 7 rfl rfl)
theorem dL_law_873 : decode cL_law 873 = .ok (.ireturn, 1) := dk_172 (dk_at dksL_law_30 8 rfl rfl)
theorem dL_law_874 : decode cL_law 874 = .ok (.goto 1619, 3) := dk_167 6 83 (dk_at dksL_law_30 9 rfl rfl)
theorem dL_law_877 : decode cL_law 877 = .ok (.aload_n 1, 1) := dk_43 (dk_at dksL_law_30 12 rfl rfl)
theorem dL_law_878 : decode cL_law 878 = .ok (.aload_n 0, 1) := dk_42 (dk_at dksL_law_30 13 rfl rfl)
theorem dL_law_879 : decode cL_law 879 = .ok (.iload 5, 2) := dk_21 5 (dk_at dksL_law_30 14 rfl rfl)
theorem dL_law_881 : decode cL_law 881 = .ok (.iconst 1, 1) := dk_4 (dk_at dksL_law_30 16 rfl rfl)
theorem dL_law_882 : decode cL_law 882 = .ok (.iadd, 1) := dk_96 (dk_at dksL_law_30 17 rfl rfl)
theorem dL_law_883 : decode cL_law 883 = .ok (.iaload, 1) := dk_46 (dk_at dksL_law_30 18 rfl rfl)
theorem dL_law_884 : decode cL_law 884 = .ok (.aload_n 0, 1) := dk_42 (dk_at dksL_law_30 19 rfl rfl)
theorem dL_law_885 : decode cL_law 885 = .ok (.iload 5, 2) := dk_21 5 (dk_at dksL_law_30 20 rfl rfl)
theorem dL_law_887 : decode cL_law 887 = .ok (.iconst 2, 1) := dk_5 (dk_at dksL_law_30 22 rfl rfl)
theorem dL_law_888 : decode cL_law 888 = .ok (.iadd, 1) := dk_96 (dk_at dksL_law_30 23 rfl rfl)
theorem dL_law_889 : decode cL_law 889 = .ok (.iaload, 1) := dk_46 (dk_at dksL_law_31 0 rfl rfl)
theorem dL_law_890 : decode cL_law 890 = .ok (.aload_n 3, 1) := dk_45 (dk_at dksL_law_31 1 rfl rfl)
theorem dL_law_891 : decode cL_law 891 = .ok (.invokestatic 175, 3) := dk_184 0 175 (dk_at dksL_law_31 2 rfl rfl)
theorem dL_law_894 : decode cL_law 894 = .ok (.istore 6, 2) := dk_54 6 (dk_at dksL_law_31 5 rfl rfl)
theorem dL_law_896 : decode cL_law 896 = .ok (.aload_n 2, 1) := dk_44 (dk_at dksL_law_31 7 rfl rfl)
theorem dL_law_897 : decode cL_law 897 = .ok (.aload_n 0, 1) := dk_42 (dk_at dksL_law_31 8 rfl rfl)
theorem dL_law_898 : decode cL_law 898 = .ok (.iload 5, 2) := dk_21 5 (dk_at dksL_law_31 9 rfl rfl)
theorem dL_law_900 : decode cL_law 900 = .ok (.iconst 1, 1) := dk_4 (dk_at dksL_law_31 11 rfl rfl)
theorem dL_law_901 : decode cL_law 901 = .ok (.iadd, 1) := dk_96 (dk_at dksL_law_31 12 rfl rfl)
theorem dL_law_902 : decode cL_law 902 = .ok (.iaload, 1) := dk_46 (dk_at dksL_law_31 13 rfl rfl)
theorem dL_law_903 : decode cL_law 903 = .ok (.aload_n 0, 1) := dk_42 (dk_at dksL_law_31 14 rfl rfl)
theorem dL_law_904 : decode cL_law 904 = .ok (.iload 5, 2) := dk_21 5 (dk_at dksL_law_31 15 rfl rfl)
theorem dL_law_906 : decode cL_law 906 = .ok (.iconst 2, 1) := dk_5 (dk_at dksL_law_31 17 rfl rfl)
theorem dL_law_907 : decode cL_law 907 = .ok (.iadd, 1) := dk_96 (dk_at dksL_law_31 18 rfl rfl)
theorem dL_law_908 : decode cL_law 908 = .ok (.iaload, 1) := dk_46 (dk_at dksL_law_31 19 rfl rfl)
theorem dL_law_909 : decode cL_law 909 = .ok (.invokevirtual 177, 3) := dk_182 0 177 (dk_at dksL_law_31 20 rfl rfl)
theorem dL_law_912 : decode cL_law 912 = .ok (.istore 7, 2) := dk_54 7 (dk_at dksL_law_32 0 rfl rfl)
theorem dL_law_914 : decode cL_law 914 = .ok (.aload_n 2, 1) := dk_44 (dk_at dksL_law_32 2 rfl rfl)
theorem dL_law_915 : decode cL_law 915 = .ok (.invokevirtual 136, 3) := dk_182 0 136 (dk_at dksL_law_32 3 rfl rfl)
theorem dL_law_918 : decode cL_law 918 = .ok (.iload 6, 2) := dk_21 6 (dk_at dksL_law_32 6 rfl rfl)
theorem dL_law_920 : decode cL_law 920 = .ok (.if_icmp .eq 5, 3) := dk_159 0 5 (dk_at dksL_law_32 8 rfl rfl)
theorem dL_law_923 : decode cL_law 923 = .ok (.iconst 0, 1) := dk_3 (dk_at dksL_law_32 11 rfl rfl)
theorem dL_law_924 : decode cL_law 924 = .ok (.ireturn, 1) := dk_172 (dk_at dksL_law_32 12 rfl rfl)
theorem dL_law_925 : decode cL_law 925 = .ok (.iload 6, 2) := dk_21 6 (dk_at dksL_law_32 13 rfl rfl)
theorem dL_law_927 : decode cL_law 927 = .ok (.ifCond .ne 15, 3) := dk_154 0 15 (dk_at dksL_law_32 15 rfl rfl)
theorem dL_law_930 : decode cL_law 930 = .ok (.aload_n 3, 1) := dk_45 (dk_at dksL_law_32 18 rfl rfl)
theorem dL_law_931 : decode cL_law 931 = .ok (.iconst 0, 1) := dk_3 (dk_at dksL_law_32 19 rfl rfl)
theorem dL_law_932 : decode cL_law 932 = .ok (.laload, 1) := dk_47 (dk_at dksL_law_32 20 rfl rfl)
theorem dL_law_933 : decode cL_law 933 = .ok (.iload 7, 2) := dk_21 7 (dk_at dksL_law_32 21 rfl rfl)
theorem dL_law_935 : decode cL_law 935 = .ok (.i2l, 1) := dk_133 (dk_at dksL_law_32 23 rfl rfl)
theorem dL_law_936 : decode cL_law 936 = .ok (.lcmp, 1) := dk_148 (dk_at dksL_law_33 0 rfl rfl)
theorem dL_law_937 : decode cL_law 937 = .ok (.ifCond .eq 5, 3) := dk_153 0 5 (dk_at dksL_law_33 1 rfl rfl)
theorem dL_law_940 : decode cL_law 940 = .ok (.iconst 0, 1) := dk_3 (dk_at dksL_law_33 4 rfl rfl)
theorem dL_law_941 : decode cL_law 941 = .ok (.ireturn, 1) := dk_172 (dk_at dksL_law_33 5 rfl rfl)
theorem dL_law_942 : decode cL_law 942 = .ok (.goto 1551, 3) := dk_167 6 15 (dk_at dksL_law_33 6 rfl rfl)
theorem dL_law_945 : decode cL_law 945 = .ok (.aload_n 1, 1) := dk_43 (dk_at dksL_law_33 9 rfl rfl)
theorem dL_law_946 : decode cL_law 946 = .ok (.aload_n 0, 1) := dk_42 (dk_at dksL_law_33 10 rfl rfl)
theorem dL_law_947 : decode cL_law 947 = .ok (.iload 5, 2) := dk_21 5 (dk_at dksL_law_33 11 rfl rfl)
theorem dL_law_949 : decode cL_law 949 = .ok (.iconst 1, 1) := dk_4 (dk_at dksL_law_33 13 rfl rfl)
theorem dL_law_950 : decode cL_law 950 = .ok (.iadd, 1) := dk_96 (dk_at dksL_law_33 14 rfl rfl)
theorem dL_law_951 : decode cL_law 951 = .ok (.iaload, 1) := dk_46 (dk_at dksL_law_33 15 rfl rfl)
theorem dL_law_952 : decode cL_law 952 = .ok (.aload_n 3, 1) := dk_45 (dk_at dksL_law_33 16 rfl rfl)
theorem dL_law_953 : decode cL_law 953 = .ok (.invokestatic 178, 3) := dk_184 0 178 (dk_at dksL_law_33 17 rfl rfl)
theorem dL_law_956 : decode cL_law 956 = .ok (.istore 6, 2) := dk_54 6 (dk_at dksL_law_33 20 rfl rfl)
theorem dL_law_958 : decode cL_law 958 = .ok (.aload_n 2, 1) := dk_44 (dk_at dksL_law_33 22 rfl rfl)
theorem dL_law_959 : decode cL_law 959 = .ok (.aload_n 0, 1) := dk_42 (dk_at dksL_law_33 23 rfl rfl)
theorem dL_law_960 : decode cL_law 960 = .ok (.iload 5, 2) := dk_21 5 (dk_at dksL_law_34 0 rfl rfl)
theorem dL_law_962 : decode cL_law 962 = .ok (.iconst 1, 1) := dk_4 (dk_at dksL_law_34 2 rfl rfl)
theorem dL_law_963 : decode cL_law 963 = .ok (.iadd, 1) := dk_96 (dk_at dksL_law_34 3 rfl rfl)
theorem dL_law_964 : decode cL_law 964 = .ok (.iaload, 1) := dk_46 (dk_at dksL_law_34 4 rfl rfl)
theorem dL_law_965 : decode cL_law 965 = .ok (.invokevirtual 180, 3) := dk_182 0 180 (dk_at dksL_law_34 5 rfl rfl)
theorem dL_law_968 : decode cL_law 968 = .ok (.istore 7, 2) := dk_54 7 (dk_at dksL_law_34 8 rfl rfl)
theorem dL_law_970 : decode cL_law 970 = .ok (.aload_n 2, 1) := dk_44 (dk_at dksL_law_34 10 rfl rfl)
theorem dL_law_971 : decode cL_law 971 = .ok (.invokevirtual 136, 3) := dk_182 0 136 (dk_at dksL_law_34 11 rfl rfl)
theorem dL_law_974 : decode cL_law 974 = .ok (.iload 6, 2) := dk_21 6 (dk_at dksL_law_34 14 rfl rfl)
theorem dL_law_976 : decode cL_law 976 = .ok (.if_icmp .eq 5, 3) := dk_159 0 5 (dk_at dksL_law_34 16 rfl rfl)
theorem dL_law_979 : decode cL_law 979 = .ok (.iconst 0, 1) := dk_3 (dk_at dksL_law_34 19 rfl rfl)
theorem dL_law_980 : decode cL_law 980 = .ok (.ireturn, 1) := dk_172 (dk_at dksL_law_34 20 rfl rfl)
theorem dL_law_981 : decode cL_law 981 = .ok (.iload 6, 2) := dk_21 6 (dk_at dksL_law_34 21 rfl rfl)
theorem dL_law_983 : decode cL_law 983 = .ok (.ifCond .ne 15, 3) := dk_154 0 15 (dk_at dksL_law_35 0 rfl rfl)
theorem dL_law_986 : decode cL_law 986 = .ok (.aload_n 3, 1) := dk_45 (dk_at dksL_law_35 3 rfl rfl)
theorem dL_law_987 : decode cL_law 987 = .ok (.iconst 0, 1) := dk_3 (dk_at dksL_law_35 4 rfl rfl)
theorem dL_law_988 : decode cL_law 988 = .ok (.laload, 1) := dk_47 (dk_at dksL_law_35 5 rfl rfl)
theorem dL_law_989 : decode cL_law 989 = .ok (.iload 7, 2) := dk_21 7 (dk_at dksL_law_35 6 rfl rfl)
theorem dL_law_991 : decode cL_law 991 = .ok (.i2l, 1) := dk_133 (dk_at dksL_law_35 8 rfl rfl)
theorem dL_law_992 : decode cL_law 992 = .ok (.lcmp, 1) := dk_148 (dk_at dksL_law_35 9 rfl rfl)
theorem dL_law_993 : decode cL_law 993 = .ok (.ifCond .eq 5, 3) := dk_153 0 5 (dk_at dksL_law_35 10 rfl rfl)
theorem dL_law_996 : decode cL_law 996 = .ok (.iconst 0, 1) := dk_3 (dk_at dksL_law_35 13 rfl rfl)
theorem dL_law_997 : decode cL_law 997 = .ok (.ireturn, 1) := dk_172 (dk_at dksL_law_35 14 rfl rfl)
theorem dL_law_998 : decode cL_law 998 = .ok (.goto 1495, 3) := dk_167 5 215 (dk_at dksL_law_35 15 rfl rfl)
theorem dL_law_1001 : decode cL_law 1001 = .ok (.aload_n 1, 1) := dk_43 (dk_at dksL_law_35 18 rfl rfl)
theorem dL_law_1002 : decode cL_law 1002 = .ok (.aload_n 0, 1) := dk_42 (dk_at dksL_law_35 19 rfl rfl)
theorem dL_law_1003 : decode cL_law 1003 = .ok (.iload 5, 2) := dk_21 5 (dk_at dksL_law_35 20 rfl rfl)
theorem dL_law_1005 : decode cL_law 1005 = .ok (.iconst 1, 1) := dk_4 (dk_at dksL_law_35 22 rfl rfl)
theorem dL_law_1006 : decode cL_law 1006 = .ok (.iadd, 1) := dk_96 (dk_at dksL_law_35 23 rfl rfl)
theorem dL_law_1007 : decode cL_law 1007 = .ok (.iaload, 1) := dk_46 (dk_at dksL_law_36 0 rfl rfl)
theorem dL_law_1008 : decode cL_law 1008 = .ok (.aload_n 3, 1) := dk_45 (dk_at dksL_law_36 1 rfl rfl)
theorem dL_law_1009 : decode cL_law 1009 = .ok (.invokestatic 181, 3) := dk_184 0 181 (dk_at dksL_law_36 2 rfl rfl)
theorem dL_law_1012 : decode cL_law 1012 = .ok (.istore 6, 2) := dk_54 6 (dk_at dksL_law_36 5 rfl rfl)
theorem dL_law_1014 : decode cL_law 1014 = .ok (.aload_n 2, 1) := dk_44 (dk_at dksL_law_36 7 rfl rfl)
theorem dL_law_1015 : decode cL_law 1015 = .ok (.aload_n 0, 1) := dk_42 (dk_at dksL_law_36 8 rfl rfl)
theorem dL_law_1016 : decode cL_law 1016 = .ok (.iload 5, 2) := dk_21 5 (dk_at dksL_law_36 9 rfl rfl)
theorem dL_law_1018 : decode cL_law 1018 = .ok (.iconst 1, 1) := dk_4 (dk_at dksL_law_36 11 rfl rfl)
theorem dL_law_1019 : decode cL_law 1019 = .ok (.iadd, 1) := dk_96 (dk_at dksL_law_36 12 rfl rfl)
theorem dL_law_1020 : decode cL_law 1020 = .ok (.iaload, 1) := dk_46 (dk_at dksL_law_36 13 rfl rfl)
theorem dL_law_1021 : decode cL_law 1021 = .ok (.invokevirtual 183, 3) := dk_182 0 183 (dk_at dksL_law_36 14 rfl rfl)
theorem dL_law_1024 : decode cL_law 1024 = .ok (.istore 7, 2) := dk_54 7 (dk_at dksL_law_36 17 rfl rfl)
theorem dL_law_1026 : decode cL_law 1026 = .ok (.aload_n 2, 1) := dk_44 (dk_at dksL_law_36 19 rfl rfl)
theorem dL_law_1027 : decode cL_law 1027 = .ok (.invokevirtual 136, 3) := dk_182 0 136 (dk_at dksL_law_36 20 rfl rfl)
theorem dL_law_1030 : decode cL_law 1030 = .ok (.iload 6, 2) := dk_21 6 (dk_at dksL_law_37 0 rfl rfl)
theorem dL_law_1032 : decode cL_law 1032 = .ok (.if_icmp .eq 5, 3) := dk_159 0 5 (dk_at dksL_law_37 2 rfl rfl)
theorem dL_law_1035 : decode cL_law 1035 = .ok (.iconst 0, 1) := dk_3 (dk_at dksL_law_37 5 rfl rfl)
theorem dL_law_1036 : decode cL_law 1036 = .ok (.ireturn, 1) := dk_172 (dk_at dksL_law_37 6 rfl rfl)
theorem dL_law_1037 : decode cL_law 1037 = .ok (.iload 6, 2) := dk_21 6 (dk_at dksL_law_37 7 rfl rfl)
theorem dL_law_1039 : decode cL_law 1039 = .ok (.ifCond .ne 22, 3) := dk_154 0 22 (dk_at dksL_law_37 9 rfl rfl)
theorem dL_law_1042 : decode cL_law 1042 = .ok (.aload_n 3, 1) := dk_45 (dk_at dksL_law_37 12 rfl rfl)
theorem dL_law_1043 : decode cL_law 1043 = .ok (.iconst 0, 1) := dk_3 (dk_at dksL_law_37 13 rfl rfl)
theorem dL_law_1044 : decode cL_law 1044 = .ok (.laload, 1) := dk_47 (dk_at dksL_law_37 14 rfl rfl)
theorem dL_law_1045 : decode cL_law 1045 = .ok (.iload 7, 2) := dk_21 7 (dk_at dksL_law_37 15 rfl rfl)
theorem dL_law_1047 : decode cL_law 1047 = .ok (.ifCond .eq 7, 3) := dk_153 0 7 (dk_at dksL_law_37 17 rfl rfl)
theorem dL_law_1050 : decode cL_law 1050 = .ok (.lconst 1, 1) := dk_10 (dk_at dksL_law_37 20 rfl rfl)
theorem dL_law_1051 : decode cL_law 1051 = .ok (.goto 4, 3) := dk_167 0 4 (dk_at dksL_law_37 21 rfl rfl)
theorem dL_law_1054 : decode cL_law 1054 = .ok (.lconst 0, 1) := dk_9 (dk_at dksL_law_38 0 rfl rfl)
theorem dL_law_1055 : decode cL_law 1055 = .ok (.lcmp, 1) := dk_148 (dk_at dksL_law_38 1 rfl rfl)
theorem dL_law_1056 : decode cL_law 1056 = .ok (.ifCond .eq 5, 3) := dk_153 0 5 (dk_at dksL_law_38 2 rfl rfl)
theorem dL_law_1059 : decode cL_law 1059 = .ok (.iconst 0, 1) := dk_3 (dk_at dksL_law_38 5 rfl rfl)
theorem dL_law_1060 : decode cL_law 1060 = .ok (.ireturn, 1) := dk_172 (dk_at dksL_law_38 6 rfl rfl)
theorem dL_law_1061 : decode cL_law 1061 = .ok (.goto 1432, 3) := dk_167 5 152 (dk_at dksL_law_38 7 rfl rfl)
theorem dL_law_1064 : decode cL_law 1064 = .ok (.aload_n 1, 1) := dk_43 (dk_at dksL_law_38 10 rfl rfl)
theorem dL_law_1065 : decode cL_law 1065 = .ok (.aload_n 0, 1) := dk_42 (dk_at dksL_law_38 11 rfl rfl)
theorem dL_law_1066 : decode cL_law 1066 = .ok (.iload 5, 2) := dk_21 5 (dk_at dksL_law_38 12 rfl rfl)
theorem dL_law_1068 : decode cL_law 1068 = .ok (.iconst 1, 1) := dk_4 (dk_at dksL_law_38 14 rfl rfl)
theorem dL_law_1069 : decode cL_law 1069 = .ok (.iadd, 1) := dk_96 (dk_at dksL_law_38 15 rfl rfl)
theorem dL_law_1070 : decode cL_law 1070 = .ok (.iaload, 1) := dk_46 (dk_at dksL_law_38 16 rfl rfl)
theorem dL_law_1071 : decode cL_law 1071 = .ok (.aload_n 0, 1) := dk_42 (dk_at dksL_law_38 17 rfl rfl)
theorem dL_law_1072 : decode cL_law 1072 = .ok (.iload 5, 2) := dk_21 5 (dk_at dksL_law_38 18 rfl rfl)
theorem dL_law_1074 : decode cL_law 1074 = .ok (.iconst 2, 1) := dk_5 (dk_at dksL_law_38 20 rfl rfl)
theorem dL_law_1075 : decode cL_law 1075 = .ok (.iadd, 1) := dk_96 (dk_at dksL_law_38 21 rfl rfl)
theorem dL_law_1076 : decode cL_law 1076 = .ok (.iaload, 1) := dk_46 (dk_at dksL_law_38 22 rfl rfl)
theorem dL_law_1077 : decode cL_law 1077 = .ok (.aload_n 3, 1) := dk_45 (dk_at dksL_law_38 23 rfl rfl)
theorem dL_law_1078 : decode cL_law 1078 = .ok (.invokestatic 184, 3) := dk_184 0 184 (dk_at dksL_law_39 0 rfl rfl)
theorem dL_law_1081 : decode cL_law 1081 = .ok (.istore 6, 2) := dk_54 6 (dk_at dksL_law_39 3 rfl rfl)
theorem dL_law_1083 : decode cL_law 1083 = .ok (.aload_n 2, 1) := dk_44 (dk_at dksL_law_39 5 rfl rfl)
theorem dL_law_1084 : decode cL_law 1084 = .ok (.aload_n 0, 1) := dk_42 (dk_at dksL_law_39 6 rfl rfl)
theorem dL_law_1085 : decode cL_law 1085 = .ok (.iload 5, 2) := dk_21 5 (dk_at dksL_law_39 7 rfl rfl)
theorem dL_law_1087 : decode cL_law 1087 = .ok (.iconst 1, 1) := dk_4 (dk_at dksL_law_39 9 rfl rfl)
theorem dL_law_1088 : decode cL_law 1088 = .ok (.iadd, 1) := dk_96 (dk_at dksL_law_39 10 rfl rfl)
theorem dL_law_1089 : decode cL_law 1089 = .ok (.iaload, 1) := dk_46 (dk_at dksL_law_39 11 rfl rfl)
theorem dL_law_1090 : decode cL_law 1090 = .ok (.aload_n 0, 1) := dk_42 (dk_at dksL_law_39 12 rfl rfl)
theorem dL_law_1091 : decode cL_law 1091 = .ok (.iload 5, 2) := dk_21 5 (dk_at dksL_law_39 13 rfl rfl)
theorem dL_law_1093 : decode cL_law 1093 = .ok (.iconst 2, 1) := dk_5 (dk_at dksL_law_39 15 rfl rfl)
theorem dL_law_1094 : decode cL_law 1094 = .ok (.iadd, 1) := dk_96 (dk_at dksL_law_39 16 rfl rfl)
theorem dL_law_1095 : decode cL_law 1095 = .ok (.iaload, 1) := dk_46 (dk_at dksL_law_39 17 rfl rfl)
theorem dL_law_1096 : decode cL_law 1096 = .ok (.invokevirtual 186, 3) := dk_182 0 186 (dk_at dksL_law_39 18 rfl rfl)
theorem dL_law_1099 : decode cL_law 1099 = .ok (.istore 7, 2) := dk_54 7 (dk_at dksL_law_39 21 rfl rfl)
theorem dL_law_1101 : decode cL_law 1101 = .ok (.aload_n 2, 1) := dk_44 (dk_at dksL_law_39 23 rfl rfl)
theorem dL_law_1102 : decode cL_law 1102 = .ok (.invokevirtual 136, 3) := dk_182 0 136 (dk_at dksL_law_40 0 rfl rfl)
theorem dL_law_1105 : decode cL_law 1105 = .ok (.iload 6, 2) := dk_21 6 (dk_at dksL_law_40 3 rfl rfl)
theorem dL_law_1107 : decode cL_law 1107 = .ok (.if_icmp .eq 5, 3) := dk_159 0 5 (dk_at dksL_law_40 5 rfl rfl)
theorem dL_law_1110 : decode cL_law 1110 = .ok (.iconst 0, 1) := dk_3 (dk_at dksL_law_40 8 rfl rfl)
theorem dL_law_1111 : decode cL_law 1111 = .ok (.ireturn, 1) := dk_172 (dk_at dksL_law_40 9 rfl rfl)
theorem dL_law_1112 : decode cL_law 1112 = .ok (.iload 6, 2) := dk_21 6 (dk_at dksL_law_40 10 rfl rfl)
theorem dL_law_1114 : decode cL_law 1114 = .ok (.ifCond .ne 15, 3) := dk_154 0 15 (dk_at dksL_law_40 12 rfl rfl)
theorem dL_law_1117 : decode cL_law 1117 = .ok (.aload_n 3, 1) := dk_45 (dk_at dksL_law_40 15 rfl rfl)
theorem dL_law_1118 : decode cL_law 1118 = .ok (.iconst 0, 1) := dk_3 (dk_at dksL_law_40 16 rfl rfl)
theorem dL_law_1119 : decode cL_law 1119 = .ok (.laload, 1) := dk_47 (dk_at dksL_law_40 17 rfl rfl)
theorem dL_law_1120 : decode cL_law 1120 = .ok (.iload 7, 2) := dk_21 7 (dk_at dksL_law_40 18 rfl rfl)
theorem dL_law_1122 : decode cL_law 1122 = .ok (.i2l, 1) := dk_133 (dk_at dksL_law_40 20 rfl rfl)
theorem dL_law_1123 : decode cL_law 1123 = .ok (.lcmp, 1) := dk_148 (dk_at dksL_law_40 21 rfl rfl)
theorem dL_law_1124 : decode cL_law 1124 = .ok (.ifCond .eq 5, 3) := dk_153 0 5 (dk_at dksL_law_41 0 rfl rfl)
theorem dL_law_1127 : decode cL_law 1127 = .ok (.iconst 0, 1) := dk_3 (dk_at dksL_law_41 3 rfl rfl)
theorem dL_law_1128 : decode cL_law 1128 = .ok (.ireturn, 1) := dk_172 (dk_at dksL_law_41 4 rfl rfl)
theorem dL_law_1129 : decode cL_law 1129 = .ok (.goto 1364, 3) := dk_167 5 84 (dk_at dksL_law_41 5 rfl rfl)
theorem dL_law_1132 : decode cL_law 1132 = .ok (.aload_n 1, 1) := dk_43 (dk_at dksL_law_41 8 rfl rfl)
theorem dL_law_1133 : decode cL_law 1133 = .ok (.aload_n 0, 1) := dk_42 (dk_at dksL_law_41 9 rfl rfl)
theorem dL_law_1134 : decode cL_law 1134 = .ok (.iload 5, 2) := dk_21 5 (dk_at dksL_law_41 10 rfl rfl)
theorem dL_law_1136 : decode cL_law 1136 = .ok (.iconst 1, 1) := dk_4 (dk_at dksL_law_41 12 rfl rfl)
theorem dL_law_1137 : decode cL_law 1137 = .ok (.iadd, 1) := dk_96 (dk_at dksL_law_41 13 rfl rfl)
theorem dL_law_1138 : decode cL_law 1138 = .ok (.iaload, 1) := dk_46 (dk_at dksL_law_41 14 rfl rfl)
theorem dL_law_1139 : decode cL_law 1139 = .ok (.aload_n 0, 1) := dk_42 (dk_at dksL_law_41 15 rfl rfl)
theorem dL_law_1140 : decode cL_law 1140 = .ok (.iload 5, 2) := dk_21 5 (dk_at dksL_law_41 16 rfl rfl)
theorem dL_law_1142 : decode cL_law 1142 = .ok (.iconst 2, 1) := dk_5 (dk_at dksL_law_41 18 rfl rfl)
theorem dL_law_1143 : decode cL_law 1143 = .ok (.iadd, 1) := dk_96 (dk_at dksL_law_41 19 rfl rfl)
theorem dL_law_1144 : decode cL_law 1144 = .ok (.iaload, 1) := dk_46 (dk_at dksL_law_41 20 rfl rfl)
theorem dL_law_1145 : decode cL_law 1145 = .ok (.aload_n 3, 1) := dk_45 (dk_at dksL_law_41 21 rfl rfl)
theorem dL_law_1146 : decode cL_law 1146 = .ok (.invokestatic 187, 3) := dk_184 0 187 (dk_at dksL_law_42 0 rfl rfl)
theorem dL_law_1149 : decode cL_law 1149 = .ok (.istore 6, 2) := dk_54 6 (dk_at dksL_law_42 3 rfl rfl)
theorem dL_law_1151 : decode cL_law 1151 = .ok (.aload_n 2, 1) := dk_44 (dk_at dksL_law_42 5 rfl rfl)
theorem dL_law_1152 : decode cL_law 1152 = .ok (.aload_n 0, 1) := dk_42 (dk_at dksL_law_42 6 rfl rfl)
theorem dL_law_1153 : decode cL_law 1153 = .ok (.iload 5, 2) := dk_21 5 (dk_at dksL_law_42 7 rfl rfl)
theorem dL_law_1155 : decode cL_law 1155 = .ok (.iconst 1, 1) := dk_4 (dk_at dksL_law_42 9 rfl rfl)
theorem dL_law_1156 : decode cL_law 1156 = .ok (.iadd, 1) := dk_96 (dk_at dksL_law_42 10 rfl rfl)
theorem dL_law_1157 : decode cL_law 1157 = .ok (.iaload, 1) := dk_46 (dk_at dksL_law_42 11 rfl rfl)
theorem dL_law_1158 : decode cL_law 1158 = .ok (.aload_n 0, 1) := dk_42 (dk_at dksL_law_42 12 rfl rfl)
theorem dL_law_1159 : decode cL_law 1159 = .ok (.iload 5, 2) := dk_21 5 (dk_at dksL_law_42 13 rfl rfl)
theorem dL_law_1161 : decode cL_law 1161 = .ok (.iconst 2, 1) := dk_5 (dk_at dksL_law_42 15 rfl rfl)
theorem dL_law_1162 : decode cL_law 1162 = .ok (.iadd, 1) := dk_96 (dk_at dksL_law_42 16 rfl rfl)
theorem dL_law_1163 : decode cL_law 1163 = .ok (.iaload, 1) := dk_46 (dk_at dksL_law_42 17 rfl rfl)
theorem dL_law_1164 : decode cL_law 1164 = .ok (.invokevirtual 189, 3) := dk_182 0 189 (dk_at dksL_law_42 18 rfl rfl)
theorem dL_law_1167 : decode cL_law 1167 = .ok (.istore 7, 2) := dk_54 7 (dk_at dksL_law_42 21 rfl rfl)
theorem dL_law_1169 : decode cL_law 1169 = .ok (.aload_n 2, 1) := dk_44 (dk_at dksL_law_42 23 rfl rfl)
theorem dL_law_1170 : decode cL_law 1170 = .ok (.invokevirtual 136, 3) := dk_182 0 136 (dk_at dksL_law_43 0 rfl rfl)
theorem dL_law_1173 : decode cL_law 1173 = .ok (.iload 6, 2) := dk_21 6 (dk_at dksL_law_43 3 rfl rfl)
theorem dL_law_1175 : decode cL_law 1175 = .ok (.if_icmp .eq 5, 3) := dk_159 0 5 (dk_at dksL_law_43 5 rfl rfl)
theorem dL_law_1178 : decode cL_law 1178 = .ok (.iconst 0, 1) := dk_3 (dk_at dksL_law_43 8 rfl rfl)
theorem dL_law_1179 : decode cL_law 1179 = .ok (.ireturn, 1) := dk_172 (dk_at dksL_law_43 9 rfl rfl)
theorem dL_law_1180 : decode cL_law 1180 = .ok (.iload 6, 2) := dk_21 6 (dk_at dksL_law_43 10 rfl rfl)
theorem dL_law_1182 : decode cL_law 1182 = .ok (.ifCond .ne 15, 3) := dk_154 0 15 (dk_at dksL_law_43 12 rfl rfl)
theorem dL_law_1185 : decode cL_law 1185 = .ok (.aload_n 3, 1) := dk_45 (dk_at dksL_law_43 15 rfl rfl)
theorem dL_law_1186 : decode cL_law 1186 = .ok (.iconst 0, 1) := dk_3 (dk_at dksL_law_43 16 rfl rfl)
theorem dL_law_1187 : decode cL_law 1187 = .ok (.laload, 1) := dk_47 (dk_at dksL_law_43 17 rfl rfl)
theorem dL_law_1188 : decode cL_law 1188 = .ok (.iload 7, 2) := dk_21 7 (dk_at dksL_law_43 18 rfl rfl)
theorem dL_law_1190 : decode cL_law 1190 = .ok (.i2l, 1) := dk_133 (dk_at dksL_law_43 20 rfl rfl)
theorem dL_law_1191 : decode cL_law 1191 = .ok (.lcmp, 1) := dk_148 (dk_at dksL_law_43 21 rfl rfl)
theorem dL_law_1192 : decode cL_law 1192 = .ok (.ifCond .eq 5, 3) := dk_153 0 5 (dk_at dksL_law_44 0 rfl rfl)
theorem dL_law_1195 : decode cL_law 1195 = .ok (.iconst 0, 1) := dk_3 (dk_at dksL_law_44 3 rfl rfl)
theorem dL_law_1196 : decode cL_law 1196 = .ok (.ireturn, 1) := dk_172 (dk_at dksL_law_44 4 rfl rfl)
theorem dL_law_1197 : decode cL_law 1197 = .ok (.goto 1296, 3) := dk_167 5 16 (dk_at dksL_law_44 5 rfl rfl)
theorem dL_law_1200 : decode cL_law 1200 = .ok (.aload_n 1, 1) := dk_43 (dk_at dksL_law_44 8 rfl rfl)
theorem dL_law_1201 : decode cL_law 1201 = .ok (.aload_n 0, 1) := dk_42 (dk_at dksL_law_44 9 rfl rfl)
theorem dL_law_1202 : decode cL_law 1202 = .ok (.iload 5, 2) := dk_21 5 (dk_at dksL_law_44 10 rfl rfl)
theorem dL_law_1204 : decode cL_law 1204 = .ok (.iconst 1, 1) := dk_4 (dk_at dksL_law_44 12 rfl rfl)
theorem dL_law_1205 : decode cL_law 1205 = .ok (.iadd, 1) := dk_96 (dk_at dksL_law_44 13 rfl rfl)
theorem dL_law_1206 : decode cL_law 1206 = .ok (.iaload, 1) := dk_46 (dk_at dksL_law_44 14 rfl rfl)
theorem dL_law_1207 : decode cL_law 1207 = .ok (.aload 4, 2) := dk_25 4 (dk_at dksL_law_44 15 rfl rfl)
theorem dL_law_1209 : decode cL_law 1209 = .ok (.invokestatic 190, 3) := dk_184 0 190 (dk_at dksL_law_44 17 rfl rfl)
theorem dL_law_1212 : decode cL_law 1212 = .ok (.istore 6, 2) := dk_54 6 (dk_at dksL_law_44 20 rfl rfl)
theorem dL_law_1214 : decode cL_law 1214 = .ok (.aload_n 2, 1) := dk_44 (dk_at dksL_law_44 22 rfl rfl)
theorem dL_law_1215 : decode cL_law 1215 = .ok (.aload_n 0, 1) := dk_42 (dk_at dksL_law_44 23 rfl rfl)
theorem dL_law_1216 : decode cL_law 1216 = .ok (.iload 5, 2) := dk_21 5 (dk_at dksL_law_45 0 rfl rfl)
theorem dL_law_1218 : decode cL_law 1218 = .ok (.iconst 1, 1) := dk_4 (dk_at dksL_law_45 2 rfl rfl)
theorem dL_law_1219 : decode cL_law 1219 = .ok (.iadd, 1) := dk_96 (dk_at dksL_law_45 3 rfl rfl)
theorem dL_law_1220 : decode cL_law 1220 = .ok (.iaload, 1) := dk_46 (dk_at dksL_law_45 4 rfl rfl)
theorem dL_law_1221 : decode cL_law 1221 = .ok (.invokevirtual 193, 3) := dk_182 0 193 (dk_at dksL_law_45 5 rfl rfl)
theorem dL_law_1224 : decode cL_law 1224 = .ok (.dstore 7, 2) := dk_57 7 (dk_at dksL_law_45 8 rfl rfl)
theorem dL_law_1226 : decode cL_law 1226 = .ok (.aload_n 2, 1) := dk_44 (dk_at dksL_law_45 10 rfl rfl)
theorem dL_law_1227 : decode cL_law 1227 = .ok (.invokevirtual 136, 3) := dk_182 0 136 (dk_at dksL_law_45 11 rfl rfl)
theorem dL_law_1230 : decode cL_law 1230 = .ok (.iload 6, 2) := dk_21 6 (dk_at dksL_law_45 14 rfl rfl)
theorem dL_law_1232 : decode cL_law 1232 = .ok (.if_icmp .eq 5, 3) := dk_159 0 5 (dk_at dksL_law_45 16 rfl rfl)
theorem dL_law_1235 : decode cL_law 1235 = .ok (.iconst 0, 1) := dk_3 (dk_at dksL_law_45 19 rfl rfl)
theorem dL_law_1236 : decode cL_law 1236 = .ok (.ireturn, 1) := dk_172 (dk_at dksL_law_45 20 rfl rfl)
theorem dL_law_1237 : decode cL_law 1237 = .ok (.iload 6, 2) := dk_21 6 (dk_at dksL_law_45 21 rfl rfl)
theorem dL_law_1239 : decode cL_law 1239 = .ok (.ifCond .ne 35, 3) := dk_154 0 35 (dk_at dksL_law_46 0 rfl rfl)
theorem dL_law_1242 : decode cL_law 1242 = .ok (.aload 4, 2) := dk_25 4 (dk_at dksL_law_46 3 rfl rfl)
theorem dL_law_1244 : decode cL_law 1244 = .ok (.iconst 0, 1) := dk_3 (dk_at dksL_law_46 5 rfl rfl)
theorem dL_law_1245 : decode cL_law 1245 = .ok (.daload, 1) := dk_49 (dk_at dksL_law_46 6 rfl rfl)
theorem dL_law_1246 : decode cL_law 1246 = .ok (.dload 7, 2) := dk_24 7 (dk_at dksL_law_46 7 rfl rfl)
theorem dL_law_1248 : decode cL_law 1248 = .ok (.dcmp .l, 1) := dk_151 (dk_at dksL_law_46 9 rfl rfl)
theorem dL_law_1249 : decode cL_law 1249 = .ok (.ifCond .eq 25, 3) := dk_153 0 25 (dk_at dksL_law_46 10 rfl rfl)
theorem dL_law_1252 : decode cL_law 1252 = .ok (.aload 4, 2) := dk_25 4 (dk_at dksL_law_46 13 rfl rfl)
theorem dL_law_1254 : decode cL_law 1254 = .ok (.iconst 0, 1) := dk_3 (dk_at dksL_law_46 15 rfl rfl)
theorem dL_law_1255 : decode cL_law 1255 = .ok (.daload, 1) := dk_49 (dk_at dksL_law_46 16 rfl rfl)
theorem dL_law_1256 : decode cL_law 1256 = .ok (.aload 4, 2) := dk_25 4 (dk_at dksL_law_46 17 rfl rfl)
theorem dL_law_1258 : decode cL_law 1258 = .ok (.iconst 0, 1) := dk_3 (dk_at dksL_law_46 19 rfl rfl)
theorem dL_law_1259 : decode cL_law 1259 = .ok (.daload, 1) := dk_49 (dk_at dksL_law_46 20 rfl rfl)
theorem dL_law_1260 : decode cL_law 1260 = .ok (.dcmp .l, 1) := dk_151 (dk_at dksL_law_46 21 rfl rfl)
theorem dL_law_1261 : decode cL_law 1261 = .ok (.ifCond .eq 11, 3) := dk_153 0 11 (dk_at dksL_law_47 0 rfl rfl)
theorem dL_law_1264 : decode cL_law 1264 = .ok (.dload 7, 2) := dk_24 7 (dk_at dksL_law_47 3 rfl rfl)
theorem dL_law_1266 : decode cL_law 1266 = .ok (.dload 7, 2) := dk_24 7 (dk_at dksL_law_47 5 rfl rfl)
theorem dL_law_1268 : decode cL_law 1268 = .ok (.dcmp .l, 1) := dk_151 (dk_at dksL_law_47 7 rfl rfl)
theorem dL_law_1269 : decode cL_law 1269 = .ok (.ifCond .ne 5, 3) := dk_154 0 5 (dk_at dksL_law_47 8 rfl rfl)
theorem dL_law_1272 : decode cL_law 1272 = .ok (.iconst 0, 1) := dk_3 (dk_at dksL_law_47 11 rfl rfl)
theorem dL_law_1273 : decode cL_law 1273 = .ok (.ireturn, 1) := dk_172 (dk_at dksL_law_47 12 rfl rfl)
theorem dL_law_1274 : decode cL_law 1274 = .ok (.goto 1219, 3) := dk_167 4 195 (dk_at dksL_law_47 13 rfl rfl)
theorem dL_law_1277 : decode cL_law 1277 = .ok (.aload_n 1, 1) := dk_43 (dk_at dksL_law_47 16 rfl rfl)
theorem dL_law_1278 : decode cL_law 1278 = .ok (.aload_n 0, 1) := dk_42 (dk_at dksL_law_47 17 rfl rfl)
theorem dL_law_1279 : decode cL_law 1279 = .ok (.iload 5, 2) := dk_21 5 (dk_at dksL_law_47 18 rfl rfl)
theorem dL_law_1281 : decode cL_law 1281 = .ok (.iconst 1, 1) := dk_4 (dk_at dksL_law_47 20 rfl rfl)
theorem dL_law_1282 : decode cL_law 1282 = .ok (.iadd, 1) := dk_96 (dk_at dksL_law_47 21 rfl rfl)
theorem dL_law_1283 : decode cL_law 1283 = .ok (.iaload, 1) := dk_46 (dk_at dksL_law_47 22 rfl rfl)
theorem dL_law_1284 : decode cL_law 1284 = .ok (.aload 4, 2) := dk_25 4 (dk_at dksL_law_48 0 rfl rfl)
theorem dL_law_1286 : decode cL_law 1286 = .ok (.invokestatic 194, 3) := dk_184 0 194 (dk_at dksL_law_48 2 rfl rfl)
theorem dL_law_1289 : decode cL_law 1289 = .ok (.istore 6, 2) := dk_54 6 (dk_at dksL_law_48 5 rfl rfl)
theorem dL_law_1291 : decode cL_law 1291 = .ok (.aload_n 2, 1) := dk_44 (dk_at dksL_law_48 7 rfl rfl)
theorem dL_law_1292 : decode cL_law 1292 = .ok (.aload_n 0, 1) := dk_42 (dk_at dksL_law_48 8 rfl rfl)
theorem dL_law_1293 : decode cL_law 1293 = .ok (.iload 5, 2) := dk_21 5 (dk_at dksL_law_48 9 rfl rfl)
theorem dL_law_1295 : decode cL_law 1295 = .ok (.iconst 1, 1) := dk_4 (dk_at dksL_law_48 11 rfl rfl)
theorem dL_law_1296 : decode cL_law 1296 = .ok (.iadd, 1) := dk_96 (dk_at dksL_law_48 12 rfl rfl)
theorem dL_law_1297 : decode cL_law 1297 = .ok (.iaload, 1) := dk_46 (dk_at dksL_law_48 13 rfl rfl)
theorem dL_law_1298 : decode cL_law 1298 = .ok (.invokevirtual 196, 3) := dk_182 0 196 (dk_at dksL_law_48 14 rfl rfl)
theorem dL_law_1301 : decode cL_law 1301 = .ok (.dstore 7, 2) := dk_57 7 (dk_at dksL_law_48 17 rfl rfl)
theorem dL_law_1303 : decode cL_law 1303 = .ok (.aload_n 2, 1) := dk_44 (dk_at dksL_law_48 19 rfl rfl)
theorem dL_law_1304 : decode cL_law 1304 = .ok (.invokevirtual 136, 3) := dk_182 0 136 (dk_at dksL_law_48 20 rfl rfl)
theorem dL_law_1307 : decode cL_law 1307 = .ok (.iload 6, 2) := dk_21 6 (dk_at dksL_law_49 0 rfl rfl)
theorem dL_law_1309 : decode cL_law 1309 = .ok (.if_icmp .eq 5, 3) := dk_159 0 5 (dk_at dksL_law_49 2 rfl rfl)
theorem dL_law_1312 : decode cL_law 1312 = .ok (.iconst 0, 1) := dk_3 (dk_at dksL_law_49 5 rfl rfl)
theorem dL_law_1313 : decode cL_law 1313 = .ok (.ireturn, 1) := dk_172 (dk_at dksL_law_49 6 rfl rfl)
theorem dL_law_1314 : decode cL_law 1314 = .ok (.iload 6, 2) := dk_21 6 (dk_at dksL_law_49 7 rfl rfl)
theorem dL_law_1316 : decode cL_law 1316 = .ok (.ifCond .ne 35, 3) := dk_154 0 35 (dk_at dksL_law_49 9 rfl rfl)
theorem dL_law_1319 : decode cL_law 1319 = .ok (.aload 4, 2) := dk_25 4 (dk_at dksL_law_49 12 rfl rfl)
theorem dL_law_1321 : decode cL_law 1321 = .ok (.iconst 0, 1) := dk_3 (dk_at dksL_law_49 14 rfl rfl)
theorem dL_law_1322 : decode cL_law 1322 = .ok (.daload, 1) := dk_49 (dk_at dksL_law_49 15 rfl rfl)
theorem dL_law_1323 : decode cL_law 1323 = .ok (.dload 7, 2) := dk_24 7 (dk_at dksL_law_49 16 rfl rfl)
theorem dL_law_1325 : decode cL_law 1325 = .ok (.dcmp .l, 1) := dk_151 (dk_at dksL_law_49 18 rfl rfl)
theorem dL_law_1326 : decode cL_law 1326 = .ok (.ifCond .eq 25, 3) := dk_153 0 25 (dk_at dksL_law_49 19 rfl rfl)
theorem dL_law_1329 : decode cL_law 1329 = .ok (.aload 4, 2) := dk_25 4 (dk_at dksL_law_49 22 rfl rfl)
theorem dL_law_1331 : decode cL_law 1331 = .ok (.iconst 0, 1) := dk_3 (dk_at dksL_law_50 0 rfl rfl)
theorem dL_law_1332 : decode cL_law 1332 = .ok (.daload, 1) := dk_49 (dk_at dksL_law_50 1 rfl rfl)
theorem dL_law_1333 : decode cL_law 1333 = .ok (.aload 4, 2) := dk_25 4 (dk_at dksL_law_50 2 rfl rfl)
theorem dL_law_1335 : decode cL_law 1335 = .ok (.iconst 0, 1) := dk_3 (dk_at dksL_law_50 4 rfl rfl)
theorem dL_law_1336 : decode cL_law 1336 = .ok (.daload, 1) := dk_49 (dk_at dksL_law_50 5 rfl rfl)
theorem dL_law_1337 : decode cL_law 1337 = .ok (.dcmp .l, 1) := dk_151 (dk_at dksL_law_50 6 rfl rfl)
theorem dL_law_1338 : decode cL_law 1338 = .ok (.ifCond .eq 11, 3) := dk_153 0 11 (dk_at dksL_law_50 7 rfl rfl)
theorem dL_law_1341 : decode cL_law 1341 = .ok (.dload 7, 2) := dk_24 7 (dk_at dksL_law_50 10 rfl rfl)
theorem dL_law_1343 : decode cL_law 1343 = .ok (.dload 7, 2) := dk_24 7 (dk_at dksL_law_50 12 rfl rfl)
theorem dL_law_1345 : decode cL_law 1345 = .ok (.dcmp .l, 1) := dk_151 (dk_at dksL_law_50 14 rfl rfl)
theorem dL_law_1346 : decode cL_law 1346 = .ok (.ifCond .ne 5, 3) := dk_154 0 5 (dk_at dksL_law_50 15 rfl rfl)
theorem dL_law_1349 : decode cL_law 1349 = .ok (.iconst 0, 1) := dk_3 (dk_at dksL_law_50 18 rfl rfl)
theorem dL_law_1350 : decode cL_law 1350 = .ok (.ireturn, 1) := dk_172 (dk_at dksL_law_50 19 rfl rfl)
theorem dL_law_1351 : decode cL_law 1351 = .ok (.goto 1142, 3) := dk_167 4 118 (dk_at dksL_law_50 20 rfl rfl)
theorem dL_law_1354 : decode cL_law 1354 = .ok (.aload_n 1, 1) := dk_43 (dk_at dksL_law_50 23 rfl rfl)
theorem dL_law_1355 : decode cL_law 1355 = .ok (.invokevirtual 197, 3) := dk_182 0 197 (dk_at dksL_law_51 0 rfl rfl)
theorem dL_law_1358 : decode cL_law 1358 = .ok (.aload_n 2, 1) := dk_44 (dk_at dksL_law_51 3 rfl rfl)
theorem dL_law_1359 : decode cL_law 1359 = .ok (.invokevirtual 200, 3) := dk_182 0 200 (dk_at dksL_law_51 4 rfl rfl)
theorem dL_law_1362 : decode cL_law 1362 = .ok (.if_icmp .eq 1131, 3) := dk_159 4 107 (dk_at dksL_law_51 7 rfl rfl)
theorem dL_law_1365 : decode cL_law 1365 = .ok (.iconst 0, 1) := dk_3 (dk_at dksL_law_51 10 rfl rfl)
theorem dL_law_1366 : decode cL_law 1366 = .ok (.ireturn, 1) := dk_172 (dk_at dksL_law_51 11 rfl rfl)
theorem dL_law_1367 : decode cL_law 1367 = .ok (.aload_n 1, 1) := dk_43 (dk_at dksL_law_51 12 rfl rfl)
theorem dL_law_1368 : decode cL_law 1368 = .ok (.invokevirtual 201, 3) := dk_182 0 201 (dk_at dksL_law_51 13 rfl rfl)
theorem dL_law_1371 : decode cL_law 1371 = .ok (.aload_n 2, 1) := dk_44 (dk_at dksL_law_51 16 rfl rfl)
theorem dL_law_1372 : decode cL_law 1372 = .ok (.invokevirtual 204, 3) := dk_182 0 204 (dk_at dksL_law_51 17 rfl rfl)
theorem dL_law_1375 : decode cL_law 1375 = .ok (.if_icmp .eq 1118, 3) := dk_159 4 94 (dk_at dksL_law_51 20 rfl rfl)
theorem dL_law_1378 : decode cL_law 1378 = .ok (.iconst 0, 1) := dk_3 (dk_at dksL_law_51 23 rfl rfl)
theorem dL_law_1379 : decode cL_law 1379 = .ok (.ireturn, 1) := dk_172 (dk_at dksL_law_52 0 rfl rfl)
theorem dL_law_1380 : decode cL_law 1380 = .ok (.aload_n 1, 1) := dk_43 (dk_at dksL_law_52 1 rfl rfl)
theorem dL_law_1381 : decode cL_law 1381 = .ok (.aload_n 0, 1) := dk_42 (dk_at dksL_law_52 2 rfl rfl)
theorem dL_law_1382 : decode cL_law 1382 = .ok (.iload 5, 2) := dk_21 5 (dk_at dksL_law_52 3 rfl rfl)
theorem dL_law_1384 : decode cL_law 1384 = .ok (.iconst 1, 1) := dk_4 (dk_at dksL_law_52 5 rfl rfl)
theorem dL_law_1385 : decode cL_law 1385 = .ok (.iadd, 1) := dk_96 (dk_at dksL_law_52 6 rfl rfl)
theorem dL_law_1386 : decode cL_law 1386 = .ok (.iaload, 1) := dk_46 (dk_at dksL_law_52 7 rfl rfl)
theorem dL_law_1387 : decode cL_law 1387 = .ok (.aload_n 3, 1) := dk_45 (dk_at dksL_law_52 8 rfl rfl)
theorem dL_law_1388 : decode cL_law 1388 = .ok (.invokestatic 205, 3) := dk_184 0 205 (dk_at dksL_law_52 9 rfl rfl)
theorem dL_law_1391 : decode cL_law 1391 = .ok (.istore 6, 2) := dk_54 6 (dk_at dksL_law_52 12 rfl rfl)
theorem dL_law_1393 : decode cL_law 1393 = .ok (.aload_n 2, 1) := dk_44 (dk_at dksL_law_52 14 rfl rfl)
theorem dL_law_1394 : decode cL_law 1394 = .ok (.aload_n 0, 1) := dk_42 (dk_at dksL_law_52 15 rfl rfl)
theorem dL_law_1395 : decode cL_law 1395 = .ok (.iload 5, 2) := dk_21 5 (dk_at dksL_law_52 16 rfl rfl)
theorem dL_law_1397 : decode cL_law 1397 = .ok (.iconst 1, 1) := dk_4 (dk_at dksL_law_52 18 rfl rfl)
theorem dL_law_1398 : decode cL_law 1398 = .ok (.iadd, 1) := dk_96 (dk_at dksL_law_52 19 rfl rfl)
theorem dL_law_1399 : decode cL_law 1399 = .ok (.iaload, 1) := dk_46 (dk_at dksL_law_52 20 rfl rfl)
theorem dL_law_1400 : decode cL_law 1400 = .ok (.invokevirtual 207, 3) := dk_182 0 207 (dk_at dksL_law_52 21 rfl rfl)
theorem dL_law_1403 : decode cL_law 1403 = .ok (.istore 7, 2) := dk_54 7 (dk_at dksL_law_53 0 rfl rfl)
theorem dL_law_1405 : decode cL_law 1405 = .ok (.aload_n 2, 1) := dk_44 (dk_at dksL_law_53 2 rfl rfl)
theorem dL_law_1406 : decode cL_law 1406 = .ok (.invokevirtual 136, 3) := dk_182 0 136 (dk_at dksL_law_53 3 rfl rfl)
theorem dL_law_1409 : decode cL_law 1409 = .ok (.iload 6, 2) := dk_21 6 (dk_at dksL_law_53 6 rfl rfl)
theorem dL_law_1411 : decode cL_law 1411 = .ok (.if_icmp .eq 5, 3) := dk_159 0 5 (dk_at dksL_law_53 8 rfl rfl)
theorem dL_law_1414 : decode cL_law 1414 = .ok (.iconst 0, 1) := dk_3 (dk_at dksL_law_53 11 rfl rfl)
theorem dL_law_1415 : decode cL_law 1415 = .ok (.ireturn, 1) := dk_172 (dk_at dksL_law_53 12 rfl rfl)
theorem dL_law_1416 : decode cL_law 1416 = .ok (.iload 6, 2) := dk_21 6 (dk_at dksL_law_53 13 rfl rfl)
theorem dL_law_1418 : decode cL_law 1418 = .ok (.ifCond .ne 15, 3) := dk_154 0 15 (dk_at dksL_law_53 15 rfl rfl)
theorem dL_law_1421 : decode cL_law 1421 = .ok (.aload_n 3, 1) := dk_45 (dk_at dksL_law_53 18 rfl rfl)
theorem dL_law_1422 : decode cL_law 1422 = .ok (.iconst 0, 1) := dk_3 (dk_at dksL_law_53 19 rfl rfl)
theorem dL_law_1423 : decode cL_law 1423 = .ok (.laload, 1) := dk_47 (dk_at dksL_law_53 20 rfl rfl)
theorem dL_law_1424 : decode cL_law 1424 = .ok (.iload 7, 2) := dk_21 7 (dk_at dksL_law_53 21 rfl rfl)
theorem dL_law_1426 : decode cL_law 1426 = .ok (.i2l, 1) := dk_133 (dk_at dksL_law_53 23 rfl rfl)
theorem dL_law_1427 : decode cL_law 1427 = .ok (.lcmp, 1) := dk_148 (dk_at dksL_law_54 0 rfl rfl)
theorem dL_law_1428 : decode cL_law 1428 = .ok (.ifCond .eq 5, 3) := dk_153 0 5 (dk_at dksL_law_54 1 rfl rfl)
theorem dL_law_1431 : decode cL_law 1431 = .ok (.iconst 0, 1) := dk_3 (dk_at dksL_law_54 4 rfl rfl)
theorem dL_law_1432 : decode cL_law 1432 = .ok (.ireturn, 1) := dk_172 (dk_at dksL_law_54 5 rfl rfl)
theorem dL_law_1433 : decode cL_law 1433 = .ok (.goto 1060, 3) := dk_167 4 36 (dk_at dksL_law_54 6 rfl rfl)
theorem dL_law_1436 : decode cL_law 1436 = .ok (.aload_n 1, 1) := dk_43 (dk_at dksL_law_54 9 rfl rfl)
theorem dL_law_1437 : decode cL_law 1437 = .ok (.aload_n 0, 1) := dk_42 (dk_at dksL_law_54 10 rfl rfl)
theorem dL_law_1438 : decode cL_law 1438 = .ok (.iload 5, 2) := dk_21 5 (dk_at dksL_law_54 11 rfl rfl)
theorem dL_law_1440 : decode cL_law 1440 = .ok (.iconst 1, 1) := dk_4 (dk_at dksL_law_54 13 rfl rfl)
theorem dL_law_1441 : decode cL_law 1441 = .ok (.iadd, 1) := dk_96 (dk_at dksL_law_54 14 rfl rfl)
theorem dL_law_1442 : decode cL_law 1442 = .ok (.iaload, 1) := dk_46 (dk_at dksL_law_54 15 rfl rfl)
theorem dL_law_1443 : decode cL_law 1443 = .ok (.aload_n 3, 1) := dk_45 (dk_at dksL_law_54 16 rfl rfl)
theorem dL_law_1444 : decode cL_law 1444 = .ok (.invokestatic 208, 3) := dk_184 0 208 (dk_at dksL_law_54 17 rfl rfl)
theorem dL_law_1447 : decode cL_law 1447 = .ok (.istore 6, 2) := dk_54 6 (dk_at dksL_law_54 20 rfl rfl)
theorem dL_law_1449 : decode cL_law 1449 = .ok (.aload_n 2, 1) := dk_44 (dk_at dksL_law_54 22 rfl rfl)
theorem dL_law_1450 : decode cL_law 1450 = .ok (.aload_n 0, 1) := dk_42 (dk_at dksL_law_54 23 rfl rfl)
theorem dL_law_1451 : decode cL_law 1451 = .ok (.iload 5, 2) := dk_21 5 (dk_at dksL_law_55 0 rfl rfl)
theorem dL_law_1453 : decode cL_law 1453 = .ok (.iconst 1, 1) := dk_4 (dk_at dksL_law_55 2 rfl rfl)
theorem dL_law_1454 : decode cL_law 1454 = .ok (.iadd, 1) := dk_96 (dk_at dksL_law_55 3 rfl rfl)
theorem dL_law_1455 : decode cL_law 1455 = .ok (.iaload, 1) := dk_46 (dk_at dksL_law_55 4 rfl rfl)
theorem dL_law_1456 : decode cL_law 1456 = .ok (.invokevirtual 210, 3) := dk_182 0 210 (dk_at dksL_law_55 5 rfl rfl)
theorem dL_law_1459 : decode cL_law 1459 = .ok (.istore 7, 2) := dk_54 7 (dk_at dksL_law_55 8 rfl rfl)
theorem dL_law_1461 : decode cL_law 1461 = .ok (.aload_n 2, 1) := dk_44 (dk_at dksL_law_55 10 rfl rfl)
theorem dL_law_1462 : decode cL_law 1462 = .ok (.invokevirtual 136, 3) := dk_182 0 136 (dk_at dksL_law_55 11 rfl rfl)
theorem dL_law_1465 : decode cL_law 1465 = .ok (.iload 6, 2) := dk_21 6 (dk_at dksL_law_55 14 rfl rfl)
theorem dL_law_1467 : decode cL_law 1467 = .ok (.if_icmp .eq 5, 3) := dk_159 0 5 (dk_at dksL_law_55 16 rfl rfl)
theorem dL_law_1470 : decode cL_law 1470 = .ok (.iconst 0, 1) := dk_3 (dk_at dksL_law_55 19 rfl rfl)
theorem dL_law_1471 : decode cL_law 1471 = .ok (.ireturn, 1) := dk_172 (dk_at dksL_law_55 20 rfl rfl)
theorem dL_law_1472 : decode cL_law 1472 = .ok (.iload 6, 2) := dk_21 6 (dk_at dksL_law_55 21 rfl rfl)
theorem dL_law_1474 : decode cL_law 1474 = .ok (.ifCond .ne 22, 3) := dk_154 0 22 (dk_at dksL_law_56 0 rfl rfl)
theorem dL_law_1477 : decode cL_law 1477 = .ok (.aload_n 3, 1) := dk_45 (dk_at dksL_law_56 3 rfl rfl)
theorem dL_law_1478 : decode cL_law 1478 = .ok (.iconst 0, 1) := dk_3 (dk_at dksL_law_56 4 rfl rfl)
theorem dL_law_1479 : decode cL_law 1479 = .ok (.laload, 1) := dk_47 (dk_at dksL_law_56 5 rfl rfl)
theorem dL_law_1480 : decode cL_law 1480 = .ok (.iload 7, 2) := dk_21 7 (dk_at dksL_law_56 6 rfl rfl)
theorem dL_law_1482 : decode cL_law 1482 = .ok (.ifCond .eq 7, 3) := dk_153 0 7 (dk_at dksL_law_56 8 rfl rfl)
theorem dL_law_1485 : decode cL_law 1485 = .ok (.lconst 1, 1) := dk_10 (dk_at dksL_law_56 11 rfl rfl)
theorem dL_law_1486 : decode cL_law 1486 = .ok (.goto 4, 3) := dk_167 0 4 (dk_at dksL_law_56 12 rfl rfl)
theorem dL_law_1489 : decode cL_law 1489 = .ok (.lconst 0, 1) := dk_9 (dk_at dksL_law_56 15 rfl rfl)
theorem dL_law_1490 : decode cL_law 1490 = .ok (.lcmp, 1) := dk_148 (dk_at dksL_law_56 16 rfl rfl)
theorem dL_law_1491 : decode cL_law 1491 = .ok (.ifCond .eq 5, 3) := dk_153 0 5 (dk_at dksL_law_56 17 rfl rfl)
theorem dL_law_1494 : decode cL_law 1494 = .ok (.iconst 0, 1) := dk_3 (dk_at dksL_law_56 20 rfl rfl)
theorem dL_law_1495 : decode cL_law 1495 = .ok (.ireturn, 1) := dk_172 (dk_at dksL_law_56 21 rfl rfl)
theorem dL_law_1496 : decode cL_law 1496 = .ok (.goto 997, 3) := dk_167 3 229 (dk_at dksL_law_57 0 rfl rfl)
theorem dL_law_1499 : decode cL_law 1499 = .ok (.aload_n 1, 1) := dk_43 (dk_at dksL_law_57 3 rfl rfl)
theorem dL_law_1500 : decode cL_law 1500 = .ok (.aload_n 0, 1) := dk_42 (dk_at dksL_law_57 4 rfl rfl)
theorem dL_law_1501 : decode cL_law 1501 = .ok (.iload 5, 2) := dk_21 5 (dk_at dksL_law_57 5 rfl rfl)
theorem dL_law_1503 : decode cL_law 1503 = .ok (.iconst 1, 1) := dk_4 (dk_at dksL_law_57 7 rfl rfl)
theorem dL_law_1504 : decode cL_law 1504 = .ok (.iadd, 1) := dk_96 (dk_at dksL_law_57 8 rfl rfl)
theorem dL_law_1505 : decode cL_law 1505 = .ok (.iaload, 1) := dk_46 (dk_at dksL_law_57 9 rfl rfl)
theorem dL_law_1506 : decode cL_law 1506 = .ok (.aload_n 3, 1) := dk_45 (dk_at dksL_law_57 10 rfl rfl)
theorem dL_law_1507 : decode cL_law 1507 = .ok (.invokestatic 211, 3) := dk_184 0 211 (dk_at dksL_law_57 11 rfl rfl)
theorem dL_law_1510 : decode cL_law 1510 = .ok (.istore 6, 2) := dk_54 6 (dk_at dksL_law_57 14 rfl rfl)
theorem dL_law_1512 : decode cL_law 1512 = .ok (.aload_n 2, 1) := dk_44 (dk_at dksL_law_57 16 rfl rfl)
theorem dL_law_1513 : decode cL_law 1513 = .ok (.aload_n 0, 1) := dk_42 (dk_at dksL_law_57 17 rfl rfl)
theorem dL_law_1514 : decode cL_law 1514 = .ok (.iload 5, 2) := dk_21 5 (dk_at dksL_law_57 18 rfl rfl)
theorem dL_law_1516 : decode cL_law 1516 = .ok (.iconst 1, 1) := dk_4 (dk_at dksL_law_57 20 rfl rfl)
theorem dL_law_1517 : decode cL_law 1517 = .ok (.iadd, 1) := dk_96 (dk_at dksL_law_57 21 rfl rfl)
theorem dL_law_1518 : decode cL_law 1518 = .ok (.iaload, 1) := dk_46 (dk_at dksL_law_57 22 rfl rfl)
theorem dL_law_1519 : decode cL_law 1519 = .ok (.invokevirtual 213, 3) := dk_182 0 213 (dk_at dksL_law_58 0 rfl rfl)
theorem dL_law_1522 : decode cL_law 1522 = .ok (.istore 7, 2) := dk_54 7 (dk_at dksL_law_58 3 rfl rfl)
theorem dL_law_1524 : decode cL_law 1524 = .ok (.aload_n 2, 1) := dk_44 (dk_at dksL_law_58 5 rfl rfl)
theorem dL_law_1525 : decode cL_law 1525 = .ok (.invokevirtual 136, 3) := dk_182 0 136 (dk_at dksL_law_58 6 rfl rfl)
theorem dL_law_1528 : decode cL_law 1528 = .ok (.iload 6, 2) := dk_21 6 (dk_at dksL_law_58 9 rfl rfl)
theorem dL_law_1530 : decode cL_law 1530 = .ok (.if_icmp .eq 5, 3) := dk_159 0 5 (dk_at dksL_law_58 11 rfl rfl)
theorem dL_law_1533 : decode cL_law 1533 = .ok (.iconst 0, 1) := dk_3 (dk_at dksL_law_58 14 rfl rfl)
theorem dL_law_1534 : decode cL_law 1534 = .ok (.ireturn, 1) := dk_172 (dk_at dksL_law_58 15 rfl rfl)
theorem dL_law_1535 : decode cL_law 1535 = .ok (.iload 6, 2) := dk_21 6 (dk_at dksL_law_58 16 rfl rfl)
theorem dL_law_1537 : decode cL_law 1537 = .ok (.ifCond .ne 15, 3) := dk_154 0 15 (dk_at dksL_law_58 18 rfl rfl)
theorem dL_law_1540 : decode cL_law 1540 = .ok (.aload_n 3, 1) := dk_45 (dk_at dksL_law_58 21 rfl rfl)
theorem dL_law_1541 : decode cL_law 1541 = .ok (.iconst 0, 1) := dk_3 (dk_at dksL_law_58 22 rfl rfl)
theorem dL_law_1542 : decode cL_law 1542 = .ok (.laload, 1) := dk_47 (dk_at dksL_law_58 23 rfl rfl)
theorem dL_law_1543 : decode cL_law 1543 = .ok (.iload 7, 2) := dk_21 7 (dk_at dksL_law_59 0 rfl rfl)
theorem dL_law_1545 : decode cL_law 1545 = .ok (.i2l, 1) := dk_133 (dk_at dksL_law_59 2 rfl rfl)
theorem dL_law_1546 : decode cL_law 1546 = .ok (.lcmp, 1) := dk_148 (dk_at dksL_law_59 3 rfl rfl)
theorem dL_law_1547 : decode cL_law 1547 = .ok (.ifCond .eq 5, 3) := dk_153 0 5 (dk_at dksL_law_59 4 rfl rfl)
theorem dL_law_1550 : decode cL_law 1550 = .ok (.iconst 0, 1) := dk_3 (dk_at dksL_law_59 7 rfl rfl)
theorem dL_law_1551 : decode cL_law 1551 = .ok (.ireturn, 1) := dk_172 (dk_at dksL_law_59 8 rfl rfl)
theorem dL_law_1552 : decode cL_law 1552 = .ok (.goto 941, 3) := dk_167 3 173 (dk_at dksL_law_59 9 rfl rfl)
theorem dL_law_1555 : decode cL_law 1555 = .ok (.aload_n 1, 1) := dk_43 (dk_at dksL_law_59 12 rfl rfl)
theorem dL_law_1556 : decode cL_law 1556 = .ok (.aload_n 0, 1) := dk_42 (dk_at dksL_law_59 13 rfl rfl)
theorem dL_law_1557 : decode cL_law 1557 = .ok (.iload 5, 2) := dk_21 5 (dk_at dksL_law_59 14 rfl rfl)
theorem dL_law_1559 : decode cL_law 1559 = .ok (.iconst 1, 1) := dk_4 (dk_at dksL_law_59 16 rfl rfl)
theorem dL_law_1560 : decode cL_law 1560 = .ok (.iadd, 1) := dk_96 (dk_at dksL_law_59 17 rfl rfl)
theorem dL_law_1561 : decode cL_law 1561 = .ok (.iaload, 1) := dk_46 (dk_at dksL_law_59 18 rfl rfl)
theorem dL_law_1562 : decode cL_law 1562 = .ok (.aload_n 3, 1) := dk_45 (dk_at dksL_law_59 19 rfl rfl)
theorem dL_law_1563 : decode cL_law 1563 = .ok (.invokestatic 214, 3) := dk_184 0 214 (dk_at dksL_law_59 20 rfl rfl)
theorem dL_law_1566 : decode cL_law 1566 = .ok (.istore 6, 2) := dk_54 6 (dk_at dksL_law_60 0 rfl rfl)
theorem dL_law_1568 : decode cL_law 1568 = .ok (.aload_n 2, 1) := dk_44 (dk_at dksL_law_60 2 rfl rfl)
theorem dL_law_1569 : decode cL_law 1569 = .ok (.aload_n 0, 1) := dk_42 (dk_at dksL_law_60 3 rfl rfl)
theorem dL_law_1570 : decode cL_law 1570 = .ok (.iload 5, 2) := dk_21 5 (dk_at dksL_law_60 4 rfl rfl)
theorem dL_law_1572 : decode cL_law 1572 = .ok (.iconst 1, 1) := dk_4 (dk_at dksL_law_60 6 rfl rfl)
theorem dL_law_1573 : decode cL_law 1573 = .ok (.iadd, 1) := dk_96 (dk_at dksL_law_60 7 rfl rfl)
theorem dL_law_1574 : decode cL_law 1574 = .ok (.iaload, 1) := dk_46 (dk_at dksL_law_60 8 rfl rfl)
theorem dL_law_1575 : decode cL_law 1575 = .ok (.invokevirtual 216, 3) := dk_182 0 216 (dk_at dksL_law_60 9 rfl rfl)
theorem dL_law_1578 : decode cL_law 1578 = .ok (.istore 7, 2) := dk_54 7 (dk_at dksL_law_60 12 rfl rfl)
theorem dL_law_1580 : decode cL_law 1580 = .ok (.aload_n 2, 1) := dk_44 (dk_at dksL_law_60 14 rfl rfl)
theorem dL_law_1581 : decode cL_law 1581 = .ok (.invokevirtual 136, 3) := dk_182 0 136 (dk_at dksL_law_60 15 rfl rfl)
theorem dL_law_1584 : decode cL_law 1584 = .ok (.iload 6, 2) := dk_21 6 (dk_at dksL_law_60 18 rfl rfl)
theorem dL_law_1586 : decode cL_law 1586 = .ok (.if_icmp .eq 5, 3) := dk_159 0 5 (dk_at dksL_law_60 20 rfl rfl)
theorem dL_law_1589 : decode cL_law 1589 = .ok (.iconst 0, 1) := dk_3 (dk_at dksL_law_60 23 rfl rfl)
theorem dL_law_1590 : decode cL_law 1590 = .ok (.ireturn, 1) := dk_172 (dk_at dksL_law_61 0 rfl rfl)
theorem dL_law_1591 : decode cL_law 1591 = .ok (.iload 6, 2) := dk_21 6 (dk_at dksL_law_61 1 rfl rfl)
theorem dL_law_1593 : decode cL_law 1593 = .ok (.ifCond .ne 15, 3) := dk_154 0 15 (dk_at dksL_law_61 3 rfl rfl)
theorem dL_law_1596 : decode cL_law 1596 = .ok (.aload_n 3, 1) := dk_45 (dk_at dksL_law_61 6 rfl rfl)
theorem dL_law_1597 : decode cL_law 1597 = .ok (.iconst 0, 1) := dk_3 (dk_at dksL_law_61 7 rfl rfl)
theorem dL_law_1598 : decode cL_law 1598 = .ok (.laload, 1) := dk_47 (dk_at dksL_law_61 8 rfl rfl)
theorem dL_law_1599 : decode cL_law 1599 = .ok (.iload 7, 2) := dk_21 7 (dk_at dksL_law_61 9 rfl rfl)
theorem dL_law_1601 : decode cL_law 1601 = .ok (.i2l, 1) := dk_133 (dk_at dksL_law_61 11 rfl rfl)
theorem dL_law_1602 : decode cL_law 1602 = .ok (.lcmp, 1) := dk_148 (dk_at dksL_law_61 12 rfl rfl)
theorem dL_law_1603 : decode cL_law 1603 = .ok (.ifCond .eq 5, 3) := dk_153 0 5 (dk_at dksL_law_61 13 rfl rfl)
theorem dL_law_1606 : decode cL_law 1606 = .ok (.iconst 0, 1) := dk_3 (dk_at dksL_law_61 16 rfl rfl)
theorem dL_law_1607 : decode cL_law 1607 = .ok (.ireturn, 1) := dk_172 (dk_at dksL_law_61 17 rfl rfl)
theorem dL_law_1608 : decode cL_law 1608 = .ok (.goto 885, 3) := dk_167 3 117 (dk_at dksL_law_61 18 rfl rfl)
theorem dL_law_1611 : decode cL_law 1611 = .ok (.aload_n 1, 1) := dk_43 (dk_at dksL_law_61 21 rfl rfl)
theorem dL_law_1612 : decode cL_law 1612 = .ok (.aload_n 0, 1) := dk_42 (dk_at dksL_law_61 22 rfl rfl)
theorem dL_law_1613 : decode cL_law 1613 = .ok (.iload 5, 2) := dk_21 5 (dk_at dksL_law_62 0 rfl rfl)
theorem dL_law_1615 : decode cL_law 1615 = .ok (.iconst 1, 1) := dk_4 (dk_at dksL_law_62 2 rfl rfl)
theorem dL_law_1616 : decode cL_law 1616 = .ok (.iadd, 1) := dk_96 (dk_at dksL_law_62 3 rfl rfl)
theorem dL_law_1617 : decode cL_law 1617 = .ok (.iaload, 1) := dk_46 (dk_at dksL_law_62 4 rfl rfl)
theorem dL_law_1618 : decode cL_law 1618 = .ok (.aload_n 0, 1) := dk_42 (dk_at dksL_law_62 5 rfl rfl)
theorem dL_law_1619 : decode cL_law 1619 = .ok (.iload 5, 2) := dk_21 5 (dk_at dksL_law_62 6 rfl rfl)
theorem dL_law_1621 : decode cL_law 1621 = .ok (.iconst 2, 1) := dk_5 (dk_at dksL_law_62 8 rfl rfl)
theorem dL_law_1622 : decode cL_law 1622 = .ok (.iadd, 1) := dk_96 (dk_at dksL_law_62 9 rfl rfl)
theorem dL_law_1623 : decode cL_law 1623 = .ok (.iaload, 1) := dk_46 (dk_at dksL_law_62 10 rfl rfl)
theorem dL_law_1624 : decode cL_law 1624 = .ok (.aload_n 3, 1) := dk_45 (dk_at dksL_law_62 11 rfl rfl)
theorem dL_law_1625 : decode cL_law 1625 = .ok (.invokestatic 217, 3) := dk_184 0 217 (dk_at dksL_law_62 12 rfl rfl)
theorem dL_law_1628 : decode cL_law 1628 = .ok (.istore 6, 2) := dk_54 6 (dk_at dksL_law_62 15 rfl rfl)
theorem dL_law_1630 : decode cL_law 1630 = .ok (.aload_n 2, 1) := dk_44 (dk_at dksL_law_62 17 rfl rfl)
theorem dL_law_1631 : decode cL_law 1631 = .ok (.aload_n 0, 1) := dk_42 (dk_at dksL_law_62 18 rfl rfl)
theorem dL_law_1632 : decode cL_law 1632 = .ok (.iload 5, 2) := dk_21 5 (dk_at dksL_law_62 19 rfl rfl)
theorem dL_law_1634 : decode cL_law 1634 = .ok (.iconst 1, 1) := dk_4 (dk_at dksL_law_62 21 rfl rfl)
theorem dL_law_1635 : decode cL_law 1635 = .ok (.iadd, 1) := dk_96 (dk_at dksL_law_62 22 rfl rfl)
theorem dL_law_1636 : decode cL_law 1636 = .ok (.iaload, 1) := dk_46 (dk_at dksL_law_62 23 rfl rfl)
theorem dL_law_1637 : decode cL_law 1637 = .ok (.aload_n 0, 1) := dk_42 (dk_at dksL_law_63 0 rfl rfl)
theorem dL_law_1638 : decode cL_law 1638 = .ok (.iload 5, 2) := dk_21 5 (dk_at dksL_law_63 1 rfl rfl)
theorem dL_law_1640 : decode cL_law 1640 = .ok (.iconst 2, 1) := dk_5 (dk_at dksL_law_63 3 rfl rfl)
theorem dL_law_1641 : decode cL_law 1641 = .ok (.iadd, 1) := dk_96 (dk_at dksL_law_63 4 rfl rfl)
theorem dL_law_1642 : decode cL_law 1642 = .ok (.iaload, 1) := dk_46 (dk_at dksL_law_63 5 rfl rfl)
theorem dL_law_1643 : decode cL_law 1643 = .ok (.invokevirtual 219, 3) := dk_182 0 219 (dk_at dksL_law_63 6 rfl rfl)
theorem dL_law_1646 : decode cL_law 1646 = .ok (.istore 7, 2) := dk_54 7 (dk_at dksL_law_63 9 rfl rfl)
theorem dL_law_1648 : decode cL_law 1648 = .ok (.aload_n 2, 1) := dk_44 (dk_at dksL_law_63 11 rfl rfl)
theorem dL_law_1649 : decode cL_law 1649 = .ok (.invokevirtual 136, 3) := dk_182 0 136 (dk_at dksL_law_63 12 rfl rfl)
theorem dL_law_1652 : decode cL_law 1652 = .ok (.iload 6, 2) := dk_21 6 (dk_at dksL_law_63 15 rfl rfl)
theorem dL_law_1654 : decode cL_law 1654 = .ok (.if_icmp .eq 5, 3) := dk_159 0 5 (dk_at dksL_law_63 17 rfl rfl)
theorem dL_law_1657 : decode cL_law 1657 = .ok (.iconst 0, 1) := dk_3 (dk_at dksL_law_63 20 rfl rfl)
theorem dL_law_1658 : decode cL_law 1658 = .ok (.ireturn, 1) := dk_172 (dk_at dksL_law_63 21 rfl rfl)
theorem dL_law_1659 : decode cL_law 1659 = .ok (.iload 6, 2) := dk_21 6 (dk_at dksL_law_63 22 rfl rfl)
theorem dL_law_1661 : decode cL_law 1661 = .ok (.ifCond .ne 15, 3) := dk_154 0 15 (dk_at dksL_law_64 0 rfl rfl)
theorem dL_law_1664 : decode cL_law 1664 = .ok (.aload_n 3, 1) := dk_45 (dk_at dksL_law_64 3 rfl rfl)
theorem dL_law_1665 : decode cL_law 1665 = .ok (.iconst 0, 1) := dk_3 (dk_at dksL_law_64 4 rfl rfl)
theorem dL_law_1666 : decode cL_law 1666 = .ok (.laload, 1) := dk_47 (dk_at dksL_law_64 5 rfl rfl)
theorem dL_law_1667 : decode cL_law 1667 = .ok (.iload 7, 2) := dk_21 7 (dk_at dksL_law_64 6 rfl rfl)
theorem dL_law_1669 : decode cL_law 1669 = .ok (.i2l, 1) := dk_133 (dk_at dksL_law_64 8 rfl rfl)
theorem dL_law_1670 : decode cL_law 1670 = .ok (.lcmp, 1) := dk_148 (dk_at dksL_law_64 9 rfl rfl)
theorem dL_law_1671 : decode cL_law 1671 = .ok (.ifCond .eq 5, 3) := dk_153 0 5 (dk_at dksL_law_64 10 rfl rfl)
theorem dL_law_1674 : decode cL_law 1674 = .ok (.iconst 0, 1) := dk_3 (dk_at dksL_law_64 13 rfl rfl)
theorem dL_law_1675 : decode cL_law 1675 = .ok (.ireturn, 1) := dk_172 (dk_at dksL_law_64 14 rfl rfl)
theorem dL_law_1676 : decode cL_law 1676 = .ok (.goto 817, 3) := dk_167 3 49 (dk_at dksL_law_64 15 rfl rfl)
theorem dL_law_1679 : decode cL_law 1679 = .ok (.aload_n 1, 1) := dk_43 (dk_at dksL_law_64 18 rfl rfl)
theorem dL_law_1680 : decode cL_law 1680 = .ok (.aload_n 0, 1) := dk_42 (dk_at dksL_law_64 19 rfl rfl)
theorem dL_law_1681 : decode cL_law 1681 = .ok (.iload 5, 2) := dk_21 5 (dk_at dksL_law_64 20 rfl rfl)
theorem dL_law_1683 : decode cL_law 1683 = .ok (.iconst 1, 1) := dk_4 (dk_at dksL_law_64 22 rfl rfl)
theorem dL_law_1684 : decode cL_law 1684 = .ok (.iadd, 1) := dk_96 (dk_at dksL_law_64 23 rfl rfl)
theorem dL_law_1685 : decode cL_law 1685 = .ok (.iaload, 1) := dk_46 (dk_at dksL_law_65 0 rfl rfl)
theorem dL_law_1686 : decode cL_law 1686 = .ok (.aload_n 0, 1) := dk_42 (dk_at dksL_law_65 1 rfl rfl)
theorem dL_law_1687 : decode cL_law 1687 = .ok (.iload 5, 2) := dk_21 5 (dk_at dksL_law_65 2 rfl rfl)
theorem dL_law_1689 : decode cL_law 1689 = .ok (.iconst 2, 1) := dk_5 (dk_at dksL_law_65 4 rfl rfl)
theorem dL_law_1690 : decode cL_law 1690 = .ok (.iadd, 1) := dk_96 (dk_at dksL_law_65 5 rfl rfl)
theorem dL_law_1691 : decode cL_law 1691 = .ok (.iaload, 1) := dk_46 (dk_at dksL_law_65 6 rfl rfl)
theorem dL_law_1692 : decode cL_law 1692 = .ok (.aload_n 3, 1) := dk_45 (dk_at dksL_law_65 7 rfl rfl)
theorem dL_law_1693 : decode cL_law 1693 = .ok (.invokestatic 220, 3) := dk_184 0 220 (dk_at dksL_law_65 8 rfl rfl)
theorem dL_law_1696 : decode cL_law 1696 = .ok (.istore 6, 2) := dk_54 6 (dk_at dksL_law_65 11 rfl rfl)
theorem dL_law_1698 : decode cL_law 1698 = .ok (.aload_n 2, 1) := dk_44 (dk_at dksL_law_65 13 rfl rfl)
theorem dL_law_1699 : decode cL_law 1699 = .ok (.aload_n 0, 1) := dk_42 (dk_at dksL_law_65 14 rfl rfl)
theorem dL_law_1700 : decode cL_law 1700 = .ok (.iload 5, 2) := dk_21 5 (dk_at dksL_law_65 15 rfl rfl)
theorem dL_law_1702 : decode cL_law 1702 = .ok (.iconst 1, 1) := dk_4 (dk_at dksL_law_65 17 rfl rfl)
theorem dL_law_1703 : decode cL_law 1703 = .ok (.iadd, 1) := dk_96 (dk_at dksL_law_65 18 rfl rfl)
theorem dL_law_1704 : decode cL_law 1704 = .ok (.iaload, 1) := dk_46 (dk_at dksL_law_65 19 rfl rfl)
theorem dL_law_1705 : decode cL_law 1705 = .ok (.aload_n 0, 1) := dk_42 (dk_at dksL_law_65 20 rfl rfl)
theorem dL_law_1706 : decode cL_law 1706 = .ok (.iload 5, 2) := dk_21 5 (dk_at dksL_law_65 21 rfl rfl)
theorem dL_law_1708 : decode cL_law 1708 = .ok (.iconst 2, 1) := dk_5 (dk_at dksL_law_65 23 rfl rfl)
theorem dL_law_1709 : decode cL_law 1709 = .ok (.iadd, 1) := dk_96 (dk_at dksL_law_66 0 rfl rfl)
theorem dL_law_1710 : decode cL_law 1710 = .ok (.iaload, 1) := dk_46 (dk_at dksL_law_66 1 rfl rfl)
theorem dL_law_1711 : decode cL_law 1711 = .ok (.invokevirtual 222, 3) := dk_182 0 222 (dk_at dksL_law_66 2 rfl rfl)
theorem dL_law_1714 : decode cL_law 1714 = .ok (.istore 7, 2) := dk_54 7 (dk_at dksL_law_66 5 rfl rfl)
theorem dL_law_1716 : decode cL_law 1716 = .ok (.aload_n 2, 1) := dk_44 (dk_at dksL_law_66 7 rfl rfl)
theorem dL_law_1717 : decode cL_law 1717 = .ok (.invokevirtual 136, 3) := dk_182 0 136 (dk_at dksL_law_66 8 rfl rfl)
theorem dL_law_1720 : decode cL_law 1720 = .ok (.iload 6, 2) := dk_21 6 (dk_at dksL_law_66 11 rfl rfl)
theorem dL_law_1722 : decode cL_law 1722 = .ok (.if_icmp .eq 5, 3) := dk_159 0 5 (dk_at dksL_law_66 13 rfl rfl)
theorem dL_law_1725 : decode cL_law 1725 = .ok (.iconst 0, 1) := dk_3 (dk_at dksL_law_66 16 rfl rfl)
theorem dL_law_1726 : decode cL_law 1726 = .ok (.ireturn, 1) := dk_172 (dk_at dksL_law_66 17 rfl rfl)
theorem dL_law_1727 : decode cL_law 1727 = .ok (.iload 6, 2) := dk_21 6 (dk_at dksL_law_66 18 rfl rfl)
theorem dL_law_1729 : decode cL_law 1729 = .ok (.ifCond .ne 15, 3) := dk_154 0 15 (dk_at dksL_law_66 20 rfl rfl)
theorem dL_law_1732 : decode cL_law 1732 = .ok (.aload_n 3, 1) := dk_45 (dk_at dksL_law_66 23 rfl rfl)
theorem dL_law_1733 : decode cL_law 1733 = .ok (.iconst 0, 1) := dk_3 (dk_at dksL_law_67 0 rfl rfl)
theorem dL_law_1734 : decode cL_law 1734 = .ok (.laload, 1) := dk_47 (dk_at dksL_law_67 1 rfl rfl)
theorem dL_law_1735 : decode cL_law 1735 = .ok (.iload 7, 2) := dk_21 7 (dk_at dksL_law_67 2 rfl rfl)
theorem dL_law_1737 : decode cL_law 1737 = .ok (.i2l, 1) := dk_133 (dk_at dksL_law_67 4 rfl rfl)
theorem dL_law_1738 : decode cL_law 1738 = .ok (.lcmp, 1) := dk_148 (dk_at dksL_law_67 5 rfl rfl)
theorem dL_law_1739 : decode cL_law 1739 = .ok (.ifCond .eq 5, 3) := dk_153 0 5 (dk_at dksL_law_67 6 rfl rfl)
theorem dL_law_1742 : decode cL_law 1742 = .ok (.iconst 0, 1) := dk_3 (dk_at dksL_law_67 9 rfl rfl)
theorem dL_law_1743 : decode cL_law 1743 = .ok (.ireturn, 1) := dk_172 (dk_at dksL_law_67 10 rfl rfl)
theorem dL_law_1744 : decode cL_law 1744 = .ok (.goto 749, 3) := dk_167 2 237 (dk_at dksL_law_67 11 rfl rfl)
theorem dL_law_1747 : decode cL_law 1747 = .ok (.aload_n 1, 1) := dk_43 (dk_at dksL_law_67 14 rfl rfl)
theorem dL_law_1748 : decode cL_law 1748 = .ok (.aload_n 0, 1) := dk_42 (dk_at dksL_law_67 15 rfl rfl)
theorem dL_law_1749 : decode cL_law 1749 = .ok (.iload 5, 2) := dk_21 5 (dk_at dksL_law_67 16 rfl rfl)
theorem dL_law_1751 : decode cL_law 1751 = .ok (.iconst 1, 1) := dk_4 (dk_at dksL_law_67 18 rfl rfl)
theorem dL_law_1752 : decode cL_law 1752 = .ok (.iadd, 1) := dk_96 (dk_at dksL_law_67 19 rfl rfl)
theorem dL_law_1753 : decode cL_law 1753 = .ok (.iaload, 1) := dk_46 (dk_at dksL_law_67 20 rfl rfl)
theorem dL_law_1754 : decode cL_law 1754 = .ok (.aload_n 3, 1) := dk_45 (dk_at dksL_law_67 21 rfl rfl)
theorem dL_law_1755 : decode cL_law 1755 = .ok (.invokestatic 223, 3) := dk_184 0 223 (dk_at dksL_law_68 0 rfl rfl)
theorem dL_law_1758 : decode cL_law 1758 = .ok (.istore 6, 2) := dk_54 6 (dk_at dksL_law_68 3 rfl rfl)
theorem dL_law_1760 : decode cL_law 1760 = .ok (.aload_n 2, 1) := dk_44 (dk_at dksL_law_68 5 rfl rfl)
theorem dL_law_1761 : decode cL_law 1761 = .ok (.aload_n 0, 1) := dk_42 (dk_at dksL_law_68 6 rfl rfl)
theorem dL_law_1762 : decode cL_law 1762 = .ok (.iload 5, 2) := dk_21 5 (dk_at dksL_law_68 7 rfl rfl)
theorem dL_law_1764 : decode cL_law 1764 = .ok (.iconst 1, 1) := dk_4 (dk_at dksL_law_68 9 rfl rfl)
theorem dL_law_1765 : decode cL_law 1765 = .ok (.iadd, 1) := dk_96 (dk_at dksL_law_68 10 rfl rfl)
theorem dL_law_1766 : decode cL_law 1766 = .ok (.iaload, 1) := dk_46 (dk_at dksL_law_68 11 rfl rfl)
theorem dL_law_1767 : decode cL_law 1767 = .ok (.invokevirtual 225, 3) := dk_182 0 225 (dk_at dksL_law_68 12 rfl rfl)
theorem dL_law_1770 : decode cL_law 1770 = .ok (.istore 7, 2) := dk_54 7 (dk_at dksL_law_68 15 rfl rfl)
theorem dL_law_1772 : decode cL_law 1772 = .ok (.aload_n 2, 1) := dk_44 (dk_at dksL_law_68 17 rfl rfl)
theorem dL_law_1773 : decode cL_law 1773 = .ok (.invokevirtual 136, 3) := dk_182 0 136 (dk_at dksL_law_68 18 rfl rfl)
theorem dL_law_1776 : decode cL_law 1776 = .ok (.iload 6, 2) := dk_21 6 (dk_at dksL_law_68 21 rfl rfl)
theorem dL_law_1778 : decode cL_law 1778 = .ok (.if_icmp .eq 5, 3) := dk_159 0 5 (dk_at dksL_law_69 0 rfl rfl)
theorem dL_law_1781 : decode cL_law 1781 = .ok (.iconst 0, 1) := dk_3 (dk_at dksL_law_69 3 rfl rfl)
theorem dL_law_1782 : decode cL_law 1782 = .ok (.ireturn, 1) := dk_172 (dk_at dksL_law_69 4 rfl rfl)
theorem dL_law_1783 : decode cL_law 1783 = .ok (.iload 6, 2) := dk_21 6 (dk_at dksL_law_69 5 rfl rfl)
theorem dL_law_1785 : decode cL_law 1785 = .ok (.ifCond .ne 15, 3) := dk_154 0 15 (dk_at dksL_law_69 7 rfl rfl)
theorem dL_law_1788 : decode cL_law 1788 = .ok (.aload_n 3, 1) := dk_45 (dk_at dksL_law_69 10 rfl rfl)
theorem dL_law_1789 : decode cL_law 1789 = .ok (.iconst 0, 1) := dk_3 (dk_at dksL_law_69 11 rfl rfl)
theorem dL_law_1790 : decode cL_law 1790 = .ok (.laload, 1) := dk_47 (dk_at dksL_law_69 12 rfl rfl)
theorem dL_law_1791 : decode cL_law 1791 = .ok (.iload 7, 2) := dk_21 7 (dk_at dksL_law_69 13 rfl rfl)
theorem dL_law_1793 : decode cL_law 1793 = .ok (.i2l, 1) := dk_133 (dk_at dksL_law_69 15 rfl rfl)
theorem dL_law_1794 : decode cL_law 1794 = .ok (.lcmp, 1) := dk_148 (dk_at dksL_law_69 16 rfl rfl)
theorem dL_law_1795 : decode cL_law 1795 = .ok (.ifCond .eq 5, 3) := dk_153 0 5 (dk_at dksL_law_69 17 rfl rfl)
theorem dL_law_1798 : decode cL_law 1798 = .ok (.iconst 0, 1) := dk_3 (dk_at dksL_law_69 20 rfl rfl)
theorem dL_law_1799 : decode cL_law 1799 = .ok (.ireturn, 1) := dk_172 (dk_at dksL_law_69 21 rfl rfl)
theorem dL_law_1800 : decode cL_law 1800 = .ok (.goto 693, 3) := dk_167 2 181 (dk_at dksL_law_70 0 rfl rfl)
theorem dL_law_1803 : decode cL_law 1803 = .ok (.aload_n 1, 1) := dk_43 (dk_at dksL_law_70 3 rfl rfl)
theorem dL_law_1804 : decode cL_law 1804 = .ok (.aload_n 0, 1) := dk_42 (dk_at dksL_law_70 4 rfl rfl)
theorem dL_law_1805 : decode cL_law 1805 = .ok (.iload 5, 2) := dk_21 5 (dk_at dksL_law_70 5 rfl rfl)
theorem dL_law_1807 : decode cL_law 1807 = .ok (.iconst 1, 1) := dk_4 (dk_at dksL_law_70 7 rfl rfl)
theorem dL_law_1808 : decode cL_law 1808 = .ok (.iadd, 1) := dk_96 (dk_at dksL_law_70 8 rfl rfl)
theorem dL_law_1809 : decode cL_law 1809 = .ok (.iaload, 1) := dk_46 (dk_at dksL_law_70 9 rfl rfl)
theorem dL_law_1810 : decode cL_law 1810 = .ok (.aload_n 3, 1) := dk_45 (dk_at dksL_law_70 10 rfl rfl)
theorem dL_law_1811 : decode cL_law 1811 = .ok (.invokestatic 226, 3) := dk_184 0 226 (dk_at dksL_law_70 11 rfl rfl)
theorem dL_law_1814 : decode cL_law 1814 = .ok (.istore 6, 2) := dk_54 6 (dk_at dksL_law_70 14 rfl rfl)
theorem dL_law_1816 : decode cL_law 1816 = .ok (.aload_n 2, 1) := dk_44 (dk_at dksL_law_70 16 rfl rfl)
theorem dL_law_1817 : decode cL_law 1817 = .ok (.aload_n 0, 1) := dk_42 (dk_at dksL_law_70 17 rfl rfl)
theorem dL_law_1818 : decode cL_law 1818 = .ok (.iload 5, 2) := dk_21 5 (dk_at dksL_law_70 18 rfl rfl)
theorem dL_law_1820 : decode cL_law 1820 = .ok (.iconst 1, 1) := dk_4 (dk_at dksL_law_70 20 rfl rfl)
theorem dL_law_1821 : decode cL_law 1821 = .ok (.iadd, 1) := dk_96 (dk_at dksL_law_70 21 rfl rfl)
theorem dL_law_1822 : decode cL_law 1822 = .ok (.iaload, 1) := dk_46 (dk_at dksL_law_70 22 rfl rfl)
theorem dL_law_1823 : decode cL_law 1823 = .ok (.invokevirtual 228, 3) := dk_182 0 228 (dk_at dksL_law_71 0 rfl rfl)
theorem dL_law_1826 : decode cL_law 1826 = .ok (.istore 7, 2) := dk_54 7 (dk_at dksL_law_71 3 rfl rfl)
theorem dL_law_1828 : decode cL_law 1828 = .ok (.aload_n 2, 1) := dk_44 (dk_at dksL_law_71 5 rfl rfl)
theorem dL_law_1829 : decode cL_law 1829 = .ok (.invokevirtual 136, 3) := dk_182 0 136 (dk_at dksL_law_71 6 rfl rfl)
theorem dL_law_1832 : decode cL_law 1832 = .ok (.iload 6, 2) := dk_21 6 (dk_at dksL_law_71 9 rfl rfl)
theorem dL_law_1834 : decode cL_law 1834 = .ok (.if_icmp .eq 5, 3) := dk_159 0 5 (dk_at dksL_law_71 11 rfl rfl)
theorem dL_law_1837 : decode cL_law 1837 = .ok (.iconst 0, 1) := dk_3 (dk_at dksL_law_71 14 rfl rfl)
theorem dL_law_1838 : decode cL_law 1838 = .ok (.ireturn, 1) := dk_172 (dk_at dksL_law_71 15 rfl rfl)
theorem dL_law_1839 : decode cL_law 1839 = .ok (.iload 6, 2) := dk_21 6 (dk_at dksL_law_71 16 rfl rfl)
theorem dL_law_1841 : decode cL_law 1841 = .ok (.ifCond .ne 15, 3) := dk_154 0 15 (dk_at dksL_law_71 18 rfl rfl)
theorem dL_law_1844 : decode cL_law 1844 = .ok (.aload_n 3, 1) := dk_45 (dk_at dksL_law_71 21 rfl rfl)
theorem dL_law_1845 : decode cL_law 1845 = .ok (.iconst 0, 1) := dk_3 (dk_at dksL_law_71 22 rfl rfl)
theorem dL_law_1846 : decode cL_law 1846 = .ok (.laload, 1) := dk_47 (dk_at dksL_law_71 23 rfl rfl)
theorem dL_law_1847 : decode cL_law 1847 = .ok (.iload 7, 2) := dk_21 7 (dk_at dksL_law_72 0 rfl rfl)
theorem dL_law_1849 : decode cL_law 1849 = .ok (.i2l, 1) := dk_133 (dk_at dksL_law_72 2 rfl rfl)
theorem dL_law_1850 : decode cL_law 1850 = .ok (.lcmp, 1) := dk_148 (dk_at dksL_law_72 3 rfl rfl)
theorem dL_law_1851 : decode cL_law 1851 = .ok (.ifCond .eq 5, 3) := dk_153 0 5 (dk_at dksL_law_72 4 rfl rfl)
theorem dL_law_1854 : decode cL_law 1854 = .ok (.iconst 0, 1) := dk_3 (dk_at dksL_law_72 7 rfl rfl)
theorem dL_law_1855 : decode cL_law 1855 = .ok (.ireturn, 1) := dk_172 (dk_at dksL_law_72 8 rfl rfl)
theorem dL_law_1856 : decode cL_law 1856 = .ok (.goto 637, 3) := dk_167 2 125 (dk_at dksL_law_72 9 rfl rfl)
theorem dL_law_1859 : decode cL_law 1859 = .ok (.aload_n 1, 1) := dk_43 (dk_at dksL_law_72 12 rfl rfl)
theorem dL_law_1860 : decode cL_law 1860 = .ok (.invokevirtual 229, 3) := dk_182 0 229 (dk_at dksL_law_72 13 rfl rfl)
theorem dL_law_1863 : decode cL_law 1863 = .ok (.aload_n 2, 1) := dk_44 (dk_at dksL_law_72 16 rfl rfl)
theorem dL_law_1864 : decode cL_law 1864 = .ok (.invokevirtual 232, 3) := dk_182 0 232 (dk_at dksL_law_72 17 rfl rfl)
theorem dL_law_1867 : decode cL_law 1867 = .ok (.if_icmp .eq 626, 3) := dk_159 2 114 (dk_at dksL_law_72 20 rfl rfl)
theorem dL_law_1870 : decode cL_law 1870 = .ok (.iconst 0, 1) := dk_3 (dk_at dksL_law_72 23 rfl rfl)
theorem dL_law_1871 : decode cL_law 1871 = .ok (.ireturn, 1) := dk_172 (dk_at dksL_law_73 0 rfl rfl)
theorem dL_law_1872 : decode cL_law 1872 = .ok (.aload_n 1, 1) := dk_43 (dk_at dksL_law_73 1 rfl rfl)
theorem dL_law_1873 : decode cL_law 1873 = .ok (.aload_n 0, 1) := dk_42 (dk_at dksL_law_73 2 rfl rfl)
theorem dL_law_1874 : decode cL_law 1874 = .ok (.iload 5, 2) := dk_21 5 (dk_at dksL_law_73 3 rfl rfl)
theorem dL_law_1876 : decode cL_law 1876 = .ok (.iconst 1, 1) := dk_4 (dk_at dksL_law_73 5 rfl rfl)
theorem dL_law_1877 : decode cL_law 1877 = .ok (.iadd, 1) := dk_96 (dk_at dksL_law_73 6 rfl rfl)
theorem dL_law_1878 : decode cL_law 1878 = .ok (.iaload, 1) := dk_46 (dk_at dksL_law_73 7 rfl rfl)
theorem dL_law_1879 : decode cL_law 1879 = .ok (.aload_n 0, 1) := dk_42 (dk_at dksL_law_73 8 rfl rfl)
theorem dL_law_1880 : decode cL_law 1880 = .ok (.iload 5, 2) := dk_21 5 (dk_at dksL_law_73 9 rfl rfl)
theorem dL_law_1882 : decode cL_law 1882 = .ok (.iconst 2, 1) := dk_5 (dk_at dksL_law_73 11 rfl rfl)
theorem dL_law_1883 : decode cL_law 1883 = .ok (.iadd, 1) := dk_96 (dk_at dksL_law_73 12 rfl rfl)
theorem dL_law_1884 : decode cL_law 1884 = .ok (.iaload, 1) := dk_46 (dk_at dksL_law_73 13 rfl rfl)
theorem dL_law_1885 : decode cL_law 1885 = .ok (.aload_n 3, 1) := dk_45 (dk_at dksL_law_73 14 rfl rfl)
theorem dL_law_1886 : decode cL_law 1886 = .ok (.invokestatic 233, 3) := dk_184 0 233 (dk_at dksL_law_73 15 rfl rfl)
theorem dL_law_1889 : decode cL_law 1889 = .ok (.istore 6, 2) := dk_54 6 (dk_at dksL_law_73 18 rfl rfl)
theorem dL_law_1891 : decode cL_law 1891 = .ok (.aload_n 2, 1) := dk_44 (dk_at dksL_law_73 20 rfl rfl)
theorem dL_law_1892 : decode cL_law 1892 = .ok (.aload_n 0, 1) := dk_42 (dk_at dksL_law_73 21 rfl rfl)
theorem dL_law_1893 : decode cL_law 1893 = .ok (.iload 5, 2) := dk_21 5 (dk_at dksL_law_73 22 rfl rfl)
theorem dL_law_1895 : decode cL_law 1895 = .ok (.iconst 1, 1) := dk_4 (dk_at dksL_law_74 0 rfl rfl)
theorem dL_law_1896 : decode cL_law 1896 = .ok (.iadd, 1) := dk_96 (dk_at dksL_law_74 1 rfl rfl)
theorem dL_law_1897 : decode cL_law 1897 = .ok (.iaload, 1) := dk_46 (dk_at dksL_law_74 2 rfl rfl)
theorem dL_law_1898 : decode cL_law 1898 = .ok (.aload_n 0, 1) := dk_42 (dk_at dksL_law_74 3 rfl rfl)
theorem dL_law_1899 : decode cL_law 1899 = .ok (.iload 5, 2) := dk_21 5 (dk_at dksL_law_74 4 rfl rfl)
theorem dL_law_1901 : decode cL_law 1901 = .ok (.iconst 2, 1) := dk_5 (dk_at dksL_law_74 6 rfl rfl)
theorem dL_law_1902 : decode cL_law 1902 = .ok (.iadd, 1) := dk_96 (dk_at dksL_law_74 7 rfl rfl)
theorem dL_law_1903 : decode cL_law 1903 = .ok (.iaload, 1) := dk_46 (dk_at dksL_law_74 8 rfl rfl)
theorem dL_law_1904 : decode cL_law 1904 = .ok (.invokevirtual 235, 3) := dk_182 0 235 (dk_at dksL_law_74 9 rfl rfl)
theorem dL_law_1907 : decode cL_law 1907 = .ok (.istore 7, 2) := dk_54 7 (dk_at dksL_law_74 12 rfl rfl)
theorem dL_law_1909 : decode cL_law 1909 = .ok (.aload_n 2, 1) := dk_44 (dk_at dksL_law_74 14 rfl rfl)
theorem dL_law_1910 : decode cL_law 1910 = .ok (.invokevirtual 136, 3) := dk_182 0 136 (dk_at dksL_law_74 15 rfl rfl)
theorem dL_law_1913 : decode cL_law 1913 = .ok (.iload 6, 2) := dk_21 6 (dk_at dksL_law_74 18 rfl rfl)
theorem dL_law_1915 : decode cL_law 1915 = .ok (.if_icmp .eq 5, 3) := dk_159 0 5 (dk_at dksL_law_74 20 rfl rfl)
theorem dL_law_1918 : decode cL_law 1918 = .ok (.iconst 0, 1) := dk_3 (dk_at dksL_law_74 23 rfl rfl)
theorem dL_law_1919 : decode cL_law 1919 = .ok (.ireturn, 1) := dk_172 (dk_at dksL_law_75 0 rfl rfl)
theorem dL_law_1920 : decode cL_law 1920 = .ok (.iload 6, 2) := dk_21 6 (dk_at dksL_law_75 1 rfl rfl)
theorem dL_law_1922 : decode cL_law 1922 = .ok (.ifCond .ne 22, 3) := dk_154 0 22 (dk_at dksL_law_75 3 rfl rfl)
theorem dL_law_1925 : decode cL_law 1925 = .ok (.aload_n 3, 1) := dk_45 (dk_at dksL_law_75 6 rfl rfl)
theorem dL_law_1926 : decode cL_law 1926 = .ok (.iconst 0, 1) := dk_3 (dk_at dksL_law_75 7 rfl rfl)
theorem dL_law_1927 : decode cL_law 1927 = .ok (.laload, 1) := dk_47 (dk_at dksL_law_75 8 rfl rfl)
theorem dL_law_1928 : decode cL_law 1928 = .ok (.iload 7, 2) := dk_21 7 (dk_at dksL_law_75 9 rfl rfl)
theorem dL_law_1930 : decode cL_law 1930 = .ok (.ifCond .eq 7, 3) := dk_153 0 7 (dk_at dksL_law_75 11 rfl rfl)
theorem dL_law_1933 : decode cL_law 1933 = .ok (.lconst 1, 1) := dk_10 (dk_at dksL_law_75 14 rfl rfl)
theorem dL_law_1934 : decode cL_law 1934 = .ok (.goto 4, 3) := dk_167 0 4 (dk_at dksL_law_75 15 rfl rfl)
theorem dL_law_1937 : decode cL_law 1937 = .ok (.lconst 0, 1) := dk_9 (dk_at dksL_law_75 18 rfl rfl)
theorem dL_law_1938 : decode cL_law 1938 = .ok (.lcmp, 1) := dk_148 (dk_at dksL_law_75 19 rfl rfl)
theorem dL_law_1939 : decode cL_law 1939 = .ok (.ifCond .eq 5, 3) := dk_153 0 5 (dk_at dksL_law_75 20 rfl rfl)
theorem dL_law_1942 : decode cL_law 1942 = .ok (.iconst 0, 1) := dk_3 (dk_at dksL_law_75 23 rfl rfl)
theorem dL_law_1943 : decode cL_law 1943 = .ok (.ireturn, 1) := dk_172 (dk_at dksL_law_76 0 rfl rfl)
theorem dL_law_1944 : decode cL_law 1944 = .ok (.goto 549, 3) := dk_167 2 37 (dk_at dksL_law_76 1 rfl rfl)
theorem dL_law_1947 : decode cL_law 1947 = .ok (.aload_n 1, 1) := dk_43 (dk_at dksL_law_76 4 rfl rfl)
theorem dL_law_1948 : decode cL_law 1948 = .ok (.aload_n 0, 1) := dk_42 (dk_at dksL_law_76 5 rfl rfl)
theorem dL_law_1949 : decode cL_law 1949 = .ok (.iload 5, 2) := dk_21 5 (dk_at dksL_law_76 6 rfl rfl)
theorem dL_law_1951 : decode cL_law 1951 = .ok (.iconst 1, 1) := dk_4 (dk_at dksL_law_76 8 rfl rfl)
theorem dL_law_1952 : decode cL_law 1952 = .ok (.iadd, 1) := dk_96 (dk_at dksL_law_76 9 rfl rfl)
theorem dL_law_1953 : decode cL_law 1953 = .ok (.iaload, 1) := dk_46 (dk_at dksL_law_76 10 rfl rfl)
theorem dL_law_1954 : decode cL_law 1954 = .ok (.aload_n 0, 1) := dk_42 (dk_at dksL_law_76 11 rfl rfl)
theorem dL_law_1955 : decode cL_law 1955 = .ok (.iload 5, 2) := dk_21 5 (dk_at dksL_law_76 12 rfl rfl)
theorem dL_law_1957 : decode cL_law 1957 = .ok (.iconst 2, 1) := dk_5 (dk_at dksL_law_76 14 rfl rfl)
theorem dL_law_1958 : decode cL_law 1958 = .ok (.iadd, 1) := dk_96 (dk_at dksL_law_76 15 rfl rfl)
theorem dL_law_1959 : decode cL_law 1959 = .ok (.iaload, 1) := dk_46 (dk_at dksL_law_76 16 rfl rfl)
theorem dL_law_1960 : decode cL_law 1960 = .ok (.aload_n 3, 1) := dk_45 (dk_at dksL_law_76 17 rfl rfl)
theorem dL_law_1961 : decode cL_law 1961 = .ok (.invokestatic 236, 3) := dk_184 0 236 (dk_at dksL_law_76 18 rfl rfl)
theorem dL_law_1964 : decode cL_law 1964 = .ok (.istore 6, 2) := dk_54 6 (dk_at dksL_law_76 21 rfl rfl)
theorem dL_law_1966 : decode cL_law 1966 = .ok (.aload_n 2, 1) := dk_44 (dk_at dksL_law_76 23 rfl rfl)
theorem dL_law_1967 : decode cL_law 1967 = .ok (.aload_n 0, 1) := dk_42 (dk_at dksL_law_77 0 rfl rfl)
theorem dL_law_1968 : decode cL_law 1968 = .ok (.iload 5, 2) := dk_21 5 (dk_at dksL_law_77 1 rfl rfl)
theorem dL_law_1970 : decode cL_law 1970 = .ok (.iconst 1, 1) := dk_4 (dk_at dksL_law_77 3 rfl rfl)
theorem dL_law_1971 : decode cL_law 1971 = .ok (.iadd, 1) := dk_96 (dk_at dksL_law_77 4 rfl rfl)
theorem dL_law_1972 : decode cL_law 1972 = .ok (.iaload, 1) := dk_46 (dk_at dksL_law_77 5 rfl rfl)
theorem dL_law_1973 : decode cL_law 1973 = .ok (.aload_n 0, 1) := dk_42 (dk_at dksL_law_77 6 rfl rfl)
theorem dL_law_1974 : decode cL_law 1974 = .ok (.iload 5, 2) := dk_21 5 (dk_at dksL_law_77 7 rfl rfl)
theorem dL_law_1976 : decode cL_law 1976 = .ok (.iconst 2, 1) := dk_5 (dk_at dksL_law_77 9 rfl rfl)
theorem dL_law_1977 : decode cL_law 1977 = .ok (.iadd, 1) := dk_96 (dk_at dksL_law_77 10 rfl rfl)
theorem dL_law_1978 : decode cL_law 1978 = .ok (.iaload, 1) := dk_46 (dk_at dksL_law_77 11 rfl rfl)
theorem dL_law_1979 : decode cL_law 1979 = .ok (.invokevirtual 238, 3) := dk_182 0 238 (dk_at dksL_law_77 12 rfl rfl)
theorem dL_law_1982 : decode cL_law 1982 = .ok (.istore 7, 2) := dk_54 7 (dk_at dksL_law_77 15 rfl rfl)
theorem dL_law_1984 : decode cL_law 1984 = .ok (.aload_n 2, 1) := dk_44 (dk_at dksL_law_77 17 rfl rfl)
theorem dL_law_1985 : decode cL_law 1985 = .ok (.invokevirtual 136, 3) := dk_182 0 136 (dk_at dksL_law_77 18 rfl rfl)
theorem dL_law_1988 : decode cL_law 1988 = .ok (.iload 6, 2) := dk_21 6 (dk_at dksL_law_77 21 rfl rfl)
theorem dL_law_1990 : decode cL_law 1990 = .ok (.if_icmp .eq 5, 3) := dk_159 0 5 (dk_at dksL_law_78 0 rfl rfl)
theorem dL_law_1993 : decode cL_law 1993 = .ok (.iconst 0, 1) := dk_3 (dk_at dksL_law_78 3 rfl rfl)
theorem dL_law_1994 : decode cL_law 1994 = .ok (.ireturn, 1) := dk_172 (dk_at dksL_law_78 4 rfl rfl)
theorem dL_law_1995 : decode cL_law 1995 = .ok (.iload 6, 2) := dk_21 6 (dk_at dksL_law_78 5 rfl rfl)
theorem dL_law_1997 : decode cL_law 1997 = .ok (.ifCond .ne 22, 3) := dk_154 0 22 (dk_at dksL_law_78 7 rfl rfl)
theorem dL_law_2000 : decode cL_law 2000 = .ok (.aload_n 3, 1) := dk_45 (dk_at dksL_law_78 10 rfl rfl)
theorem dL_law_2001 : decode cL_law 2001 = .ok (.iconst 0, 1) := dk_3 (dk_at dksL_law_78 11 rfl rfl)
theorem dL_law_2002 : decode cL_law 2002 = .ok (.laload, 1) := dk_47 (dk_at dksL_law_78 12 rfl rfl)
theorem dL_law_2003 : decode cL_law 2003 = .ok (.iload 7, 2) := dk_21 7 (dk_at dksL_law_78 13 rfl rfl)
theorem dL_law_2005 : decode cL_law 2005 = .ok (.ifCond .eq 7, 3) := dk_153 0 7 (dk_at dksL_law_78 15 rfl rfl)
theorem dL_law_2008 : decode cL_law 2008 = .ok (.lconst 1, 1) := dk_10 (dk_at dksL_law_78 18 rfl rfl)
theorem dL_law_2009 : decode cL_law 2009 = .ok (.goto 4, 3) := dk_167 0 4 (dk_at dksL_law_78 19 rfl rfl)
theorem dL_law_2012 : decode cL_law 2012 = .ok (.lconst 0, 1) := dk_9 (dk_at dksL_law_78 22 rfl rfl)
theorem dL_law_2013 : decode cL_law 2013 = .ok (.lcmp, 1) := dk_148 (dk_at dksL_law_78 23 rfl rfl)
theorem dL_law_2014 : decode cL_law 2014 = .ok (.ifCond .eq 5, 3) := dk_153 0 5 (dk_at dksL_law_79 0 rfl rfl)
theorem dL_law_2017 : decode cL_law 2017 = .ok (.iconst 0, 1) := dk_3 (dk_at dksL_law_79 3 rfl rfl)
theorem dL_law_2018 : decode cL_law 2018 = .ok (.ireturn, 1) := dk_172 (dk_at dksL_law_79 4 rfl rfl)
theorem dL_law_2019 : decode cL_law 2019 = .ok (.goto 474, 3) := dk_167 1 218 (dk_at dksL_law_79 5 rfl rfl)
theorem dL_law_2022 : decode cL_law 2022 = .ok (.aload_n 1, 1) := dk_43 (dk_at dksL_law_79 8 rfl rfl)
theorem dL_law_2023 : decode cL_law 2023 = .ok (.aload_n 0, 1) := dk_42 (dk_at dksL_law_79 9 rfl rfl)
theorem dL_law_2024 : decode cL_law 2024 = .ok (.iload 5, 2) := dk_21 5 (dk_at dksL_law_79 10 rfl rfl)
theorem dL_law_2026 : decode cL_law 2026 = .ok (.iconst 1, 1) := dk_4 (dk_at dksL_law_79 12 rfl rfl)
theorem dL_law_2027 : decode cL_law 2027 = .ok (.iadd, 1) := dk_96 (dk_at dksL_law_79 13 rfl rfl)
theorem dL_law_2028 : decode cL_law 2028 = .ok (.iaload, 1) := dk_46 (dk_at dksL_law_79 14 rfl rfl)
theorem dL_law_2029 : decode cL_law 2029 = .ok (.aload_n 3, 1) := dk_45 (dk_at dksL_law_79 15 rfl rfl)
theorem dL_law_2030 : decode cL_law 2030 = .ok (.invokestatic 239, 3) := dk_184 0 239 (dk_at dksL_law_79 16 rfl rfl)
theorem dL_law_2033 : decode cL_law 2033 = .ok (.istore 6, 2) := dk_54 6 (dk_at dksL_law_79 19 rfl rfl)
theorem dL_law_2035 : decode cL_law 2035 = .ok (.aload_n 2, 1) := dk_44 (dk_at dksL_law_79 21 rfl rfl)
theorem dL_law_2036 : decode cL_law 2036 = .ok (.aload_n 0, 1) := dk_42 (dk_at dksL_law_79 22 rfl rfl)
theorem dL_law_2037 : decode cL_law 2037 = .ok (.iload 5, 2) := dk_21 5 (dk_at dksL_law_80 0 rfl rfl)
theorem dL_law_2039 : decode cL_law 2039 = .ok (.iconst 1, 1) := dk_4 (dk_at dksL_law_80 2 rfl rfl)
theorem dL_law_2040 : decode cL_law 2040 = .ok (.iadd, 1) := dk_96 (dk_at dksL_law_80 3 rfl rfl)
theorem dL_law_2041 : decode cL_law 2041 = .ok (.iaload, 1) := dk_46 (dk_at dksL_law_80 4 rfl rfl)
theorem dL_law_2042 : decode cL_law 2042 = .ok (.invokevirtual 241, 3) := dk_182 0 241 (dk_at dksL_law_80 5 rfl rfl)
theorem dL_law_2045 : decode cL_law 2045 = .ok (.istore 7, 2) := dk_54 7 (dk_at dksL_law_80 8 rfl rfl)
theorem dL_law_2047 : decode cL_law 2047 = .ok (.aload_n 2, 1) := dk_44 (dk_at dksL_law_80 10 rfl rfl)
theorem dL_law_2048 : decode cL_law 2048 = .ok (.invokevirtual 136, 3) := dk_182 0 136 (dk_at dksL_law_80 11 rfl rfl)
theorem dL_law_2051 : decode cL_law 2051 = .ok (.iload 6, 2) := dk_21 6 (dk_at dksL_law_80 14 rfl rfl)
theorem dL_law_2053 : decode cL_law 2053 = .ok (.if_icmp .eq 5, 3) := dk_159 0 5 (dk_at dksL_law_80 16 rfl rfl)
theorem dL_law_2056 : decode cL_law 2056 = .ok (.iconst 0, 1) := dk_3 (dk_at dksL_law_80 19 rfl rfl)
theorem dL_law_2057 : decode cL_law 2057 = .ok (.ireturn, 1) := dk_172 (dk_at dksL_law_80 20 rfl rfl)
theorem dL_law_2058 : decode cL_law 2058 = .ok (.iload 6, 2) := dk_21 6 (dk_at dksL_law_80 21 rfl rfl)
theorem dL_law_2060 : decode cL_law 2060 = .ok (.ifCond .ne 15, 3) := dk_154 0 15 (dk_at dksL_law_81 0 rfl rfl)
theorem dL_law_2063 : decode cL_law 2063 = .ok (.aload_n 3, 1) := dk_45 (dk_at dksL_law_81 3 rfl rfl)
theorem dL_law_2064 : decode cL_law 2064 = .ok (.iconst 0, 1) := dk_3 (dk_at dksL_law_81 4 rfl rfl)
theorem dL_law_2065 : decode cL_law 2065 = .ok (.laload, 1) := dk_47 (dk_at dksL_law_81 5 rfl rfl)
theorem dL_law_2066 : decode cL_law 2066 = .ok (.iload 7, 2) := dk_21 7 (dk_at dksL_law_81 6 rfl rfl)
theorem dL_law_2068 : decode cL_law 2068 = .ok (.i2l, 1) := dk_133 (dk_at dksL_law_81 8 rfl rfl)
theorem dL_law_2069 : decode cL_law 2069 = .ok (.lcmp, 1) := dk_148 (dk_at dksL_law_81 9 rfl rfl)
theorem dL_law_2070 : decode cL_law 2070 = .ok (.ifCond .eq 5, 3) := dk_153 0 5 (dk_at dksL_law_81 10 rfl rfl)
theorem dL_law_2073 : decode cL_law 2073 = .ok (.iconst 0, 1) := dk_3 (dk_at dksL_law_81 13 rfl rfl)
theorem dL_law_2074 : decode cL_law 2074 = .ok (.ireturn, 1) := dk_172 (dk_at dksL_law_81 14 rfl rfl)
theorem dL_law_2075 : decode cL_law 2075 = .ok (.goto 418, 3) := dk_167 1 162 (dk_at dksL_law_81 15 rfl rfl)
theorem dL_law_2078 : decode cL_law 2078 = .ok (.aload_n 1, 1) := dk_43 (dk_at dksL_law_81 18 rfl rfl)
theorem dL_law_2079 : decode cL_law 2079 = .ok (.aload_n 0, 1) := dk_42 (dk_at dksL_law_81 19 rfl rfl)
theorem dL_law_2080 : decode cL_law 2080 = .ok (.iload 5, 2) := dk_21 5 (dk_at dksL_law_81 20 rfl rfl)
theorem dL_law_2082 : decode cL_law 2082 = .ok (.iconst 1, 1) := dk_4 (dk_at dksL_law_81 22 rfl rfl)
theorem dL_law_2083 : decode cL_law 2083 = .ok (.iadd, 1) := dk_96 (dk_at dksL_law_81 23 rfl rfl)
theorem dL_law_2084 : decode cL_law 2084 = .ok (.iaload, 1) := dk_46 (dk_at dksL_law_82 0 rfl rfl)
theorem dL_law_2085 : decode cL_law 2085 = .ok (.aload_n 3, 1) := dk_45 (dk_at dksL_law_82 1 rfl rfl)
theorem dL_law_2086 : decode cL_law 2086 = .ok (.invokestatic 242, 3) := dk_184 0 242 (dk_at dksL_law_82 2 rfl rfl)
theorem dL_law_2089 : decode cL_law 2089 = .ok (.istore 6, 2) := dk_54 6 (dk_at dksL_law_82 5 rfl rfl)
theorem dL_law_2091 : decode cL_law 2091 = .ok (.aload_n 2, 1) := dk_44 (dk_at dksL_law_82 7 rfl rfl)
theorem dL_law_2092 : decode cL_law 2092 = .ok (.aload_n 0, 1) := dk_42 (dk_at dksL_law_82 8 rfl rfl)
theorem dL_law_2093 : decode cL_law 2093 = .ok (.iload 5, 2) := dk_21 5 (dk_at dksL_law_82 9 rfl rfl)
theorem dL_law_2095 : decode cL_law 2095 = .ok (.iconst 1, 1) := dk_4 (dk_at dksL_law_82 11 rfl rfl)
theorem dL_law_2096 : decode cL_law 2096 = .ok (.iadd, 1) := dk_96 (dk_at dksL_law_82 12 rfl rfl)
theorem dL_law_2097 : decode cL_law 2097 = .ok (.iaload, 1) := dk_46 (dk_at dksL_law_82 13 rfl rfl)
theorem dL_law_2098 : decode cL_law 2098 = .ok (.invokevirtual 244, 3) := dk_182 0 244 (dk_at dksL_law_82 14 rfl rfl)
theorem dL_law_2101 : decode cL_law 2101 = .ok (.istore 7, 2) := dk_54 7 (dk_at dksL_law_82 17 rfl rfl)
theorem dL_law_2103 : decode cL_law 2103 = .ok (.aload_n 2, 1) := dk_44 (dk_at dksL_law_82 19 rfl rfl)
theorem dL_law_2104 : decode cL_law 2104 = .ok (.invokevirtual 136, 3) := dk_182 0 136 (dk_at dksL_law_82 20 rfl rfl)
theorem dL_law_2107 : decode cL_law 2107 = .ok (.iload 6, 2) := dk_21 6 (dk_at dksL_law_83 0 rfl rfl)
theorem dL_law_2109 : decode cL_law 2109 = .ok (.if_icmp .eq 5, 3) := dk_159 0 5 (dk_at dksL_law_83 2 rfl rfl)
theorem dL_law_2112 : decode cL_law 2112 = .ok (.iconst 0, 1) := dk_3 (dk_at dksL_law_83 5 rfl rfl)
theorem dL_law_2113 : decode cL_law 2113 = .ok (.ireturn, 1) := dk_172 (dk_at dksL_law_83 6 rfl rfl)
theorem dL_law_2114 : decode cL_law 2114 = .ok (.iload 6, 2) := dk_21 6 (dk_at dksL_law_83 7 rfl rfl)
theorem dL_law_2116 : decode cL_law 2116 = .ok (.ifCond .ne 15, 3) := dk_154 0 15 (dk_at dksL_law_83 9 rfl rfl)
theorem dL_law_2119 : decode cL_law 2119 = .ok (.aload_n 3, 1) := dk_45 (dk_at dksL_law_83 12 rfl rfl)
theorem dL_law_2120 : decode cL_law 2120 = .ok (.iconst 0, 1) := dk_3 (dk_at dksL_law_83 13 rfl rfl)
theorem dL_law_2121 : decode cL_law 2121 = .ok (.laload, 1) := dk_47 (dk_at dksL_law_83 14 rfl rfl)
theorem dL_law_2122 : decode cL_law 2122 = .ok (.iload 7, 2) := dk_21 7 (dk_at dksL_law_83 15 rfl rfl)
theorem dL_law_2124 : decode cL_law 2124 = .ok (.i2l, 1) := dk_133 (dk_at dksL_law_83 17 rfl rfl)
theorem dL_law_2125 : decode cL_law 2125 = .ok (.lcmp, 1) := dk_148 (dk_at dksL_law_83 18 rfl rfl)
theorem dL_law_2126 : decode cL_law 2126 = .ok (.ifCond .eq 5, 3) := dk_153 0 5 (dk_at dksL_law_83 19 rfl rfl)
theorem dL_law_2129 : decode cL_law 2129 = .ok (.iconst 0, 1) := dk_3 (dk_at dksL_law_83 22 rfl rfl)
theorem dL_law_2130 : decode cL_law 2130 = .ok (.ireturn, 1) := dk_172 (dk_at dksL_law_83 23 rfl rfl)
theorem dL_law_2131 : decode cL_law 2131 = .ok (.goto 362, 3) := dk_167 1 106 (dk_at dksL_law_84 0 rfl rfl)
theorem dL_law_2134 : decode cL_law 2134 = .ok (.aload_n 1, 1) := dk_43 (dk_at dksL_law_84 3 rfl rfl)
theorem dL_law_2135 : decode cL_law 2135 = .ok (.aload_n 0, 1) := dk_42 (dk_at dksL_law_84 4 rfl rfl)
theorem dL_law_2136 : decode cL_law 2136 = .ok (.iload 5, 2) := dk_21 5 (dk_at dksL_law_84 5 rfl rfl)
theorem dL_law_2138 : decode cL_law 2138 = .ok (.iconst 1, 1) := dk_4 (dk_at dksL_law_84 7 rfl rfl)
theorem dL_law_2139 : decode cL_law 2139 = .ok (.iadd, 1) := dk_96 (dk_at dksL_law_84 8 rfl rfl)
theorem dL_law_2140 : decode cL_law 2140 = .ok (.iaload, 1) := dk_46 (dk_at dksL_law_84 9 rfl rfl)
theorem dL_law_2141 : decode cL_law 2141 = .ok (.aload_n 3, 1) := dk_45 (dk_at dksL_law_84 10 rfl rfl)
theorem dL_law_2142 : decode cL_law 2142 = .ok (.invokestatic 245, 3) := dk_184 0 245 (dk_at dksL_law_84 11 rfl rfl)
theorem dL_law_2145 : decode cL_law 2145 = .ok (.istore 6, 2) := dk_54 6 (dk_at dksL_law_84 14 rfl rfl)
theorem dL_law_2147 : decode cL_law 2147 = .ok (.aload_n 2, 1) := dk_44 (dk_at dksL_law_84 16 rfl rfl)
theorem dL_law_2148 : decode cL_law 2148 = .ok (.aload_n 0, 1) := dk_42 (dk_at dksL_law_84 17 rfl rfl)
theorem dL_law_2149 : decode cL_law 2149 = .ok (.iload 5, 2) := dk_21 5 (dk_at dksL_law_84 18 rfl rfl)
theorem dL_law_2151 : decode cL_law 2151 = .ok (.iconst 1, 1) := dk_4 (dk_at dksL_law_84 20 rfl rfl)
theorem dL_law_2152 : decode cL_law 2152 = .ok (.iadd, 1) := dk_96 (dk_at dksL_law_84 21 rfl rfl)
theorem dL_law_2153 : decode cL_law 2153 = .ok (.iaload, 1) := dk_46 (dk_at dksL_law_84 22 rfl rfl)
theorem dL_law_2154 : decode cL_law 2154 = .ok (.invokevirtual 247, 3) := dk_182 0 247 (dk_at dksL_law_85 0 rfl rfl)
theorem dL_law_2157 : decode cL_law 2157 = .ok (.istore 7, 2) := dk_54 7 (dk_at dksL_law_85 3 rfl rfl)
theorem dL_law_2159 : decode cL_law 2159 = .ok (.aload_n 2, 1) := dk_44 (dk_at dksL_law_85 5 rfl rfl)
theorem dL_law_2160 : decode cL_law 2160 = .ok (.invokevirtual 136, 3) := dk_182 0 136 (dk_at dksL_law_85 6 rfl rfl)
theorem dL_law_2163 : decode cL_law 2163 = .ok (.iload 6, 2) := dk_21 6 (dk_at dksL_law_85 9 rfl rfl)
theorem dL_law_2165 : decode cL_law 2165 = .ok (.if_icmp .eq 5, 3) := dk_159 0 5 (dk_at dksL_law_85 11 rfl rfl)
theorem dL_law_2168 : decode cL_law 2168 = .ok (.iconst 0, 1) := dk_3 (dk_at dksL_law_85 14 rfl rfl)
theorem dL_law_2169 : decode cL_law 2169 = .ok (.ireturn, 1) := dk_172 (dk_at dksL_law_85 15 rfl rfl)
theorem dL_law_2170 : decode cL_law 2170 = .ok (.iload 6, 2) := dk_21 6 (dk_at dksL_law_85 16 rfl rfl)
theorem dL_law_2172 : decode cL_law 2172 = .ok (.ifCond .ne 22, 3) := dk_154 0 22 (dk_at dksL_law_85 18 rfl rfl)
theorem dL_law_2175 : decode cL_law 2175 = .ok (.aload_n 3, 1) := dk_45 (dk_at dksL_law_85 21 rfl rfl)
theorem dL_law_2176 : decode cL_law 2176 = .ok (.iconst 0, 1) := dk_3 (dk_at dksL_law_85 22 rfl rfl)
theorem dL_law_2177 : decode cL_law 2177 = .ok (.laload, 1) := dk_47 (dk_at dksL_law_85 23 rfl rfl)
theorem dL_law_2178 : decode cL_law 2178 = .ok (.iload 7, 2) := dk_21 7 (dk_at dksL_law_86 0 rfl rfl)
theorem dL_law_2180 : decode cL_law 2180 = .ok (.ifCond .eq 7, 3) := dk_153 0 7 (dk_at dksL_law_86 2 rfl rfl)
theorem dL_law_2183 : decode cL_law 2183 = .ok (.lconst 1, 1) := dk_10 (dk_at dksL_law_86 5 rfl rfl)
theorem dL_law_2184 : decode cL_law 2184 = .ok (.goto 4, 3) := dk_167 0 4 (dk_at dksL_law_86 6 rfl rfl)
theorem dL_law_2187 : decode cL_law 2187 = .ok (.lconst 0, 1) := dk_9 (dk_at dksL_law_86 9 rfl rfl)
theorem dL_law_2188 : decode cL_law 2188 = .ok (.lcmp, 1) := dk_148 (dk_at dksL_law_86 10 rfl rfl)
theorem dL_law_2189 : decode cL_law 2189 = .ok (.ifCond .eq 5, 3) := dk_153 0 5 (dk_at dksL_law_86 11 rfl rfl)
theorem dL_law_2192 : decode cL_law 2192 = .ok (.iconst 0, 1) := dk_3 (dk_at dksL_law_86 14 rfl rfl)
theorem dL_law_2193 : decode cL_law 2193 = .ok (.ireturn, 1) := dk_172 (dk_at dksL_law_86 15 rfl rfl)
theorem dL_law_2194 : decode cL_law 2194 = .ok (.goto 299, 3) := dk_167 1 43 (dk_at dksL_law_86 16 rfl rfl)
theorem dL_law_2197 : decode cL_law 2197 = .ok (.aload_n 1, 1) := dk_43 (dk_at dksL_law_86 19 rfl rfl)
theorem dL_law_2198 : decode cL_law 2198 = .ok (.aload_n 0, 1) := dk_42 (dk_at dksL_law_86 20 rfl rfl)
theorem dL_law_2199 : decode cL_law 2199 = .ok (.iload 5, 2) := dk_21 5 (dk_at dksL_law_86 21 rfl rfl)
theorem dL_law_2201 : decode cL_law 2201 = .ok (.iconst 1, 1) := dk_4 (dk_at dksL_law_86 23 rfl rfl)
theorem dL_law_2202 : decode cL_law 2202 = .ok (.iadd, 1) := dk_96 (dk_at dksL_law_87 0 rfl rfl)
theorem dL_law_2203 : decode cL_law 2203 = .ok (.iaload, 1) := dk_46 (dk_at dksL_law_87 1 rfl rfl)
theorem dL_law_2204 : decode cL_law 2204 = .ok (.aload_n 3, 1) := dk_45 (dk_at dksL_law_87 2 rfl rfl)
theorem dL_law_2205 : decode cL_law 2205 = .ok (.invokestatic 248, 3) := dk_184 0 248 (dk_at dksL_law_87 3 rfl rfl)
theorem dL_law_2208 : decode cL_law 2208 = .ok (.istore 6, 2) := dk_54 6 (dk_at dksL_law_87 6 rfl rfl)
theorem dL_law_2210 : decode cL_law 2210 = .ok (.aload_n 2, 1) := dk_44 (dk_at dksL_law_87 8 rfl rfl)
theorem dL_law_2211 : decode cL_law 2211 = .ok (.aload_n 0, 1) := dk_42 (dk_at dksL_law_87 9 rfl rfl)
theorem dL_law_2212 : decode cL_law 2212 = .ok (.iload 5, 2) := dk_21 5 (dk_at dksL_law_87 10 rfl rfl)
theorem dL_law_2214 : decode cL_law 2214 = .ok (.iconst 1, 1) := dk_4 (dk_at dksL_law_87 12 rfl rfl)
theorem dL_law_2215 : decode cL_law 2215 = .ok (.iadd, 1) := dk_96 (dk_at dksL_law_87 13 rfl rfl)
theorem dL_law_2216 : decode cL_law 2216 = .ok (.iaload, 1) := dk_46 (dk_at dksL_law_87 14 rfl rfl)
theorem dL_law_2217 : decode cL_law 2217 = .ok (.invokevirtual 250, 3) := dk_182 0 250 (dk_at dksL_law_87 15 rfl rfl)
theorem dL_law_2220 : decode cL_law 2220 = .ok (.istore 7, 2) := dk_54 7 (dk_at dksL_law_87 18 rfl rfl)
theorem dL_law_2222 : decode cL_law 2222 = .ok (.aload_n 2, 1) := dk_44 (dk_at dksL_law_87 20 rfl rfl)
theorem dL_law_2223 : decode cL_law 2223 = .ok (.invokevirtual 136, 3) := dk_182 0 136 (dk_at dksL_law_87 21 rfl rfl)
theorem dL_law_2226 : decode cL_law 2226 = .ok (.iload 6, 2) := dk_21 6 (dk_at dksL_law_88 0 rfl rfl)
theorem dL_law_2228 : decode cL_law 2228 = .ok (.if_icmp .eq 5, 3) := dk_159 0 5 (dk_at dksL_law_88 2 rfl rfl)
theorem dL_law_2231 : decode cL_law 2231 = .ok (.iconst 0, 1) := dk_3 (dk_at dksL_law_88 5 rfl rfl)
theorem dL_law_2232 : decode cL_law 2232 = .ok (.ireturn, 1) := dk_172 (dk_at dksL_law_88 6 rfl rfl)
theorem dL_law_2233 : decode cL_law 2233 = .ok (.iload 6, 2) := dk_21 6 (dk_at dksL_law_88 7 rfl rfl)
theorem dL_law_2235 : decode cL_law 2235 = .ok (.ifCond .ne 15, 3) := dk_154 0 15 (dk_at dksL_law_88 9 rfl rfl)
theorem dL_law_2238 : decode cL_law 2238 = .ok (.aload_n 3, 1) := dk_45 (dk_at dksL_law_88 12 rfl rfl)
theorem dL_law_2239 : decode cL_law 2239 = .ok (.iconst 0, 1) := dk_3 (dk_at dksL_law_88 13 rfl rfl)
theorem dL_law_2240 : decode cL_law 2240 = .ok (.laload, 1) := dk_47 (dk_at dksL_law_88 14 rfl rfl)
theorem dL_law_2241 : decode cL_law 2241 = .ok (.iload 7, 2) := dk_21 7 (dk_at dksL_law_88 15 rfl rfl)
theorem dL_law_2243 : decode cL_law 2243 = .ok (.i2l, 1) := dk_133 (dk_at dksL_law_88 17 rfl rfl)
theorem dL_law_2244 : decode cL_law 2244 = .ok (.lcmp, 1) := dk_148 (dk_at dksL_law_88 18 rfl rfl)
theorem dL_law_2245 : decode cL_law 2245 = .ok (.ifCond .eq 5, 3) := dk_153 0 5 (dk_at dksL_law_88 19 rfl rfl)
theorem dL_law_2248 : decode cL_law 2248 = .ok (.iconst 0, 1) := dk_3 (dk_at dksL_law_88 22 rfl rfl)
theorem dL_law_2249 : decode cL_law 2249 = .ok (.ireturn, 1) := dk_172 (dk_at dksL_law_88 23 rfl rfl)
theorem dL_law_2250 : decode cL_law 2250 = .ok (.goto 243, 3) := dk_167 0 243 (dk_at dksL_law_89 0 rfl rfl)
theorem dL_law_2253 : decode cL_law 2253 = .ok (.aload_n 1, 1) := dk_43 (dk_at dksL_law_89 3 rfl rfl)
theorem dL_law_2254 : decode cL_law 2254 = .ok (.aload_n 0, 1) := dk_42 (dk_at dksL_law_89 4 rfl rfl)
theorem dL_law_2255 : decode cL_law 2255 = .ok (.iload 5, 2) := dk_21 5 (dk_at dksL_law_89 5 rfl rfl)
theorem dL_law_2257 : decode cL_law 2257 = .ok (.iconst 1, 1) := dk_4 (dk_at dksL_law_89 7 rfl rfl)
theorem dL_law_2258 : decode cL_law 2258 = .ok (.iadd, 1) := dk_96 (dk_at dksL_law_89 8 rfl rfl)
theorem dL_law_2259 : decode cL_law 2259 = .ok (.iaload, 1) := dk_46 (dk_at dksL_law_89 9 rfl rfl)
theorem dL_law_2260 : decode cL_law 2260 = .ok (.aload_n 3, 1) := dk_45 (dk_at dksL_law_89 10 rfl rfl)
theorem dL_law_2261 : decode cL_law 2261 = .ok (.invokestatic 251, 3) := dk_184 0 251 (dk_at dksL_law_89 11 rfl rfl)
theorem dL_law_2264 : decode cL_law 2264 = .ok (.istore 6, 2) := dk_54 6 (dk_at dksL_law_89 14 rfl rfl)
theorem dL_law_2266 : decode cL_law 2266 = .ok (.aload_n 2, 1) := dk_44 (dk_at dksL_law_89 16 rfl rfl)
theorem dL_law_2267 : decode cL_law 2267 = .ok (.aload_n 0, 1) := dk_42 (dk_at dksL_law_89 17 rfl rfl)
theorem dL_law_2268 : decode cL_law 2268 = .ok (.iload 5, 2) := dk_21 5 (dk_at dksL_law_89 18 rfl rfl)
theorem dL_law_2270 : decode cL_law 2270 = .ok (.iconst 1, 1) := dk_4 (dk_at dksL_law_89 20 rfl rfl)
theorem dL_law_2271 : decode cL_law 2271 = .ok (.iadd, 1) := dk_96 (dk_at dksL_law_89 21 rfl rfl)
theorem dL_law_2272 : decode cL_law 2272 = .ok (.iaload, 1) := dk_46 (dk_at dksL_law_89 22 rfl rfl)
theorem dL_law_2273 : decode cL_law 2273 = .ok (.invokevirtual 253, 3) := dk_182 0 253 (dk_at dksL_law_90 0 rfl rfl)
theorem dL_law_2276 : decode cL_law 2276 = .ok (.istore 7, 2) := dk_54 7 (dk_at dksL_law_90 3 rfl rfl)
theorem dL_law_2278 : decode cL_law 2278 = .ok (.aload_n 2, 1) := dk_44 (dk_at dksL_law_90 5 rfl rfl)
theorem dL_law_2279 : decode cL_law 2279 = .ok (.invokevirtual 136, 3) := dk_182 0 136 (dk_at dksL_law_90 6 rfl rfl)
theorem dL_law_2282 : decode cL_law 2282 = .ok (.iload 6, 2) := dk_21 6 (dk_at dksL_law_90 9 rfl rfl)
theorem dL_law_2284 : decode cL_law 2284 = .ok (.if_icmp .eq 5, 3) := dk_159 0 5 (dk_at dksL_law_90 11 rfl rfl)
theorem dL_law_2287 : decode cL_law 2287 = .ok (.iconst 0, 1) := dk_3 (dk_at dksL_law_90 14 rfl rfl)
theorem dL_law_2288 : decode cL_law 2288 = .ok (.ireturn, 1) := dk_172 (dk_at dksL_law_90 15 rfl rfl)
theorem dL_law_2289 : decode cL_law 2289 = .ok (.iload 6, 2) := dk_21 6 (dk_at dksL_law_90 16 rfl rfl)
theorem dL_law_2291 : decode cL_law 2291 = .ok (.ifCond .ne 15, 3) := dk_154 0 15 (dk_at dksL_law_90 18 rfl rfl)
theorem dL_law_2294 : decode cL_law 2294 = .ok (.aload_n 3, 1) := dk_45 (dk_at dksL_law_90 21 rfl rfl)
theorem dL_law_2295 : decode cL_law 2295 = .ok (.iconst 0, 1) := dk_3 (dk_at dksL_law_90 22 rfl rfl)
theorem dL_law_2296 : decode cL_law 2296 = .ok (.laload, 1) := dk_47 (dk_at dksL_law_90 23 rfl rfl)
theorem dL_law_2297 : decode cL_law 2297 = .ok (.iload 7, 2) := dk_21 7 (dk_at dksL_law_91 0 rfl rfl)
theorem dL_law_2299 : decode cL_law 2299 = .ok (.i2l, 1) := dk_133 (dk_at dksL_law_91 2 rfl rfl)
theorem dL_law_2300 : decode cL_law 2300 = .ok (.lcmp, 1) := dk_148 (dk_at dksL_law_91 3 rfl rfl)
theorem dL_law_2301 : decode cL_law 2301 = .ok (.ifCond .eq 5, 3) := dk_153 0 5 (dk_at dksL_law_91 4 rfl rfl)
theorem dL_law_2304 : decode cL_law 2304 = .ok (.iconst 0, 1) := dk_3 (dk_at dksL_law_91 7 rfl rfl)
theorem dL_law_2305 : decode cL_law 2305 = .ok (.ireturn, 1) := dk_172 (dk_at dksL_law_91 8 rfl rfl)
theorem dL_law_2306 : decode cL_law 2306 = .ok (.goto 187, 3) := dk_167 0 187 (dk_at dksL_law_91 9 rfl rfl)
theorem dL_law_2309 : decode cL_law 2309 = .ok (.aload_n 1, 1) := dk_43 (dk_at dksL_law_91 12 rfl rfl)
theorem dL_law_2310 : decode cL_law 2310 = .ok (.invokevirtual 254, 3) := dk_182 0 254 (dk_at dksL_law_91 13 rfl rfl)
theorem dL_law_2313 : decode cL_law 2313 = .ok (.aload_n 2, 1) := dk_44 (dk_at dksL_law_91 16 rfl rfl)
theorem dL_law_2314 : decode cL_law 2314 = .ok (.invokevirtual 257, 3) := dk_182 1 1 (dk_at dksL_law_91 17 rfl rfl)
theorem dL_law_2317 : decode cL_law 2317 = .ok (.if_icmp .eq 176, 3) := dk_159 0 176 (dk_at dksL_law_91 20 rfl rfl)
theorem dL_law_2320 : decode cL_law 2320 = .ok (.iconst 0, 1) := dk_3 (dk_at dksL_law_91 23 rfl rfl)
theorem dL_law_2321 : decode cL_law 2321 = .ok (.ireturn, 1) := dk_172 (dk_at dksL_law_92 0 rfl rfl)
theorem dL_law_2322 : decode cL_law 2322 = .ok (.aload_n 1, 1) := dk_43 (dk_at dksL_law_92 1 rfl rfl)
theorem dL_law_2323 : decode cL_law 2323 = .ok (.invokevirtual 258, 3) := dk_182 1 2 (dk_at dksL_law_92 2 rfl rfl)
theorem dL_law_2326 : decode cL_law 2326 = .ok (.aload_n 2, 1) := dk_44 (dk_at dksL_law_92 5 rfl rfl)
theorem dL_law_2327 : decode cL_law 2327 = .ok (.invokevirtual 261, 3) := dk_182 1 5 (dk_at dksL_law_92 6 rfl rfl)
theorem dL_law_2330 : decode cL_law 2330 = .ok (.if_icmp .eq 163, 3) := dk_159 0 163 (dk_at dksL_law_92 9 rfl rfl)
theorem dL_law_2333 : decode cL_law 2333 = .ok (.iconst 0, 1) := dk_3 (dk_at dksL_law_92 12 rfl rfl)
theorem dL_law_2334 : decode cL_law 2334 = .ok (.ireturn, 1) := dk_172 (dk_at dksL_law_92 13 rfl rfl)
theorem dL_law_2335 : decode cL_law 2335 = .ok (.aload_n 1, 1) := dk_43 (dk_at dksL_law_92 14 rfl rfl)
theorem dL_law_2336 : decode cL_law 2336 = .ok (.aload_n 3, 1) := dk_45 (dk_at dksL_law_92 15 rfl rfl)
theorem dL_law_2337 : decode cL_law 2337 = .ok (.invokestatic 262, 3) := dk_184 1 6 (dk_at dksL_law_92 16 rfl rfl)
theorem dL_law_2340 : decode cL_law 2340 = .ok (.istore 6, 2) := dk_54 6 (dk_at dksL_law_92 19 rfl rfl)
theorem dL_law_2342 : decode cL_law 2342 = .ok (.aload_n 2, 1) := dk_44 (dk_at dksL_law_92 21 rfl rfl)
theorem dL_law_2343 : decode cL_law 2343 = .ok (.invokevirtual 265, 3) := dk_182 1 9 (dk_at dksL_law_93 0 rfl rfl)
theorem dL_law_2346 : decode cL_law 2346 = .ok (.istore 7, 2) := dk_54 7 (dk_at dksL_law_93 3 rfl rfl)
theorem dL_law_2348 : decode cL_law 2348 = .ok (.aload_n 2, 1) := dk_44 (dk_at dksL_law_93 5 rfl rfl)
theorem dL_law_2349 : decode cL_law 2349 = .ok (.invokevirtual 136, 3) := dk_182 0 136 (dk_at dksL_law_93 6 rfl rfl)
theorem dL_law_2352 : decode cL_law 2352 = .ok (.iload 6, 2) := dk_21 6 (dk_at dksL_law_93 9 rfl rfl)
theorem dL_law_2354 : decode cL_law 2354 = .ok (.if_icmp .eq 5, 3) := dk_159 0 5 (dk_at dksL_law_93 11 rfl rfl)
theorem dL_law_2357 : decode cL_law 2357 = .ok (.iconst 0, 1) := dk_3 (dk_at dksL_law_93 14 rfl rfl)
theorem dL_law_2358 : decode cL_law 2358 = .ok (.ireturn, 1) := dk_172 (dk_at dksL_law_93 15 rfl rfl)
theorem dL_law_2359 : decode cL_law 2359 = .ok (.iload 6, 2) := dk_21 6 (dk_at dksL_law_93 16 rfl rfl)
theorem dL_law_2361 : decode cL_law 2361 = .ok (.ifCond .ne 15, 3) := dk_154 0 15 (dk_at dksL_law_93 18 rfl rfl)
theorem dL_law_2364 : decode cL_law 2364 = .ok (.aload_n 3, 1) := dk_45 (dk_at dksL_law_93 21 rfl rfl)
theorem dL_law_2365 : decode cL_law 2365 = .ok (.iconst 0, 1) := dk_3 (dk_at dksL_law_93 22 rfl rfl)
theorem dL_law_2366 : decode cL_law 2366 = .ok (.laload, 1) := dk_47 (dk_at dksL_law_93 23 rfl rfl)
theorem dL_law_2367 : decode cL_law 2367 = .ok (.iload 7, 2) := dk_21 7 (dk_at dksL_law_94 0 rfl rfl)
theorem dL_law_2369 : decode cL_law 2369 = .ok (.i2l, 1) := dk_133 (dk_at dksL_law_94 2 rfl rfl)
theorem dL_law_2370 : decode cL_law 2370 = .ok (.lcmp, 1) := dk_148 (dk_at dksL_law_94 3 rfl rfl)
theorem dL_law_2371 : decode cL_law 2371 = .ok (.ifCond .eq 5, 3) := dk_153 0 5 (dk_at dksL_law_94 4 rfl rfl)
theorem dL_law_2374 : decode cL_law 2374 = .ok (.iconst 0, 1) := dk_3 (dk_at dksL_law_94 7 rfl rfl)
theorem dL_law_2375 : decode cL_law 2375 = .ok (.ireturn, 1) := dk_172 (dk_at dksL_law_94 8 rfl rfl)
theorem dL_law_2376 : decode cL_law 2376 = .ok (.goto 117, 3) := dk_167 0 117 (dk_at dksL_law_94 9 rfl rfl)
theorem dL_law_2379 : decode cL_law 2379 = .ok (.aload_n 1, 1) := dk_43 (dk_at dksL_law_94 12 rfl rfl)
theorem dL_law_2380 : decode cL_law 2380 = .ok (.aload_n 3, 1) := dk_45 (dk_at dksL_law_94 13 rfl rfl)
theorem dL_law_2381 : decode cL_law 2381 = .ok (.invokestatic 266, 3) := dk_184 1 10 (dk_at dksL_law_94 14 rfl rfl)
theorem dL_law_2384 : decode cL_law 2384 = .ok (.istore 6, 2) := dk_54 6 (dk_at dksL_law_94 17 rfl rfl)
theorem dL_law_2386 : decode cL_law 2386 = .ok (.aload_n 2, 1) := dk_44 (dk_at dksL_law_94 19 rfl rfl)
theorem dL_law_2387 : decode cL_law 2387 = .ok (.invokevirtual 268, 3) := dk_182 1 12 (dk_at dksL_law_94 20 rfl rfl)
theorem dL_law_2390 : decode cL_law 2390 = .ok (.istore 7, 2) := dk_54 7 (dk_at dksL_law_95 0 rfl rfl)
theorem dL_law_2392 : decode cL_law 2392 = .ok (.aload_n 2, 1) := dk_44 (dk_at dksL_law_95 2 rfl rfl)
theorem dL_law_2393 : decode cL_law 2393 = .ok (.invokevirtual 136, 3) := dk_182 0 136 (dk_at dksL_law_95 3 rfl rfl)
theorem dL_law_2396 : decode cL_law 2396 = .ok (.iload 6, 2) := dk_21 6 (dk_at dksL_law_95 6 rfl rfl)
theorem dL_law_2398 : decode cL_law 2398 = .ok (.if_icmp .eq 5, 3) := dk_159 0 5 (dk_at dksL_law_95 8 rfl rfl)
theorem dL_law_2401 : decode cL_law 2401 = .ok (.iconst 0, 1) := dk_3 (dk_at dksL_law_95 11 rfl rfl)
theorem dL_law_2402 : decode cL_law 2402 = .ok (.ireturn, 1) := dk_172 (dk_at dksL_law_95 12 rfl rfl)
theorem dL_law_2403 : decode cL_law 2403 = .ok (.iload 6, 2) := dk_21 6 (dk_at dksL_law_95 13 rfl rfl)
theorem dL_law_2405 : decode cL_law 2405 = .ok (.ifCond .ne 15, 3) := dk_154 0 15 (dk_at dksL_law_95 15 rfl rfl)
theorem dL_law_2408 : decode cL_law 2408 = .ok (.aload_n 3, 1) := dk_45 (dk_at dksL_law_95 18 rfl rfl)
theorem dL_law_2409 : decode cL_law 2409 = .ok (.iconst 0, 1) := dk_3 (dk_at dksL_law_95 19 rfl rfl)
theorem dL_law_2410 : decode cL_law 2410 = .ok (.laload, 1) := dk_47 (dk_at dksL_law_95 20 rfl rfl)
theorem dL_law_2411 : decode cL_law 2411 = .ok (.iload 7, 2) := dk_21 7 (dk_at dksL_law_95 21 rfl rfl)
theorem dL_law_2413 : decode cL_law 2413 = .ok (.i2l, 1) := dk_133 (dk_at dksL_law_95 23 rfl rfl)
theorem dL_law_2414 : decode cL_law 2414 = .ok (.lcmp, 1) := dk_148 (dk_at dksL_law_96 0 rfl rfl)
theorem dL_law_2415 : decode cL_law 2415 = .ok (.ifCond .eq 5, 3) := dk_153 0 5 (dk_at dksL_law_96 1 rfl rfl)
theorem dL_law_2418 : decode cL_law 2418 = .ok (.iconst 0, 1) := dk_3 (dk_at dksL_law_96 4 rfl rfl)
theorem dL_law_2419 : decode cL_law 2419 = .ok (.ireturn, 1) := dk_172 (dk_at dksL_law_96 5 rfl rfl)
theorem dL_law_2420 : decode cL_law 2420 = .ok (.goto 73, 3) := dk_167 0 73 (dk_at dksL_law_96 6 rfl rfl)
theorem dL_law_2423 : decode cL_law 2423 = .ok (.aload_n 1, 1) := dk_43 (dk_at dksL_law_96 9 rfl rfl)
theorem dL_law_2424 : decode cL_law 2424 = .ok (.invokevirtual 269, 3) := dk_182 1 13 (dk_at dksL_law_96 10 rfl rfl)
theorem dL_law_2427 : decode cL_law 2427 = .ok (.aload_n 2, 1) := dk_44 (dk_at dksL_law_96 13 rfl rfl)
theorem dL_law_2428 : decode cL_law 2428 = .ok (.invokevirtual 272, 3) := dk_182 1 16 (dk_at dksL_law_96 14 rfl rfl)
theorem dL_law_2431 : decode cL_law 2431 = .ok (.if_icmp .eq 62, 3) := dk_159 0 62 (dk_at dksL_law_96 17 rfl rfl)
theorem dL_law_2434 : decode cL_law 2434 = .ok (.iconst 0, 1) := dk_3 (dk_at dksL_law_96 20 rfl rfl)
theorem dL_law_2435 : decode cL_law 2435 = .ok (.ireturn, 1) := dk_172 (dk_at dksL_law_96 21 rfl rfl)
theorem dL_law_2436 : decode cL_law 2436 = .ok (.aload_n 1, 1) := dk_43 (dk_at dksL_law_96 22 rfl rfl)
theorem dL_law_2437 : decode cL_law 2437 = .ok (.invokevirtual 273, 3) := dk_182 1 17 (dk_at dksL_law_97 0 rfl rfl)
theorem dL_law_2440 : decode cL_law 2440 = .ok (.aload_n 2, 1) := dk_44 (dk_at dksL_law_97 3 rfl rfl)
theorem dL_law_2441 : decode cL_law 2441 = .ok (.invokevirtual 276, 3) := dk_182 1 20 (dk_at dksL_law_97 4 rfl rfl)
theorem dL_law_2444 : decode cL_law 2444 = .ok (.if_icmp .eq 49, 3) := dk_159 0 49 (dk_at dksL_law_97 7 rfl rfl)
theorem dL_law_2447 : decode cL_law 2447 = .ok (.iconst 0, 1) := dk_3 (dk_at dksL_law_97 10 rfl rfl)
theorem dL_law_2448 : decode cL_law 2448 = .ok (.ireturn, 1) := dk_172 (dk_at dksL_law_97 11 rfl rfl)
theorem dL_law_2449 : decode cL_law 2449 = .ok (.aload_n 1, 1) := dk_43 (dk_at dksL_law_97 12 rfl rfl)
theorem dL_law_2450 : decode cL_law 2450 = .ok (.aload_n 3, 1) := dk_45 (dk_at dksL_law_97 13 rfl rfl)
theorem dL_law_2451 : decode cL_law 2451 = .ok (.invokestatic 277, 3) := dk_184 1 21 (dk_at dksL_law_97 14 rfl rfl)
theorem dL_law_2454 : decode cL_law 2454 = .ok (.istore 6, 2) := dk_54 6 (dk_at dksL_law_97 17 rfl rfl)
theorem dL_law_2456 : decode cL_law 2456 = .ok (.aload_n 2, 1) := dk_44 (dk_at dksL_law_97 19 rfl rfl)
theorem dL_law_2457 : decode cL_law 2457 = .ok (.invokevirtual 279, 3) := dk_182 1 23 (dk_at dksL_law_97 20 rfl rfl)
theorem dL_law_2460 : decode cL_law 2460 = .ok (.istore 7, 2) := dk_54 7 (dk_at dksL_law_98 0 rfl rfl)
theorem dL_law_2462 : decode cL_law 2462 = .ok (.aload_n 2, 1) := dk_44 (dk_at dksL_law_98 2 rfl rfl)
theorem dL_law_2463 : decode cL_law 2463 = .ok (.invokevirtual 136, 3) := dk_182 0 136 (dk_at dksL_law_98 3 rfl rfl)
theorem dL_law_2466 : decode cL_law 2466 = .ok (.iload 6, 2) := dk_21 6 (dk_at dksL_law_98 6 rfl rfl)
theorem dL_law_2468 : decode cL_law 2468 = .ok (.if_icmp .eq 5, 3) := dk_159 0 5 (dk_at dksL_law_98 8 rfl rfl)
theorem dL_law_2471 : decode cL_law 2471 = .ok (.iconst 0, 1) := dk_3 (dk_at dksL_law_98 11 rfl rfl)
theorem dL_law_2472 : decode cL_law 2472 = .ok (.ireturn, 1) := dk_172 (dk_at dksL_law_98 12 rfl rfl)
theorem dL_law_2473 : decode cL_law 2473 = .ok (.iload 6, 2) := dk_21 6 (dk_at dksL_law_98 13 rfl rfl)
theorem dL_law_2475 : decode cL_law 2475 = .ok (.ifCond .ne 15, 3) := dk_154 0 15 (dk_at dksL_law_98 15 rfl rfl)
theorem dL_law_2478 : decode cL_law 2478 = .ok (.aload_n 3, 1) := dk_45 (dk_at dksL_law_98 18 rfl rfl)
theorem dL_law_2479 : decode cL_law 2479 = .ok (.iconst 0, 1) := dk_3 (dk_at dksL_law_98 19 rfl rfl)
theorem dL_law_2480 : decode cL_law 2480 = .ok (.laload, 1) := dk_47 (dk_at dksL_law_98 20 rfl rfl)
theorem dL_law_2481 : decode cL_law 2481 = .ok (.iload 7, 2) := dk_21 7 (dk_at dksL_law_98 21 rfl rfl)
theorem dL_law_2483 : decode cL_law 2483 = .ok (.i2l, 1) := dk_133 (dk_at dksL_law_98 23 rfl rfl)
theorem dL_law_2484 : decode cL_law 2484 = .ok (.lcmp, 1) := dk_148 (dk_at dksL_law_99 0 rfl rfl)
theorem dL_law_2485 : decode cL_law 2485 = .ok (.ifCond .eq 5, 3) := dk_153 0 5 (dk_at dksL_law_99 1 rfl rfl)
theorem dL_law_2488 : decode cL_law 2488 = .ok (.iconst 0, 1) := dk_3 (dk_at dksL_law_99 4 rfl rfl)
theorem dL_law_2489 : decode cL_law 2489 = .ok (.ireturn, 1) := dk_172 (dk_at dksL_law_99 5 rfl rfl)
theorem dL_law_2490 : decode cL_law 2490 = .ok (.goto 3, 3) := dk_167 0 3 (dk_at dksL_law_99 6 rfl rfl)
theorem dL_law_2493 : decode cL_law 2493 = .ok (.iinc 5 3, 3) := dk_132 5 3 (dk_at dksL_law_99 9 rfl rfl)
theorem dL_law_2496 : decode cL_law 2496 = .ok (.goto (-2468), 3) := dk_167 246 92 (dk_at dksL_law_99 12 rfl rfl)
theorem dL_law_2499 : decode cL_law 2499 = .ok (.iconst 1, 1) := dk_4 (dk_at dksL_law_99 15 rfl rfl)
theorem dL_law_2500 : decode cL_law 2500 = .ok (.ireturn, 1) := dk_172 (dk_at dksL_law_99 16 rfl rfl)


/-! DanceNotationLaw -/
set_option maxRecDepth 100000
def RX0 : String := "DanceNotationLaw"
abbrev cX0_stage : ByteArray := method_3_code
def yX0_stage : MethodName := ⟨RX0, "stage", "(LDanceNotation;II[J)I"⟩
def dkwX0_stage_0 : List UInt8 := [45, 3, 42, 27, 28, 182, 0, 7, 133, 80, 167, 0, 7, 58, 4, 4, 172, 3, 172]
abbrev dktX0_stage_0 : List UInt8 := dkwX0_stage_0 ++ []
theorem dksX0_stage_0 : cX0_stage.data.toList.drop 0 = dktX0_stage_0 := by decide +kernel
theorem dX0_stage_0 : decode cX0_stage 0 = .ok (.aload_n 3, 1) := dk_45 (dk_at dksX0_stage_0 0 rfl rfl)
theorem dX0_stage_1 : decode cX0_stage 1 = .ok (.iconst 0, 1) := dk_3 (dk_at dksX0_stage_0 1 rfl rfl)
theorem dX0_stage_2 : decode cX0_stage 2 = .ok (.aload_n 0, 1) := dk_42 (dk_at dksX0_stage_0 2 rfl rfl)
theorem dX0_stage_3 : decode cX0_stage 3 = .ok (.iload_n 1, 1) := dk_27 (dk_at dksX0_stage_0 3 rfl rfl)
theorem dX0_stage_4 : decode cX0_stage 4 = .ok (.iload_n 2, 1) := dk_28 (dk_at dksX0_stage_0 4 rfl rfl)
theorem dX0_stage_5 : decode cX0_stage 5 = .ok (.invokevirtual 7, 3) := dk_182 0 7 (dk_at dksX0_stage_0 5 rfl rfl)
theorem dX0_stage_8 : decode cX0_stage 8 = .ok (.i2l, 1) := dk_133 (dk_at dksX0_stage_0 8 rfl rfl)
theorem dX0_stage_9 : decode cX0_stage 9 = .ok (.lastore, 1) := dk_80 (dk_at dksX0_stage_0 9 rfl rfl)
theorem dX0_stage_10 : decode cX0_stage 10 = .ok (.goto 7, 3) := dk_167 0 7 (dk_at dksX0_stage_0 10 rfl rfl)
theorem dX0_stage_13 : decode cX0_stage 13 = .ok (.astore 4, 2) := dk_58 4 (dk_at dksX0_stage_0 13 rfl rfl)
theorem dX0_stage_15 : decode cX0_stage 15 = .ok (.iconst 1, 1) := dk_4 (dk_at dksX0_stage_0 15 rfl rfl)
theorem dX0_stage_16 : decode cX0_stage 16 = .ok (.ireturn, 1) := dk_172 (dk_at dksX0_stage_0 16 rfl rfl)
theorem dX0_stage_17 : decode cX0_stage 17 = .ok (.iconst 0, 1) := dk_3 (dk_at dksX0_stage_0 17 rfl rfl)
theorem dX0_stage_18 : decode cX0_stage 18 = .ok (.ireturn, 1) := dk_172 (dk_at dksX0_stage_0 18 rfl rfl)
abbrev cX0_place : ByteArray := method_4_code
def yX0_place : MethodName := ⟨RX0, "place", "(LDanceNotation;II[J)I"⟩
def dkwX0_place_0 : List UInt8 := [45, 3, 42, 27, 28, 182, 0, 15, 133, 80, 167, 0, 11, 58, 4, 4, 172, 58, 4, 5, 172, 3, 172]
abbrev dktX0_place_0 : List UInt8 := dkwX0_place_0 ++ []
theorem dksX0_place_0 : cX0_place.data.toList.drop 0 = dktX0_place_0 := by decide +kernel
theorem dX0_place_0 : decode cX0_place 0 = .ok (.aload_n 3, 1) := dk_45 (dk_at dksX0_place_0 0 rfl rfl)
theorem dX0_place_1 : decode cX0_place 1 = .ok (.iconst 0, 1) := dk_3 (dk_at dksX0_place_0 1 rfl rfl)
theorem dX0_place_2 : decode cX0_place 2 = .ok (.aload_n 0, 1) := dk_42 (dk_at dksX0_place_0 2 rfl rfl)
theorem dX0_place_3 : decode cX0_place 3 = .ok (.iload_n 1, 1) := dk_27 (dk_at dksX0_place_0 3 rfl rfl)
theorem dX0_place_4 : decode cX0_place 4 = .ok (.iload_n 2, 1) := dk_28 (dk_at dksX0_place_0 4 rfl rfl)
theorem dX0_place_5 : decode cX0_place 5 = .ok (.invokevirtual 15, 3) := dk_182 0 15 (dk_at dksX0_place_0 5 rfl rfl)
theorem dX0_place_8 : decode cX0_place 8 = .ok (.i2l, 1) := dk_133 (dk_at dksX0_place_0 8 rfl rfl)
theorem dX0_place_9 : decode cX0_place 9 = .ok (.lastore, 1) := dk_80 (dk_at dksX0_place_0 9 rfl rfl)
theorem dX0_place_10 : decode cX0_place 10 = .ok (.goto 11, 3) := dk_167 0 11 (dk_at dksX0_place_0 10 rfl rfl)
theorem dX0_place_13 : decode cX0_place 13 = .ok (.astore 4, 2) := dk_58 4 (dk_at dksX0_place_0 13 rfl rfl)
theorem dX0_place_15 : decode cX0_place 15 = .ok (.iconst 1, 1) := dk_4 (dk_at dksX0_place_0 15 rfl rfl)
theorem dX0_place_16 : decode cX0_place 16 = .ok (.ireturn, 1) := dk_172 (dk_at dksX0_place_0 16 rfl rfl)
theorem dX0_place_17 : decode cX0_place 17 = .ok (.astore 4, 2) := dk_58 4 (dk_at dksX0_place_0 17 rfl rfl)
theorem dX0_place_19 : decode cX0_place 19 = .ok (.iconst 2, 1) := dk_5 (dk_at dksX0_place_0 19 rfl rfl)
theorem dX0_place_20 : decode cX0_place 20 = .ok (.ireturn, 1) := dk_172 (dk_at dksX0_place_0 20 rfl rfl)
theorem dX0_place_21 : decode cX0_place 21 = .ok (.iconst 0, 1) := dk_3 (dk_at dksX0_place_0 21 rfl rfl)
theorem dX0_place_22 : decode cX0_place 22 = .ok (.ireturn, 1) := dk_172 (dk_at dksX0_place_0 22 rfl rfl)
abbrev cX0_append : ByteArray := method_5_code
def yX0_append : MethodName := ⟨RX0, "append", "(LDanceNotation;C[J)I"⟩
def dkwX0_append_0 : List UInt8 := [44, 3, 42, 27, 182, 0, 20, 133, 80, 167, 0, 9, 78, 4, 172, 78, 5, 172, 3, 172]
abbrev dktX0_append_0 : List UInt8 := dkwX0_append_0 ++ []
theorem dksX0_append_0 : cX0_append.data.toList.drop 0 = dktX0_append_0 := by decide +kernel
theorem dX0_append_0 : decode cX0_append 0 = .ok (.aload_n 2, 1) := dk_44 (dk_at dksX0_append_0 0 rfl rfl)
theorem dX0_append_1 : decode cX0_append 1 = .ok (.iconst 0, 1) := dk_3 (dk_at dksX0_append_0 1 rfl rfl)
theorem dX0_append_2 : decode cX0_append 2 = .ok (.aload_n 0, 1) := dk_42 (dk_at dksX0_append_0 2 rfl rfl)
theorem dX0_append_3 : decode cX0_append 3 = .ok (.iload_n 1, 1) := dk_27 (dk_at dksX0_append_0 3 rfl rfl)
theorem dX0_append_4 : decode cX0_append 4 = .ok (.invokevirtual 20, 3) := dk_182 0 20 (dk_at dksX0_append_0 4 rfl rfl)
theorem dX0_append_7 : decode cX0_append 7 = .ok (.i2l, 1) := dk_133 (dk_at dksX0_append_0 7 rfl rfl)
theorem dX0_append_8 : decode cX0_append 8 = .ok (.lastore, 1) := dk_80 (dk_at dksX0_append_0 8 rfl rfl)
theorem dX0_append_9 : decode cX0_append 9 = .ok (.goto 9, 3) := dk_167 0 9 (dk_at dksX0_append_0 9 rfl rfl)
theorem dX0_append_12 : decode cX0_append 12 = .ok (.astore_n 3, 1) := dk_78 (dk_at dksX0_append_0 12 rfl rfl)
theorem dX0_append_13 : decode cX0_append 13 = .ok (.iconst 1, 1) := dk_4 (dk_at dksX0_append_0 13 rfl rfl)
theorem dX0_append_14 : decode cX0_append 14 = .ok (.ireturn, 1) := dk_172 (dk_at dksX0_append_0 14 rfl rfl)
theorem dX0_append_15 : decode cX0_append 15 = .ok (.astore_n 3, 1) := dk_78 (dk_at dksX0_append_0 15 rfl rfl)
theorem dX0_append_16 : decode cX0_append 16 = .ok (.iconst 2, 1) := dk_5 (dk_at dksX0_append_0 16 rfl rfl)
theorem dX0_append_17 : decode cX0_append 17 = .ok (.ireturn, 1) := dk_172 (dk_at dksX0_append_0 17 rfl rfl)
theorem dX0_append_18 : decode cX0_append 18 = .ok (.iconst 0, 1) := dk_3 (dk_at dksX0_append_0 18 rfl rfl)
theorem dX0_append_19 : decode cX0_append 19 = .ok (.ireturn, 1) := dk_172 (dk_at dksX0_append_0 19 rfl rfl)
abbrev cX0_read : ByteArray := method_6_code
def yX0_read : MethodName := ⟨RX0, "read", "(LDanceNotation;[J)I"⟩
def dkwX0_read_0 : List UInt8 := [43, 3, 42, 182, 0, 26, 133, 80, 167, 0, 9, 77, 4, 172, 77, 5, 172, 3, 172]
abbrev dktX0_read_0 : List UInt8 := dkwX0_read_0 ++ []
theorem dksX0_read_0 : cX0_read.data.toList.drop 0 = dktX0_read_0 := by decide +kernel
theorem dX0_read_0 : decode cX0_read 0 = .ok (.aload_n 1, 1) := dk_43 (dk_at dksX0_read_0 0 rfl rfl)
theorem dX0_read_1 : decode cX0_read 1 = .ok (.iconst 0, 1) := dk_3 (dk_at dksX0_read_0 1 rfl rfl)
theorem dX0_read_2 : decode cX0_read 2 = .ok (.aload_n 0, 1) := dk_42 (dk_at dksX0_read_0 2 rfl rfl)
theorem dX0_read_3 : decode cX0_read 3 = .ok (.invokevirtual 26, 3) := dk_182 0 26 (dk_at dksX0_read_0 3 rfl rfl)
theorem dX0_read_6 : decode cX0_read 6 = .ok (.i2l, 1) := dk_133 (dk_at dksX0_read_0 6 rfl rfl)
theorem dX0_read_7 : decode cX0_read 7 = .ok (.lastore, 1) := dk_80 (dk_at dksX0_read_0 7 rfl rfl)
theorem dX0_read_8 : decode cX0_read 8 = .ok (.goto 9, 3) := dk_167 0 9 (dk_at dksX0_read_0 8 rfl rfl)
theorem dX0_read_11 : decode cX0_read 11 = .ok (.astore_n 2, 1) := dk_77 (dk_at dksX0_read_0 11 rfl rfl)
theorem dX0_read_12 : decode cX0_read 12 = .ok (.iconst 1, 1) := dk_4 (dk_at dksX0_read_0 12 rfl rfl)
theorem dX0_read_13 : decode cX0_read 13 = .ok (.ireturn, 1) := dk_172 (dk_at dksX0_read_0 13 rfl rfl)
theorem dX0_read_14 : decode cX0_read 14 = .ok (.astore_n 2, 1) := dk_77 (dk_at dksX0_read_0 14 rfl rfl)
theorem dX0_read_15 : decode cX0_read 15 = .ok (.iconst 2, 1) := dk_5 (dk_at dksX0_read_0 15 rfl rfl)
theorem dX0_read_16 : decode cX0_read 16 = .ok (.ireturn, 1) := dk_172 (dk_at dksX0_read_0 16 rfl rfl)
theorem dX0_read_17 : decode cX0_read 17 = .ok (.iconst 0, 1) := dk_3 (dk_at dksX0_read_0 17 rfl rfl)
theorem dX0_read_18 : decode cX0_read 18 = .ok (.ireturn, 1) := dk_172 (dk_at dksX0_read_0 18 rfl rfl)
abbrev cX0_errorPosition : ByteArray := method_7_code
def yX0_errorPosition : MethodName := ⟨RX0, "errorPosition", "(LDanceNotation;[J)I"⟩
def dkwX0_errorPosition_0 : List UInt8 := [43, 3, 42, 182, 0, 30, 133, 80, 167, 0, 6, 77, 4, 172, 3, 172]
abbrev dktX0_errorPosition_0 : List UInt8 := dkwX0_errorPosition_0 ++ []
theorem dksX0_errorPosition_0 : cX0_errorPosition.data.toList.drop 0 = dktX0_errorPosition_0 := by decide +kernel
theorem dX0_errorPosition_0 : decode cX0_errorPosition 0 = .ok (.aload_n 1, 1) := dk_43 (dk_at dksX0_errorPosition_0 0 rfl rfl)
theorem dX0_errorPosition_1 : decode cX0_errorPosition 1 = .ok (.iconst 0, 1) := dk_3 (dk_at dksX0_errorPosition_0 1 rfl rfl)
theorem dX0_errorPosition_2 : decode cX0_errorPosition 2 = .ok (.aload_n 0, 1) := dk_42 (dk_at dksX0_errorPosition_0 2 rfl rfl)
theorem dX0_errorPosition_3 : decode cX0_errorPosition 3 = .ok (.invokevirtual 30, 3) := dk_182 0 30 (dk_at dksX0_errorPosition_0 3 rfl rfl)
theorem dX0_errorPosition_6 : decode cX0_errorPosition 6 = .ok (.i2l, 1) := dk_133 (dk_at dksX0_errorPosition_0 6 rfl rfl)
theorem dX0_errorPosition_7 : decode cX0_errorPosition 7 = .ok (.lastore, 1) := dk_80 (dk_at dksX0_errorPosition_0 7 rfl rfl)
theorem dX0_errorPosition_8 : decode cX0_errorPosition 8 = .ok (.goto 6, 3) := dk_167 0 6 (dk_at dksX0_errorPosition_0 8 rfl rfl)
theorem dX0_errorPosition_11 : decode cX0_errorPosition 11 = .ok (.astore_n 2, 1) := dk_77 (dk_at dksX0_errorPosition_0 11 rfl rfl)
theorem dX0_errorPosition_12 : decode cX0_errorPosition 12 = .ok (.iconst 1, 1) := dk_4 (dk_at dksX0_errorPosition_0 12 rfl rfl)
theorem dX0_errorPosition_13 : decode cX0_errorPosition 13 = .ok (.ireturn, 1) := dk_172 (dk_at dksX0_errorPosition_0 13 rfl rfl)
theorem dX0_errorPosition_14 : decode cX0_errorPosition 14 = .ok (.iconst 0, 1) := dk_3 (dk_at dksX0_errorPosition_0 14 rfl rfl)
theorem dX0_errorPosition_15 : decode cX0_errorPosition 15 = .ok (.ireturn, 1) := dk_172 (dk_at dksX0_errorPosition_0 15 rfl rfl)
abbrev cX0_refusedDancer : ByteArray := method_8_code
def yX0_refusedDancer : MethodName := ⟨RX0, "refusedDancer", "(LDanceNotation;[J)I"⟩
def dkwX0_refusedDancer_0 : List UInt8 := [43, 3, 42, 182, 0, 35, 133, 80, 167, 0, 6, 77, 4, 172, 3, 172]
abbrev dktX0_refusedDancer_0 : List UInt8 := dkwX0_refusedDancer_0 ++ []
theorem dksX0_refusedDancer_0 : cX0_refusedDancer.data.toList.drop 0 = dktX0_refusedDancer_0 := by decide +kernel
theorem dX0_refusedDancer_0 : decode cX0_refusedDancer 0 = .ok (.aload_n 1, 1) := dk_43 (dk_at dksX0_refusedDancer_0 0 rfl rfl)
theorem dX0_refusedDancer_1 : decode cX0_refusedDancer 1 = .ok (.iconst 0, 1) := dk_3 (dk_at dksX0_refusedDancer_0 1 rfl rfl)
theorem dX0_refusedDancer_2 : decode cX0_refusedDancer 2 = .ok (.aload_n 0, 1) := dk_42 (dk_at dksX0_refusedDancer_0 2 rfl rfl)
theorem dX0_refusedDancer_3 : decode cX0_refusedDancer 3 = .ok (.invokevirtual 35, 3) := dk_182 0 35 (dk_at dksX0_refusedDancer_0 3 rfl rfl)
theorem dX0_refusedDancer_6 : decode cX0_refusedDancer 6 = .ok (.i2l, 1) := dk_133 (dk_at dksX0_refusedDancer_0 6 rfl rfl)
theorem dX0_refusedDancer_7 : decode cX0_refusedDancer 7 = .ok (.lastore, 1) := dk_80 (dk_at dksX0_refusedDancer_0 7 rfl rfl)
theorem dX0_refusedDancer_8 : decode cX0_refusedDancer 8 = .ok (.goto 6, 3) := dk_167 0 6 (dk_at dksX0_refusedDancer_0 8 rfl rfl)
theorem dX0_refusedDancer_11 : decode cX0_refusedDancer 11 = .ok (.astore_n 2, 1) := dk_77 (dk_at dksX0_refusedDancer_0 11 rfl rfl)
theorem dX0_refusedDancer_12 : decode cX0_refusedDancer 12 = .ok (.iconst 1, 1) := dk_4 (dk_at dksX0_refusedDancer_0 12 rfl rfl)
theorem dX0_refusedDancer_13 : decode cX0_refusedDancer 13 = .ok (.ireturn, 1) := dk_172 (dk_at dksX0_refusedDancer_0 13 rfl rfl)
theorem dX0_refusedDancer_14 : decode cX0_refusedDancer 14 = .ok (.iconst 0, 1) := dk_3 (dk_at dksX0_refusedDancer_0 14 rfl rfl)
theorem dX0_refusedDancer_15 : decode cX0_refusedDancer 15 = .ok (.ireturn, 1) := dk_172 (dk_at dksX0_refusedDancer_0 15 rfl rfl)
abbrev cX0_write : ByteArray := method_9_code
def yX0_write : MethodName := ⟨RX0, "write", "(LDanceNotation;[J)I"⟩
def dkwX0_write_0 : List UInt8 := [43, 3, 42, 182, 0, 38, 133, 80, 167, 0, 6, 77, 4, 172, 3, 172]
abbrev dktX0_write_0 : List UInt8 := dkwX0_write_0 ++ []
theorem dksX0_write_0 : cX0_write.data.toList.drop 0 = dktX0_write_0 := by decide +kernel
theorem dX0_write_0 : decode cX0_write 0 = .ok (.aload_n 1, 1) := dk_43 (dk_at dksX0_write_0 0 rfl rfl)
theorem dX0_write_1 : decode cX0_write 1 = .ok (.iconst 0, 1) := dk_3 (dk_at dksX0_write_0 1 rfl rfl)
theorem dX0_write_2 : decode cX0_write 2 = .ok (.aload_n 0, 1) := dk_42 (dk_at dksX0_write_0 2 rfl rfl)
theorem dX0_write_3 : decode cX0_write 3 = .ok (.invokevirtual 38, 3) := dk_182 0 38 (dk_at dksX0_write_0 3 rfl rfl)
theorem dX0_write_6 : decode cX0_write 6 = .ok (.i2l, 1) := dk_133 (dk_at dksX0_write_0 6 rfl rfl)
theorem dX0_write_7 : decode cX0_write 7 = .ok (.lastore, 1) := dk_80 (dk_at dksX0_write_0 7 rfl rfl)
theorem dX0_write_8 : decode cX0_write 8 = .ok (.goto 6, 3) := dk_167 0 6 (dk_at dksX0_write_0 8 rfl rfl)
theorem dX0_write_11 : decode cX0_write 11 = .ok (.astore_n 2, 1) := dk_77 (dk_at dksX0_write_0 11 rfl rfl)
theorem dX0_write_12 : decode cX0_write 12 = .ok (.iconst 1, 1) := dk_4 (dk_at dksX0_write_0 12 rfl rfl)
theorem dX0_write_13 : decode cX0_write 13 = .ok (.ireturn, 1) := dk_172 (dk_at dksX0_write_0 13 rfl rfl)
theorem dX0_write_14 : decode cX0_write 14 = .ok (.iconst 0, 1) := dk_3 (dk_at dksX0_write_0 14 rfl rfl)
theorem dX0_write_15 : decode cX0_write 15 = .ok (.ireturn, 1) := dk_172 (dk_at dksX0_write_0 15 rfl rfl)
abbrev cX0_output : ByteArray := method_10_code
def yX0_output : MethodName := ⟨RX0, "output", "(LDanceNotation;I[J)I"⟩
def dkwX0_output_0 : List UInt8 := [44, 3, 42, 27, 182, 0, 43, 133, 80, 167, 0, 6, 78, 4, 172, 3, 172]
abbrev dktX0_output_0 : List UInt8 := dkwX0_output_0 ++ []
theorem dksX0_output_0 : cX0_output.data.toList.drop 0 = dktX0_output_0 := by decide +kernel
theorem dX0_output_0 : decode cX0_output 0 = .ok (.aload_n 2, 1) := dk_44 (dk_at dksX0_output_0 0 rfl rfl)
theorem dX0_output_1 : decode cX0_output 1 = .ok (.iconst 0, 1) := dk_3 (dk_at dksX0_output_0 1 rfl rfl)
theorem dX0_output_2 : decode cX0_output 2 = .ok (.aload_n 0, 1) := dk_42 (dk_at dksX0_output_0 2 rfl rfl)
theorem dX0_output_3 : decode cX0_output 3 = .ok (.iload_n 1, 1) := dk_27 (dk_at dksX0_output_0 3 rfl rfl)
theorem dX0_output_4 : decode cX0_output 4 = .ok (.invokevirtual 43, 3) := dk_182 0 43 (dk_at dksX0_output_0 4 rfl rfl)
theorem dX0_output_7 : decode cX0_output 7 = .ok (.i2l, 1) := dk_133 (dk_at dksX0_output_0 7 rfl rfl)
theorem dX0_output_8 : decode cX0_output 8 = .ok (.lastore, 1) := dk_80 (dk_at dksX0_output_0 8 rfl rfl)
theorem dX0_output_9 : decode cX0_output 9 = .ok (.goto 6, 3) := dk_167 0 6 (dk_at dksX0_output_0 9 rfl rfl)
theorem dX0_output_12 : decode cX0_output 12 = .ok (.astore_n 3, 1) := dk_78 (dk_at dksX0_output_0 12 rfl rfl)
theorem dX0_output_13 : decode cX0_output 13 = .ok (.iconst 1, 1) := dk_4 (dk_at dksX0_output_0 13 rfl rfl)
theorem dX0_output_14 : decode cX0_output 14 = .ok (.ireturn, 1) := dk_172 (dk_at dksX0_output_0 14 rfl rfl)
theorem dX0_output_15 : decode cX0_output 15 = .ok (.iconst 0, 1) := dk_3 (dk_at dksX0_output_0 15 rfl rfl)
theorem dX0_output_16 : decode cX0_output 16 = .ok (.ireturn, 1) := dk_172 (dk_at dksX0_output_0 16 rfl rfl)
abbrev cX0_mirror : ByteArray := method_11_code
def yX0_mirror : MethodName := ⟨RX0, "mirror", "(LDanceNotation;[J)I"⟩
def dkwX0_mirror_0 : List UInt8 := [43, 3, 42, 182, 0, 47, 133, 80, 167, 0, 6, 77, 4, 172, 3, 172]
abbrev dktX0_mirror_0 : List UInt8 := dkwX0_mirror_0 ++ []
theorem dksX0_mirror_0 : cX0_mirror.data.toList.drop 0 = dktX0_mirror_0 := by decide +kernel
theorem dX0_mirror_0 : decode cX0_mirror 0 = .ok (.aload_n 1, 1) := dk_43 (dk_at dksX0_mirror_0 0 rfl rfl)
theorem dX0_mirror_1 : decode cX0_mirror 1 = .ok (.iconst 0, 1) := dk_3 (dk_at dksX0_mirror_0 1 rfl rfl)
theorem dX0_mirror_2 : decode cX0_mirror 2 = .ok (.aload_n 0, 1) := dk_42 (dk_at dksX0_mirror_0 2 rfl rfl)
theorem dX0_mirror_3 : decode cX0_mirror 3 = .ok (.invokevirtual 47, 3) := dk_182 0 47 (dk_at dksX0_mirror_0 3 rfl rfl)
theorem dX0_mirror_6 : decode cX0_mirror 6 = .ok (.i2l, 1) := dk_133 (dk_at dksX0_mirror_0 6 rfl rfl)
theorem dX0_mirror_7 : decode cX0_mirror 7 = .ok (.lastore, 1) := dk_80 (dk_at dksX0_mirror_0 7 rfl rfl)
theorem dX0_mirror_8 : decode cX0_mirror 8 = .ok (.goto 6, 3) := dk_167 0 6 (dk_at dksX0_mirror_0 8 rfl rfl)
theorem dX0_mirror_11 : decode cX0_mirror 11 = .ok (.astore_n 2, 1) := dk_77 (dk_at dksX0_mirror_0 11 rfl rfl)
theorem dX0_mirror_12 : decode cX0_mirror 12 = .ok (.iconst 1, 1) := dk_4 (dk_at dksX0_mirror_0 12 rfl rfl)
theorem dX0_mirror_13 : decode cX0_mirror 13 = .ok (.ireturn, 1) := dk_172 (dk_at dksX0_mirror_0 13 rfl rfl)
theorem dX0_mirror_14 : decode cX0_mirror 14 = .ok (.iconst 0, 1) := dk_3 (dk_at dksX0_mirror_0 14 rfl rfl)
theorem dX0_mirror_15 : decode cX0_mirror 15 = .ok (.ireturn, 1) := dk_172 (dk_at dksX0_mirror_0 15 rfl rfl)
abbrev cX0_reverse : ByteArray := method_12_code
def yX0_reverse : MethodName := ⟨RX0, "reverse", "(LDanceNotation;[J)I"⟩
def dkwX0_reverse_0 : List UInt8 := [43, 3, 42, 182, 0, 50, 133, 80, 167, 0, 6, 77, 4, 172, 3, 172]
abbrev dktX0_reverse_0 : List UInt8 := dkwX0_reverse_0 ++ []
theorem dksX0_reverse_0 : cX0_reverse.data.toList.drop 0 = dktX0_reverse_0 := by decide +kernel
theorem dX0_reverse_0 : decode cX0_reverse 0 = .ok (.aload_n 1, 1) := dk_43 (dk_at dksX0_reverse_0 0 rfl rfl)
theorem dX0_reverse_1 : decode cX0_reverse 1 = .ok (.iconst 0, 1) := dk_3 (dk_at dksX0_reverse_0 1 rfl rfl)
theorem dX0_reverse_2 : decode cX0_reverse 2 = .ok (.aload_n 0, 1) := dk_42 (dk_at dksX0_reverse_0 2 rfl rfl)
theorem dX0_reverse_3 : decode cX0_reverse 3 = .ok (.invokevirtual 50, 3) := dk_182 0 50 (dk_at dksX0_reverse_0 3 rfl rfl)
theorem dX0_reverse_6 : decode cX0_reverse 6 = .ok (.i2l, 1) := dk_133 (dk_at dksX0_reverse_0 6 rfl rfl)
theorem dX0_reverse_7 : decode cX0_reverse 7 = .ok (.lastore, 1) := dk_80 (dk_at dksX0_reverse_0 7 rfl rfl)
theorem dX0_reverse_8 : decode cX0_reverse 8 = .ok (.goto 6, 3) := dk_167 0 6 (dk_at dksX0_reverse_0 8 rfl rfl)
theorem dX0_reverse_11 : decode cX0_reverse 11 = .ok (.astore_n 2, 1) := dk_77 (dk_at dksX0_reverse_0 11 rfl rfl)
theorem dX0_reverse_12 : decode cX0_reverse 12 = .ok (.iconst 1, 1) := dk_4 (dk_at dksX0_reverse_0 12 rfl rfl)
theorem dX0_reverse_13 : decode cX0_reverse 13 = .ok (.ireturn, 1) := dk_172 (dk_at dksX0_reverse_0 13 rfl rfl)
theorem dX0_reverse_14 : decode cX0_reverse 14 = .ok (.iconst 0, 1) := dk_3 (dk_at dksX0_reverse_0 14 rfl rfl)
theorem dX0_reverse_15 : decode cX0_reverse 15 = .ok (.ireturn, 1) := dk_172 (dk_at dksX0_reverse_0 15 rfl rfl)
abbrev cX0_repeat : ByteArray := method_13_code
def yX0_repeat : MethodName := ⟨RX0, "repeat", "(LDanceNotation;I[J)I"⟩
def dkwX0_repeat_0 : List UInt8 := [44, 3, 42, 27, 182, 0, 53, 133, 80, 167, 0, 9, 78, 4, 172, 78, 5, 172, 3, 172]
abbrev dktX0_repeat_0 : List UInt8 := dkwX0_repeat_0 ++ []
theorem dksX0_repeat_0 : cX0_repeat.data.toList.drop 0 = dktX0_repeat_0 := by decide +kernel
theorem dX0_repeat_0 : decode cX0_repeat 0 = .ok (.aload_n 2, 1) := dk_44 (dk_at dksX0_repeat_0 0 rfl rfl)
theorem dX0_repeat_1 : decode cX0_repeat 1 = .ok (.iconst 0, 1) := dk_3 (dk_at dksX0_repeat_0 1 rfl rfl)
theorem dX0_repeat_2 : decode cX0_repeat 2 = .ok (.aload_n 0, 1) := dk_42 (dk_at dksX0_repeat_0 2 rfl rfl)
theorem dX0_repeat_3 : decode cX0_repeat 3 = .ok (.iload_n 1, 1) := dk_27 (dk_at dksX0_repeat_0 3 rfl rfl)
theorem dX0_repeat_4 : decode cX0_repeat 4 = .ok (.invokevirtual 53, 3) := dk_182 0 53 (dk_at dksX0_repeat_0 4 rfl rfl)
theorem dX0_repeat_7 : decode cX0_repeat 7 = .ok (.i2l, 1) := dk_133 (dk_at dksX0_repeat_0 7 rfl rfl)
theorem dX0_repeat_8 : decode cX0_repeat 8 = .ok (.lastore, 1) := dk_80 (dk_at dksX0_repeat_0 8 rfl rfl)
theorem dX0_repeat_9 : decode cX0_repeat 9 = .ok (.goto 9, 3) := dk_167 0 9 (dk_at dksX0_repeat_0 9 rfl rfl)
theorem dX0_repeat_12 : decode cX0_repeat 12 = .ok (.astore_n 3, 1) := dk_78 (dk_at dksX0_repeat_0 12 rfl rfl)
theorem dX0_repeat_13 : decode cX0_repeat 13 = .ok (.iconst 1, 1) := dk_4 (dk_at dksX0_repeat_0 13 rfl rfl)
theorem dX0_repeat_14 : decode cX0_repeat 14 = .ok (.ireturn, 1) := dk_172 (dk_at dksX0_repeat_0 14 rfl rfl)
theorem dX0_repeat_15 : decode cX0_repeat 15 = .ok (.astore_n 3, 1) := dk_78 (dk_at dksX0_repeat_0 15 rfl rfl)
theorem dX0_repeat_16 : decode cX0_repeat 16 = .ok (.iconst 2, 1) := dk_5 (dk_at dksX0_repeat_0 16 rfl rfl)
theorem dX0_repeat_17 : decode cX0_repeat 17 = .ok (.ireturn, 1) := dk_172 (dk_at dksX0_repeat_0 17 rfl rfl)
theorem dX0_repeat_18 : decode cX0_repeat 18 = .ok (.iconst 0, 1) := dk_3 (dk_at dksX0_repeat_0 18 rfl rfl)
theorem dX0_repeat_19 : decode cX0_repeat 19 = .ok (.ireturn, 1) := dk_172 (dk_at dksX0_repeat_0 19 rfl rfl)
abbrev cX0_exchange : ByteArray := method_14_code
def yX0_exchange : MethodName := ⟨RX0, "exchange", "(LDanceNotation;II[J)I"⟩
def dkwX0_exchange_0 : List UInt8 := [45, 3, 42, 27, 28, 182, 0, 57, 133, 80, 167, 0, 11, 58, 4, 4, 172, 58, 4, 5, 172, 3, 172]
abbrev dktX0_exchange_0 : List UInt8 := dkwX0_exchange_0 ++ []
theorem dksX0_exchange_0 : cX0_exchange.data.toList.drop 0 = dktX0_exchange_0 := by decide +kernel
theorem dX0_exchange_0 : decode cX0_exchange 0 = .ok (.aload_n 3, 1) := dk_45 (dk_at dksX0_exchange_0 0 rfl rfl)
theorem dX0_exchange_1 : decode cX0_exchange 1 = .ok (.iconst 0, 1) := dk_3 (dk_at dksX0_exchange_0 1 rfl rfl)
theorem dX0_exchange_2 : decode cX0_exchange 2 = .ok (.aload_n 0, 1) := dk_42 (dk_at dksX0_exchange_0 2 rfl rfl)
theorem dX0_exchange_3 : decode cX0_exchange 3 = .ok (.iload_n 1, 1) := dk_27 (dk_at dksX0_exchange_0 3 rfl rfl)
theorem dX0_exchange_4 : decode cX0_exchange 4 = .ok (.iload_n 2, 1) := dk_28 (dk_at dksX0_exchange_0 4 rfl rfl)
theorem dX0_exchange_5 : decode cX0_exchange 5 = .ok (.invokevirtual 57, 3) := dk_182 0 57 (dk_at dksX0_exchange_0 5 rfl rfl)
theorem dX0_exchange_8 : decode cX0_exchange 8 = .ok (.i2l, 1) := dk_133 (dk_at dksX0_exchange_0 8 rfl rfl)
theorem dX0_exchange_9 : decode cX0_exchange 9 = .ok (.lastore, 1) := dk_80 (dk_at dksX0_exchange_0 9 rfl rfl)
theorem dX0_exchange_10 : decode cX0_exchange 10 = .ok (.goto 11, 3) := dk_167 0 11 (dk_at dksX0_exchange_0 10 rfl rfl)
theorem dX0_exchange_13 : decode cX0_exchange 13 = .ok (.astore 4, 2) := dk_58 4 (dk_at dksX0_exchange_0 13 rfl rfl)
theorem dX0_exchange_15 : decode cX0_exchange 15 = .ok (.iconst 1, 1) := dk_4 (dk_at dksX0_exchange_0 15 rfl rfl)
theorem dX0_exchange_16 : decode cX0_exchange 16 = .ok (.ireturn, 1) := dk_172 (dk_at dksX0_exchange_0 16 rfl rfl)
theorem dX0_exchange_17 : decode cX0_exchange 17 = .ok (.astore 4, 2) := dk_58 4 (dk_at dksX0_exchange_0 17 rfl rfl)
theorem dX0_exchange_19 : decode cX0_exchange 19 = .ok (.iconst 2, 1) := dk_5 (dk_at dksX0_exchange_0 19 rfl rfl)
theorem dX0_exchange_20 : decode cX0_exchange 20 = .ok (.ireturn, 1) := dk_172 (dk_at dksX0_exchange_0 20 rfl rfl)
theorem dX0_exchange_21 : decode cX0_exchange 21 = .ok (.iconst 0, 1) := dk_3 (dk_at dksX0_exchange_0 21 rfl rfl)
theorem dX0_exchange_22 : decode cX0_exchange 22 = .ok (.ireturn, 1) := dk_172 (dk_at dksX0_exchange_0 22 rfl rfl)
abbrev cX0_tree : ByteArray := method_15_code
def yX0_tree : MethodName := ⟨RX0, "tree", "(LDanceNotation;I[J)I"⟩
def dkwX0_tree_0 : List UInt8 := [44, 3, 42, 27, 182, 0, 60, 133, 80, 167, 0, 9, 78, 4, 172, 78, 5, 172, 3, 172]
abbrev dktX0_tree_0 : List UInt8 := dkwX0_tree_0 ++ []
theorem dksX0_tree_0 : cX0_tree.data.toList.drop 0 = dktX0_tree_0 := by decide +kernel
theorem dX0_tree_0 : decode cX0_tree 0 = .ok (.aload_n 2, 1) := dk_44 (dk_at dksX0_tree_0 0 rfl rfl)
theorem dX0_tree_1 : decode cX0_tree 1 = .ok (.iconst 0, 1) := dk_3 (dk_at dksX0_tree_0 1 rfl rfl)
theorem dX0_tree_2 : decode cX0_tree 2 = .ok (.aload_n 0, 1) := dk_42 (dk_at dksX0_tree_0 2 rfl rfl)
theorem dX0_tree_3 : decode cX0_tree 3 = .ok (.iload_n 1, 1) := dk_27 (dk_at dksX0_tree_0 3 rfl rfl)
theorem dX0_tree_4 : decode cX0_tree 4 = .ok (.invokevirtual 60, 3) := dk_182 0 60 (dk_at dksX0_tree_0 4 rfl rfl)
theorem dX0_tree_7 : decode cX0_tree 7 = .ok (.i2l, 1) := dk_133 (dk_at dksX0_tree_0 7 rfl rfl)
theorem dX0_tree_8 : decode cX0_tree 8 = .ok (.lastore, 1) := dk_80 (dk_at dksX0_tree_0 8 rfl rfl)
theorem dX0_tree_9 : decode cX0_tree 9 = .ok (.goto 9, 3) := dk_167 0 9 (dk_at dksX0_tree_0 9 rfl rfl)
theorem dX0_tree_12 : decode cX0_tree 12 = .ok (.astore_n 3, 1) := dk_78 (dk_at dksX0_tree_0 12 rfl rfl)
theorem dX0_tree_13 : decode cX0_tree 13 = .ok (.iconst 1, 1) := dk_4 (dk_at dksX0_tree_0 13 rfl rfl)
theorem dX0_tree_14 : decode cX0_tree 14 = .ok (.ireturn, 1) := dk_172 (dk_at dksX0_tree_0 14 rfl rfl)
theorem dX0_tree_15 : decode cX0_tree 15 = .ok (.astore_n 3, 1) := dk_78 (dk_at dksX0_tree_0 15 rfl rfl)
theorem dX0_tree_16 : decode cX0_tree 16 = .ok (.iconst 2, 1) := dk_5 (dk_at dksX0_tree_0 16 rfl rfl)
theorem dX0_tree_17 : decode cX0_tree 17 = .ok (.ireturn, 1) := dk_172 (dk_at dksX0_tree_0 17 rfl rfl)
theorem dX0_tree_18 : decode cX0_tree 18 = .ok (.iconst 0, 1) := dk_3 (dk_at dksX0_tree_0 18 rfl rfl)
theorem dX0_tree_19 : decode cX0_tree 19 = .ok (.ireturn, 1) := dk_172 (dk_at dksX0_tree_0 19 rfl rfl)
abbrev cX0_step : ByteArray := method_16_code
def yX0_step : MethodName := ⟨RX0, "step", "(LDanceNotation;II[J)I"⟩
def dkwX0_step_1 : List UInt8 := [172, 3, 172]
abbrev dktX0_step_1 : List UInt8 := dkwX0_step_1 ++ []
def dkwX0_step_0 : List UInt8 := [45, 3, 42, 27, 28, 182, 0, 63, 133, 80, 167, 0, 15, 58, 4, 4, 172, 58, 4, 5, 172, 58, 4, 6]
abbrev dktX0_step_0 : List UInt8 := dkwX0_step_0 ++ dktX0_step_1
theorem dksX0_step_0 : cX0_step.data.toList.drop 0 = dktX0_step_0 := by decide +kernel
theorem dksX0_step_1 : cX0_step.data.toList.drop 24 = dktX0_step_1 := dk_seg dksX0_step_0 24 rfl rfl
theorem dX0_step_0 : decode cX0_step 0 = .ok (.aload_n 3, 1) := dk_45 (dk_at dksX0_step_0 0 rfl rfl)
theorem dX0_step_1 : decode cX0_step 1 = .ok (.iconst 0, 1) := dk_3 (dk_at dksX0_step_0 1 rfl rfl)
theorem dX0_step_2 : decode cX0_step 2 = .ok (.aload_n 0, 1) := dk_42 (dk_at dksX0_step_0 2 rfl rfl)
theorem dX0_step_3 : decode cX0_step 3 = .ok (.iload_n 1, 1) := dk_27 (dk_at dksX0_step_0 3 rfl rfl)
theorem dX0_step_4 : decode cX0_step 4 = .ok (.iload_n 2, 1) := dk_28 (dk_at dksX0_step_0 4 rfl rfl)
theorem dX0_step_5 : decode cX0_step 5 = .ok (.invokevirtual 63, 3) := dk_182 0 63 (dk_at dksX0_step_0 5 rfl rfl)
theorem dX0_step_8 : decode cX0_step 8 = .ok (.i2l, 1) := dk_133 (dk_at dksX0_step_0 8 rfl rfl)
theorem dX0_step_9 : decode cX0_step 9 = .ok (.lastore, 1) := dk_80 (dk_at dksX0_step_0 9 rfl rfl)
theorem dX0_step_10 : decode cX0_step 10 = .ok (.goto 15, 3) := dk_167 0 15 (dk_at dksX0_step_0 10 rfl rfl)
theorem dX0_step_13 : decode cX0_step 13 = .ok (.astore 4, 2) := dk_58 4 (dk_at dksX0_step_0 13 rfl rfl)
theorem dX0_step_15 : decode cX0_step 15 = .ok (.iconst 1, 1) := dk_4 (dk_at dksX0_step_0 15 rfl rfl)
theorem dX0_step_16 : decode cX0_step 16 = .ok (.ireturn, 1) := dk_172 (dk_at dksX0_step_0 16 rfl rfl)
theorem dX0_step_17 : decode cX0_step 17 = .ok (.astore 4, 2) := dk_58 4 (dk_at dksX0_step_0 17 rfl rfl)
theorem dX0_step_19 : decode cX0_step 19 = .ok (.iconst 2, 1) := dk_5 (dk_at dksX0_step_0 19 rfl rfl)
theorem dX0_step_20 : decode cX0_step 20 = .ok (.ireturn, 1) := dk_172 (dk_at dksX0_step_0 20 rfl rfl)
theorem dX0_step_21 : decode cX0_step 21 = .ok (.astore 4, 2) := dk_58 4 (dk_at dksX0_step_0 21 rfl rfl)
theorem dX0_step_23 : decode cX0_step 23 = .ok (.iconst 3, 1) := dk_6 (dk_at dksX0_step_0 23 rfl rfl)
theorem dX0_step_24 : decode cX0_step 24 = .ok (.ireturn, 1) := dk_172 (dk_at dksX0_step_1 0 rfl rfl)
theorem dX0_step_25 : decode cX0_step 25 = .ok (.iconst 0, 1) := dk_3 (dk_at dksX0_step_1 1 rfl rfl)
theorem dX0_step_26 : decode cX0_step 26 = .ok (.ireturn, 1) := dk_172 (dk_at dksX0_step_1 2 rfl rfl)
abbrev cX0_position : ByteArray := method_17_code
def yX0_position : MethodName := ⟨RX0, "position", "(LDanceNotation;IIZ[J)I"⟩
def dkwX0_position_1 : List UInt8 := [58, 5, 6, 172, 3, 172]
abbrev dktX0_position_1 : List UInt8 := dkwX0_position_1 ++ []
def dkwX0_position_0 : List UInt8 := [25, 4, 3, 42, 27, 28, 29, 182, 0, 67, 133, 80, 167, 0, 15, 58, 5, 4, 172, 58, 5, 5, 172]
abbrev dktX0_position_0 : List UInt8 := dkwX0_position_0 ++ dktX0_position_1
theorem dksX0_position_0 : cX0_position.data.toList.drop 0 = dktX0_position_0 := by decide +kernel
theorem dksX0_position_1 : cX0_position.data.toList.drop 23 = dktX0_position_1 := dk_seg dksX0_position_0 23 rfl rfl
theorem dX0_position_0 : decode cX0_position 0 = .ok (.aload 4, 2) := dk_25 4 (dk_at dksX0_position_0 0 rfl rfl)
theorem dX0_position_2 : decode cX0_position 2 = .ok (.iconst 0, 1) := dk_3 (dk_at dksX0_position_0 2 rfl rfl)
theorem dX0_position_3 : decode cX0_position 3 = .ok (.aload_n 0, 1) := dk_42 (dk_at dksX0_position_0 3 rfl rfl)
theorem dX0_position_4 : decode cX0_position 4 = .ok (.iload_n 1, 1) := dk_27 (dk_at dksX0_position_0 4 rfl rfl)
theorem dX0_position_5 : decode cX0_position 5 = .ok (.iload_n 2, 1) := dk_28 (dk_at dksX0_position_0 5 rfl rfl)
theorem dX0_position_6 : decode cX0_position 6 = .ok (.iload_n 3, 1) := dk_29 (dk_at dksX0_position_0 6 rfl rfl)
theorem dX0_position_7 : decode cX0_position 7 = .ok (.invokevirtual 67, 3) := dk_182 0 67 (dk_at dksX0_position_0 7 rfl rfl)
theorem dX0_position_10 : decode cX0_position 10 = .ok (.i2l, 1) := dk_133 (dk_at dksX0_position_0 10 rfl rfl)
theorem dX0_position_11 : decode cX0_position 11 = .ok (.lastore, 1) := dk_80 (dk_at dksX0_position_0 11 rfl rfl)
theorem dX0_position_12 : decode cX0_position 12 = .ok (.goto 15, 3) := dk_167 0 15 (dk_at dksX0_position_0 12 rfl rfl)
theorem dX0_position_15 : decode cX0_position 15 = .ok (.astore 5, 2) := dk_58 5 (dk_at dksX0_position_0 15 rfl rfl)
theorem dX0_position_17 : decode cX0_position 17 = .ok (.iconst 1, 1) := dk_4 (dk_at dksX0_position_0 17 rfl rfl)
theorem dX0_position_18 : decode cX0_position 18 = .ok (.ireturn, 1) := dk_172 (dk_at dksX0_position_0 18 rfl rfl)
theorem dX0_position_19 : decode cX0_position 19 = .ok (.astore 5, 2) := dk_58 5 (dk_at dksX0_position_0 19 rfl rfl)
theorem dX0_position_21 : decode cX0_position 21 = .ok (.iconst 2, 1) := dk_5 (dk_at dksX0_position_0 21 rfl rfl)
theorem dX0_position_22 : decode cX0_position 22 = .ok (.ireturn, 1) := dk_172 (dk_at dksX0_position_0 22 rfl rfl)
theorem dX0_position_23 : decode cX0_position 23 = .ok (.astore 5, 2) := dk_58 5 (dk_at dksX0_position_1 0 rfl rfl)
theorem dX0_position_25 : decode cX0_position 25 = .ok (.iconst 3, 1) := dk_6 (dk_at dksX0_position_1 2 rfl rfl)
theorem dX0_position_26 : decode cX0_position 26 = .ok (.ireturn, 1) := dk_172 (dk_at dksX0_position_1 3 rfl rfl)
theorem dX0_position_27 : decode cX0_position 27 = .ok (.iconst 0, 1) := dk_3 (dk_at dksX0_position_1 4 rfl rfl)
theorem dX0_position_28 : decode cX0_position 28 = .ok (.ireturn, 1) := dk_172 (dk_at dksX0_position_1 5 rfl rfl)
abbrev cX0_problemCount : ByteArray := method_18_code
def yX0_problemCount : MethodName := ⟨RX0, "problemCount", "(LDanceNotation;I[J)I"⟩
def dkwX0_problemCount_0 : List UInt8 := [44, 3, 42, 27, 182, 0, 71, 133, 80, 167, 0, 9, 78, 4, 172, 78, 5, 172, 3, 172]
abbrev dktX0_problemCount_0 : List UInt8 := dkwX0_problemCount_0 ++ []
theorem dksX0_problemCount_0 : cX0_problemCount.data.toList.drop 0 = dktX0_problemCount_0 := by decide +kernel
theorem dX0_problemCount_0 : decode cX0_problemCount 0 = .ok (.aload_n 2, 1) := dk_44 (dk_at dksX0_problemCount_0 0 rfl rfl)
theorem dX0_problemCount_1 : decode cX0_problemCount 1 = .ok (.iconst 0, 1) := dk_3 (dk_at dksX0_problemCount_0 1 rfl rfl)
theorem dX0_problemCount_2 : decode cX0_problemCount 2 = .ok (.aload_n 0, 1) := dk_42 (dk_at dksX0_problemCount_0 2 rfl rfl)
theorem dX0_problemCount_3 : decode cX0_problemCount 3 = .ok (.iload_n 1, 1) := dk_27 (dk_at dksX0_problemCount_0 3 rfl rfl)
theorem dX0_problemCount_4 : decode cX0_problemCount 4 = .ok (.invokevirtual 71, 3) := dk_182 0 71 (dk_at dksX0_problemCount_0 4 rfl rfl)
theorem dX0_problemCount_7 : decode cX0_problemCount 7 = .ok (.i2l, 1) := dk_133 (dk_at dksX0_problemCount_0 7 rfl rfl)
theorem dX0_problemCount_8 : decode cX0_problemCount 8 = .ok (.lastore, 1) := dk_80 (dk_at dksX0_problemCount_0 8 rfl rfl)
theorem dX0_problemCount_9 : decode cX0_problemCount 9 = .ok (.goto 9, 3) := dk_167 0 9 (dk_at dksX0_problemCount_0 9 rfl rfl)
theorem dX0_problemCount_12 : decode cX0_problemCount 12 = .ok (.astore_n 3, 1) := dk_78 (dk_at dksX0_problemCount_0 12 rfl rfl)
theorem dX0_problemCount_13 : decode cX0_problemCount 13 = .ok (.iconst 1, 1) := dk_4 (dk_at dksX0_problemCount_0 13 rfl rfl)
theorem dX0_problemCount_14 : decode cX0_problemCount 14 = .ok (.ireturn, 1) := dk_172 (dk_at dksX0_problemCount_0 14 rfl rfl)
theorem dX0_problemCount_15 : decode cX0_problemCount 15 = .ok (.astore_n 3, 1) := dk_78 (dk_at dksX0_problemCount_0 15 rfl rfl)
theorem dX0_problemCount_16 : decode cX0_problemCount 16 = .ok (.iconst 2, 1) := dk_5 (dk_at dksX0_problemCount_0 16 rfl rfl)
theorem dX0_problemCount_17 : decode cX0_problemCount 17 = .ok (.ireturn, 1) := dk_172 (dk_at dksX0_problemCount_0 17 rfl rfl)
theorem dX0_problemCount_18 : decode cX0_problemCount 18 = .ok (.iconst 0, 1) := dk_3 (dk_at dksX0_problemCount_0 18 rfl rfl)
theorem dX0_problemCount_19 : decode cX0_problemCount 19 = .ok (.ireturn, 1) := dk_172 (dk_at dksX0_problemCount_0 19 rfl rfl)
abbrev cX0_problem : ByteArray := method_19_code
def yX0_problem : MethodName := ⟨RX0, "problem", "(LDanceNotation;II[J)I"⟩
def dkwX0_problem_1 : List UInt8 := [172, 3, 172]
abbrev dktX0_problem_1 : List UInt8 := dkwX0_problem_1 ++ []
def dkwX0_problem_0 : List UInt8 := [45, 3, 42, 27, 28, 182, 0, 74, 133, 80, 167, 0, 15, 58, 4, 4, 172, 58, 4, 5, 172, 58, 4, 6]
abbrev dktX0_problem_0 : List UInt8 := dkwX0_problem_0 ++ dktX0_problem_1
theorem dksX0_problem_0 : cX0_problem.data.toList.drop 0 = dktX0_problem_0 := by decide +kernel
theorem dksX0_problem_1 : cX0_problem.data.toList.drop 24 = dktX0_problem_1 := dk_seg dksX0_problem_0 24 rfl rfl
theorem dX0_problem_0 : decode cX0_problem 0 = .ok (.aload_n 3, 1) := dk_45 (dk_at dksX0_problem_0 0 rfl rfl)
theorem dX0_problem_1 : decode cX0_problem 1 = .ok (.iconst 0, 1) := dk_3 (dk_at dksX0_problem_0 1 rfl rfl)
theorem dX0_problem_2 : decode cX0_problem 2 = .ok (.aload_n 0, 1) := dk_42 (dk_at dksX0_problem_0 2 rfl rfl)
theorem dX0_problem_3 : decode cX0_problem 3 = .ok (.iload_n 1, 1) := dk_27 (dk_at dksX0_problem_0 3 rfl rfl)
theorem dX0_problem_4 : decode cX0_problem 4 = .ok (.iload_n 2, 1) := dk_28 (dk_at dksX0_problem_0 4 rfl rfl)
theorem dX0_problem_5 : decode cX0_problem 5 = .ok (.invokevirtual 74, 3) := dk_182 0 74 (dk_at dksX0_problem_0 5 rfl rfl)
theorem dX0_problem_8 : decode cX0_problem 8 = .ok (.i2l, 1) := dk_133 (dk_at dksX0_problem_0 8 rfl rfl)
theorem dX0_problem_9 : decode cX0_problem 9 = .ok (.lastore, 1) := dk_80 (dk_at dksX0_problem_0 9 rfl rfl)
theorem dX0_problem_10 : decode cX0_problem 10 = .ok (.goto 15, 3) := dk_167 0 15 (dk_at dksX0_problem_0 10 rfl rfl)
theorem dX0_problem_13 : decode cX0_problem 13 = .ok (.astore 4, 2) := dk_58 4 (dk_at dksX0_problem_0 13 rfl rfl)
theorem dX0_problem_15 : decode cX0_problem 15 = .ok (.iconst 1, 1) := dk_4 (dk_at dksX0_problem_0 15 rfl rfl)
theorem dX0_problem_16 : decode cX0_problem 16 = .ok (.ireturn, 1) := dk_172 (dk_at dksX0_problem_0 16 rfl rfl)
theorem dX0_problem_17 : decode cX0_problem 17 = .ok (.astore 4, 2) := dk_58 4 (dk_at dksX0_problem_0 17 rfl rfl)
theorem dX0_problem_19 : decode cX0_problem 19 = .ok (.iconst 2, 1) := dk_5 (dk_at dksX0_problem_0 19 rfl rfl)
theorem dX0_problem_20 : decode cX0_problem 20 = .ok (.ireturn, 1) := dk_172 (dk_at dksX0_problem_0 20 rfl rfl)
theorem dX0_problem_21 : decode cX0_problem 21 = .ok (.astore 4, 2) := dk_58 4 (dk_at dksX0_problem_0 21 rfl rfl)
theorem dX0_problem_23 : decode cX0_problem 23 = .ok (.iconst 3, 1) := dk_6 (dk_at dksX0_problem_0 23 rfl rfl)
theorem dX0_problem_24 : decode cX0_problem 24 = .ok (.ireturn, 1) := dk_172 (dk_at dksX0_problem_1 0 rfl rfl)
theorem dX0_problem_25 : decode cX0_problem 25 = .ok (.iconst 0, 1) := dk_3 (dk_at dksX0_problem_1 1 rfl rfl)
theorem dX0_problem_26 : decode cX0_problem 26 = .ok (.ireturn, 1) := dk_172 (dk_at dksX0_problem_1 2 rfl rfl)
abbrev cX0_cue : ByteArray := method_20_code
def yX0_cue : MethodName := ⟨RX0, "cue", "(LDanceNotation;I[J)I"⟩
def dkwX0_cue_0 : List UInt8 := [44, 3, 42, 27, 182, 0, 77, 133, 80, 167, 0, 9, 78, 4, 172, 78, 5, 172, 3, 172]
abbrev dktX0_cue_0 : List UInt8 := dkwX0_cue_0 ++ []
theorem dksX0_cue_0 : cX0_cue.data.toList.drop 0 = dktX0_cue_0 := by decide +kernel
theorem dX0_cue_0 : decode cX0_cue 0 = .ok (.aload_n 2, 1) := dk_44 (dk_at dksX0_cue_0 0 rfl rfl)
theorem dX0_cue_1 : decode cX0_cue 1 = .ok (.iconst 0, 1) := dk_3 (dk_at dksX0_cue_0 1 rfl rfl)
theorem dX0_cue_2 : decode cX0_cue 2 = .ok (.aload_n 0, 1) := dk_42 (dk_at dksX0_cue_0 2 rfl rfl)
theorem dX0_cue_3 : decode cX0_cue 3 = .ok (.iload_n 1, 1) := dk_27 (dk_at dksX0_cue_0 3 rfl rfl)
theorem dX0_cue_4 : decode cX0_cue 4 = .ok (.invokevirtual 77, 3) := dk_182 0 77 (dk_at dksX0_cue_0 4 rfl rfl)
theorem dX0_cue_7 : decode cX0_cue 7 = .ok (.i2l, 1) := dk_133 (dk_at dksX0_cue_0 7 rfl rfl)
theorem dX0_cue_8 : decode cX0_cue 8 = .ok (.lastore, 1) := dk_80 (dk_at dksX0_cue_0 8 rfl rfl)
theorem dX0_cue_9 : decode cX0_cue 9 = .ok (.goto 9, 3) := dk_167 0 9 (dk_at dksX0_cue_0 9 rfl rfl)
theorem dX0_cue_12 : decode cX0_cue 12 = .ok (.astore_n 3, 1) := dk_78 (dk_at dksX0_cue_0 12 rfl rfl)
theorem dX0_cue_13 : decode cX0_cue 13 = .ok (.iconst 1, 1) := dk_4 (dk_at dksX0_cue_0 13 rfl rfl)
theorem dX0_cue_14 : decode cX0_cue 14 = .ok (.ireturn, 1) := dk_172 (dk_at dksX0_cue_0 14 rfl rfl)
theorem dX0_cue_15 : decode cX0_cue 15 = .ok (.astore_n 3, 1) := dk_78 (dk_at dksX0_cue_0 15 rfl rfl)
theorem dX0_cue_16 : decode cX0_cue 16 = .ok (.iconst 2, 1) := dk_5 (dk_at dksX0_cue_0 16 rfl rfl)
theorem dX0_cue_17 : decode cX0_cue 17 = .ok (.ireturn, 1) := dk_172 (dk_at dksX0_cue_0 17 rfl rfl)
theorem dX0_cue_18 : decode cX0_cue 18 = .ok (.iconst 0, 1) := dk_3 (dk_at dksX0_cue_0 18 rfl rfl)
theorem dX0_cue_19 : decode cX0_cue 19 = .ok (.ireturn, 1) := dk_172 (dk_at dksX0_cue_0 19 rfl rfl)
abbrev cX0_displacement : ByteArray := method_21_code
def yX0_displacement : MethodName := ⟨RX0, "displacement", "(LDanceNotation;IZ[J)I"⟩
def dkwX0_displacement_0 : List UInt8 := [45, 3, 42, 27, 28, 182, 0, 80, 133, 80, 167, 0, 11, 58, 4, 4, 172, 58, 4, 5, 172, 3, 172]
abbrev dktX0_displacement_0 : List UInt8 := dkwX0_displacement_0 ++ []
theorem dksX0_displacement_0 : cX0_displacement.data.toList.drop 0 = dktX0_displacement_0 := by decide +kernel
theorem dX0_displacement_0 : decode cX0_displacement 0 = .ok (.aload_n 3, 1) := dk_45 (dk_at dksX0_displacement_0 0 rfl rfl)
theorem dX0_displacement_1 : decode cX0_displacement 1 = .ok (.iconst 0, 1) := dk_3 (dk_at dksX0_displacement_0 1 rfl rfl)
theorem dX0_displacement_2 : decode cX0_displacement 2 = .ok (.aload_n 0, 1) := dk_42 (dk_at dksX0_displacement_0 2 rfl rfl)
theorem dX0_displacement_3 : decode cX0_displacement 3 = .ok (.iload_n 1, 1) := dk_27 (dk_at dksX0_displacement_0 3 rfl rfl)
theorem dX0_displacement_4 : decode cX0_displacement 4 = .ok (.iload_n 2, 1) := dk_28 (dk_at dksX0_displacement_0 4 rfl rfl)
theorem dX0_displacement_5 : decode cX0_displacement 5 = .ok (.invokevirtual 80, 3) := dk_182 0 80 (dk_at dksX0_displacement_0 5 rfl rfl)
theorem dX0_displacement_8 : decode cX0_displacement 8 = .ok (.i2l, 1) := dk_133 (dk_at dksX0_displacement_0 8 rfl rfl)
theorem dX0_displacement_9 : decode cX0_displacement 9 = .ok (.lastore, 1) := dk_80 (dk_at dksX0_displacement_0 9 rfl rfl)
theorem dX0_displacement_10 : decode cX0_displacement 10 = .ok (.goto 11, 3) := dk_167 0 11 (dk_at dksX0_displacement_0 10 rfl rfl)
theorem dX0_displacement_13 : decode cX0_displacement 13 = .ok (.astore 4, 2) := dk_58 4 (dk_at dksX0_displacement_0 13 rfl rfl)
theorem dX0_displacement_15 : decode cX0_displacement 15 = .ok (.iconst 1, 1) := dk_4 (dk_at dksX0_displacement_0 15 rfl rfl)
theorem dX0_displacement_16 : decode cX0_displacement 16 = .ok (.ireturn, 1) := dk_172 (dk_at dksX0_displacement_0 16 rfl rfl)
theorem dX0_displacement_17 : decode cX0_displacement 17 = .ok (.astore 4, 2) := dk_58 4 (dk_at dksX0_displacement_0 17 rfl rfl)
theorem dX0_displacement_19 : decode cX0_displacement 19 = .ok (.iconst 2, 1) := dk_5 (dk_at dksX0_displacement_0 19 rfl rfl)
theorem dX0_displacement_20 : decode cX0_displacement 20 = .ok (.ireturn, 1) := dk_172 (dk_at dksX0_displacement_0 20 rfl rfl)
theorem dX0_displacement_21 : decode cX0_displacement 21 = .ok (.iconst 0, 1) := dk_3 (dk_at dksX0_displacement_0 21 rfl rfl)
theorem dX0_displacement_22 : decode cX0_displacement 22 = .ok (.ireturn, 1) := dk_172 (dk_at dksX0_displacement_0 22 rfl rfl)
abbrev cX0_meanSteps : ByteArray := method_22_code
def yX0_meanSteps : MethodName := ⟨RX0, "meanSteps", "(LDanceNotation;[D)I"⟩
def dkwX0_meanSteps_0 : List UInt8 := [43, 3, 42, 182, 0, 84, 82, 167, 0, 9, 77, 4, 172, 77, 5, 172, 3, 172]
abbrev dktX0_meanSteps_0 : List UInt8 := dkwX0_meanSteps_0 ++ []
theorem dksX0_meanSteps_0 : cX0_meanSteps.data.toList.drop 0 = dktX0_meanSteps_0 := by decide +kernel
theorem dX0_meanSteps_0 : decode cX0_meanSteps 0 = .ok (.aload_n 1, 1) := dk_43 (dk_at dksX0_meanSteps_0 0 rfl rfl)
theorem dX0_meanSteps_1 : decode cX0_meanSteps 1 = .ok (.iconst 0, 1) := dk_3 (dk_at dksX0_meanSteps_0 1 rfl rfl)
theorem dX0_meanSteps_2 : decode cX0_meanSteps 2 = .ok (.aload_n 0, 1) := dk_42 (dk_at dksX0_meanSteps_0 2 rfl rfl)
theorem dX0_meanSteps_3 : decode cX0_meanSteps 3 = .ok (.invokevirtual 84, 3) := dk_182 0 84 (dk_at dksX0_meanSteps_0 3 rfl rfl)
theorem dX0_meanSteps_6 : decode cX0_meanSteps 6 = .ok (.dastore, 1) := dk_82 (dk_at dksX0_meanSteps_0 6 rfl rfl)
theorem dX0_meanSteps_7 : decode cX0_meanSteps 7 = .ok (.goto 9, 3) := dk_167 0 9 (dk_at dksX0_meanSteps_0 7 rfl rfl)
theorem dX0_meanSteps_10 : decode cX0_meanSteps 10 = .ok (.astore_n 2, 1) := dk_77 (dk_at dksX0_meanSteps_0 10 rfl rfl)
theorem dX0_meanSteps_11 : decode cX0_meanSteps 11 = .ok (.iconst 1, 1) := dk_4 (dk_at dksX0_meanSteps_0 11 rfl rfl)
theorem dX0_meanSteps_12 : decode cX0_meanSteps 12 = .ok (.ireturn, 1) := dk_172 (dk_at dksX0_meanSteps_0 12 rfl rfl)
theorem dX0_meanSteps_13 : decode cX0_meanSteps 13 = .ok (.astore_n 2, 1) := dk_77 (dk_at dksX0_meanSteps_0 13 rfl rfl)
theorem dX0_meanSteps_14 : decode cX0_meanSteps 14 = .ok (.iconst 2, 1) := dk_5 (dk_at dksX0_meanSteps_0 14 rfl rfl)
theorem dX0_meanSteps_15 : decode cX0_meanSteps 15 = .ok (.ireturn, 1) := dk_172 (dk_at dksX0_meanSteps_0 15 rfl rfl)
theorem dX0_meanSteps_16 : decode cX0_meanSteps 16 = .ok (.iconst 0, 1) := dk_3 (dk_at dksX0_meanSteps_0 16 rfl rfl)
theorem dX0_meanSteps_17 : decode cX0_meanSteps 17 = .ok (.ireturn, 1) := dk_172 (dk_at dksX0_meanSteps_0 17 rfl rfl)
abbrev cX0_movingShare : ByteArray := method_23_code
def yX0_movingShare : MethodName := ⟨RX0, "movingShare", "(LDanceNotation;I[D)I"⟩
def dkwX0_movingShare_0 : List UInt8 := [44, 3, 42, 27, 182, 0, 90, 141, 82, 167, 0, 12, 78, 4, 172, 78, 5, 172, 78, 6, 172, 3, 172]
abbrev dktX0_movingShare_0 : List UInt8 := dkwX0_movingShare_0 ++ []
theorem dksX0_movingShare_0 : cX0_movingShare.data.toList.drop 0 = dktX0_movingShare_0 := by decide +kernel
theorem dX0_movingShare_0 : decode cX0_movingShare 0 = .ok (.aload_n 2, 1) := dk_44 (dk_at dksX0_movingShare_0 0 rfl rfl)
theorem dX0_movingShare_1 : decode cX0_movingShare 1 = .ok (.iconst 0, 1) := dk_3 (dk_at dksX0_movingShare_0 1 rfl rfl)
theorem dX0_movingShare_2 : decode cX0_movingShare 2 = .ok (.aload_n 0, 1) := dk_42 (dk_at dksX0_movingShare_0 2 rfl rfl)
theorem dX0_movingShare_3 : decode cX0_movingShare 3 = .ok (.iload_n 1, 1) := dk_27 (dk_at dksX0_movingShare_0 3 rfl rfl)
theorem dX0_movingShare_4 : decode cX0_movingShare 4 = .ok (.invokevirtual 90, 3) := dk_182 0 90 (dk_at dksX0_movingShare_0 4 rfl rfl)
theorem dX0_movingShare_7 : decode cX0_movingShare 7 = .ok (.f2d, 1) := dk_141 (dk_at dksX0_movingShare_0 7 rfl rfl)
theorem dX0_movingShare_8 : decode cX0_movingShare 8 = .ok (.dastore, 1) := dk_82 (dk_at dksX0_movingShare_0 8 rfl rfl)
theorem dX0_movingShare_9 : decode cX0_movingShare 9 = .ok (.goto 12, 3) := dk_167 0 12 (dk_at dksX0_movingShare_0 9 rfl rfl)
theorem dX0_movingShare_12 : decode cX0_movingShare 12 = .ok (.astore_n 3, 1) := dk_78 (dk_at dksX0_movingShare_0 12 rfl rfl)
theorem dX0_movingShare_13 : decode cX0_movingShare 13 = .ok (.iconst 1, 1) := dk_4 (dk_at dksX0_movingShare_0 13 rfl rfl)
theorem dX0_movingShare_14 : decode cX0_movingShare 14 = .ok (.ireturn, 1) := dk_172 (dk_at dksX0_movingShare_0 14 rfl rfl)
theorem dX0_movingShare_15 : decode cX0_movingShare 15 = .ok (.astore_n 3, 1) := dk_78 (dk_at dksX0_movingShare_0 15 rfl rfl)
theorem dX0_movingShare_16 : decode cX0_movingShare 16 = .ok (.iconst 2, 1) := dk_5 (dk_at dksX0_movingShare_0 16 rfl rfl)
theorem dX0_movingShare_17 : decode cX0_movingShare 17 = .ok (.ireturn, 1) := dk_172 (dk_at dksX0_movingShare_0 17 rfl rfl)
theorem dX0_movingShare_18 : decode cX0_movingShare 18 = .ok (.astore_n 3, 1) := dk_78 (dk_at dksX0_movingShare_0 18 rfl rfl)
theorem dX0_movingShare_19 : decode cX0_movingShare 19 = .ok (.iconst 3, 1) := dk_6 (dk_at dksX0_movingShare_0 19 rfl rfl)
theorem dX0_movingShare_20 : decode cX0_movingShare 20 = .ok (.ireturn, 1) := dk_172 (dk_at dksX0_movingShare_0 20 rfl rfl)
theorem dX0_movingShare_21 : decode cX0_movingShare 21 = .ok (.iconst 0, 1) := dk_3 (dk_at dksX0_movingShare_0 21 rfl rfl)
theorem dX0_movingShare_22 : decode cX0_movingShare 22 = .ok (.ireturn, 1) := dk_172 (dk_at dksX0_movingShare_0 22 rfl rfl)
abbrev cX0_setFormation : ByteArray := method_24_code
def yX0_setFormation : MethodName := ⟨RX0, "setFormation", "(LDanceNotation;III[J)I"⟩
def dkwX0_setFormation_1 : List UInt8 := [172]
abbrev dktX0_setFormation_1 : List UInt8 := dkwX0_setFormation_1 ++ []
def dkwX0_setFormation_0 : List UInt8 := [25, 4, 3, 42, 27, 28, 29, 182, 0, 94, 133, 80, 167, 0, 11, 58, 5, 4, 172, 58, 5, 5, 172, 3]
abbrev dktX0_setFormation_0 : List UInt8 := dkwX0_setFormation_0 ++ dktX0_setFormation_1
theorem dksX0_setFormation_0 : cX0_setFormation.data.toList.drop 0 = dktX0_setFormation_0 := by decide +kernel
theorem dksX0_setFormation_1 : cX0_setFormation.data.toList.drop 24 = dktX0_setFormation_1 := dk_seg dksX0_setFormation_0 24 rfl rfl
theorem dX0_setFormation_0 : decode cX0_setFormation 0 = .ok (.aload 4, 2) := dk_25 4 (dk_at dksX0_setFormation_0 0 rfl rfl)
theorem dX0_setFormation_2 : decode cX0_setFormation 2 = .ok (.iconst 0, 1) := dk_3 (dk_at dksX0_setFormation_0 2 rfl rfl)
theorem dX0_setFormation_3 : decode cX0_setFormation 3 = .ok (.aload_n 0, 1) := dk_42 (dk_at dksX0_setFormation_0 3 rfl rfl)
theorem dX0_setFormation_4 : decode cX0_setFormation 4 = .ok (.iload_n 1, 1) := dk_27 (dk_at dksX0_setFormation_0 4 rfl rfl)
theorem dX0_setFormation_5 : decode cX0_setFormation 5 = .ok (.iload_n 2, 1) := dk_28 (dk_at dksX0_setFormation_0 5 rfl rfl)
theorem dX0_setFormation_6 : decode cX0_setFormation 6 = .ok (.iload_n 3, 1) := dk_29 (dk_at dksX0_setFormation_0 6 rfl rfl)
theorem dX0_setFormation_7 : decode cX0_setFormation 7 = .ok (.invokevirtual 94, 3) := dk_182 0 94 (dk_at dksX0_setFormation_0 7 rfl rfl)
theorem dX0_setFormation_10 : decode cX0_setFormation 10 = .ok (.i2l, 1) := dk_133 (dk_at dksX0_setFormation_0 10 rfl rfl)
theorem dX0_setFormation_11 : decode cX0_setFormation 11 = .ok (.lastore, 1) := dk_80 (dk_at dksX0_setFormation_0 11 rfl rfl)
theorem dX0_setFormation_12 : decode cX0_setFormation 12 = .ok (.goto 11, 3) := dk_167 0 11 (dk_at dksX0_setFormation_0 12 rfl rfl)
theorem dX0_setFormation_15 : decode cX0_setFormation 15 = .ok (.astore 5, 2) := dk_58 5 (dk_at dksX0_setFormation_0 15 rfl rfl)
theorem dX0_setFormation_17 : decode cX0_setFormation 17 = .ok (.iconst 1, 1) := dk_4 (dk_at dksX0_setFormation_0 17 rfl rfl)
theorem dX0_setFormation_18 : decode cX0_setFormation 18 = .ok (.ireturn, 1) := dk_172 (dk_at dksX0_setFormation_0 18 rfl rfl)
theorem dX0_setFormation_19 : decode cX0_setFormation 19 = .ok (.astore 5, 2) := dk_58 5 (dk_at dksX0_setFormation_0 19 rfl rfl)
theorem dX0_setFormation_21 : decode cX0_setFormation 21 = .ok (.iconst 2, 1) := dk_5 (dk_at dksX0_setFormation_0 21 rfl rfl)
theorem dX0_setFormation_22 : decode cX0_setFormation 22 = .ok (.ireturn, 1) := dk_172 (dk_at dksX0_setFormation_0 22 rfl rfl)
theorem dX0_setFormation_23 : decode cX0_setFormation 23 = .ok (.iconst 0, 1) := dk_3 (dk_at dksX0_setFormation_0 23 rfl rfl)
theorem dX0_setFormation_24 : decode cX0_setFormation 24 = .ok (.ireturn, 1) := dk_172 (dk_at dksX0_setFormation_1 0 rfl rfl)
abbrev cX0_distance : ByteArray := method_25_code
def yX0_distance : MethodName := ⟨RX0, "distance", "(LDanceNotation;II[J)I"⟩
def dkwX0_distance_1 : List UInt8 := [172, 3, 172]
abbrev dktX0_distance_1 : List UInt8 := dkwX0_distance_1 ++ []
def dkwX0_distance_0 : List UInt8 := [45, 3, 42, 27, 28, 182, 0, 98, 133, 80, 167, 0, 15, 58, 4, 4, 172, 58, 4, 5, 172, 58, 4, 6]
abbrev dktX0_distance_0 : List UInt8 := dkwX0_distance_0 ++ dktX0_distance_1
theorem dksX0_distance_0 : cX0_distance.data.toList.drop 0 = dktX0_distance_0 := by decide +kernel
theorem dksX0_distance_1 : cX0_distance.data.toList.drop 24 = dktX0_distance_1 := dk_seg dksX0_distance_0 24 rfl rfl
theorem dX0_distance_0 : decode cX0_distance 0 = .ok (.aload_n 3, 1) := dk_45 (dk_at dksX0_distance_0 0 rfl rfl)
theorem dX0_distance_1 : decode cX0_distance 1 = .ok (.iconst 0, 1) := dk_3 (dk_at dksX0_distance_0 1 rfl rfl)
theorem dX0_distance_2 : decode cX0_distance 2 = .ok (.aload_n 0, 1) := dk_42 (dk_at dksX0_distance_0 2 rfl rfl)
theorem dX0_distance_3 : decode cX0_distance 3 = .ok (.iload_n 1, 1) := dk_27 (dk_at dksX0_distance_0 3 rfl rfl)
theorem dX0_distance_4 : decode cX0_distance 4 = .ok (.iload_n 2, 1) := dk_28 (dk_at dksX0_distance_0 4 rfl rfl)
theorem dX0_distance_5 : decode cX0_distance 5 = .ok (.invokevirtual 98, 3) := dk_182 0 98 (dk_at dksX0_distance_0 5 rfl rfl)
theorem dX0_distance_8 : decode cX0_distance 8 = .ok (.i2l, 1) := dk_133 (dk_at dksX0_distance_0 8 rfl rfl)
theorem dX0_distance_9 : decode cX0_distance 9 = .ok (.lastore, 1) := dk_80 (dk_at dksX0_distance_0 9 rfl rfl)
theorem dX0_distance_10 : decode cX0_distance 10 = .ok (.goto 15, 3) := dk_167 0 15 (dk_at dksX0_distance_0 10 rfl rfl)
theorem dX0_distance_13 : decode cX0_distance 13 = .ok (.astore 4, 2) := dk_58 4 (dk_at dksX0_distance_0 13 rfl rfl)
theorem dX0_distance_15 : decode cX0_distance 15 = .ok (.iconst 1, 1) := dk_4 (dk_at dksX0_distance_0 15 rfl rfl)
theorem dX0_distance_16 : decode cX0_distance 16 = .ok (.ireturn, 1) := dk_172 (dk_at dksX0_distance_0 16 rfl rfl)
theorem dX0_distance_17 : decode cX0_distance 17 = .ok (.astore 4, 2) := dk_58 4 (dk_at dksX0_distance_0 17 rfl rfl)
theorem dX0_distance_19 : decode cX0_distance 19 = .ok (.iconst 2, 1) := dk_5 (dk_at dksX0_distance_0 19 rfl rfl)
theorem dX0_distance_20 : decode cX0_distance 20 = .ok (.ireturn, 1) := dk_172 (dk_at dksX0_distance_0 20 rfl rfl)
theorem dX0_distance_21 : decode cX0_distance 21 = .ok (.astore 4, 2) := dk_58 4 (dk_at dksX0_distance_0 21 rfl rfl)
theorem dX0_distance_23 : decode cX0_distance 23 = .ok (.iconst 3, 1) := dk_6 (dk_at dksX0_distance_0 23 rfl rfl)
theorem dX0_distance_24 : decode cX0_distance 24 = .ok (.ireturn, 1) := dk_172 (dk_at dksX0_distance_1 0 rfl rfl)
theorem dX0_distance_25 : decode cX0_distance 25 = .ok (.iconst 0, 1) := dk_3 (dk_at dksX0_distance_1 1 rfl rfl)
theorem dX0_distance_26 : decode cX0_distance 26 = .ok (.ireturn, 1) := dk_172 (dk_at dksX0_distance_1 2 rfl rfl)
abbrev cX0_plan : ByteArray := method_26_code
def yX0_plan : MethodName := ⟨RX0, "plan", "(LDanceNotation;I[J)I"⟩
def dkwX0_plan_0 : List UInt8 := [44, 3, 42, 27, 182, 0, 101, 133, 80, 167, 0, 9, 78, 4, 172, 78, 5, 172, 3, 172]
abbrev dktX0_plan_0 : List UInt8 := dkwX0_plan_0 ++ []
theorem dksX0_plan_0 : cX0_plan.data.toList.drop 0 = dktX0_plan_0 := by decide +kernel
theorem dX0_plan_0 : decode cX0_plan 0 = .ok (.aload_n 2, 1) := dk_44 (dk_at dksX0_plan_0 0 rfl rfl)
theorem dX0_plan_1 : decode cX0_plan 1 = .ok (.iconst 0, 1) := dk_3 (dk_at dksX0_plan_0 1 rfl rfl)
theorem dX0_plan_2 : decode cX0_plan 2 = .ok (.aload_n 0, 1) := dk_42 (dk_at dksX0_plan_0 2 rfl rfl)
theorem dX0_plan_3 : decode cX0_plan 3 = .ok (.iload_n 1, 1) := dk_27 (dk_at dksX0_plan_0 3 rfl rfl)
theorem dX0_plan_4 : decode cX0_plan 4 = .ok (.invokevirtual 101, 3) := dk_182 0 101 (dk_at dksX0_plan_0 4 rfl rfl)
theorem dX0_plan_7 : decode cX0_plan 7 = .ok (.i2l, 1) := dk_133 (dk_at dksX0_plan_0 7 rfl rfl)
theorem dX0_plan_8 : decode cX0_plan 8 = .ok (.lastore, 1) := dk_80 (dk_at dksX0_plan_0 8 rfl rfl)
theorem dX0_plan_9 : decode cX0_plan 9 = .ok (.goto 9, 3) := dk_167 0 9 (dk_at dksX0_plan_0 9 rfl rfl)
theorem dX0_plan_12 : decode cX0_plan 12 = .ok (.astore_n 3, 1) := dk_78 (dk_at dksX0_plan_0 12 rfl rfl)
theorem dX0_plan_13 : decode cX0_plan 13 = .ok (.iconst 1, 1) := dk_4 (dk_at dksX0_plan_0 13 rfl rfl)
theorem dX0_plan_14 : decode cX0_plan 14 = .ok (.ireturn, 1) := dk_172 (dk_at dksX0_plan_0 14 rfl rfl)
theorem dX0_plan_15 : decode cX0_plan 15 = .ok (.astore_n 3, 1) := dk_78 (dk_at dksX0_plan_0 15 rfl rfl)
theorem dX0_plan_16 : decode cX0_plan 16 = .ok (.iconst 2, 1) := dk_5 (dk_at dksX0_plan_0 16 rfl rfl)
theorem dX0_plan_17 : decode cX0_plan 17 = .ok (.ireturn, 1) := dk_172 (dk_at dksX0_plan_0 17 rfl rfl)
theorem dX0_plan_18 : decode cX0_plan 18 = .ok (.iconst 0, 1) := dk_3 (dk_at dksX0_plan_0 18 rfl rfl)
theorem dX0_plan_19 : decode cX0_plan 19 = .ok (.ireturn, 1) := dk_172 (dk_at dksX0_plan_0 19 rfl rfl)
abbrev cX0_undo : ByteArray := method_27_code
def yX0_undo : MethodName := ⟨RX0, "undo", "(LDanceNotation;[J)I"⟩
def dkwX0_undo_0 : List UInt8 := [43, 3, 42, 182, 0, 104, 133, 80, 167, 0, 6, 77, 4, 172, 3, 172]
abbrev dktX0_undo_0 : List UInt8 := dkwX0_undo_0 ++ []
theorem dksX0_undo_0 : cX0_undo.data.toList.drop 0 = dktX0_undo_0 := by decide +kernel
theorem dX0_undo_0 : decode cX0_undo 0 = .ok (.aload_n 1, 1) := dk_43 (dk_at dksX0_undo_0 0 rfl rfl)
theorem dX0_undo_1 : decode cX0_undo 1 = .ok (.iconst 0, 1) := dk_3 (dk_at dksX0_undo_0 1 rfl rfl)
theorem dX0_undo_2 : decode cX0_undo 2 = .ok (.aload_n 0, 1) := dk_42 (dk_at dksX0_undo_0 2 rfl rfl)
theorem dX0_undo_3 : decode cX0_undo 3 = .ok (.invokevirtual 104, 3) := dk_182 0 104 (dk_at dksX0_undo_0 3 rfl rfl)
theorem dX0_undo_6 : decode cX0_undo 6 = .ok (.i2l, 1) := dk_133 (dk_at dksX0_undo_0 6 rfl rfl)
theorem dX0_undo_7 : decode cX0_undo 7 = .ok (.lastore, 1) := dk_80 (dk_at dksX0_undo_0 7 rfl rfl)
theorem dX0_undo_8 : decode cX0_undo 8 = .ok (.goto 6, 3) := dk_167 0 6 (dk_at dksX0_undo_0 8 rfl rfl)
theorem dX0_undo_11 : decode cX0_undo 11 = .ok (.astore_n 2, 1) := dk_77 (dk_at dksX0_undo_0 11 rfl rfl)
theorem dX0_undo_12 : decode cX0_undo 12 = .ok (.iconst 1, 1) := dk_4 (dk_at dksX0_undo_0 12 rfl rfl)
theorem dX0_undo_13 : decode cX0_undo 13 = .ok (.ireturn, 1) := dk_172 (dk_at dksX0_undo_0 13 rfl rfl)
theorem dX0_undo_14 : decode cX0_undo 14 = .ok (.iconst 0, 1) := dk_3 (dk_at dksX0_undo_0 14 rfl rfl)
theorem dX0_undo_15 : decode cX0_undo 15 = .ok (.ireturn, 1) := dk_172 (dk_at dksX0_undo_0 15 rfl rfl)
abbrev cX0_restore : ByteArray := method_28_code
def yX0_restore : MethodName := ⟨RX0, "restore", "(LDanceNotation;[J)I"⟩
def dkwX0_restore_0 : List UInt8 := [43, 3, 42, 182, 0, 107, 133, 80, 167, 0, 6, 77, 4, 172, 3, 172]
abbrev dktX0_restore_0 : List UInt8 := dkwX0_restore_0 ++ []
theorem dksX0_restore_0 : cX0_restore.data.toList.drop 0 = dktX0_restore_0 := by decide +kernel
theorem dX0_restore_0 : decode cX0_restore 0 = .ok (.aload_n 1, 1) := dk_43 (dk_at dksX0_restore_0 0 rfl rfl)
theorem dX0_restore_1 : decode cX0_restore 1 = .ok (.iconst 0, 1) := dk_3 (dk_at dksX0_restore_0 1 rfl rfl)
theorem dX0_restore_2 : decode cX0_restore 2 = .ok (.aload_n 0, 1) := dk_42 (dk_at dksX0_restore_0 2 rfl rfl)
theorem dX0_restore_3 : decode cX0_restore 3 = .ok (.invokevirtual 107, 3) := dk_182 0 107 (dk_at dksX0_restore_0 3 rfl rfl)
theorem dX0_restore_6 : decode cX0_restore 6 = .ok (.i2l, 1) := dk_133 (dk_at dksX0_restore_0 6 rfl rfl)
theorem dX0_restore_7 : decode cX0_restore 7 = .ok (.lastore, 1) := dk_80 (dk_at dksX0_restore_0 7 rfl rfl)
theorem dX0_restore_8 : decode cX0_restore 8 = .ok (.goto 6, 3) := dk_167 0 6 (dk_at dksX0_restore_0 8 rfl rfl)
theorem dX0_restore_11 : decode cX0_restore 11 = .ok (.astore_n 2, 1) := dk_77 (dk_at dksX0_restore_0 11 rfl rfl)
theorem dX0_restore_12 : decode cX0_restore 12 = .ok (.iconst 1, 1) := dk_4 (dk_at dksX0_restore_0 12 rfl rfl)
theorem dX0_restore_13 : decode cX0_restore 13 = .ok (.ireturn, 1) := dk_172 (dk_at dksX0_restore_0 13 rfl rfl)
theorem dX0_restore_14 : decode cX0_restore 14 = .ok (.iconst 0, 1) := dk_3 (dk_at dksX0_restore_0 14 rfl rfl)
theorem dX0_restore_15 : decode cX0_restore 15 = .ok (.ireturn, 1) := dk_172 (dk_at dksX0_restore_0 15 rfl rfl)
theorem q117 : (Jvm.Cond.initialized "DanceNotationLaw") ∈ lw_all := lw_g (lw_at lw_m1 0 rfl) rfl
theorem q177 : (Jvm.Cond.classLink "DanceNotationLaw" (8 : Nat) "DanceNotation") ∈ lw_all := lw_g (lw_at lw_m1 60 rfl) rfl
theorem q179 : (Jvm.Cond.methodLink "DanceNotationLaw" (110 : Nat) ({ cls := "DanceNotation", name := "<init>", desc := "()V" } : Jvm.MethodName)) ∈ lw_all := lw_g (lw_at lw_m1 62 rfl) rfl
theorem q347 : (Jvm.Cond.methodLink "DanceNotationLaw" (200 : Nat) ({ cls := "DanceNotation", name := "reason", desc := "()I" } : Jvm.MethodName)) ∈ lw_all := lw_g (lw_at lw_m1 230 rfl) rfl
theorem q351 : (Jvm.Cond.methodLink "DanceNotationLaw" (207 : Nat) ({ cls := "DanceNotation", name := "isReplayed", desc := "()Z" } : Jvm.MethodName)) ∈ lw_all := lw_g (lw_at lw_m1 234 rfl) rfl
theorem q1331 : (Jvm.Cond.methodLink "DanceNotationLaw" (212 : Nat) ({ cls := "DanceNotation", name := "snapshot", desc := "()I" } : Jvm.MethodName)) ∈ lw_all := lw_g (lw_at lw_m6 14 rfl) rfl
theorem q1399 : (Jvm.Cond.methodLink "DanceNotationLaw" (114 : Nat) ({ cls := "DanceNotationLaw", name := "stage", desc := "(LDanceNotation;II[J)I" } : Jvm.MethodName)) ∈ lw_all := lw_g (lw_at lw_m6 82 rfl) rfl
theorem q1400 : (Jvm.Cond.static ({ cls := "DanceNotationLaw", name := "stage", desc := "(LDanceNotation;II[J)I" } : Jvm.MethodName)) ∈ lw_all := lw_g (lw_at lw_m6 83 rfl) rfl
theorem q1401 : (Jvm.Cond.codeWith ({ cls := "DanceNotationLaw", name := "stage", desc := "(LDanceNotation;II[J)I" } : Jvm.MethodName) method_3_code (5 : Nat) (Option.some Jvm.ClassFile.FieldType.int) [((0 : Nat), (10 : Nat), (13 : Nat), (13 : Nat))]) ∈ lw_all := lw_g (lw_at lw_m6 84 rfl) rfl
theorem q1402 : (Jvm.Cond.classLink "DanceNotationLaw" (13 : Nat) "java/lang/IllegalArgumentException") ∈ lw_all := lw_g (lw_at lw_m6 85 rfl) rfl
theorem q1403 : (Jvm.Cond.methodLink "DanceNotationLaw" (7 : Nat) ({ cls := "DanceNotation", name := "stage", desc := "(II)I" } : Jvm.MethodName)) ∈ lw_all := lw_g (lw_at lw_m6 86 rfl) rfl
theorem q1435 : (Jvm.Cond.methodLink "DanceNotationLaw" (123 : Nat) ({ cls := "DanceNotationLaw", name := "place", desc := "(LDanceNotation;II[J)I" } : Jvm.MethodName)) ∈ lw_all := lw_g (lw_at lw_m6 118 rfl) rfl
theorem q1436 : (Jvm.Cond.static ({ cls := "DanceNotationLaw", name := "place", desc := "(LDanceNotation;II[J)I" } : Jvm.MethodName)) ∈ lw_all := lw_g (lw_at lw_m6 119 rfl) rfl
theorem q1437 : (Jvm.Cond.codeWith ({ cls := "DanceNotationLaw", name := "place", desc := "(LDanceNotation;II[J)I" } : Jvm.MethodName) method_4_code (5 : Nat) (Option.some Jvm.ClassFile.FieldType.int) [((0 : Nat), (10 : Nat), (13 : Nat), (18 : Nat)), ((0 : Nat), (10 : Nat), (17 : Nat), (13 : Nat))]) ∈ lw_all := lw_g (lw_at lw_m6 120 rfl) rfl
theorem q1438 : (Jvm.Cond.classLink "DanceNotationLaw" (18 : Nat) "java/lang/IndexOutOfBoundsException") ∈ lw_all := lw_g (lw_at lw_m6 121 rfl) rfl
theorem q1454 : (Jvm.Cond.methodLink "DanceNotationLaw" (15 : Nat) ({ cls := "DanceNotation", name := "place", desc := "(II)I" } : Jvm.MethodName)) ∈ lw_all := lw_g (lw_at lw_m6 137 rfl) rfl
theorem q1552 : (Jvm.Cond.methodLink "DanceNotationLaw" (126 : Nat) ({ cls := "DanceNotationLaw", name := "append", desc := "(LDanceNotation;C[J)I" } : Jvm.MethodName)) ∈ lw_all := lw_g (lw_at lw_m6 235 rfl) rfl
theorem q1553 : (Jvm.Cond.static ({ cls := "DanceNotationLaw", name := "append", desc := "(LDanceNotation;C[J)I" } : Jvm.MethodName)) ∈ lw_all := lw_g (lw_at lw_m6 236 rfl) rfl
theorem q1554 : (Jvm.Cond.codeWith ({ cls := "DanceNotationLaw", name := "append", desc := "(LDanceNotation;C[J)I" } : Jvm.MethodName) method_5_code (4 : Nat) (Option.some Jvm.ClassFile.FieldType.int) [((0 : Nat), (9 : Nat), (12 : Nat), (13 : Nat)), ((0 : Nat), (9 : Nat), (15 : Nat), (24 : Nat))]) ∈ lw_all := lw_g (lw_at lw_m6 237 rfl) rfl
theorem q1555 : (Jvm.Cond.classLink "DanceNotationLaw" (24 : Nat) "java/lang/UnsupportedOperationException") ∈ lw_all := lw_g (lw_at lw_m6 238 rfl) rfl
theorem q1556 : (Jvm.Cond.methodLink "DanceNotationLaw" (20 : Nat) ({ cls := "DanceNotation", name := "append", desc := "(C)I" } : Jvm.MethodName)) ∈ lw_all := lw_g (lw_at lw_m6 239 rfl) rfl
theorem q1582 : (Jvm.Cond.methodLink "DanceNotationLaw" (130 : Nat) ({ cls := "DanceNotationLaw", name := "read", desc := "(LDanceNotation;[J)I" } : Jvm.MethodName)) ∈ lw_all := lw_g (lw_at lw_m7 25 rfl) rfl
theorem q1583 : (Jvm.Cond.static ({ cls := "DanceNotationLaw", name := "read", desc := "(LDanceNotation;[J)I" } : Jvm.MethodName)) ∈ lw_all := lw_g (lw_at lw_m7 26 rfl) rfl
theorem q1584 : (Jvm.Cond.codeWith ({ cls := "DanceNotationLaw", name := "read", desc := "(LDanceNotation;[J)I" } : Jvm.MethodName) method_6_code (3 : Nat) (Option.some Jvm.ClassFile.FieldType.int) [((0 : Nat), (8 : Nat), (11 : Nat), (13 : Nat)), ((0 : Nat), (8 : Nat), (14 : Nat), (24 : Nat))]) ∈ lw_all := lw_g (lw_at lw_m7 27 rfl) rfl
theorem q1585 : (Jvm.Cond.methodLink "DanceNotationLaw" (26 : Nat) ({ cls := "DanceNotation", name := "read", desc := "()I" } : Jvm.MethodName)) ∈ lw_all := lw_g (lw_at lw_m7 28 rfl) rfl
theorem q2097 : (Jvm.Cond.methodLink "DanceNotationLaw" (134 : Nat) ({ cls := "DanceNotationLaw", name := "errorPosition", desc := "(LDanceNotation;[J)I" } : Jvm.MethodName)) ∈ lw_all := lw_g (lw_at lw_m9 60 rfl) rfl
theorem q2098 : (Jvm.Cond.static ({ cls := "DanceNotationLaw", name := "errorPosition", desc := "(LDanceNotation;[J)I" } : Jvm.MethodName)) ∈ lw_all := lw_g (lw_at lw_m9 61 rfl) rfl
theorem q2099 : (Jvm.Cond.codeWith ({ cls := "DanceNotationLaw", name := "errorPosition", desc := "(LDanceNotation;[J)I" } : Jvm.MethodName) method_7_code (3 : Nat) (Option.some Jvm.ClassFile.FieldType.int) [((0 : Nat), (8 : Nat), (11 : Nat), (33 : Nat))]) ∈ lw_all := lw_g (lw_at lw_m9 62 rfl) rfl
theorem q2100 : (Jvm.Cond.classLink "DanceNotationLaw" (33 : Nat) "java/util/NoSuchElementException") ∈ lw_all := lw_g (lw_at lw_m9 63 rfl) rfl
theorem q2101 : (Jvm.Cond.methodLink "DanceNotationLaw" (30 : Nat) ({ cls := "DanceNotation", name := "errorPosition", desc := "()I" } : Jvm.MethodName)) ∈ lw_all := lw_g (lw_at lw_m9 64 rfl) rfl
theorem q2110 : (Jvm.Cond.methodLink "DanceNotationLaw" (137 : Nat) ({ cls := "DanceNotationLaw", name := "refusedDancer", desc := "(LDanceNotation;[J)I" } : Jvm.MethodName)) ∈ lw_all := lw_g (lw_at lw_m9 73 rfl) rfl
theorem q2111 : (Jvm.Cond.static ({ cls := "DanceNotationLaw", name := "refusedDancer", desc := "(LDanceNotation;[J)I" } : Jvm.MethodName)) ∈ lw_all := lw_g (lw_at lw_m9 74 rfl) rfl
theorem q2112 : (Jvm.Cond.codeWith ({ cls := "DanceNotationLaw", name := "refusedDancer", desc := "(LDanceNotation;[J)I" } : Jvm.MethodName) method_8_code (3 : Nat) (Option.some Jvm.ClassFile.FieldType.int) [((0 : Nat), (8 : Nat), (11 : Nat), (33 : Nat))]) ∈ lw_all := lw_g (lw_at lw_m9 75 rfl) rfl
theorem q2113 : (Jvm.Cond.methodLink "DanceNotationLaw" (35 : Nat) ({ cls := "DanceNotation", name := "refusedDancer", desc := "()I" } : Jvm.MethodName)) ∈ lw_all := lw_g (lw_at lw_m9 76 rfl) rfl
theorem q2117 : (Jvm.Cond.methodLink "DanceNotationLaw" (140 : Nat) ({ cls := "DanceNotationLaw", name := "write", desc := "(LDanceNotation;[J)I" } : Jvm.MethodName)) ∈ lw_all := lw_g (lw_at lw_m9 80 rfl) rfl
theorem q2118 : (Jvm.Cond.static ({ cls := "DanceNotationLaw", name := "write", desc := "(LDanceNotation;[J)I" } : Jvm.MethodName)) ∈ lw_all := lw_g (lw_at lw_m9 81 rfl) rfl
theorem q2119 : (Jvm.Cond.codeWith ({ cls := "DanceNotationLaw", name := "write", desc := "(LDanceNotation;[J)I" } : Jvm.MethodName) method_9_code (3 : Nat) (Option.some Jvm.ClassFile.FieldType.int) [((0 : Nat), (8 : Nat), (11 : Nat), (41 : Nat))]) ∈ lw_all := lw_g (lw_at lw_m9 82 rfl) rfl
theorem q2120 : (Jvm.Cond.classLink "DanceNotationLaw" (41 : Nat) "java/lang/IllegalStateException") ∈ lw_all := lw_g (lw_at lw_m9 83 rfl) rfl
theorem q2121 : (Jvm.Cond.methodLink "DanceNotationLaw" (38 : Nat) ({ cls := "DanceNotation", name := "write", desc := "()I" } : Jvm.MethodName)) ∈ lw_all := lw_g (lw_at lw_m9 84 rfl) rfl
theorem q2140 : (Jvm.Cond.methodLink "DanceNotationLaw" (143 : Nat) ({ cls := "DanceNotationLaw", name := "output", desc := "(LDanceNotation;I[J)I" } : Jvm.MethodName)) ∈ lw_all := lw_g (lw_at lw_m9 103 rfl) rfl
theorem q2141 : (Jvm.Cond.static ({ cls := "DanceNotationLaw", name := "output", desc := "(LDanceNotation;I[J)I" } : Jvm.MethodName)) ∈ lw_all := lw_g (lw_at lw_m9 104 rfl) rfl
theorem q2142 : (Jvm.Cond.codeWith ({ cls := "DanceNotationLaw", name := "output", desc := "(LDanceNotation;I[J)I" } : Jvm.MethodName) method_10_code (4 : Nat) (Option.some Jvm.ClassFile.FieldType.int) [((0 : Nat), (9 : Nat), (12 : Nat), (18 : Nat))]) ∈ lw_all := lw_g (lw_at lw_m9 105 rfl) rfl
theorem q2143 : (Jvm.Cond.methodLink "DanceNotationLaw" (43 : Nat) ({ cls := "DanceNotation", name := "output", desc := "(I)C" } : Jvm.MethodName)) ∈ lw_all := lw_g (lw_at lw_m9 106 rfl) rfl
theorem q2148 : (Jvm.Cond.methodLink "DanceNotationLaw" (147 : Nat) ({ cls := "DanceNotationLaw", name := "mirror", desc := "(LDanceNotation;[J)I" } : Jvm.MethodName)) ∈ lw_all := lw_g (lw_at lw_m9 111 rfl) rfl
theorem q2149 : (Jvm.Cond.static ({ cls := "DanceNotationLaw", name := "mirror", desc := "(LDanceNotation;[J)I" } : Jvm.MethodName)) ∈ lw_all := lw_g (lw_at lw_m9 112 rfl) rfl
theorem q2150 : (Jvm.Cond.codeWith ({ cls := "DanceNotationLaw", name := "mirror", desc := "(LDanceNotation;[J)I" } : Jvm.MethodName) method_11_code (3 : Nat) (Option.some Jvm.ClassFile.FieldType.int) [((0 : Nat), (8 : Nat), (11 : Nat), (41 : Nat))]) ∈ lw_all := lw_g (lw_at lw_m9 113 rfl) rfl
theorem q2151 : (Jvm.Cond.methodLink "DanceNotationLaw" (47 : Nat) ({ cls := "DanceNotation", name := "mirror", desc := "()I" } : Jvm.MethodName)) ∈ lw_all := lw_g (lw_at lw_m9 114 rfl) rfl
theorem q2182 : (Jvm.Cond.methodLink "DanceNotationLaw" (150 : Nat) ({ cls := "DanceNotationLaw", name := "reverse", desc := "(LDanceNotation;[J)I" } : Jvm.MethodName)) ∈ lw_all := lw_g (lw_at lw_m9 145 rfl) rfl
theorem q2183 : (Jvm.Cond.static ({ cls := "DanceNotationLaw", name := "reverse", desc := "(LDanceNotation;[J)I" } : Jvm.MethodName)) ∈ lw_all := lw_g (lw_at lw_m9 146 rfl) rfl
theorem q2184 : (Jvm.Cond.codeWith ({ cls := "DanceNotationLaw", name := "reverse", desc := "(LDanceNotation;[J)I" } : Jvm.MethodName) method_12_code (3 : Nat) (Option.some Jvm.ClassFile.FieldType.int) [((0 : Nat), (8 : Nat), (11 : Nat), (41 : Nat))]) ∈ lw_all := lw_g (lw_at lw_m9 147 rfl) rfl
theorem q2185 : (Jvm.Cond.methodLink "DanceNotationLaw" (50 : Nat) ({ cls := "DanceNotation", name := "reverse", desc := "()I" } : Jvm.MethodName)) ∈ lw_all := lw_g (lw_at lw_m9 148 rfl) rfl
theorem q2191 : (Jvm.Cond.methodLink "DanceNotationLaw" (153 : Nat) ({ cls := "DanceNotationLaw", name := "repeat", desc := "(LDanceNotation;I[J)I" } : Jvm.MethodName)) ∈ lw_all := lw_g (lw_at lw_m9 154 rfl) rfl
theorem q2192 : (Jvm.Cond.static ({ cls := "DanceNotationLaw", name := "repeat", desc := "(LDanceNotation;I[J)I" } : Jvm.MethodName)) ∈ lw_all := lw_g (lw_at lw_m9 155 rfl) rfl
theorem q2193 : (Jvm.Cond.codeWith ({ cls := "DanceNotationLaw", name := "repeat", desc := "(LDanceNotation;I[J)I" } : Jvm.MethodName) method_13_code (4 : Nat) (Option.some Jvm.ClassFile.FieldType.int) [((0 : Nat), (9 : Nat), (12 : Nat), (13 : Nat)), ((0 : Nat), (9 : Nat), (15 : Nat), (41 : Nat))]) ∈ lw_all := lw_g (lw_at lw_m9 156 rfl) rfl
theorem q2194 : (Jvm.Cond.methodLink "DanceNotationLaw" (53 : Nat) ({ cls := "DanceNotation", name := "repeat", desc := "(I)I" } : Jvm.MethodName)) ∈ lw_all := lw_g (lw_at lw_m9 157 rfl) rfl
theorem q2201 : (Jvm.Cond.methodLink "DanceNotationLaw" (156 : Nat) ({ cls := "DanceNotationLaw", name := "exchange", desc := "(LDanceNotation;II[J)I" } : Jvm.MethodName)) ∈ lw_all := lw_g (lw_at lw_m9 164 rfl) rfl
theorem q2202 : (Jvm.Cond.static ({ cls := "DanceNotationLaw", name := "exchange", desc := "(LDanceNotation;II[J)I" } : Jvm.MethodName)) ∈ lw_all := lw_g (lw_at lw_m9 165 rfl) rfl
theorem q2203 : (Jvm.Cond.codeWith ({ cls := "DanceNotationLaw", name := "exchange", desc := "(LDanceNotation;II[J)I" } : Jvm.MethodName) method_14_code (5 : Nat) (Option.some Jvm.ClassFile.FieldType.int) [((0 : Nat), (10 : Nat), (13 : Nat), (18 : Nat)), ((0 : Nat), (10 : Nat), (17 : Nat), (41 : Nat))]) ∈ lw_all := lw_g (lw_at lw_m9 166 rfl) rfl
theorem q2204 : (Jvm.Cond.methodLink "DanceNotationLaw" (57 : Nat) ({ cls := "DanceNotation", name := "exchange", desc := "(II)I" } : Jvm.MethodName)) ∈ lw_all := lw_g (lw_at lw_m9 167 rfl) rfl
theorem q2274 : (Jvm.Cond.methodLink "DanceNotationLaw" (159 : Nat) ({ cls := "DanceNotationLaw", name := "tree", desc := "(LDanceNotation;I[J)I" } : Jvm.MethodName)) ∈ lw_all := lw_g (lw_at lw_m9 237 rfl) rfl
theorem q2275 : (Jvm.Cond.static ({ cls := "DanceNotationLaw", name := "tree", desc := "(LDanceNotation;I[J)I" } : Jvm.MethodName)) ∈ lw_all := lw_g (lw_at lw_m9 238 rfl) rfl
theorem q2276 : (Jvm.Cond.codeWith ({ cls := "DanceNotationLaw", name := "tree", desc := "(LDanceNotation;I[J)I" } : Jvm.MethodName) method_15_code (4 : Nat) (Option.some Jvm.ClassFile.FieldType.int) [((0 : Nat), (9 : Nat), (12 : Nat), (13 : Nat)), ((0 : Nat), (9 : Nat), (15 : Nat), (41 : Nat))]) ∈ lw_all := lw_g (lw_at lw_m9 239 rfl) rfl
theorem q2277 : (Jvm.Cond.methodLink "DanceNotationLaw" (60 : Nat) ({ cls := "DanceNotation", name := "tree", desc := "(I)I" } : Jvm.MethodName)) ∈ lw_all := lw_g (lw_at lw_m10 0 rfl) rfl
theorem q2287 : (Jvm.Cond.methodLink "DanceNotationLaw" (162 : Nat) ({ cls := "DanceNotationLaw", name := "step", desc := "(LDanceNotation;II[J)I" } : Jvm.MethodName)) ∈ lw_all := lw_g (lw_at lw_m10 10 rfl) rfl
theorem q2288 : (Jvm.Cond.static ({ cls := "DanceNotationLaw", name := "step", desc := "(LDanceNotation;II[J)I" } : Jvm.MethodName)) ∈ lw_all := lw_g (lw_at lw_m10 11 rfl) rfl
theorem q2289 : (Jvm.Cond.codeWith ({ cls := "DanceNotationLaw", name := "step", desc := "(LDanceNotation;II[J)I" } : Jvm.MethodName) method_16_code (5 : Nat) (Option.some Jvm.ClassFile.FieldType.int) [((0 : Nat), (10 : Nat), (13 : Nat), (18 : Nat)), ((0 : Nat), (10 : Nat), (17 : Nat), (41 : Nat)), ((0 : Nat), (10 : Nat), (21 : Nat), (33 : Nat))]) ∈ lw_all := lw_g (lw_at lw_m10 12 rfl) rfl
theorem q2290 : (Jvm.Cond.methodLink "DanceNotationLaw" (63 : Nat) ({ cls := "DanceNotation", name := "step", desc := "(II)C" } : Jvm.MethodName)) ∈ lw_all := lw_g (lw_at lw_m10 13 rfl) rfl
theorem q2294 : (Jvm.Cond.methodLink "DanceNotationLaw" (165 : Nat) ({ cls := "DanceNotationLaw", name := "position", desc := "(LDanceNotation;IIZ[J)I" } : Jvm.MethodName)) ∈ lw_all := lw_g (lw_at lw_m10 17 rfl) rfl
theorem q2295 : (Jvm.Cond.static ({ cls := "DanceNotationLaw", name := "position", desc := "(LDanceNotation;IIZ[J)I" } : Jvm.MethodName)) ∈ lw_all := lw_g (lw_at lw_m10 18 rfl) rfl
theorem q2296 : (Jvm.Cond.codeWith ({ cls := "DanceNotationLaw", name := "position", desc := "(LDanceNotation;IIZ[J)I" } : Jvm.MethodName) method_17_code (6 : Nat) (Option.some Jvm.ClassFile.FieldType.int) [((0 : Nat), (12 : Nat), (15 : Nat), (18 : Nat)), ((0 : Nat), (12 : Nat), (19 : Nat), (41 : Nat)), ((0 : Nat), (12 : Nat), (23 : Nat), (33 : Nat))]) ∈ lw_all := lw_g (lw_at lw_m10 19 rfl) rfl
theorem q2297 : (Jvm.Cond.methodLink "DanceNotationLaw" (67 : Nat) ({ cls := "DanceNotation", name := "position", desc := "(IIZ)I" } : Jvm.MethodName)) ∈ lw_all := lw_g (lw_at lw_m10 20 rfl) rfl
theorem q2315 : (Jvm.Cond.methodLink "DanceNotationLaw" (169 : Nat) ({ cls := "DanceNotationLaw", name := "problemCount", desc := "(LDanceNotation;I[J)I" } : Jvm.MethodName)) ∈ lw_all := lw_g (lw_at lw_m10 38 rfl) rfl
theorem q2316 : (Jvm.Cond.static ({ cls := "DanceNotationLaw", name := "problemCount", desc := "(LDanceNotation;I[J)I" } : Jvm.MethodName)) ∈ lw_all := lw_g (lw_at lw_m10 39 rfl) rfl
theorem q2317 : (Jvm.Cond.codeWith ({ cls := "DanceNotationLaw", name := "problemCount", desc := "(LDanceNotation;I[J)I" } : Jvm.MethodName) method_18_code (4 : Nat) (Option.some Jvm.ClassFile.FieldType.int) [((0 : Nat), (9 : Nat), (12 : Nat), (13 : Nat)), ((0 : Nat), (9 : Nat), (15 : Nat), (41 : Nat))]) ∈ lw_all := lw_g (lw_at lw_m10 40 rfl) rfl
theorem q2318 : (Jvm.Cond.methodLink "DanceNotationLaw" (71 : Nat) ({ cls := "DanceNotation", name := "problemCount", desc := "(I)I" } : Jvm.MethodName)) ∈ lw_all := lw_g (lw_at lw_m10 41 rfl) rfl
theorem q2403 : (Jvm.Cond.methodLink "DanceNotationLaw" (172 : Nat) ({ cls := "DanceNotationLaw", name := "problem", desc := "(LDanceNotation;II[J)I" } : Jvm.MethodName)) ∈ lw_all := lw_g (lw_at lw_m10 126 rfl) rfl
theorem q2404 : (Jvm.Cond.static ({ cls := "DanceNotationLaw", name := "problem", desc := "(LDanceNotation;II[J)I" } : Jvm.MethodName)) ∈ lw_all := lw_g (lw_at lw_m10 127 rfl) rfl
theorem q2405 : (Jvm.Cond.codeWith ({ cls := "DanceNotationLaw", name := "problem", desc := "(LDanceNotation;II[J)I" } : Jvm.MethodName) method_19_code (5 : Nat) (Option.some Jvm.ClassFile.FieldType.int) [((0 : Nat), (10 : Nat), (13 : Nat), (13 : Nat)), ((0 : Nat), (10 : Nat), (17 : Nat), (41 : Nat)), ((0 : Nat), (10 : Nat), (21 : Nat), (33 : Nat))]) ∈ lw_all := lw_g (lw_at lw_m10 128 rfl) rfl
theorem q2406 : (Jvm.Cond.methodLink "DanceNotationLaw" (74 : Nat) ({ cls := "DanceNotation", name := "problem", desc := "(II)I" } : Jvm.MethodName)) ∈ lw_all := lw_g (lw_at lw_m10 129 rfl) rfl
theorem q2413 : (Jvm.Cond.methodLink "DanceNotationLaw" (175 : Nat) ({ cls := "DanceNotationLaw", name := "cue", desc := "(LDanceNotation;I[J)I" } : Jvm.MethodName)) ∈ lw_all := lw_g (lw_at lw_m10 136 rfl) rfl
theorem q2414 : (Jvm.Cond.static ({ cls := "DanceNotationLaw", name := "cue", desc := "(LDanceNotation;I[J)I" } : Jvm.MethodName)) ∈ lw_all := lw_g (lw_at lw_m10 137 rfl) rfl
theorem q2415 : (Jvm.Cond.codeWith ({ cls := "DanceNotationLaw", name := "cue", desc := "(LDanceNotation;I[J)I" } : Jvm.MethodName) method_20_code (4 : Nat) (Option.some Jvm.ClassFile.FieldType.int) [((0 : Nat), (9 : Nat), (12 : Nat), (41 : Nat)), ((0 : Nat), (9 : Nat), (15 : Nat), (33 : Nat))]) ∈ lw_all := lw_g (lw_at lw_m10 138 rfl) rfl
theorem q2416 : (Jvm.Cond.methodLink "DanceNotationLaw" (77 : Nat) ({ cls := "DanceNotation", name := "cue", desc := "(I)I" } : Jvm.MethodName)) ∈ lw_all := lw_g (lw_at lw_m10 139 rfl) rfl
theorem q2428 : (Jvm.Cond.methodLink "DanceNotationLaw" (178 : Nat) ({ cls := "DanceNotationLaw", name := "displacement", desc := "(LDanceNotation;IZ[J)I" } : Jvm.MethodName)) ∈ lw_all := lw_g (lw_at lw_m10 151 rfl) rfl
theorem q2429 : (Jvm.Cond.static ({ cls := "DanceNotationLaw", name := "displacement", desc := "(LDanceNotation;IZ[J)I" } : Jvm.MethodName)) ∈ lw_all := lw_g (lw_at lw_m10 152 rfl) rfl
theorem q2430 : (Jvm.Cond.codeWith ({ cls := "DanceNotationLaw", name := "displacement", desc := "(LDanceNotation;IZ[J)I" } : Jvm.MethodName) method_21_code (5 : Nat) (Option.some Jvm.ClassFile.FieldType.int) [((0 : Nat), (10 : Nat), (13 : Nat), (18 : Nat)), ((0 : Nat), (10 : Nat), (17 : Nat), (41 : Nat))]) ∈ lw_all := lw_g (lw_at lw_m10 153 rfl) rfl
theorem q2431 : (Jvm.Cond.methodLink "DanceNotationLaw" (80 : Nat) ({ cls := "DanceNotation", name := "displacement", desc := "(IZ)I" } : Jvm.MethodName)) ∈ lw_all := lw_g (lw_at lw_m10 154 rfl) rfl
theorem q2463 : (Jvm.Cond.methodLink "DanceNotationLaw" (182 : Nat) ({ cls := "DanceNotationLaw", name := "meanSteps", desc := "(LDanceNotation;[D)I" } : Jvm.MethodName)) ∈ lw_all := lw_g (lw_at lw_m10 186 rfl) rfl
theorem q2464 : (Jvm.Cond.static ({ cls := "DanceNotationLaw", name := "meanSteps", desc := "(LDanceNotation;[D)I" } : Jvm.MethodName)) ∈ lw_all := lw_g (lw_at lw_m10 187 rfl) rfl
theorem q2465 : (Jvm.Cond.codeWith ({ cls := "DanceNotationLaw", name := "meanSteps", desc := "(LDanceNotation;[D)I" } : Jvm.MethodName) method_22_code (3 : Nat) (Option.some Jvm.ClassFile.FieldType.int) [((0 : Nat), (7 : Nat), (10 : Nat), (41 : Nat)), ((0 : Nat), (7 : Nat), (13 : Nat), (88 : Nat))]) ∈ lw_all := lw_g (lw_at lw_m10 188 rfl) rfl
theorem q2466 : (Jvm.Cond.classLink "DanceNotationLaw" (88 : Nat) "java/lang/ArithmeticException") ∈ lw_all := lw_g (lw_at lw_m10 189 rfl) rfl
theorem q2480 : (Jvm.Cond.methodLink "DanceNotationLaw" (84 : Nat) ({ cls := "DanceNotation", name := "meanSteps", desc := "()D" } : Jvm.MethodName)) ∈ lw_all := lw_g (lw_at lw_m10 203 rfl) rfl
theorem q2499 : (Jvm.Cond.methodLink "DanceNotationLaw" (186 : Nat) ({ cls := "DanceNotationLaw", name := "movingShare", desc := "(LDanceNotation;I[D)I" } : Jvm.MethodName)) ∈ lw_all := lw_g (lw_at lw_m10 222 rfl) rfl
theorem q2500 : (Jvm.Cond.static ({ cls := "DanceNotationLaw", name := "movingShare", desc := "(LDanceNotation;I[D)I" } : Jvm.MethodName)) ∈ lw_all := lw_g (lw_at lw_m10 223 rfl) rfl
theorem q2501 : (Jvm.Cond.codeWith ({ cls := "DanceNotationLaw", name := "movingShare", desc := "(LDanceNotation;I[D)I" } : Jvm.MethodName) method_23_code (4 : Nat) (Option.some Jvm.ClassFile.FieldType.int) [((0 : Nat), (9 : Nat), (12 : Nat), (18 : Nat)), ((0 : Nat), (9 : Nat), (15 : Nat), (41 : Nat)), ((0 : Nat), (9 : Nat), (18 : Nat), (88 : Nat))]) ∈ lw_all := lw_g (lw_at lw_m10 224 rfl) rfl
theorem q2502 : (Jvm.Cond.methodLink "DanceNotationLaw" (90 : Nat) ({ cls := "DanceNotation", name := "movingShare", desc := "(I)F" } : Jvm.MethodName)) ∈ lw_all := lw_g (lw_at lw_m10 225 rfl) rfl
theorem q2506 : (Jvm.Cond.methodLink "DanceNotationLaw" (190 : Nat) ({ cls := "DanceNotationLaw", name := "setFormation", desc := "(LDanceNotation;III[J)I" } : Jvm.MethodName)) ∈ lw_all := lw_g (lw_at lw_m10 229 rfl) rfl
theorem q2507 : (Jvm.Cond.static ({ cls := "DanceNotationLaw", name := "setFormation", desc := "(LDanceNotation;III[J)I" } : Jvm.MethodName)) ∈ lw_all := lw_g (lw_at lw_m10 230 rfl) rfl
theorem q2508 : (Jvm.Cond.codeWith ({ cls := "DanceNotationLaw", name := "setFormation", desc := "(LDanceNotation;III[J)I" } : Jvm.MethodName) method_24_code (6 : Nat) (Option.some Jvm.ClassFile.FieldType.int) [((0 : Nat), (12 : Nat), (15 : Nat), (18 : Nat)), ((0 : Nat), (12 : Nat), (19 : Nat), (13 : Nat))]) ∈ lw_all := lw_g (lw_at lw_m10 231 rfl) rfl
theorem q2509 : (Jvm.Cond.methodLink "DanceNotationLaw" (94 : Nat) ({ cls := "DanceNotation", name := "setFormation", desc := "(III)I" } : Jvm.MethodName)) ∈ lw_all := lw_g (lw_at lw_m10 232 rfl) rfl
theorem q2518 : (Jvm.Cond.methodLink "DanceNotationLaw" (194 : Nat) ({ cls := "DanceNotationLaw", name := "distance", desc := "(LDanceNotation;II[J)I" } : Jvm.MethodName)) ∈ lw_all := lw_g (lw_at lw_m11 1 rfl) rfl
theorem q2519 : (Jvm.Cond.static ({ cls := "DanceNotationLaw", name := "distance", desc := "(LDanceNotation;II[J)I" } : Jvm.MethodName)) ∈ lw_all := lw_g (lw_at lw_m11 2 rfl) rfl
theorem q2520 : (Jvm.Cond.codeWith ({ cls := "DanceNotationLaw", name := "distance", desc := "(LDanceNotation;II[J)I" } : Jvm.MethodName) method_25_code (5 : Nat) (Option.some Jvm.ClassFile.FieldType.int) [((0 : Nat), (10 : Nat), (13 : Nat), (18 : Nat)), ((0 : Nat), (10 : Nat), (17 : Nat), (41 : Nat)), ((0 : Nat), (10 : Nat), (21 : Nat), (33 : Nat))]) ∈ lw_all := lw_g (lw_at lw_m11 3 rfl) rfl
theorem q2521 : (Jvm.Cond.methodLink "DanceNotationLaw" (98 : Nat) ({ cls := "DanceNotation", name := "distance", desc := "(II)I" } : Jvm.MethodName)) ∈ lw_all := lw_g (lw_at lw_m11 4 rfl) rfl
theorem q2528 : (Jvm.Cond.methodLink "DanceNotationLaw" (197 : Nat) ({ cls := "DanceNotationLaw", name := "plan", desc := "(LDanceNotation;I[J)I" } : Jvm.MethodName)) ∈ lw_all := lw_g (lw_at lw_m11 11 rfl) rfl
theorem q2529 : (Jvm.Cond.static ({ cls := "DanceNotationLaw", name := "plan", desc := "(LDanceNotation;I[J)I" } : Jvm.MethodName)) ∈ lw_all := lw_g (lw_at lw_m11 12 rfl) rfl
theorem q2530 : (Jvm.Cond.codeWith ({ cls := "DanceNotationLaw", name := "plan", desc := "(LDanceNotation;I[J)I" } : Jvm.MethodName) method_26_code (4 : Nat) (Option.some Jvm.ClassFile.FieldType.int) [((0 : Nat), (9 : Nat), (12 : Nat), (18 : Nat)), ((0 : Nat), (9 : Nat), (15 : Nat), (41 : Nat))]) ∈ lw_all := lw_g (lw_at lw_m11 13 rfl) rfl
theorem q2531 : (Jvm.Cond.methodLink "DanceNotationLaw" (101 : Nat) ({ cls := "DanceNotation", name := "plan", desc := "(I)I" } : Jvm.MethodName)) ∈ lw_all := lw_g (lw_at lw_m11 14 rfl) rfl
theorem q2662 : (Jvm.Cond.methodLink "DanceNotationLaw" (204 : Nat) ({ cls := "DanceNotationLaw", name := "undo", desc := "(LDanceNotation;[J)I" } : Jvm.MethodName)) ∈ lw_all := lw_g (lw_at lw_m11 145 rfl) rfl
theorem q2663 : (Jvm.Cond.static ({ cls := "DanceNotationLaw", name := "undo", desc := "(LDanceNotation;[J)I" } : Jvm.MethodName)) ∈ lw_all := lw_g (lw_at lw_m11 146 rfl) rfl
theorem q2664 : (Jvm.Cond.codeWith ({ cls := "DanceNotationLaw", name := "undo", desc := "(LDanceNotation;[J)I" } : Jvm.MethodName) method_27_code (3 : Nat) (Option.some Jvm.ClassFile.FieldType.int) [((0 : Nat), (8 : Nat), (11 : Nat), (41 : Nat))]) ∈ lw_all := lw_g (lw_at lw_m11 147 rfl) rfl
theorem q2665 : (Jvm.Cond.methodLink "DanceNotationLaw" (104 : Nat) ({ cls := "DanceNotation", name := "undo", desc := "()I" } : Jvm.MethodName)) ∈ lw_all := lw_g (lw_at lw_m11 148 rfl) rfl
theorem q2692 : (Jvm.Cond.methodLink "DanceNotationLaw" (216 : Nat) ({ cls := "DanceNotationLaw", name := "restore", desc := "(LDanceNotation;[J)I" } : Jvm.MethodName)) ∈ lw_all := lw_g (lw_at lw_m11 175 rfl) rfl
theorem q2693 : (Jvm.Cond.static ({ cls := "DanceNotationLaw", name := "restore", desc := "(LDanceNotation;[J)I" } : Jvm.MethodName)) ∈ lw_all := lw_g (lw_at lw_m11 176 rfl) rfl
theorem q2694 : (Jvm.Cond.codeWith ({ cls := "DanceNotationLaw", name := "restore", desc := "(LDanceNotation;[J)I" } : Jvm.MethodName) method_28_code (3 : Nat) (Option.some Jvm.ClassFile.FieldType.int) [((0 : Nat), (8 : Nat), (11 : Nat), (41 : Nat))]) ∈ lw_all := lw_g (lw_at lw_m11 177 rfl) rfl
theorem q2695 : (Jvm.Cond.methodLink "DanceNotationLaw" (107 : Nat) ({ cls := "DanceNotation", name := "restore", desc := "()I" } : Jvm.MethodName)) ∈ lw_all := lw_g (lw_at lw_m11 178 rfl) rfl
theorem q2699 : (Jvm.Cond.classLink "DanceNotationLaw" (111 : Nat) "DanceNotationModel") ∈ lw_all := lw_g (lw_at lw_m11 182 rfl) rfl
theorem q2701 : (Jvm.Cond.methodLink "DanceNotationLaw" (113 : Nat) ({ cls := "DanceNotationModel", name := "<init>", desc := "()V" } : Jvm.MethodName)) ∈ lw_all := lw_g (lw_at lw_m11 184 rfl) rfl
theorem q2871 : (Jvm.Cond.methodLink "DanceNotationLaw" (120 : Nat) ({ cls := "DanceNotationModel", name := "thrown", desc := "()I" } : Jvm.MethodName)) ∈ lw_all := lw_g (lw_at lw_m12 114 rfl) rfl
theorem q2875 : (Jvm.Cond.methodLink "DanceNotationLaw" (119 : Nat) ({ cls := "DanceNotationModel", name := "stage", desc := "(II)I" } : Jvm.MethodName)) ∈ lw_all := lw_g (lw_at lw_m12 118 rfl) rfl
theorem q2886 : (Jvm.Cond.methodLink "DanceNotationLaw" (125 : Nat) ({ cls := "DanceNotationModel", name := "place", desc := "(II)I" } : Jvm.MethodName)) ∈ lw_all := lw_g (lw_at lw_m12 129 rfl) rfl
theorem q2914 : (Jvm.Cond.methodLink "DanceNotationLaw" (129 : Nat) ({ cls := "DanceNotationModel", name := "append", desc := "(C)I" } : Jvm.MethodName)) ∈ lw_all := lw_g (lw_at lw_m12 157 rfl) rfl
theorem q2918 : (Jvm.Cond.methodLink "DanceNotationLaw" (133 : Nat) ({ cls := "DanceNotationModel", name := "read", desc := "()I" } : Jvm.MethodName)) ∈ lw_all := lw_g (lw_at lw_m12 161 rfl) rfl
theorem q3043 : (Jvm.Cond.methodLink "DanceNotationLaw" (136 : Nat) ({ cls := "DanceNotationModel", name := "errorPosition", desc := "()I" } : Jvm.MethodName)) ∈ lw_all := lw_g (lw_at lw_m13 46 rfl) rfl
theorem q3047 : (Jvm.Cond.methodLink "DanceNotationLaw" (139 : Nat) ({ cls := "DanceNotationModel", name := "refusedDancer", desc := "()I" } : Jvm.MethodName)) ∈ lw_all := lw_g (lw_at lw_m13 50 rfl) rfl
theorem q3051 : (Jvm.Cond.methodLink "DanceNotationLaw" (142 : Nat) ({ cls := "DanceNotationModel", name := "write", desc := "()I" } : Jvm.MethodName)) ∈ lw_all := lw_g (lw_at lw_m13 54 rfl) rfl
theorem q3085 : (Jvm.Cond.methodLink "DanceNotationLaw" (146 : Nat) ({ cls := "DanceNotationModel", name := "output", desc := "(I)C" } : Jvm.MethodName)) ∈ lw_all := lw_g (lw_at lw_m13 88 rfl) rfl
theorem q3089 : (Jvm.Cond.methodLink "DanceNotationLaw" (149 : Nat) ({ cls := "DanceNotationModel", name := "mirror", desc := "()I" } : Jvm.MethodName)) ∈ lw_all := lw_g (lw_at lw_m13 92 rfl) rfl
theorem q3105 : (Jvm.Cond.methodLink "DanceNotationLaw" (152 : Nat) ({ cls := "DanceNotationModel", name := "reverse", desc := "()I" } : Jvm.MethodName)) ∈ lw_all := lw_g (lw_at lw_m13 108 rfl) rfl
theorem q3109 : (Jvm.Cond.methodLink "DanceNotationLaw" (155 : Nat) ({ cls := "DanceNotationModel", name := "repeat", desc := "(I)I" } : Jvm.MethodName)) ∈ lw_all := lw_g (lw_at lw_m13 112 rfl) rfl
theorem q3113 : (Jvm.Cond.methodLink "DanceNotationLaw" (158 : Nat) ({ cls := "DanceNotationModel", name := "exchange", desc := "(II)I" } : Jvm.MethodName)) ∈ lw_all := lw_g (lw_at lw_m13 116 rfl) rfl
theorem q3117 : (Jvm.Cond.methodLink "DanceNotationLaw" (161 : Nat) ({ cls := "DanceNotationModel", name := "tree", desc := "(I)I" } : Jvm.MethodName)) ∈ lw_all := lw_g (lw_at lw_m13 120 rfl) rfl
theorem q3125 : (Jvm.Cond.methodLink "DanceNotationLaw" (164 : Nat) ({ cls := "DanceNotationModel", name := "step", desc := "(II)C" } : Jvm.MethodName)) ∈ lw_all := lw_g (lw_at lw_m13 128 rfl) rfl
theorem q3129 : (Jvm.Cond.methodLink "DanceNotationLaw" (168 : Nat) ({ cls := "DanceNotationModel", name := "position", desc := "(IIZ)I" } : Jvm.MethodName)) ∈ lw_all := lw_g (lw_at lw_m13 132 rfl) rfl
theorem q3155 : (Jvm.Cond.methodLink "DanceNotationLaw" (171 : Nat) ({ cls := "DanceNotationModel", name := "problemCount", desc := "(I)I" } : Jvm.MethodName)) ∈ lw_all := lw_g (lw_at lw_m13 158 rfl) rfl
theorem q3179 : (Jvm.Cond.methodLink "DanceNotationLaw" (174 : Nat) ({ cls := "DanceNotationModel", name := "problem", desc := "(II)I" } : Jvm.MethodName)) ∈ lw_all := lw_g (lw_at lw_m13 182 rfl) rfl
theorem q3183 : (Jvm.Cond.methodLink "DanceNotationLaw" (177 : Nat) ({ cls := "DanceNotationModel", name := "cue", desc := "(I)I" } : Jvm.MethodName)) ∈ lw_all := lw_g (lw_at lw_m13 186 rfl) rfl
theorem q3187 : (Jvm.Cond.methodLink "DanceNotationLaw" (181 : Nat) ({ cls := "DanceNotationModel", name := "displacement", desc := "(IZ)I" } : Jvm.MethodName)) ∈ lw_all := lw_g (lw_at lw_m13 190 rfl) rfl
theorem q3191 : (Jvm.Cond.methodLink "DanceNotationLaw" (185 : Nat) ({ cls := "DanceNotationModel", name := "meanSteps", desc := "()D" } : Jvm.MethodName)) ∈ lw_all := lw_g (lw_at lw_m13 194 rfl) rfl
theorem q3199 : (Jvm.Cond.methodLink "DanceNotationLaw" (189 : Nat) ({ cls := "DanceNotationModel", name := "movingShare", desc := "(I)F" } : Jvm.MethodName)) ∈ lw_all := lw_g (lw_at lw_m13 202 rfl) rfl
theorem q3203 : (Jvm.Cond.methodLink "DanceNotationLaw" (193 : Nat) ({ cls := "DanceNotationModel", name := "setFormation", desc := "(III)I" } : Jvm.MethodName)) ∈ lw_all := lw_g (lw_at lw_m13 206 rfl) rfl
theorem q3207 : (Jvm.Cond.methodLink "DanceNotationLaw" (196 : Nat) ({ cls := "DanceNotationModel", name := "distance", desc := "(II)I" } : Jvm.MethodName)) ∈ lw_all := lw_g (lw_at lw_m13 210 rfl) rfl
theorem q3222 : (Jvm.Cond.methodLink "DanceNotationLaw" (199 : Nat) ({ cls := "DanceNotationModel", name := "plan", desc := "(I)I" } : Jvm.MethodName)) ∈ lw_all := lw_g (lw_at lw_m13 225 rfl) rfl
theorem q3257 : (Jvm.Cond.methodLink "DanceNotationLaw" (203 : Nat) ({ cls := "DanceNotationModel", name := "reason", desc := "()I" } : Jvm.MethodName)) ∈ lw_all := lw_g (lw_at lw_m14 20 rfl) rfl
theorem q3261 : (Jvm.Cond.methodLink "DanceNotationLaw" (206 : Nat) ({ cls := "DanceNotationModel", name := "undo", desc := "()I" } : Jvm.MethodName)) ∈ lw_all := lw_g (lw_at lw_m14 24 rfl) rfl
theorem q3265 : (Jvm.Cond.methodLink "DanceNotationLaw" (211 : Nat) ({ cls := "DanceNotationModel", name := "isReplayed", desc := "()Z" } : Jvm.MethodName)) ∈ lw_all := lw_g (lw_at lw_m14 28 rfl) rfl
theorem q3269 : (Jvm.Cond.methodLink "DanceNotationLaw" (215 : Nat) ({ cls := "DanceNotationModel", name := "snapshot", desc := "()I" } : Jvm.MethodName)) ∈ lw_all := lw_g (lw_at lw_m14 32 rfl) rfl
theorem q3277 : (Jvm.Cond.methodLink "DanceNotationLaw" (218 : Nat) ({ cls := "DanceNotationModel", name := "restore", desc := "()I" } : Jvm.MethodName)) ∈ lw_all := lw_g (lw_at lw_m14 40 rfl) rfl

/-! the law's own entry -/
set_option maxRecDepth 100000
abbrev cL_law : ByteArray := code
def dkwL_law_72 : List UInt8 := [167, 249, 45, 4, 172]
abbrev dktL_law_72 : List UInt8 := dkwL_law_72 ++ []
def dkwL_law_71 : List UInt8 := [172, 21, 6, 154, 0, 15, 45, 3, 47, 21, 7, 133, 148, 153, 0, 5, 3, 172, 167, 0, 3, 132, 5, 4]
abbrev dktL_law_71 : List UInt8 := dkwL_law_71 ++ dktL_law_72
def dkwL_law_70 : List UInt8 := [172, 43, 45, 184, 0, 216, 54, 6, 44, 182, 0, 218, 54, 7, 44, 182, 0, 120, 21, 6, 159, 0, 5, 3]
abbrev dktL_law_70 : List UInt8 := dkwL_law_70 ++ dktL_law_71
def dkwL_law_69 : List UInt8 := [182, 0, 207, 44, 182, 0, 211, 159, 0, 62, 3, 172, 43, 182, 0, 212, 44, 182, 0, 215, 159, 0, 49, 3]
abbrev dktL_law_69 : List UInt8 := dkwL_law_69 ++ dktL_law_70
def dkwL_law_68 : List UInt8 := [172, 21, 6, 154, 0, 15, 45, 3, 47, 21, 7, 133, 148, 153, 0, 5, 3, 172, 167, 0, 73, 43]
abbrev dktL_law_68 : List UInt8 := dkwL_law_68 ++ dktL_law_69
def dkwL_law_67 : List UInt8 := [172, 43, 45, 184, 0, 204, 54, 6, 44, 182, 0, 206, 54, 7, 44, 182, 0, 120, 21, 6, 159, 0, 5, 3]
abbrev dktL_law_67 : List UInt8 := dkwL_law_67 ++ dktL_law_68
def dkwL_law_66 : List UInt8 := [21, 7, 133, 148, 153, 0, 5, 3, 172, 167, 0, 130, 43, 182, 0, 200, 44, 182, 0, 203, 159, 0, 119, 3]
abbrev dktL_law_66 : List UInt8 := dkwL_law_66 ++ dktL_law_67
def dkwL_law_65 : List UInt8 := [182, 0, 199, 54, 7, 44, 182, 0, 120, 21, 6, 159, 0, 5, 3, 172, 21, 6, 154, 0, 15, 45, 3, 47]
abbrev dktL_law_65 : List UInt8 := dkwL_law_65 ++ dktL_law_66
def dkwL_law_64 : List UInt8 := [167, 0, 186, 43, 42, 21, 5, 4, 96, 46, 45, 184, 0, 197, 54, 6, 44, 42, 21, 5, 4, 96, 46]
abbrev dktL_law_64 : List UInt8 := dkwL_law_64 ++ dktL_law_65
def dkwL_law_63 : List UInt8 := [159, 0, 5, 3, 172, 21, 6, 154, 0, 15, 45, 3, 47, 21, 7, 133, 148, 153, 0, 5, 3, 172]
abbrev dktL_law_63 : List UInt8 := dkwL_law_63 ++ dktL_law_64
def dkwL_law_62 : List UInt8 := [21, 5, 4, 96, 46, 42, 21, 5, 5, 96, 46, 182, 0, 196, 54, 7, 44, 182, 0, 120, 21, 6]
abbrev dktL_law_62 : List UInt8 := dkwL_law_62 ++ dktL_law_63
def dkwL_law_61 : List UInt8 := [167, 0, 254, 43, 42, 21, 5, 4, 96, 46, 42, 21, 5, 5, 96, 46, 45, 184, 0, 194, 54, 6, 44, 42]
abbrev dktL_law_61 : List UInt8 := dkwL_law_61 ++ dktL_law_62
def dkwL_law_60 : List UInt8 := [21, 6, 159, 0, 5, 3, 172, 21, 6, 154, 0, 15, 45, 3, 47, 21, 7, 133, 148, 153, 0, 5, 3, 172]
abbrev dktL_law_60 : List UInt8 := dkwL_law_60 ++ dktL_law_61
def dkwL_law_59 : List UInt8 := [96, 46, 42, 21, 5, 5, 96, 46, 42, 21, 5, 6, 96, 46, 182, 0, 193, 54, 7, 44, 182, 0, 120]
abbrev dktL_law_59 : List UInt8 := dkwL_law_59 ++ dktL_law_60
def dkwL_law_58 : List UInt8 := [46, 42, 21, 5, 5, 96, 46, 42, 21, 5, 6, 96, 46, 45, 184, 0, 190, 54, 6, 44, 42, 21, 5, 4]
abbrev dktL_law_58 : List UInt8 := dkwL_law_58 ++ dktL_law_59
def dkwL_law_57 : List UInt8 := [49, 151, 153, 0, 11, 23, 7, 23, 7, 149, 154, 0, 5, 3, 172, 167, 1, 78, 43, 42, 21, 5, 4, 96]
abbrev dktL_law_57 : List UInt8 := dkwL_law_57 ++ dktL_law_58
def dkwL_law_56 : List UInt8 := [172, 21, 6, 154, 0, 36, 25, 4, 3, 49, 23, 7, 141, 151, 153, 0, 25, 25, 4, 3, 49, 25, 4, 3]
abbrev dktL_law_56 : List UInt8 := dkwL_law_56 ++ dktL_law_57
def dkwL_law_55 : List UInt8 := [54, 6, 44, 42, 21, 5, 4, 96, 46, 182, 0, 189, 56, 7, 44, 182, 0, 120, 21, 6, 159, 0, 5, 3]
abbrev dktL_law_55 : List UInt8 := dkwL_law_55 ++ dktL_law_56
def dkwL_law_54 : List UInt8 := [24, 7, 151, 154, 0, 5, 3, 172, 167, 1, 156, 43, 42, 21, 5, 4, 96, 46, 25, 4, 184, 0, 186]
abbrev dktL_law_54 : List UInt8 := dkwL_law_54 ++ dktL_law_55
def dkwL_law_53 : List UInt8 := [25, 4, 3, 49, 24, 7, 151, 153, 0, 25, 25, 4, 3, 49, 25, 4, 3, 49, 151, 153, 0, 11, 24, 7]
abbrev dktL_law_53 : List UInt8 := dkwL_law_53 ++ dktL_law_54
def dkwL_law_52 : List UInt8 := [54, 6, 44, 182, 0, 185, 57, 7, 44, 182, 0, 120, 21, 6, 159, 0, 5, 3, 172, 21, 6, 154, 0, 35]
abbrev dktL_law_52 : List UInt8 := dkwL_law_52 ++ dktL_law_53
def dkwL_law_51 : List UInt8 := [154, 0, 15, 45, 3, 47, 21, 7, 133, 148, 153, 0, 5, 3, 172, 167, 1, 221, 43, 25, 4, 184, 0, 182]
abbrev dktL_law_51 : List UInt8 := dkwL_law_51 ++ dktL_law_52
def dkwL_law_50 : List UInt8 := [167, 0, 4, 3, 182, 0, 181, 54, 7, 44, 182, 0, 120, 21, 6, 159, 0, 5, 3, 172, 21, 6]
abbrev dktL_law_50 : List UInt8 := dkwL_law_50 ++ dktL_law_51
def dkwL_law_49 : List UInt8 := [45, 184, 0, 178, 54, 6, 44, 42, 21, 5, 4, 96, 46, 42, 21, 5, 5, 96, 46, 153, 0, 7, 4]
abbrev dktL_law_49 : List UInt8 := dkwL_law_49 ++ dktL_law_50
def dkwL_law_48 : List UInt8 := [167, 2, 49, 43, 42, 21, 5, 4, 96, 46, 42, 21, 5, 5, 96, 46, 153, 0, 7, 4, 167, 0, 4, 3]
abbrev dktL_law_48 : List UInt8 := dkwL_law_48 ++ dktL_law_49
def dkwL_law_47 : List UInt8 := [159, 0, 5, 3, 172, 21, 6, 154, 0, 15, 45, 3, 47, 21, 7, 133, 148, 153, 0, 5, 3, 172]
abbrev dktL_law_47 : List UInt8 := dkwL_law_47 ++ dktL_law_48
def dkwL_law_46 : List UInt8 := [184, 0, 175, 54, 6, 44, 42, 21, 5, 4, 96, 46, 182, 0, 177, 54, 7, 44, 182, 0, 120, 21, 6]
abbrev dktL_law_46 : List UInt8 := dkwL_law_46 ++ dktL_law_47
def dkwL_law_45 : List UInt8 := [3, 47, 21, 7, 133, 148, 153, 0, 5, 3, 172, 167, 2, 105, 43, 42, 21, 5, 4, 96, 46, 45]
abbrev dktL_law_45 : List UInt8 := dkwL_law_45 ++ dktL_law_46
def dkwL_law_44 : List UInt8 := [96, 46, 182, 0, 174, 54, 7, 44, 182, 0, 120, 21, 6, 159, 0, 5, 3, 172, 21, 6, 154, 0, 15, 45]
abbrev dktL_law_44 : List UInt8 := dkwL_law_44 ++ dktL_law_45
def dkwL_law_43 : List UInt8 := [46, 42, 21, 5, 5, 96, 46, 45, 184, 0, 172, 54, 6, 44, 42, 21, 5, 4, 96, 46, 42, 21, 5, 5]
abbrev dktL_law_43 : List UInt8 := dkwL_law_43 ++ dktL_law_44
def dkwL_law_42 : List UInt8 := [154, 0, 15, 45, 3, 47, 21, 7, 133, 148, 153, 0, 5, 3, 172, 167, 2, 173, 43, 42, 21, 5, 4, 96]
abbrev dktL_law_42 : List UInt8 := dkwL_law_42 ++ dktL_law_43
def dkwL_law_41 : List UInt8 := [21, 5, 4, 96, 46, 182, 0, 171, 54, 7, 44, 182, 0, 120, 21, 6, 159, 0, 5, 3, 172, 21, 6]
abbrev dktL_law_41 : List UInt8 := dkwL_law_41 ++ dktL_law_42
def dkwL_law_40 : List UInt8 := [153, 0, 5, 3, 172, 167, 2, 229, 43, 42, 21, 5, 4, 96, 46, 45, 184, 0, 169, 54, 6, 44, 42]
abbrev dktL_law_40 : List UInt8 := dkwL_law_40 ++ dktL_law_41
def dkwL_law_39 : List UInt8 := [182, 0, 120, 21, 6, 159, 0, 5, 3, 172, 21, 6, 154, 0, 15, 45, 3, 47, 21, 7, 133, 148]
abbrev dktL_law_39 : List UInt8 := dkwL_law_39 ++ dktL_law_40
def dkwL_law_38 : List UInt8 := [5, 96, 46, 42, 21, 5, 6, 96, 46, 153, 0, 7, 4, 167, 0, 4, 3, 182, 0, 168, 54, 7, 44]
abbrev dktL_law_38 : List UInt8 := dkwL_law_38 ++ dktL_law_39
def dkwL_law_37 : List UInt8 := [153, 0, 7, 4, 167, 0, 4, 3, 45, 184, 0, 165, 54, 6, 44, 42, 21, 5, 4, 96, 46, 42, 21, 5]
abbrev dktL_law_37 : List UInt8 := dkwL_law_37 ++ dktL_law_38
def dkwL_law_36 : List UInt8 := [167, 3, 69, 43, 42, 21, 5, 4, 96, 46, 42, 21, 5, 5, 96, 46, 42, 21, 5, 6, 96, 46]
abbrev dktL_law_36 : List UInt8 := dkwL_law_36 ++ dktL_law_37
def dkwL_law_35 : List UInt8 := [159, 0, 5, 3, 172, 21, 6, 154, 0, 15, 45, 3, 47, 21, 7, 133, 148, 153, 0, 5, 3, 172]
abbrev dktL_law_35 : List UInt8 := dkwL_law_35 ++ dktL_law_36
def dkwL_law_34 : List UInt8 := [21, 5, 4, 96, 46, 42, 21, 5, 5, 96, 46, 182, 0, 164, 54, 7, 44, 182, 0, 120, 21, 6]
abbrev dktL_law_34 : List UInt8 := dkwL_law_34 ++ dktL_law_35
def dkwL_law_33 : List UInt8 := [167, 3, 137, 43, 42, 21, 5, 4, 96, 46, 42, 21, 5, 5, 96, 46, 45, 184, 0, 162, 54, 6, 44, 42]
abbrev dktL_law_33 : List UInt8 := dkwL_law_33 ++ dktL_law_34
def dkwL_law_32 : List UInt8 := [21, 6, 159, 0, 5, 3, 172, 21, 6, 154, 0, 15, 45, 3, 47, 21, 7, 133, 148, 153, 0, 5, 3, 172]
abbrev dktL_law_32 : List UInt8 := dkwL_law_32 ++ dktL_law_33
def dkwL_law_31 : List UInt8 := [46, 45, 184, 0, 159, 54, 6, 44, 42, 21, 5, 4, 96, 46, 182, 0, 161, 54, 7, 44, 182, 0, 120]
abbrev dktL_law_31 : List UInt8 := dkwL_law_31 ++ dktL_law_32
def dkwL_law_30 : List UInt8 := [154, 0, 15, 45, 3, 47, 21, 7, 133, 148, 153, 0, 5, 3, 172, 167, 3, 193, 43, 42, 21, 5, 4, 96]
abbrev dktL_law_30 : List UInt8 := dkwL_law_30 ++ dktL_law_31
def dkwL_law_29 : List UInt8 := [42, 21, 5, 5, 96, 46, 182, 0, 158, 54, 7, 44, 182, 0, 120, 21, 6, 159, 0, 5, 3, 172, 21, 6]
abbrev dktL_law_29 : List UInt8 := dkwL_law_29 ++ dktL_law_30
def dkwL_law_28 : List UInt8 := [21, 5, 4, 96, 46, 42, 21, 5, 5, 96, 46, 45, 184, 0, 156, 54, 6, 44, 42, 21, 5, 4, 96, 46]
abbrev dktL_law_28 : List UInt8 := dkwL_law_28 ++ dktL_law_29
def dkwL_law_27 : List UInt8 := [172, 21, 6, 154, 0, 15, 45, 3, 47, 21, 7, 133, 148, 153, 0, 5, 3, 172, 167, 4, 5, 43, 42]
abbrev dktL_law_27 : List UInt8 := dkwL_law_27 ++ dktL_law_28
def dkwL_law_26 : List UInt8 := [54, 6, 44, 42, 21, 5, 4, 96, 46, 182, 0, 155, 54, 7, 44, 182, 0, 120, 21, 6, 159, 0, 5, 3]
abbrev dktL_law_26 : List UInt8 := dkwL_law_26 ++ dktL_law_27
def dkwL_law_25 : List UInt8 := [21, 7, 133, 148, 153, 0, 5, 3, 172, 167, 4, 61, 43, 42, 21, 5, 4, 96, 46, 45, 184, 0, 153]
abbrev dktL_law_25 : List UInt8 := dkwL_law_25 ++ dktL_law_26
def dkwL_law_24 : List UInt8 := [182, 0, 152, 54, 7, 44, 182, 0, 120, 21, 6, 159, 0, 5, 3, 172, 21, 6, 154, 0, 15, 45, 3, 47]
abbrev dktL_law_24 : List UInt8 := dkwL_law_24 ++ dktL_law_25
def dkwL_law_23 : List UInt8 := [45, 3, 47, 21, 7, 133, 148, 153, 0, 5, 3, 172, 167, 4, 105, 43, 45, 184, 0, 150, 54, 6, 44]
abbrev dktL_law_23 : List UInt8 := dkwL_law_23 ++ dktL_law_24
def dkwL_law_22 : List UInt8 := [54, 6, 44, 182, 0, 149, 54, 7, 44, 182, 0, 120, 21, 6, 159, 0, 5, 3, 172, 21, 6, 154, 0, 15]
abbrev dktL_law_22 : List UInt8 := dkwL_law_22 ++ dktL_law_23
def dkwL_law_21 : List UInt8 := [154, 0, 15, 45, 3, 47, 21, 7, 133, 148, 153, 0, 5, 3, 172, 167, 4, 149, 43, 45, 184, 0, 147]
abbrev dktL_law_21 : List UInt8 := dkwL_law_21 ++ dktL_law_22
def dkwL_law_20 : List UInt8 := [21, 5, 4, 96, 46, 182, 0, 146, 54, 7, 44, 182, 0, 120, 21, 6, 159, 0, 5, 3, 172, 21, 6]
abbrev dktL_law_20 : List UInt8 := dkwL_law_20 ++ dktL_law_21
def dkwL_law_19 : List UInt8 := [153, 0, 5, 3, 172, 167, 4, 205, 43, 42, 21, 5, 4, 96, 46, 45, 184, 0, 143, 54, 6, 44, 42]
abbrev dktL_law_19 : List UInt8 := dkwL_law_19 ++ dktL_law_20
def dkwL_law_18 : List UInt8 := [182, 0, 120, 21, 6, 159, 0, 5, 3, 172, 21, 6, 154, 0, 15, 45, 3, 47, 21, 7, 133, 148]
abbrev dktL_law_18 : List UInt8 := dkwL_law_18 ++ dktL_law_19
def dkwL_law_17 : List UInt8 := [153, 0, 5, 3, 172, 167, 4, 249, 43, 45, 184, 0, 140, 54, 6, 44, 182, 0, 142, 54, 7, 44]
abbrev dktL_law_17 : List UInt8 := dkwL_law_17 ++ dktL_law_18
def dkwL_law_16 : List UInt8 := [182, 0, 120, 21, 6, 159, 0, 5, 3, 172, 21, 6, 154, 0, 15, 45, 3, 47, 21, 7, 133, 148]
abbrev dktL_law_16 : List UInt8 := dkwL_law_16 ++ dktL_law_17
def dkwL_law_15 : List UInt8 := [153, 0, 5, 3, 172, 167, 5, 37, 43, 45, 184, 0, 137, 54, 6, 44, 182, 0, 139, 54, 7, 44]
abbrev dktL_law_15 : List UInt8 := dkwL_law_15 ++ dktL_law_16
def dkwL_law_14 : List UInt8 := [182, 0, 120, 21, 6, 159, 0, 5, 3, 172, 21, 6, 154, 0, 15, 45, 3, 47, 21, 7, 133, 148]
abbrev dktL_law_14 : List UInt8 := dkwL_law_14 ++ dktL_law_15
def dkwL_law_13 : List UInt8 := [153, 0, 5, 3, 172, 167, 5, 81, 43, 45, 184, 0, 134, 54, 6, 44, 182, 0, 136, 54, 7, 44]
abbrev dktL_law_13 : List UInt8 := dkwL_law_13 ++ dktL_law_14
def dkwL_law_12 : List UInt8 := [182, 0, 120, 21, 6, 159, 0, 5, 3, 172, 21, 6, 154, 0, 15, 45, 3, 47, 21, 7, 133, 148]
abbrev dktL_law_12 : List UInt8 := dkwL_law_12 ++ dktL_law_13
def dkwL_law_11 : List UInt8 := [153, 0, 5, 3, 172, 167, 5, 125, 43, 45, 184, 0, 130, 54, 6, 44, 182, 0, 133, 54, 7, 44]
abbrev dktL_law_11 : List UInt8 := dkwL_law_11 ++ dktL_law_12
def dkwL_law_10 : List UInt8 := [182, 0, 120, 21, 6, 159, 0, 5, 3, 172, 21, 6, 154, 0, 15, 45, 3, 47, 21, 7, 133, 148]
abbrev dktL_law_10 : List UInt8 := dkwL_law_10 ++ dktL_law_11
def dkwL_law_9 : List UInt8 := [46, 146, 45, 184, 0, 126, 54, 6, 44, 42, 21, 5, 4, 96, 46, 146, 182, 0, 129, 54, 7, 44]
abbrev dktL_law_9 : List UInt8 := dkwL_law_9 ++ dktL_law_10
def dkwL_law_8 : List UInt8 := [154, 0, 15, 45, 3, 47, 21, 7, 133, 148, 153, 0, 5, 3, 172, 167, 5, 183, 43, 42, 21, 5, 4, 96]
abbrev dktL_law_8 : List UInt8 := dkwL_law_8 ++ dktL_law_9
def dkwL_law_7 : List UInt8 := [21, 5, 5, 96, 46, 182, 0, 125, 54, 7, 44, 182, 0, 120, 21, 6, 159, 0, 5, 3, 172, 21, 6]
abbrev dktL_law_7 : List UInt8 := dkwL_law_7 ++ dktL_law_8
def dkwL_law_6 : List UInt8 := [4, 96, 46, 42, 21, 5, 5, 96, 46, 45, 184, 0, 123, 54, 6, 44, 42, 21, 5, 4, 96, 46, 42]
abbrev dktL_law_6 : List UInt8 := dkwL_law_6 ++ dktL_law_7
def dkwL_law_5 : List UInt8 := [21, 6, 154, 0, 15, 45, 3, 47, 21, 7, 133, 148, 153, 0, 5, 3, 172, 167, 5, 251, 43, 42, 21, 5]
abbrev dktL_law_5 : List UInt8 := dkwL_law_5 ++ dktL_law_6
def dkwL_law_4 : List UInt8 := [96, 46, 42, 21, 5, 5, 96, 46, 182, 0, 119, 54, 7, 44, 182, 0, 120, 21, 6, 159, 0, 5, 3, 172]
abbrev dktL_law_4 : List UInt8 := dkwL_law_4 ++ dktL_law_5
def dkwL_law_3 : List UInt8 := [43, 42, 21, 5, 4, 96, 46, 42, 21, 5, 5, 96, 46, 45, 184, 0, 114, 54, 6, 44, 42, 21, 5, 4]
abbrev dktL_law_3 : List UInt8 := dkwL_law_3 ++ dktL_law_4
def dkwL_law_2 : List UInt8 := [170, 0, 0, 0, 0, 0, 6, 192, 0, 0, 0, 0, 0, 0, 0, 28, 0, 0, 0, 132, 0, 0, 0, 200, 0, 0, 1, 12, 0, 0, 1, 70, 0, 0, 1, 114, 0, 0, 1, 158, 0, 0, 1, 202, 0, 0, 1, 246, 0, 0, 2, 46, 0, 0, 2, 90, 0, 0, 2, 134, 0, 0, 2, 190, 0, 0, 3, 2, 0, 0, 3, 58, 0, 0, 3, 126, 0, 0, 3, 222, 0, 0, 4, 22, 0, 0, 4, 90, 0, 0, 4, 146, 0, 0, 4, 230, 0, 0, 5, 39, 0, 0, 5, 117, 0, 0, 5, 197, 0, 0, 6, 9, 0, 0, 6, 65, 0, 0, 6, 78, 0, 0, 6, 122, 0, 0, 6, 135, 0, 0, 6, 148]
abbrev dktL_law_2 : List UInt8 := dkwL_law_2 ++ dktL_law_3
def dkwL_law_1 : List UInt8 := [58, 4, 3, 54, 5, 21, 5, 42, 190, 7, 100, 163, 6, 208, 42, 21, 5, 46, 16, 31, 126]
abbrev dktL_law_1 : List UInt8 := dkwL_law_1 ++ dktL_law_2
def dkwL_law_0 : List UInt8 := [187, 0, 8, 89, 183, 0, 110, 76, 187, 0, 111, 89, 183, 0, 113, 77, 4, 188, 11, 78, 4, 188, 7]
abbrev dktL_law_0 : List UInt8 := dkwL_law_0 ++ dktL_law_1
theorem dksL_law_0 : cL_law.data.toList.drop 0 = dktL_law_0 := by decide +kernel
theorem dksL_law_1 : cL_law.data.toList.drop 23 = dktL_law_1 := dk_seg dksL_law_0 23 rfl rfl
theorem dksL_law_2 : cL_law.data.toList.drop 44 = dktL_law_2 := dk_seg dksL_law_1 21 rfl rfl
theorem dksL_law_3 : cL_law.data.toList.drop 176 = dktL_law_3 := dk_seg dksL_law_2 132 rfl rfl
theorem dksL_law_4 : cL_law.data.toList.drop 200 = dktL_law_4 := dk_seg dksL_law_3 24 rfl rfl
theorem dksL_law_5 : cL_law.data.toList.drop 224 = dktL_law_5 := dk_seg dksL_law_4 24 rfl rfl
theorem dksL_law_6 : cL_law.data.toList.drop 248 = dktL_law_6 := dk_seg dksL_law_5 24 rfl rfl
theorem dksL_law_7 : cL_law.data.toList.drop 271 = dktL_law_7 := dk_seg dksL_law_6 23 rfl rfl
theorem dksL_law_8 : cL_law.data.toList.drop 294 = dktL_law_8 := dk_seg dksL_law_7 23 rfl rfl
theorem dksL_law_9 : cL_law.data.toList.drop 318 = dktL_law_9 := dk_seg dksL_law_8 24 rfl rfl
theorem dksL_law_10 : cL_law.data.toList.drop 340 = dktL_law_10 := dk_seg dksL_law_9 22 rfl rfl
theorem dksL_law_11 : cL_law.data.toList.drop 362 = dktL_law_11 := dk_seg dksL_law_10 22 rfl rfl
theorem dksL_law_12 : cL_law.data.toList.drop 384 = dktL_law_12 := dk_seg dksL_law_11 22 rfl rfl
theorem dksL_law_13 : cL_law.data.toList.drop 406 = dktL_law_13 := dk_seg dksL_law_12 22 rfl rfl
theorem dksL_law_14 : cL_law.data.toList.drop 428 = dktL_law_14 := dk_seg dksL_law_13 22 rfl rfl
theorem dksL_law_15 : cL_law.data.toList.drop 450 = dktL_law_15 := dk_seg dksL_law_14 22 rfl rfl
theorem dksL_law_16 : cL_law.data.toList.drop 472 = dktL_law_16 := dk_seg dksL_law_15 22 rfl rfl
theorem dksL_law_17 : cL_law.data.toList.drop 494 = dktL_law_17 := dk_seg dksL_law_16 22 rfl rfl
theorem dksL_law_18 : cL_law.data.toList.drop 516 = dktL_law_18 := dk_seg dksL_law_17 22 rfl rfl
theorem dksL_law_19 : cL_law.data.toList.drop 538 = dktL_law_19 := dk_seg dksL_law_18 22 rfl rfl
theorem dksL_law_20 : cL_law.data.toList.drop 561 = dktL_law_20 := dk_seg dksL_law_19 23 rfl rfl
theorem dksL_law_21 : cL_law.data.toList.drop 584 = dktL_law_21 := dk_seg dksL_law_20 23 rfl rfl
theorem dksL_law_22 : cL_law.data.toList.drop 607 = dktL_law_22 := dk_seg dksL_law_21 23 rfl rfl
theorem dksL_law_23 : cL_law.data.toList.drop 631 = dktL_law_23 := dk_seg dksL_law_22 24 rfl rfl
theorem dksL_law_24 : cL_law.data.toList.drop 654 = dktL_law_24 := dk_seg dksL_law_23 23 rfl rfl
theorem dksL_law_25 : cL_law.data.toList.drop 678 = dktL_law_25 := dk_seg dksL_law_24 24 rfl rfl
theorem dksL_law_26 : cL_law.data.toList.drop 701 = dktL_law_26 := dk_seg dksL_law_25 23 rfl rfl
theorem dksL_law_27 : cL_law.data.toList.drop 725 = dktL_law_27 := dk_seg dksL_law_26 24 rfl rfl
theorem dksL_law_28 : cL_law.data.toList.drop 748 = dktL_law_28 := dk_seg dksL_law_27 23 rfl rfl
theorem dksL_law_29 : cL_law.data.toList.drop 772 = dktL_law_29 := dk_seg dksL_law_28 24 rfl rfl
theorem dksL_law_30 : cL_law.data.toList.drop 796 = dktL_law_30 := dk_seg dksL_law_29 24 rfl rfl
theorem dksL_law_31 : cL_law.data.toList.drop 820 = dktL_law_31 := dk_seg dksL_law_30 24 rfl rfl
theorem dksL_law_32 : cL_law.data.toList.drop 843 = dktL_law_32 := dk_seg dksL_law_31 23 rfl rfl
theorem dksL_law_33 : cL_law.data.toList.drop 867 = dktL_law_33 := dk_seg dksL_law_32 24 rfl rfl
theorem dksL_law_34 : cL_law.data.toList.drop 891 = dktL_law_34 := dk_seg dksL_law_33 24 rfl rfl
theorem dksL_law_35 : cL_law.data.toList.drop 913 = dktL_law_35 := dk_seg dksL_law_34 22 rfl rfl
theorem dksL_law_36 : cL_law.data.toList.drop 935 = dktL_law_36 := dk_seg dksL_law_35 22 rfl rfl
theorem dksL_law_37 : cL_law.data.toList.drop 957 = dktL_law_37 := dk_seg dksL_law_36 22 rfl rfl
theorem dksL_law_38 : cL_law.data.toList.drop 981 = dktL_law_38 := dk_seg dksL_law_37 24 rfl rfl
theorem dksL_law_39 : cL_law.data.toList.drop 1004 = dktL_law_39 := dk_seg dksL_law_38 23 rfl rfl
theorem dksL_law_40 : cL_law.data.toList.drop 1026 = dktL_law_40 := dk_seg dksL_law_39 22 rfl rfl
theorem dksL_law_41 : cL_law.data.toList.drop 1049 = dktL_law_41 := dk_seg dksL_law_40 23 rfl rfl
theorem dksL_law_42 : cL_law.data.toList.drop 1072 = dktL_law_42 := dk_seg dksL_law_41 23 rfl rfl
theorem dksL_law_43 : cL_law.data.toList.drop 1096 = dktL_law_43 := dk_seg dksL_law_42 24 rfl rfl
theorem dksL_law_44 : cL_law.data.toList.drop 1120 = dktL_law_44 := dk_seg dksL_law_43 24 rfl rfl
theorem dksL_law_45 : cL_law.data.toList.drop 1144 = dktL_law_45 := dk_seg dksL_law_44 24 rfl rfl
theorem dksL_law_46 : cL_law.data.toList.drop 1166 = dktL_law_46 := dk_seg dksL_law_45 22 rfl rfl
theorem dksL_law_47 : cL_law.data.toList.drop 1189 = dktL_law_47 := dk_seg dksL_law_46 23 rfl rfl
theorem dksL_law_48 : cL_law.data.toList.drop 1211 = dktL_law_48 := dk_seg dksL_law_47 22 rfl rfl
theorem dksL_law_49 : cL_law.data.toList.drop 1235 = dktL_law_49 := dk_seg dksL_law_48 24 rfl rfl
theorem dksL_law_50 : cL_law.data.toList.drop 1258 = dktL_law_50 := dk_seg dksL_law_49 23 rfl rfl
theorem dksL_law_51 : cL_law.data.toList.drop 1280 = dktL_law_51 := dk_seg dksL_law_50 22 rfl rfl
theorem dksL_law_52 : cL_law.data.toList.drop 1304 = dktL_law_52 := dk_seg dksL_law_51 24 rfl rfl
theorem dksL_law_53 : cL_law.data.toList.drop 1328 = dktL_law_53 := dk_seg dksL_law_52 24 rfl rfl
theorem dksL_law_54 : cL_law.data.toList.drop 1352 = dktL_law_54 := dk_seg dksL_law_53 24 rfl rfl
theorem dksL_law_55 : cL_law.data.toList.drop 1375 = dktL_law_55 := dk_seg dksL_law_54 23 rfl rfl
theorem dksL_law_56 : cL_law.data.toList.drop 1399 = dktL_law_56 := dk_seg dksL_law_55 24 rfl rfl
theorem dksL_law_57 : cL_law.data.toList.drop 1423 = dktL_law_57 := dk_seg dksL_law_56 24 rfl rfl
theorem dksL_law_58 : cL_law.data.toList.drop 1447 = dktL_law_58 := dk_seg dksL_law_57 24 rfl rfl
theorem dksL_law_59 : cL_law.data.toList.drop 1471 = dktL_law_59 := dk_seg dksL_law_58 24 rfl rfl
theorem dksL_law_60 : cL_law.data.toList.drop 1494 = dktL_law_60 := dk_seg dksL_law_59 23 rfl rfl
theorem dksL_law_61 : cL_law.data.toList.drop 1518 = dktL_law_61 := dk_seg dksL_law_60 24 rfl rfl
theorem dksL_law_62 : cL_law.data.toList.drop 1542 = dktL_law_62 := dk_seg dksL_law_61 24 rfl rfl
theorem dksL_law_63 : cL_law.data.toList.drop 1564 = dktL_law_63 := dk_seg dksL_law_62 22 rfl rfl
theorem dksL_law_64 : cL_law.data.toList.drop 1586 = dktL_law_64 := dk_seg dksL_law_63 22 rfl rfl
theorem dksL_law_65 : cL_law.data.toList.drop 1609 = dktL_law_65 := dk_seg dksL_law_64 23 rfl rfl
theorem dksL_law_66 : cL_law.data.toList.drop 1633 = dktL_law_66 := dk_seg dksL_law_65 24 rfl rfl
theorem dksL_law_67 : cL_law.data.toList.drop 1657 = dktL_law_67 := dk_seg dksL_law_66 24 rfl rfl
theorem dksL_law_68 : cL_law.data.toList.drop 1681 = dktL_law_68 := dk_seg dksL_law_67 24 rfl rfl
theorem dksL_law_69 : cL_law.data.toList.drop 1703 = dktL_law_69 := dk_seg dksL_law_68 22 rfl rfl
theorem dksL_law_70 : cL_law.data.toList.drop 1727 = dktL_law_70 := dk_seg dksL_law_69 24 rfl rfl
theorem dksL_law_71 : cL_law.data.toList.drop 1751 = dktL_law_71 := dk_seg dksL_law_70 24 rfl rfl
theorem dksL_law_72 : cL_law.data.toList.drop 1775 = dktL_law_72 := dk_seg dksL_law_71 24 rfl rfl
theorem dL_law_0 : decode cL_law 0 = .ok (.new 8, 3) := dk_187 0 8 (dk_at dksL_law_0 0 rfl rfl)
theorem dL_law_3 : decode cL_law 3 = .ok (.dup, 1) := dk_89 (dk_at dksL_law_0 3 rfl rfl)
theorem dL_law_4 : decode cL_law 4 = .ok (.invokespecial 110, 3) := dk_183 0 110 (dk_at dksL_law_0 4 rfl rfl)
theorem dL_law_7 : decode cL_law 7 = .ok (.astore_n 1, 1) := dk_76 (dk_at dksL_law_0 7 rfl rfl)
theorem dL_law_8 : decode cL_law 8 = .ok (.new 111, 3) := dk_187 0 111 (dk_at dksL_law_0 8 rfl rfl)
theorem dL_law_11 : decode cL_law 11 = .ok (.dup, 1) := dk_89 (dk_at dksL_law_0 11 rfl rfl)
theorem dL_law_12 : decode cL_law 12 = .ok (.invokespecial 113, 3) := dk_183 0 113 (dk_at dksL_law_0 12 rfl rfl)
theorem dL_law_15 : decode cL_law 15 = .ok (.astore_n 2, 1) := dk_77 (dk_at dksL_law_0 15 rfl rfl)
theorem dL_law_16 : decode cL_law 16 = .ok (.iconst 1, 1) := dk_4 (dk_at dksL_law_0 16 rfl rfl)
theorem dL_law_17 : decode cL_law 17 = .ok (.newarray .long, 2) := dk_188_11 (dk_at dksL_law_0 17 rfl rfl)
theorem dL_law_19 : decode cL_law 19 = .ok (.astore_n 3, 1) := dk_78 (dk_at dksL_law_0 19 rfl rfl)
theorem dL_law_20 : decode cL_law 20 = .ok (.iconst 1, 1) := dk_4 (dk_at dksL_law_0 20 rfl rfl)
theorem dL_law_21 : decode cL_law 21 = .ok (.newarray .double, 2) := dk_188_7 (dk_at dksL_law_0 21 rfl rfl)
theorem dL_law_23 : decode cL_law 23 = .ok (.astore 4, 2) := dk_58 4 (dk_at dksL_law_1 0 rfl rfl)
theorem dL_law_25 : decode cL_law 25 = .ok (.iconst 0, 1) := dk_3 (dk_at dksL_law_1 2 rfl rfl)
theorem dL_law_26 : decode cL_law 26 = .ok (.istore 5, 2) := dk_54 5 (dk_at dksL_law_1 3 rfl rfl)
theorem dL_law_28 : decode cL_law 28 = .ok (.iload 5, 2) := dk_21 5 (dk_at dksL_law_1 5 rfl rfl)
theorem dL_law_30 : decode cL_law 30 = .ok (.aload_n 0, 1) := dk_42 (dk_at dksL_law_1 7 rfl rfl)
theorem dL_law_31 : decode cL_law 31 = .ok (.arraylength, 1) := dk_190 (dk_at dksL_law_1 8 rfl rfl)
theorem dL_law_32 : decode cL_law 32 = .ok (.iconst 4, 1) := dk_7 (dk_at dksL_law_1 9 rfl rfl)
theorem dL_law_33 : decode cL_law 33 = .ok (.isub, 1) := dk_100 (dk_at dksL_law_1 10 rfl rfl)
theorem dL_law_34 : decode cL_law 34 = .ok (.if_icmp .gt 1744, 3) := dk_163 6 208 (dk_at dksL_law_1 11 rfl rfl)
theorem dL_law_37 : decode cL_law 37 = .ok (.aload_n 0, 1) := dk_42 (dk_at dksL_law_1 14 rfl rfl)
theorem dL_law_38 : decode cL_law 38 = .ok (.iload 5, 2) := dk_21 5 (dk_at dksL_law_1 15 rfl rfl)
theorem dL_law_40 : decode cL_law 40 = .ok (.iaload, 1) := dk_46 (dk_at dksL_law_1 17 rfl rfl)
theorem dL_law_41 : decode cL_law 41 = .ok (.bipush 31, 2) := dk_16 31 (dk_at dksL_law_1 18 rfl rfl)
theorem dL_law_43 : decode cL_law 43 = .ok (.iand, 1) := dk_126 (dk_at dksL_law_1 20 rfl rfl)
theorem dL_law_44 : decode cL_law 44 = .ok (.tableswitch 1728 0 28 #[132, 200, 268, 326, 370, 414, 458, 502, 558, 602, 646, 702, 770, 826, 894, 990, 1046, 1114, 1170, 1254, 1319, 1397, 1477, 1545, 1601, 1614, 1658, 1671, 1684], 132) := by decide +kernel
theorem dL_law_176 : decode cL_law 176 = .ok (.aload_n 1, 1) := dk_43 (dk_at dksL_law_3 0 rfl rfl)
theorem dL_law_177 : decode cL_law 177 = .ok (.aload_n 0, 1) := dk_42 (dk_at dksL_law_3 1 rfl rfl)
theorem dL_law_178 : decode cL_law 178 = .ok (.iload 5, 2) := dk_21 5 (dk_at dksL_law_3 2 rfl rfl)
theorem dL_law_180 : decode cL_law 180 = .ok (.iconst 1, 1) := dk_4 (dk_at dksL_law_3 4 rfl rfl)
theorem dL_law_181 : decode cL_law 181 = .ok (.iadd, 1) := dk_96 (dk_at dksL_law_3 5 rfl rfl)
theorem dL_law_182 : decode cL_law 182 = .ok (.iaload, 1) := dk_46 (dk_at dksL_law_3 6 rfl rfl)
theorem dL_law_183 : decode cL_law 183 = .ok (.aload_n 0, 1) := dk_42 (dk_at dksL_law_3 7 rfl rfl)
theorem dL_law_184 : decode cL_law 184 = .ok (.iload 5, 2) := dk_21 5 (dk_at dksL_law_3 8 rfl rfl)
theorem dL_law_186 : decode cL_law 186 = .ok (.iconst 2, 1) := dk_5 (dk_at dksL_law_3 10 rfl rfl)
theorem dL_law_187 : decode cL_law 187 = .ok (.iadd, 1) := dk_96 (dk_at dksL_law_3 11 rfl rfl)
theorem dL_law_188 : decode cL_law 188 = .ok (.iaload, 1) := dk_46 (dk_at dksL_law_3 12 rfl rfl)
theorem dL_law_189 : decode cL_law 189 = .ok (.aload_n 3, 1) := dk_45 (dk_at dksL_law_3 13 rfl rfl)
theorem dL_law_190 : decode cL_law 190 = .ok (.invokestatic 114, 3) := dk_184 0 114 (dk_at dksL_law_3 14 rfl rfl)
theorem dL_law_193 : decode cL_law 193 = .ok (.istore 6, 2) := dk_54 6 (dk_at dksL_law_3 17 rfl rfl)
theorem dL_law_195 : decode cL_law 195 = .ok (.aload_n 2, 1) := dk_44 (dk_at dksL_law_3 19 rfl rfl)
theorem dL_law_196 : decode cL_law 196 = .ok (.aload_n 0, 1) := dk_42 (dk_at dksL_law_3 20 rfl rfl)
theorem dL_law_197 : decode cL_law 197 = .ok (.iload 5, 2) := dk_21 5 (dk_at dksL_law_3 21 rfl rfl)
theorem dL_law_199 : decode cL_law 199 = .ok (.iconst 1, 1) := dk_4 (dk_at dksL_law_3 23 rfl rfl)
theorem dL_law_200 : decode cL_law 200 = .ok (.iadd, 1) := dk_96 (dk_at dksL_law_4 0 rfl rfl)
theorem dL_law_201 : decode cL_law 201 = .ok (.iaload, 1) := dk_46 (dk_at dksL_law_4 1 rfl rfl)
theorem dL_law_202 : decode cL_law 202 = .ok (.aload_n 0, 1) := dk_42 (dk_at dksL_law_4 2 rfl rfl)
theorem dL_law_203 : decode cL_law 203 = .ok (.iload 5, 2) := dk_21 5 (dk_at dksL_law_4 3 rfl rfl)
theorem dL_law_205 : decode cL_law 205 = .ok (.iconst 2, 1) := dk_5 (dk_at dksL_law_4 5 rfl rfl)
theorem dL_law_206 : decode cL_law 206 = .ok (.iadd, 1) := dk_96 (dk_at dksL_law_4 6 rfl rfl)
theorem dL_law_207 : decode cL_law 207 = .ok (.iaload, 1) := dk_46 (dk_at dksL_law_4 7 rfl rfl)
theorem dL_law_208 : decode cL_law 208 = .ok (.invokevirtual 119, 3) := dk_182 0 119 (dk_at dksL_law_4 8 rfl rfl)
theorem dL_law_211 : decode cL_law 211 = .ok (.istore 7, 2) := dk_54 7 (dk_at dksL_law_4 11 rfl rfl)
theorem dL_law_213 : decode cL_law 213 = .ok (.aload_n 2, 1) := dk_44 (dk_at dksL_law_4 13 rfl rfl)
theorem dL_law_214 : decode cL_law 214 = .ok (.invokevirtual 120, 3) := dk_182 0 120 (dk_at dksL_law_4 14 rfl rfl)
theorem dL_law_217 : decode cL_law 217 = .ok (.iload 6, 2) := dk_21 6 (dk_at dksL_law_4 17 rfl rfl)
theorem dL_law_219 : decode cL_law 219 = .ok (.if_icmp .eq 5, 3) := dk_159 0 5 (dk_at dksL_law_4 19 rfl rfl)
theorem dL_law_222 : decode cL_law 222 = .ok (.iconst 0, 1) := dk_3 (dk_at dksL_law_4 22 rfl rfl)
theorem dL_law_223 : decode cL_law 223 = .ok (.ireturn, 1) := dk_172 (dk_at dksL_law_4 23 rfl rfl)
theorem dL_law_224 : decode cL_law 224 = .ok (.iload 6, 2) := dk_21 6 (dk_at dksL_law_5 0 rfl rfl)
theorem dL_law_226 : decode cL_law 226 = .ok (.ifCond .ne 15, 3) := dk_154 0 15 (dk_at dksL_law_5 2 rfl rfl)
theorem dL_law_229 : decode cL_law 229 = .ok (.aload_n 3, 1) := dk_45 (dk_at dksL_law_5 5 rfl rfl)
theorem dL_law_230 : decode cL_law 230 = .ok (.iconst 0, 1) := dk_3 (dk_at dksL_law_5 6 rfl rfl)
theorem dL_law_231 : decode cL_law 231 = .ok (.laload, 1) := dk_47 (dk_at dksL_law_5 7 rfl rfl)
theorem dL_law_232 : decode cL_law 232 = .ok (.iload 7, 2) := dk_21 7 (dk_at dksL_law_5 8 rfl rfl)
theorem dL_law_234 : decode cL_law 234 = .ok (.i2l, 1) := dk_133 (dk_at dksL_law_5 10 rfl rfl)
theorem dL_law_235 : decode cL_law 235 = .ok (.lcmp, 1) := dk_148 (dk_at dksL_law_5 11 rfl rfl)
theorem dL_law_236 : decode cL_law 236 = .ok (.ifCond .eq 5, 3) := dk_153 0 5 (dk_at dksL_law_5 12 rfl rfl)
theorem dL_law_239 : decode cL_law 239 = .ok (.iconst 0, 1) := dk_3 (dk_at dksL_law_5 15 rfl rfl)
theorem dL_law_240 : decode cL_law 240 = .ok (.ireturn, 1) := dk_172 (dk_at dksL_law_5 16 rfl rfl)
theorem dL_law_241 : decode cL_law 241 = .ok (.goto 1531, 3) := dk_167 5 251 (dk_at dksL_law_5 17 rfl rfl)
theorem dL_law_244 : decode cL_law 244 = .ok (.aload_n 1, 1) := dk_43 (dk_at dksL_law_5 20 rfl rfl)
theorem dL_law_245 : decode cL_law 245 = .ok (.aload_n 0, 1) := dk_42 (dk_at dksL_law_5 21 rfl rfl)
theorem dL_law_246 : decode cL_law 246 = .ok (.iload 5, 2) := dk_21 5 (dk_at dksL_law_5 22 rfl rfl)
theorem dL_law_248 : decode cL_law 248 = .ok (.iconst 1, 1) := dk_4 (dk_at dksL_law_6 0 rfl rfl)
theorem dL_law_249 : decode cL_law 249 = .ok (.iadd, 1) := dk_96 (dk_at dksL_law_6 1 rfl rfl)
theorem dL_law_250 : decode cL_law 250 = .ok (.iaload, 1) := dk_46 (dk_at dksL_law_6 2 rfl rfl)
theorem dL_law_251 : decode cL_law 251 = .ok (.aload_n 0, 1) := dk_42 (dk_at dksL_law_6 3 rfl rfl)
theorem dL_law_252 : decode cL_law 252 = .ok (.iload 5, 2) := dk_21 5 (dk_at dksL_law_6 4 rfl rfl)
theorem dL_law_254 : decode cL_law 254 = .ok (.iconst 2, 1) := dk_5 (dk_at dksL_law_6 6 rfl rfl)
theorem dL_law_255 : decode cL_law 255 = .ok (.iadd, 1) := dk_96 (dk_at dksL_law_6 7 rfl rfl)
theorem dL_law_256 : decode cL_law 256 = .ok (.iaload, 1) := dk_46 (dk_at dksL_law_6 8 rfl rfl)
theorem dL_law_257 : decode cL_law 257 = .ok (.aload_n 3, 1) := dk_45 (dk_at dksL_law_6 9 rfl rfl)
theorem dL_law_258 : decode cL_law 258 = .ok (.invokestatic 123, 3) := dk_184 0 123 (dk_at dksL_law_6 10 rfl rfl)
theorem dL_law_261 : decode cL_law 261 = .ok (.istore 6, 2) := dk_54 6 (dk_at dksL_law_6 13 rfl rfl)
theorem dL_law_263 : decode cL_law 263 = .ok (.aload_n 2, 1) := dk_44 (dk_at dksL_law_6 15 rfl rfl)
theorem dL_law_264 : decode cL_law 264 = .ok (.aload_n 0, 1) := dk_42 (dk_at dksL_law_6 16 rfl rfl)
theorem dL_law_265 : decode cL_law 265 = .ok (.iload 5, 2) := dk_21 5 (dk_at dksL_law_6 17 rfl rfl)
theorem dL_law_267 : decode cL_law 267 = .ok (.iconst 1, 1) := dk_4 (dk_at dksL_law_6 19 rfl rfl)
theorem dL_law_268 : decode cL_law 268 = .ok (.iadd, 1) := dk_96 (dk_at dksL_law_6 20 rfl rfl)
theorem dL_law_269 : decode cL_law 269 = .ok (.iaload, 1) := dk_46 (dk_at dksL_law_6 21 rfl rfl)
theorem dL_law_270 : decode cL_law 270 = .ok (.aload_n 0, 1) := dk_42 (dk_at dksL_law_6 22 rfl rfl)
theorem dL_law_271 : decode cL_law 271 = .ok (.iload 5, 2) := dk_21 5 (dk_at dksL_law_7 0 rfl rfl)
theorem dL_law_273 : decode cL_law 273 = .ok (.iconst 2, 1) := dk_5 (dk_at dksL_law_7 2 rfl rfl)
theorem dL_law_274 : decode cL_law 274 = .ok (.iadd, 1) := dk_96 (dk_at dksL_law_7 3 rfl rfl)
theorem dL_law_275 : decode cL_law 275 = .ok (.iaload, 1) := dk_46 (dk_at dksL_law_7 4 rfl rfl)
theorem dL_law_276 : decode cL_law 276 = .ok (.invokevirtual 125, 3) := dk_182 0 125 (dk_at dksL_law_7 5 rfl rfl)
theorem dL_law_279 : decode cL_law 279 = .ok (.istore 7, 2) := dk_54 7 (dk_at dksL_law_7 8 rfl rfl)
theorem dL_law_281 : decode cL_law 281 = .ok (.aload_n 2, 1) := dk_44 (dk_at dksL_law_7 10 rfl rfl)
theorem dL_law_282 : decode cL_law 282 = .ok (.invokevirtual 120, 3) := dk_182 0 120 (dk_at dksL_law_7 11 rfl rfl)
theorem dL_law_285 : decode cL_law 285 = .ok (.iload 6, 2) := dk_21 6 (dk_at dksL_law_7 14 rfl rfl)
theorem dL_law_287 : decode cL_law 287 = .ok (.if_icmp .eq 5, 3) := dk_159 0 5 (dk_at dksL_law_7 16 rfl rfl)
theorem dL_law_290 : decode cL_law 290 = .ok (.iconst 0, 1) := dk_3 (dk_at dksL_law_7 19 rfl rfl)
theorem dL_law_291 : decode cL_law 291 = .ok (.ireturn, 1) := dk_172 (dk_at dksL_law_7 20 rfl rfl)
theorem dL_law_292 : decode cL_law 292 = .ok (.iload 6, 2) := dk_21 6 (dk_at dksL_law_7 21 rfl rfl)
theorem dL_law_294 : decode cL_law 294 = .ok (.ifCond .ne 15, 3) := dk_154 0 15 (dk_at dksL_law_8 0 rfl rfl)
theorem dL_law_297 : decode cL_law 297 = .ok (.aload_n 3, 1) := dk_45 (dk_at dksL_law_8 3 rfl rfl)
theorem dL_law_298 : decode cL_law 298 = .ok (.iconst 0, 1) := dk_3 (dk_at dksL_law_8 4 rfl rfl)
theorem dL_law_299 : decode cL_law 299 = .ok (.laload, 1) := dk_47 (dk_at dksL_law_8 5 rfl rfl)
theorem dL_law_300 : decode cL_law 300 = .ok (.iload 7, 2) := dk_21 7 (dk_at dksL_law_8 6 rfl rfl)
theorem dL_law_302 : decode cL_law 302 = .ok (.i2l, 1) := dk_133 (dk_at dksL_law_8 8 rfl rfl)
theorem dL_law_303 : decode cL_law 303 = .ok (.lcmp, 1) := dk_148 (dk_at dksL_law_8 9 rfl rfl)
theorem dL_law_304 : decode cL_law 304 = .ok (.ifCond .eq 5, 3) := dk_153 0 5 (dk_at dksL_law_8 10 rfl rfl)
theorem dL_law_307 : decode cL_law 307 = .ok (.iconst 0, 1) := dk_3 (dk_at dksL_law_8 13 rfl rfl)
theorem dL_law_308 : decode cL_law 308 = .ok (.ireturn, 1) := dk_172 (dk_at dksL_law_8 14 rfl rfl)
theorem dL_law_309 : decode cL_law 309 = .ok (.goto 1463, 3) := dk_167 5 183 (dk_at dksL_law_8 15 rfl rfl)
theorem dL_law_312 : decode cL_law 312 = .ok (.aload_n 1, 1) := dk_43 (dk_at dksL_law_8 18 rfl rfl)
theorem dL_law_313 : decode cL_law 313 = .ok (.aload_n 0, 1) := dk_42 (dk_at dksL_law_8 19 rfl rfl)
theorem dL_law_314 : decode cL_law 314 = .ok (.iload 5, 2) := dk_21 5 (dk_at dksL_law_8 20 rfl rfl)
theorem dL_law_316 : decode cL_law 316 = .ok (.iconst 1, 1) := dk_4 (dk_at dksL_law_8 22 rfl rfl)
theorem dL_law_317 : decode cL_law 317 = .ok (.iadd, 1) := dk_96 (dk_at dksL_law_8 23 rfl rfl)
theorem dL_law_318 : decode cL_law 318 = .ok (.iaload, 1) := dk_46 (dk_at dksL_law_9 0 rfl rfl)
theorem dL_law_319 : decode cL_law 319 = .ok (.i2c, 1) := dk_146 (dk_at dksL_law_9 1 rfl rfl)
theorem dL_law_320 : decode cL_law 320 = .ok (.aload_n 3, 1) := dk_45 (dk_at dksL_law_9 2 rfl rfl)
theorem dL_law_321 : decode cL_law 321 = .ok (.invokestatic 126, 3) := dk_184 0 126 (dk_at dksL_law_9 3 rfl rfl)
theorem dL_law_324 : decode cL_law 324 = .ok (.istore 6, 2) := dk_54 6 (dk_at dksL_law_9 6 rfl rfl)
theorem dL_law_326 : decode cL_law 326 = .ok (.aload_n 2, 1) := dk_44 (dk_at dksL_law_9 8 rfl rfl)
theorem dL_law_327 : decode cL_law 327 = .ok (.aload_n 0, 1) := dk_42 (dk_at dksL_law_9 9 rfl rfl)
theorem dL_law_328 : decode cL_law 328 = .ok (.iload 5, 2) := dk_21 5 (dk_at dksL_law_9 10 rfl rfl)
theorem dL_law_330 : decode cL_law 330 = .ok (.iconst 1, 1) := dk_4 (dk_at dksL_law_9 12 rfl rfl)
theorem dL_law_331 : decode cL_law 331 = .ok (.iadd, 1) := dk_96 (dk_at dksL_law_9 13 rfl rfl)
theorem dL_law_332 : decode cL_law 332 = .ok (.iaload, 1) := dk_46 (dk_at dksL_law_9 14 rfl rfl)
theorem dL_law_333 : decode cL_law 333 = .ok (.i2c, 1) := dk_146 (dk_at dksL_law_9 15 rfl rfl)
theorem dL_law_334 : decode cL_law 334 = .ok (.invokevirtual 129, 3) := dk_182 0 129 (dk_at dksL_law_9 16 rfl rfl)
theorem dL_law_337 : decode cL_law 337 = .ok (.istore 7, 2) := dk_54 7 (dk_at dksL_law_9 19 rfl rfl)
theorem dL_law_339 : decode cL_law 339 = .ok (.aload_n 2, 1) := dk_44 (dk_at dksL_law_9 21 rfl rfl)
theorem dL_law_340 : decode cL_law 340 = .ok (.invokevirtual 120, 3) := dk_182 0 120 (dk_at dksL_law_10 0 rfl rfl)
theorem dL_law_343 : decode cL_law 343 = .ok (.iload 6, 2) := dk_21 6 (dk_at dksL_law_10 3 rfl rfl)
theorem dL_law_345 : decode cL_law 345 = .ok (.if_icmp .eq 5, 3) := dk_159 0 5 (dk_at dksL_law_10 5 rfl rfl)
theorem dL_law_348 : decode cL_law 348 = .ok (.iconst 0, 1) := dk_3 (dk_at dksL_law_10 8 rfl rfl)
theorem dL_law_349 : decode cL_law 349 = .ok (.ireturn, 1) := dk_172 (dk_at dksL_law_10 9 rfl rfl)
theorem dL_law_350 : decode cL_law 350 = .ok (.iload 6, 2) := dk_21 6 (dk_at dksL_law_10 10 rfl rfl)
theorem dL_law_352 : decode cL_law 352 = .ok (.ifCond .ne 15, 3) := dk_154 0 15 (dk_at dksL_law_10 12 rfl rfl)
theorem dL_law_355 : decode cL_law 355 = .ok (.aload_n 3, 1) := dk_45 (dk_at dksL_law_10 15 rfl rfl)
theorem dL_law_356 : decode cL_law 356 = .ok (.iconst 0, 1) := dk_3 (dk_at dksL_law_10 16 rfl rfl)
theorem dL_law_357 : decode cL_law 357 = .ok (.laload, 1) := dk_47 (dk_at dksL_law_10 17 rfl rfl)
theorem dL_law_358 : decode cL_law 358 = .ok (.iload 7, 2) := dk_21 7 (dk_at dksL_law_10 18 rfl rfl)
theorem dL_law_360 : decode cL_law 360 = .ok (.i2l, 1) := dk_133 (dk_at dksL_law_10 20 rfl rfl)
theorem dL_law_361 : decode cL_law 361 = .ok (.lcmp, 1) := dk_148 (dk_at dksL_law_10 21 rfl rfl)
theorem dL_law_362 : decode cL_law 362 = .ok (.ifCond .eq 5, 3) := dk_153 0 5 (dk_at dksL_law_11 0 rfl rfl)
theorem dL_law_365 : decode cL_law 365 = .ok (.iconst 0, 1) := dk_3 (dk_at dksL_law_11 3 rfl rfl)
theorem dL_law_366 : decode cL_law 366 = .ok (.ireturn, 1) := dk_172 (dk_at dksL_law_11 4 rfl rfl)
theorem dL_law_367 : decode cL_law 367 = .ok (.goto 1405, 3) := dk_167 5 125 (dk_at dksL_law_11 5 rfl rfl)
theorem dL_law_370 : decode cL_law 370 = .ok (.aload_n 1, 1) := dk_43 (dk_at dksL_law_11 8 rfl rfl)
theorem dL_law_371 : decode cL_law 371 = .ok (.aload_n 3, 1) := dk_45 (dk_at dksL_law_11 9 rfl rfl)
theorem dL_law_372 : decode cL_law 372 = .ok (.invokestatic 130, 3) := dk_184 0 130 (dk_at dksL_law_11 10 rfl rfl)
theorem dL_law_375 : decode cL_law 375 = .ok (.istore 6, 2) := dk_54 6 (dk_at dksL_law_11 13 rfl rfl)
theorem dL_law_377 : decode cL_law 377 = .ok (.aload_n 2, 1) := dk_44 (dk_at dksL_law_11 15 rfl rfl)
theorem dL_law_378 : decode cL_law 378 = .ok (.invokevirtual 133, 3) := dk_182 0 133 (dk_at dksL_law_11 16 rfl rfl)
theorem dL_law_381 : decode cL_law 381 = .ok (.istore 7, 2) := dk_54 7 (dk_at dksL_law_11 19 rfl rfl)
theorem dL_law_383 : decode cL_law 383 = .ok (.aload_n 2, 1) := dk_44 (dk_at dksL_law_11 21 rfl rfl)
theorem dL_law_384 : decode cL_law 384 = .ok (.invokevirtual 120, 3) := dk_182 0 120 (dk_at dksL_law_12 0 rfl rfl)
theorem dL_law_387 : decode cL_law 387 = .ok (.iload 6, 2) := dk_21 6 (dk_at dksL_law_12 3 rfl rfl)
theorem dL_law_389 : decode cL_law 389 = .ok (.if_icmp .eq 5, 3) := dk_159 0 5 (dk_at dksL_law_12 5 rfl rfl)
theorem dL_law_392 : decode cL_law 392 = .ok (.iconst 0, 1) := dk_3 (dk_at dksL_law_12 8 rfl rfl)
theorem dL_law_393 : decode cL_law 393 = .ok (.ireturn, 1) := dk_172 (dk_at dksL_law_12 9 rfl rfl)
theorem dL_law_394 : decode cL_law 394 = .ok (.iload 6, 2) := dk_21 6 (dk_at dksL_law_12 10 rfl rfl)
theorem dL_law_396 : decode cL_law 396 = .ok (.ifCond .ne 15, 3) := dk_154 0 15 (dk_at dksL_law_12 12 rfl rfl)
theorem dL_law_399 : decode cL_law 399 = .ok (.aload_n 3, 1) := dk_45 (dk_at dksL_law_12 15 rfl rfl)
theorem dL_law_400 : decode cL_law 400 = .ok (.iconst 0, 1) := dk_3 (dk_at dksL_law_12 16 rfl rfl)
theorem dL_law_401 : decode cL_law 401 = .ok (.laload, 1) := dk_47 (dk_at dksL_law_12 17 rfl rfl)
theorem dL_law_402 : decode cL_law 402 = .ok (.iload 7, 2) := dk_21 7 (dk_at dksL_law_12 18 rfl rfl)
theorem dL_law_404 : decode cL_law 404 = .ok (.i2l, 1) := dk_133 (dk_at dksL_law_12 20 rfl rfl)
theorem dL_law_405 : decode cL_law 405 = .ok (.lcmp, 1) := dk_148 (dk_at dksL_law_12 21 rfl rfl)
theorem dL_law_406 : decode cL_law 406 = .ok (.ifCond .eq 5, 3) := dk_153 0 5 (dk_at dksL_law_13 0 rfl rfl)
theorem dL_law_409 : decode cL_law 409 = .ok (.iconst 0, 1) := dk_3 (dk_at dksL_law_13 3 rfl rfl)
theorem dL_law_410 : decode cL_law 410 = .ok (.ireturn, 1) := dk_172 (dk_at dksL_law_13 4 rfl rfl)
theorem dL_law_411 : decode cL_law 411 = .ok (.goto 1361, 3) := dk_167 5 81 (dk_at dksL_law_13 5 rfl rfl)
theorem dL_law_414 : decode cL_law 414 = .ok (.aload_n 1, 1) := dk_43 (dk_at dksL_law_13 8 rfl rfl)
theorem dL_law_415 : decode cL_law 415 = .ok (.aload_n 3, 1) := dk_45 (dk_at dksL_law_13 9 rfl rfl)
theorem dL_law_416 : decode cL_law 416 = .ok (.invokestatic 134, 3) := dk_184 0 134 (dk_at dksL_law_13 10 rfl rfl)
theorem dL_law_419 : decode cL_law 419 = .ok (.istore 6, 2) := dk_54 6 (dk_at dksL_law_13 13 rfl rfl)
theorem dL_law_421 : decode cL_law 421 = .ok (.aload_n 2, 1) := dk_44 (dk_at dksL_law_13 15 rfl rfl)
theorem dL_law_422 : decode cL_law 422 = .ok (.invokevirtual 136, 3) := dk_182 0 136 (dk_at dksL_law_13 16 rfl rfl)
theorem dL_law_425 : decode cL_law 425 = .ok (.istore 7, 2) := dk_54 7 (dk_at dksL_law_13 19 rfl rfl)
theorem dL_law_427 : decode cL_law 427 = .ok (.aload_n 2, 1) := dk_44 (dk_at dksL_law_13 21 rfl rfl)
theorem dL_law_428 : decode cL_law 428 = .ok (.invokevirtual 120, 3) := dk_182 0 120 (dk_at dksL_law_14 0 rfl rfl)
theorem dL_law_431 : decode cL_law 431 = .ok (.iload 6, 2) := dk_21 6 (dk_at dksL_law_14 3 rfl rfl)
theorem dL_law_433 : decode cL_law 433 = .ok (.if_icmp .eq 5, 3) := dk_159 0 5 (dk_at dksL_law_14 5 rfl rfl)
theorem dL_law_436 : decode cL_law 436 = .ok (.iconst 0, 1) := dk_3 (dk_at dksL_law_14 8 rfl rfl)
theorem dL_law_437 : decode cL_law 437 = .ok (.ireturn, 1) := dk_172 (dk_at dksL_law_14 9 rfl rfl)
theorem dL_law_438 : decode cL_law 438 = .ok (.iload 6, 2) := dk_21 6 (dk_at dksL_law_14 10 rfl rfl)
theorem dL_law_440 : decode cL_law 440 = .ok (.ifCond .ne 15, 3) := dk_154 0 15 (dk_at dksL_law_14 12 rfl rfl)
theorem dL_law_443 : decode cL_law 443 = .ok (.aload_n 3, 1) := dk_45 (dk_at dksL_law_14 15 rfl rfl)
theorem dL_law_444 : decode cL_law 444 = .ok (.iconst 0, 1) := dk_3 (dk_at dksL_law_14 16 rfl rfl)
theorem dL_law_445 : decode cL_law 445 = .ok (.laload, 1) := dk_47 (dk_at dksL_law_14 17 rfl rfl)
theorem dL_law_446 : decode cL_law 446 = .ok (.iload 7, 2) := dk_21 7 (dk_at dksL_law_14 18 rfl rfl)
theorem dL_law_448 : decode cL_law 448 = .ok (.i2l, 1) := dk_133 (dk_at dksL_law_14 20 rfl rfl)
theorem dL_law_449 : decode cL_law 449 = .ok (.lcmp, 1) := dk_148 (dk_at dksL_law_14 21 rfl rfl)
theorem dL_law_450 : decode cL_law 450 = .ok (.ifCond .eq 5, 3) := dk_153 0 5 (dk_at dksL_law_15 0 rfl rfl)
theorem dL_law_453 : decode cL_law 453 = .ok (.iconst 0, 1) := dk_3 (dk_at dksL_law_15 3 rfl rfl)
theorem dL_law_454 : decode cL_law 454 = .ok (.ireturn, 1) := dk_172 (dk_at dksL_law_15 4 rfl rfl)
theorem dL_law_455 : decode cL_law 455 = .ok (.goto 1317, 3) := dk_167 5 37 (dk_at dksL_law_15 5 rfl rfl)
theorem dL_law_458 : decode cL_law 458 = .ok (.aload_n 1, 1) := dk_43 (dk_at dksL_law_15 8 rfl rfl)
theorem dL_law_459 : decode cL_law 459 = .ok (.aload_n 3, 1) := dk_45 (dk_at dksL_law_15 9 rfl rfl)
theorem dL_law_460 : decode cL_law 460 = .ok (.invokestatic 137, 3) := dk_184 0 137 (dk_at dksL_law_15 10 rfl rfl)
theorem dL_law_463 : decode cL_law 463 = .ok (.istore 6, 2) := dk_54 6 (dk_at dksL_law_15 13 rfl rfl)
theorem dL_law_465 : decode cL_law 465 = .ok (.aload_n 2, 1) := dk_44 (dk_at dksL_law_15 15 rfl rfl)
theorem dL_law_466 : decode cL_law 466 = .ok (.invokevirtual 139, 3) := dk_182 0 139 (dk_at dksL_law_15 16 rfl rfl)
theorem dL_law_469 : decode cL_law 469 = .ok (.istore 7, 2) := dk_54 7 (dk_at dksL_law_15 19 rfl rfl)
theorem dL_law_471 : decode cL_law 471 = .ok (.aload_n 2, 1) := dk_44 (dk_at dksL_law_15 21 rfl rfl)
theorem dL_law_472 : decode cL_law 472 = .ok (.invokevirtual 120, 3) := dk_182 0 120 (dk_at dksL_law_16 0 rfl rfl)
theorem dL_law_475 : decode cL_law 475 = .ok (.iload 6, 2) := dk_21 6 (dk_at dksL_law_16 3 rfl rfl)
theorem dL_law_477 : decode cL_law 477 = .ok (.if_icmp .eq 5, 3) := dk_159 0 5 (dk_at dksL_law_16 5 rfl rfl)
theorem dL_law_480 : decode cL_law 480 = .ok (.iconst 0, 1) := dk_3 (dk_at dksL_law_16 8 rfl rfl)
theorem dL_law_481 : decode cL_law 481 = .ok (.ireturn, 1) := dk_172 (dk_at dksL_law_16 9 rfl rfl)
theorem dL_law_482 : decode cL_law 482 = .ok (.iload 6, 2) := dk_21 6 (dk_at dksL_law_16 10 rfl rfl)
theorem dL_law_484 : decode cL_law 484 = .ok (.ifCond .ne 15, 3) := dk_154 0 15 (dk_at dksL_law_16 12 rfl rfl)
theorem dL_law_487 : decode cL_law 487 = .ok (.aload_n 3, 1) := dk_45 (dk_at dksL_law_16 15 rfl rfl)
theorem dL_law_488 : decode cL_law 488 = .ok (.iconst 0, 1) := dk_3 (dk_at dksL_law_16 16 rfl rfl)
theorem dL_law_489 : decode cL_law 489 = .ok (.laload, 1) := dk_47 (dk_at dksL_law_16 17 rfl rfl)
theorem dL_law_490 : decode cL_law 490 = .ok (.iload 7, 2) := dk_21 7 (dk_at dksL_law_16 18 rfl rfl)
theorem dL_law_492 : decode cL_law 492 = .ok (.i2l, 1) := dk_133 (dk_at dksL_law_16 20 rfl rfl)
theorem dL_law_493 : decode cL_law 493 = .ok (.lcmp, 1) := dk_148 (dk_at dksL_law_16 21 rfl rfl)
theorem dL_law_494 : decode cL_law 494 = .ok (.ifCond .eq 5, 3) := dk_153 0 5 (dk_at dksL_law_17 0 rfl rfl)
theorem dL_law_497 : decode cL_law 497 = .ok (.iconst 0, 1) := dk_3 (dk_at dksL_law_17 3 rfl rfl)
theorem dL_law_498 : decode cL_law 498 = .ok (.ireturn, 1) := dk_172 (dk_at dksL_law_17 4 rfl rfl)
theorem dL_law_499 : decode cL_law 499 = .ok (.goto 1273, 3) := dk_167 4 249 (dk_at dksL_law_17 5 rfl rfl)
theorem dL_law_502 : decode cL_law 502 = .ok (.aload_n 1, 1) := dk_43 (dk_at dksL_law_17 8 rfl rfl)
theorem dL_law_503 : decode cL_law 503 = .ok (.aload_n 3, 1) := dk_45 (dk_at dksL_law_17 9 rfl rfl)
theorem dL_law_504 : decode cL_law 504 = .ok (.invokestatic 140, 3) := dk_184 0 140 (dk_at dksL_law_17 10 rfl rfl)
theorem dL_law_507 : decode cL_law 507 = .ok (.istore 6, 2) := dk_54 6 (dk_at dksL_law_17 13 rfl rfl)
theorem dL_law_509 : decode cL_law 509 = .ok (.aload_n 2, 1) := dk_44 (dk_at dksL_law_17 15 rfl rfl)
theorem dL_law_510 : decode cL_law 510 = .ok (.invokevirtual 142, 3) := dk_182 0 142 (dk_at dksL_law_17 16 rfl rfl)
theorem dL_law_513 : decode cL_law 513 = .ok (.istore 7, 2) := dk_54 7 (dk_at dksL_law_17 19 rfl rfl)
theorem dL_law_515 : decode cL_law 515 = .ok (.aload_n 2, 1) := dk_44 (dk_at dksL_law_17 21 rfl rfl)
theorem dL_law_516 : decode cL_law 516 = .ok (.invokevirtual 120, 3) := dk_182 0 120 (dk_at dksL_law_18 0 rfl rfl)
theorem dL_law_519 : decode cL_law 519 = .ok (.iload 6, 2) := dk_21 6 (dk_at dksL_law_18 3 rfl rfl)
theorem dL_law_521 : decode cL_law 521 = .ok (.if_icmp .eq 5, 3) := dk_159 0 5 (dk_at dksL_law_18 5 rfl rfl)
theorem dL_law_524 : decode cL_law 524 = .ok (.iconst 0, 1) := dk_3 (dk_at dksL_law_18 8 rfl rfl)
theorem dL_law_525 : decode cL_law 525 = .ok (.ireturn, 1) := dk_172 (dk_at dksL_law_18 9 rfl rfl)
theorem dL_law_526 : decode cL_law 526 = .ok (.iload 6, 2) := dk_21 6 (dk_at dksL_law_18 10 rfl rfl)
theorem dL_law_528 : decode cL_law 528 = .ok (.ifCond .ne 15, 3) := dk_154 0 15 (dk_at dksL_law_18 12 rfl rfl)
theorem dL_law_531 : decode cL_law 531 = .ok (.aload_n 3, 1) := dk_45 (dk_at dksL_law_18 15 rfl rfl)
theorem dL_law_532 : decode cL_law 532 = .ok (.iconst 0, 1) := dk_3 (dk_at dksL_law_18 16 rfl rfl)
theorem dL_law_533 : decode cL_law 533 = .ok (.laload, 1) := dk_47 (dk_at dksL_law_18 17 rfl rfl)
theorem dL_law_534 : decode cL_law 534 = .ok (.iload 7, 2) := dk_21 7 (dk_at dksL_law_18 18 rfl rfl)
theorem dL_law_536 : decode cL_law 536 = .ok (.i2l, 1) := dk_133 (dk_at dksL_law_18 20 rfl rfl)
theorem dL_law_537 : decode cL_law 537 = .ok (.lcmp, 1) := dk_148 (dk_at dksL_law_18 21 rfl rfl)
theorem dL_law_538 : decode cL_law 538 = .ok (.ifCond .eq 5, 3) := dk_153 0 5 (dk_at dksL_law_19 0 rfl rfl)
theorem dL_law_541 : decode cL_law 541 = .ok (.iconst 0, 1) := dk_3 (dk_at dksL_law_19 3 rfl rfl)
theorem dL_law_542 : decode cL_law 542 = .ok (.ireturn, 1) := dk_172 (dk_at dksL_law_19 4 rfl rfl)
theorem dL_law_543 : decode cL_law 543 = .ok (.goto 1229, 3) := dk_167 4 205 (dk_at dksL_law_19 5 rfl rfl)
theorem dL_law_546 : decode cL_law 546 = .ok (.aload_n 1, 1) := dk_43 (dk_at dksL_law_19 8 rfl rfl)
theorem dL_law_547 : decode cL_law 547 = .ok (.aload_n 0, 1) := dk_42 (dk_at dksL_law_19 9 rfl rfl)
theorem dL_law_548 : decode cL_law 548 = .ok (.iload 5, 2) := dk_21 5 (dk_at dksL_law_19 10 rfl rfl)
theorem dL_law_550 : decode cL_law 550 = .ok (.iconst 1, 1) := dk_4 (dk_at dksL_law_19 12 rfl rfl)
theorem dL_law_551 : decode cL_law 551 = .ok (.iadd, 1) := dk_96 (dk_at dksL_law_19 13 rfl rfl)
theorem dL_law_552 : decode cL_law 552 = .ok (.iaload, 1) := dk_46 (dk_at dksL_law_19 14 rfl rfl)
theorem dL_law_553 : decode cL_law 553 = .ok (.aload_n 3, 1) := dk_45 (dk_at dksL_law_19 15 rfl rfl)
theorem dL_law_554 : decode cL_law 554 = .ok (.invokestatic 143, 3) := dk_184 0 143 (dk_at dksL_law_19 16 rfl rfl)
theorem dL_law_557 : decode cL_law 557 = .ok (.istore 6, 2) := dk_54 6 (dk_at dksL_law_19 19 rfl rfl)
theorem dL_law_559 : decode cL_law 559 = .ok (.aload_n 2, 1) := dk_44 (dk_at dksL_law_19 21 rfl rfl)
theorem dL_law_560 : decode cL_law 560 = .ok (.aload_n 0, 1) := dk_42 (dk_at dksL_law_19 22 rfl rfl)
theorem dL_law_561 : decode cL_law 561 = .ok (.iload 5, 2) := dk_21 5 (dk_at dksL_law_20 0 rfl rfl)
theorem dL_law_563 : decode cL_law 563 = .ok (.iconst 1, 1) := dk_4 (dk_at dksL_law_20 2 rfl rfl)
theorem dL_law_564 : decode cL_law 564 = .ok (.iadd, 1) := dk_96 (dk_at dksL_law_20 3 rfl rfl)
theorem dL_law_565 : decode cL_law 565 = .ok (.iaload, 1) := dk_46 (dk_at dksL_law_20 4 rfl rfl)
theorem dL_law_566 : decode cL_law 566 = .ok (.invokevirtual 146, 3) := dk_182 0 146 (dk_at dksL_law_20 5 rfl rfl)
theorem dL_law_569 : decode cL_law 569 = .ok (.istore 7, 2) := dk_54 7 (dk_at dksL_law_20 8 rfl rfl)
theorem dL_law_571 : decode cL_law 571 = .ok (.aload_n 2, 1) := dk_44 (dk_at dksL_law_20 10 rfl rfl)
theorem dL_law_572 : decode cL_law 572 = .ok (.invokevirtual 120, 3) := dk_182 0 120 (dk_at dksL_law_20 11 rfl rfl)
theorem dL_law_575 : decode cL_law 575 = .ok (.iload 6, 2) := dk_21 6 (dk_at dksL_law_20 14 rfl rfl)
theorem dL_law_577 : decode cL_law 577 = .ok (.if_icmp .eq 5, 3) := dk_159 0 5 (dk_at dksL_law_20 16 rfl rfl)
theorem dL_law_580 : decode cL_law 580 = .ok (.iconst 0, 1) := dk_3 (dk_at dksL_law_20 19 rfl rfl)
theorem dL_law_581 : decode cL_law 581 = .ok (.ireturn, 1) := dk_172 (dk_at dksL_law_20 20 rfl rfl)
theorem dL_law_582 : decode cL_law 582 = .ok (.iload 6, 2) := dk_21 6 (dk_at dksL_law_20 21 rfl rfl)
theorem dL_law_584 : decode cL_law 584 = .ok (.ifCond .ne 15, 3) := dk_154 0 15 (dk_at dksL_law_21 0 rfl rfl)
theorem dL_law_587 : decode cL_law 587 = .ok (.aload_n 3, 1) := dk_45 (dk_at dksL_law_21 3 rfl rfl)
theorem dL_law_588 : decode cL_law 588 = .ok (.iconst 0, 1) := dk_3 (dk_at dksL_law_21 4 rfl rfl)
theorem dL_law_589 : decode cL_law 589 = .ok (.laload, 1) := dk_47 (dk_at dksL_law_21 5 rfl rfl)
theorem dL_law_590 : decode cL_law 590 = .ok (.iload 7, 2) := dk_21 7 (dk_at dksL_law_21 6 rfl rfl)
theorem dL_law_592 : decode cL_law 592 = .ok (.i2l, 1) := dk_133 (dk_at dksL_law_21 8 rfl rfl)
theorem dL_law_593 : decode cL_law 593 = .ok (.lcmp, 1) := dk_148 (dk_at dksL_law_21 9 rfl rfl)
theorem dL_law_594 : decode cL_law 594 = .ok (.ifCond .eq 5, 3) := dk_153 0 5 (dk_at dksL_law_21 10 rfl rfl)
theorem dL_law_597 : decode cL_law 597 = .ok (.iconst 0, 1) := dk_3 (dk_at dksL_law_21 13 rfl rfl)
theorem dL_law_598 : decode cL_law 598 = .ok (.ireturn, 1) := dk_172 (dk_at dksL_law_21 14 rfl rfl)
theorem dL_law_599 : decode cL_law 599 = .ok (.goto 1173, 3) := dk_167 4 149 (dk_at dksL_law_21 15 rfl rfl)
theorem dL_law_602 : decode cL_law 602 = .ok (.aload_n 1, 1) := dk_43 (dk_at dksL_law_21 18 rfl rfl)
theorem dL_law_603 : decode cL_law 603 = .ok (.aload_n 3, 1) := dk_45 (dk_at dksL_law_21 19 rfl rfl)
theorem dL_law_604 : decode cL_law 604 = .ok (.invokestatic 147, 3) := dk_184 0 147 (dk_at dksL_law_21 20 rfl rfl)
theorem dL_law_607 : decode cL_law 607 = .ok (.istore 6, 2) := dk_54 6 (dk_at dksL_law_22 0 rfl rfl)
theorem dL_law_609 : decode cL_law 609 = .ok (.aload_n 2, 1) := dk_44 (dk_at dksL_law_22 2 rfl rfl)
theorem dL_law_610 : decode cL_law 610 = .ok (.invokevirtual 149, 3) := dk_182 0 149 (dk_at dksL_law_22 3 rfl rfl)
theorem dL_law_613 : decode cL_law 613 = .ok (.istore 7, 2) := dk_54 7 (dk_at dksL_law_22 6 rfl rfl)
theorem dL_law_615 : decode cL_law 615 = .ok (.aload_n 2, 1) := dk_44 (dk_at dksL_law_22 8 rfl rfl)
theorem dL_law_616 : decode cL_law 616 = .ok (.invokevirtual 120, 3) := dk_182 0 120 (dk_at dksL_law_22 9 rfl rfl)
theorem dL_law_619 : decode cL_law 619 = .ok (.iload 6, 2) := dk_21 6 (dk_at dksL_law_22 12 rfl rfl)
theorem dL_law_621 : decode cL_law 621 = .ok (.if_icmp .eq 5, 3) := dk_159 0 5 (dk_at dksL_law_22 14 rfl rfl)
theorem dL_law_624 : decode cL_law 624 = .ok (.iconst 0, 1) := dk_3 (dk_at dksL_law_22 17 rfl rfl)
theorem dL_law_625 : decode cL_law 625 = .ok (.ireturn, 1) := dk_172 (dk_at dksL_law_22 18 rfl rfl)
theorem dL_law_626 : decode cL_law 626 = .ok (.iload 6, 2) := dk_21 6 (dk_at dksL_law_22 19 rfl rfl)
theorem dL_law_628 : decode cL_law 628 = .ok (.ifCond .ne 15, 3) := dk_154 0 15 (dk_at dksL_law_22 21 rfl rfl)
theorem dL_law_631 : decode cL_law 631 = .ok (.aload_n 3, 1) := dk_45 (dk_at dksL_law_23 0 rfl rfl)
theorem dL_law_632 : decode cL_law 632 = .ok (.iconst 0, 1) := dk_3 (dk_at dksL_law_23 1 rfl rfl)
theorem dL_law_633 : decode cL_law 633 = .ok (.laload, 1) := dk_47 (dk_at dksL_law_23 2 rfl rfl)
theorem dL_law_634 : decode cL_law 634 = .ok (.iload 7, 2) := dk_21 7 (dk_at dksL_law_23 3 rfl rfl)
theorem dL_law_636 : decode cL_law 636 = .ok (.i2l, 1) := dk_133 (dk_at dksL_law_23 5 rfl rfl)
theorem dL_law_637 : decode cL_law 637 = .ok (.lcmp, 1) := dk_148 (dk_at dksL_law_23 6 rfl rfl)
theorem dL_law_638 : decode cL_law 638 = .ok (.ifCond .eq 5, 3) := dk_153 0 5 (dk_at dksL_law_23 7 rfl rfl)
theorem dL_law_641 : decode cL_law 641 = .ok (.iconst 0, 1) := dk_3 (dk_at dksL_law_23 10 rfl rfl)
theorem dL_law_642 : decode cL_law 642 = .ok (.ireturn, 1) := dk_172 (dk_at dksL_law_23 11 rfl rfl)
theorem dL_law_643 : decode cL_law 643 = .ok (.goto 1129, 3) := dk_167 4 105 (dk_at dksL_law_23 12 rfl rfl)
theorem dL_law_646 : decode cL_law 646 = .ok (.aload_n 1, 1) := dk_43 (dk_at dksL_law_23 15 rfl rfl)
theorem dL_law_647 : decode cL_law 647 = .ok (.aload_n 3, 1) := dk_45 (dk_at dksL_law_23 16 rfl rfl)
theorem dL_law_648 : decode cL_law 648 = .ok (.invokestatic 150, 3) := dk_184 0 150 (dk_at dksL_law_23 17 rfl rfl)
theorem dL_law_651 : decode cL_law 651 = .ok (.istore 6, 2) := dk_54 6 (dk_at dksL_law_23 20 rfl rfl)
theorem dL_law_653 : decode cL_law 653 = .ok (.aload_n 2, 1) := dk_44 (dk_at dksL_law_23 22 rfl rfl)
theorem dL_law_654 : decode cL_law 654 = .ok (.invokevirtual 152, 3) := dk_182 0 152 (dk_at dksL_law_24 0 rfl rfl)
theorem dL_law_657 : decode cL_law 657 = .ok (.istore 7, 2) := dk_54 7 (dk_at dksL_law_24 3 rfl rfl)
theorem dL_law_659 : decode cL_law 659 = .ok (.aload_n 2, 1) := dk_44 (dk_at dksL_law_24 5 rfl rfl)
theorem dL_law_660 : decode cL_law 660 = .ok (.invokevirtual 120, 3) := dk_182 0 120 (dk_at dksL_law_24 6 rfl rfl)
theorem dL_law_663 : decode cL_law 663 = .ok (.iload 6, 2) := dk_21 6 (dk_at dksL_law_24 9 rfl rfl)
theorem dL_law_665 : decode cL_law 665 = .ok (.if_icmp .eq 5, 3) := dk_159 0 5 (dk_at dksL_law_24 11 rfl rfl)
theorem dL_law_668 : decode cL_law 668 = .ok (.iconst 0, 1) := dk_3 (dk_at dksL_law_24 14 rfl rfl)
theorem dL_law_669 : decode cL_law 669 = .ok (.ireturn, 1) := dk_172 (dk_at dksL_law_24 15 rfl rfl)
theorem dL_law_670 : decode cL_law 670 = .ok (.iload 6, 2) := dk_21 6 (dk_at dksL_law_24 16 rfl rfl)
theorem dL_law_672 : decode cL_law 672 = .ok (.ifCond .ne 15, 3) := dk_154 0 15 (dk_at dksL_law_24 18 rfl rfl)
theorem dL_law_675 : decode cL_law 675 = .ok (.aload_n 3, 1) := dk_45 (dk_at dksL_law_24 21 rfl rfl)
theorem dL_law_676 : decode cL_law 676 = .ok (.iconst 0, 1) := dk_3 (dk_at dksL_law_24 22 rfl rfl)
theorem dL_law_677 : decode cL_law 677 = .ok (.laload, 1) := dk_47 (dk_at dksL_law_24 23 rfl rfl)
theorem dL_law_678 : decode cL_law 678 = .ok (.iload 7, 2) := dk_21 7 (dk_at dksL_law_25 0 rfl rfl)
theorem dL_law_680 : decode cL_law 680 = .ok (.i2l, 1) := dk_133 (dk_at dksL_law_25 2 rfl rfl)
theorem dL_law_681 : decode cL_law 681 = .ok (.lcmp, 1) := dk_148 (dk_at dksL_law_25 3 rfl rfl)
theorem dL_law_682 : decode cL_law 682 = .ok (.ifCond .eq 5, 3) := dk_153 0 5 (dk_at dksL_law_25 4 rfl rfl)
theorem dL_law_685 : decode cL_law 685 = .ok (.iconst 0, 1) := dk_3 (dk_at dksL_law_25 7 rfl rfl)
theorem dL_law_686 : decode cL_law 686 = .ok (.ireturn, 1) := dk_172 (dk_at dksL_law_25 8 rfl rfl)
theorem dL_law_687 : decode cL_law 687 = .ok (.goto 1085, 3) := dk_167 4 61 (dk_at dksL_law_25 9 rfl rfl)
theorem dL_law_690 : decode cL_law 690 = .ok (.aload_n 1, 1) := dk_43 (dk_at dksL_law_25 12 rfl rfl)
theorem dL_law_691 : decode cL_law 691 = .ok (.aload_n 0, 1) := dk_42 (dk_at dksL_law_25 13 rfl rfl)
theorem dL_law_692 : decode cL_law 692 = .ok (.iload 5, 2) := dk_21 5 (dk_at dksL_law_25 14 rfl rfl)
theorem dL_law_694 : decode cL_law 694 = .ok (.iconst 1, 1) := dk_4 (dk_at dksL_law_25 16 rfl rfl)
theorem dL_law_695 : decode cL_law 695 = .ok (.iadd, 1) := dk_96 (dk_at dksL_law_25 17 rfl rfl)
theorem dL_law_696 : decode cL_law 696 = .ok (.iaload, 1) := dk_46 (dk_at dksL_law_25 18 rfl rfl)
theorem dL_law_697 : decode cL_law 697 = .ok (.aload_n 3, 1) := dk_45 (dk_at dksL_law_25 19 rfl rfl)
theorem dL_law_698 : decode cL_law 698 = .ok (.invokestatic 153, 3) := dk_184 0 153 (dk_at dksL_law_25 20 rfl rfl)
theorem dL_law_701 : decode cL_law 701 = .ok (.istore 6, 2) := dk_54 6 (dk_at dksL_law_26 0 rfl rfl)
theorem dL_law_703 : decode cL_law 703 = .ok (.aload_n 2, 1) := dk_44 (dk_at dksL_law_26 2 rfl rfl)
theorem dL_law_704 : decode cL_law 704 = .ok (.aload_n 0, 1) := dk_42 (dk_at dksL_law_26 3 rfl rfl)
theorem dL_law_705 : decode cL_law 705 = .ok (.iload 5, 2) := dk_21 5 (dk_at dksL_law_26 4 rfl rfl)
theorem dL_law_707 : decode cL_law 707 = .ok (.iconst 1, 1) := dk_4 (dk_at dksL_law_26 6 rfl rfl)
theorem dL_law_708 : decode cL_law 708 = .ok (.iadd, 1) := dk_96 (dk_at dksL_law_26 7 rfl rfl)
theorem dL_law_709 : decode cL_law 709 = .ok (.iaload, 1) := dk_46 (dk_at dksL_law_26 8 rfl rfl)
theorem dL_law_710 : decode cL_law 710 = .ok (.invokevirtual 155, 3) := dk_182 0 155 (dk_at dksL_law_26 9 rfl rfl)
theorem dL_law_713 : decode cL_law 713 = .ok (.istore 7, 2) := dk_54 7 (dk_at dksL_law_26 12 rfl rfl)
theorem dL_law_715 : decode cL_law 715 = .ok (.aload_n 2, 1) := dk_44 (dk_at dksL_law_26 14 rfl rfl)
theorem dL_law_716 : decode cL_law 716 = .ok (.invokevirtual 120, 3) := dk_182 0 120 (dk_at dksL_law_26 15 rfl rfl)
theorem dL_law_719 : decode cL_law 719 = .ok (.iload 6, 2) := dk_21 6 (dk_at dksL_law_26 18 rfl rfl)
theorem dL_law_721 : decode cL_law 721 = .ok (.if_icmp .eq 5, 3) := dk_159 0 5 (dk_at dksL_law_26 20 rfl rfl)
theorem dL_law_724 : decode cL_law 724 = .ok (.iconst 0, 1) := dk_3 (dk_at dksL_law_26 23 rfl rfl)
theorem dL_law_725 : decode cL_law 725 = .ok (.ireturn, 1) := dk_172 (dk_at dksL_law_27 0 rfl rfl)
theorem dL_law_726 : decode cL_law 726 = .ok (.iload 6, 2) := dk_21 6 (dk_at dksL_law_27 1 rfl rfl)
theorem dL_law_728 : decode cL_law 728 = .ok (.ifCond .ne 15, 3) := dk_154 0 15 (dk_at dksL_law_27 3 rfl rfl)
theorem dL_law_731 : decode cL_law 731 = .ok (.aload_n 3, 1) := dk_45 (dk_at dksL_law_27 6 rfl rfl)
theorem dL_law_732 : decode cL_law 732 = .ok (.iconst 0, 1) := dk_3 (dk_at dksL_law_27 7 rfl rfl)
theorem dL_law_733 : decode cL_law 733 = .ok (.laload, 1) := dk_47 (dk_at dksL_law_27 8 rfl rfl)
theorem dL_law_734 : decode cL_law 734 = .ok (.iload 7, 2) := dk_21 7 (dk_at dksL_law_27 9 rfl rfl)
theorem dL_law_736 : decode cL_law 736 = .ok (.i2l, 1) := dk_133 (dk_at dksL_law_27 11 rfl rfl)
theorem dL_law_737 : decode cL_law 737 = .ok (.lcmp, 1) := dk_148 (dk_at dksL_law_27 12 rfl rfl)
theorem dL_law_738 : decode cL_law 738 = .ok (.ifCond .eq 5, 3) := dk_153 0 5 (dk_at dksL_law_27 13 rfl rfl)
theorem dL_law_741 : decode cL_law 741 = .ok (.iconst 0, 1) := dk_3 (dk_at dksL_law_27 16 rfl rfl)
theorem dL_law_742 : decode cL_law 742 = .ok (.ireturn, 1) := dk_172 (dk_at dksL_law_27 17 rfl rfl)
theorem dL_law_743 : decode cL_law 743 = .ok (.goto 1029, 3) := dk_167 4 5 (dk_at dksL_law_27 18 rfl rfl)
theorem dL_law_746 : decode cL_law 746 = .ok (.aload_n 1, 1) := dk_43 (dk_at dksL_law_27 21 rfl rfl)
theorem dL_law_747 : decode cL_law 747 = .ok (.aload_n 0, 1) := dk_42 (dk_at dksL_law_27 22 rfl rfl)
theorem dL_law_748 : decode cL_law 748 = .ok (.iload 5, 2) := dk_21 5 (dk_at dksL_law_28 0 rfl rfl)
theorem dL_law_750 : decode cL_law 750 = .ok (.iconst 1, 1) := dk_4 (dk_at dksL_law_28 2 rfl rfl)
theorem dL_law_751 : decode cL_law 751 = .ok (.iadd, 1) := dk_96 (dk_at dksL_law_28 3 rfl rfl)
theorem dL_law_752 : decode cL_law 752 = .ok (.iaload, 1) := dk_46 (dk_at dksL_law_28 4 rfl rfl)
theorem dL_law_753 : decode cL_law 753 = .ok (.aload_n 0, 1) := dk_42 (dk_at dksL_law_28 5 rfl rfl)
theorem dL_law_754 : decode cL_law 754 = .ok (.iload 5, 2) := dk_21 5 (dk_at dksL_law_28 6 rfl rfl)
theorem dL_law_756 : decode cL_law 756 = .ok (.iconst 2, 1) := dk_5 (dk_at dksL_law_28 8 rfl rfl)
theorem dL_law_757 : decode cL_law 757 = .ok (.iadd, 1) := dk_96 (dk_at dksL_law_28 9 rfl rfl)
theorem dL_law_758 : decode cL_law 758 = .ok (.iaload, 1) := dk_46 (dk_at dksL_law_28 10 rfl rfl)
theorem dL_law_759 : decode cL_law 759 = .ok (.aload_n 3, 1) := dk_45 (dk_at dksL_law_28 11 rfl rfl)
theorem dL_law_760 : decode cL_law 760 = .ok (.invokestatic 156, 3) := dk_184 0 156 (dk_at dksL_law_28 12 rfl rfl)
theorem dL_law_763 : decode cL_law 763 = .ok (.istore 6, 2) := dk_54 6 (dk_at dksL_law_28 15 rfl rfl)
theorem dL_law_765 : decode cL_law 765 = .ok (.aload_n 2, 1) := dk_44 (dk_at dksL_law_28 17 rfl rfl)
theorem dL_law_766 : decode cL_law 766 = .ok (.aload_n 0, 1) := dk_42 (dk_at dksL_law_28 18 rfl rfl)
theorem dL_law_767 : decode cL_law 767 = .ok (.iload 5, 2) := dk_21 5 (dk_at dksL_law_28 19 rfl rfl)
theorem dL_law_769 : decode cL_law 769 = .ok (.iconst 1, 1) := dk_4 (dk_at dksL_law_28 21 rfl rfl)
theorem dL_law_770 : decode cL_law 770 = .ok (.iadd, 1) := dk_96 (dk_at dksL_law_28 22 rfl rfl)
theorem dL_law_771 : decode cL_law 771 = .ok (.iaload, 1) := dk_46 (dk_at dksL_law_28 23 rfl rfl)
theorem dL_law_772 : decode cL_law 772 = .ok (.aload_n 0, 1) := dk_42 (dk_at dksL_law_29 0 rfl rfl)
theorem dL_law_773 : decode cL_law 773 = .ok (.iload 5, 2) := dk_21 5 (dk_at dksL_law_29 1 rfl rfl)
theorem dL_law_775 : decode cL_law 775 = .ok (.iconst 2, 1) := dk_5 (dk_at dksL_law_29 3 rfl rfl)
theorem dL_law_776 : decode cL_law 776 = .ok (.iadd, 1) := dk_96 (dk_at dksL_law_29 4 rfl rfl)
theorem dL_law_777 : decode cL_law 777 = .ok (.iaload, 1) := dk_46 (dk_at dksL_law_29 5 rfl rfl)
theorem dL_law_778 : decode cL_law 778 = .ok (.invokevirtual 158, 3) := dk_182 0 158 (dk_at dksL_law_29 6 rfl rfl)
theorem dL_law_781 : decode cL_law 781 = .ok (.istore 7, 2) := dk_54 7 (dk_at dksL_law_29 9 rfl rfl)
theorem dL_law_783 : decode cL_law 783 = .ok (.aload_n 2, 1) := dk_44 (dk_at dksL_law_29 11 rfl rfl)
theorem dL_law_784 : decode cL_law 784 = .ok (.invokevirtual 120, 3) := dk_182 0 120 (dk_at dksL_law_29 12 rfl rfl)
theorem dL_law_787 : decode cL_law 787 = .ok (.iload 6, 2) := dk_21 6 (dk_at dksL_law_29 15 rfl rfl)
theorem dL_law_789 : decode cL_law 789 = .ok (.if_icmp .eq 5, 3) := dk_159 0 5 (dk_at dksL_law_29 17 rfl rfl)
theorem dL_law_792 : decode cL_law 792 = .ok (.iconst 0, 1) := dk_3 (dk_at dksL_law_29 20 rfl rfl)
theorem dL_law_793 : decode cL_law 793 = .ok (.ireturn, 1) := dk_172 (dk_at dksL_law_29 21 rfl rfl)
theorem dL_law_794 : decode cL_law 794 = .ok (.iload 6, 2) := dk_21 6 (dk_at dksL_law_29 22 rfl rfl)
theorem dL_law_796 : decode cL_law 796 = .ok (.ifCond .ne 15, 3) := dk_154 0 15 (dk_at dksL_law_30 0 rfl rfl)
theorem dL_law_799 : decode cL_law 799 = .ok (.aload_n 3, 1) := dk_45 (dk_at dksL_law_30 3 rfl rfl)
theorem dL_law_800 : decode cL_law 800 = .ok (.iconst 0, 1) := dk_3 (dk_at dksL_law_30 4 rfl rfl)
theorem dL_law_801 : decode cL_law 801 = .ok (.laload, 1) := dk_47 (dk_at dksL_law_30 5 rfl rfl)
theorem dL_law_802 : decode cL_law 802 = .ok (.iload 7, 2) := dk_21 7 (dk_at dksL_law_30 6 rfl rfl)
theorem dL_law_804 : decode cL_law 804 = .ok (.i2l, 1) := dk_133 (dk_at dksL_law_30 8 rfl rfl)
theorem dL_law_805 : decode cL_law 805 = .ok (.lcmp, 1) := dk_148 (dk_at dksL_law_30 9 rfl rfl)
theorem dL_law_806 : decode cL_law 806 = .ok (.ifCond .eq 5, 3) := dk_153 0 5 (dk_at dksL_law_30 10 rfl rfl)
theorem dL_law_809 : decode cL_law 809 = .ok (.iconst 0, 1) := dk_3 (dk_at dksL_law_30 13 rfl rfl)
theorem dL_law_810 : decode cL_law 810 = .ok (.ireturn, 1) := dk_172 (dk_at dksL_law_30 14 rfl rfl)
theorem dL_law_811 : decode cL_law 811 = .ok (.goto 961, 3) := dk_167 3 193 (dk_at dksL_law_30 15 rfl rfl)
theorem dL_law_814 : decode cL_law 814 = .ok (.aload_n 1, 1) := dk_43 (dk_at dksL_law_30 18 rfl rfl)
theorem dL_law_815 : decode cL_law 815 = .ok (.aload_n 0, 1) := dk_42 (dk_at dksL_law_30 19 rfl rfl)
theorem dL_law_816 : decode cL_law 816 = .ok (.iload 5, 2) := dk_21 5 (dk_at dksL_law_30 20 rfl rfl)
theorem dL_law_818 : decode cL_law 818 = .ok (.iconst 1, 1) := dk_4 (dk_at dksL_law_30 22 rfl rfl)
theorem dL_law_819 : decode cL_law 819 = .ok (.iadd, 1) := dk_96 (dk_at dksL_law_30 23 rfl rfl)
theorem dL_law_820 : decode cL_law 820 = .ok (.iaload, 1) := dk_46 (dk_at dksL_law_31 0 rfl rfl)
theorem dL_law_821 : decode cL_law 821 = .ok (.aload_n 3, 1) := dk_45 (dk_at dksL_law_31 1 rfl rfl)
theorem dL_law_822 : decode cL_law 822 = .ok (.invokestatic 159, 3) := dk_184 0 159 (dk_at dksL_law_31 2 rfl rfl)
theorem dL_law_825 : decode cL_law 825 = .ok (.istore 6, 2) := dk_54 6 (dk_at dksL_law_31 5 rfl rfl)
theorem dL_law_827 : decode cL_law 827 = .ok (.aload_n 2, 1) := dk_44 (dk_at dksL_law_31 7 rfl rfl)
theorem dL_law_828 : decode cL_law 828 = .ok (.aload_n 0, 1) := dk_42 (dk_at dksL_law_31 8 rfl rfl)
theorem dL_law_829 : decode cL_law 829 = .ok (.iload 5, 2) := dk_21 5 (dk_at dksL_law_31 9 rfl rfl)
theorem dL_law_831 : decode cL_law 831 = .ok (.iconst 1, 1) := dk_4 (dk_at dksL_law_31 11 rfl rfl)
theorem dL_law_832 : decode cL_law 832 = .ok (.iadd, 1) := dk_96 (dk_at dksL_law_31 12 rfl rfl)
theorem dL_law_833 : decode cL_law 833 = .ok (.iaload, 1) := dk_46 (dk_at dksL_law_31 13 rfl rfl)
theorem dL_law_834 : decode cL_law 834 = .ok (.invokevirtual 161, 3) := dk_182 0 161 (dk_at dksL_law_31 14 rfl rfl)
theorem dL_law_837 : decode cL_law 837 = .ok (.istore 7, 2) := dk_54 7 (dk_at dksL_law_31 17 rfl rfl)
theorem dL_law_839 : decode cL_law 839 = .ok (.aload_n 2, 1) := dk_44 (dk_at dksL_law_31 19 rfl rfl)
theorem dL_law_840 : decode cL_law 840 = .ok (.invokevirtual 120, 3) := dk_182 0 120 (dk_at dksL_law_31 20 rfl rfl)
theorem dL_law_843 : decode cL_law 843 = .ok (.iload 6, 2) := dk_21 6 (dk_at dksL_law_32 0 rfl rfl)
theorem dL_law_845 : decode cL_law 845 = .ok (.if_icmp .eq 5, 3) := dk_159 0 5 (dk_at dksL_law_32 2 rfl rfl)
theorem dL_law_848 : decode cL_law 848 = .ok (.iconst 0, 1) := dk_3 (dk_at dksL_law_32 5 rfl rfl)
theorem dL_law_849 : decode cL_law 849 = .ok (.ireturn, 1) := dk_172 (dk_at dksL_law_32 6 rfl rfl)
theorem dL_law_850 : decode cL_law 850 = .ok (.iload 6, 2) := dk_21 6 (dk_at dksL_law_32 7 rfl rfl)
theorem dL_law_852 : decode cL_law 852 = .ok (.ifCond .ne 15, 3) := dk_154 0 15 (dk_at dksL_law_32 9 rfl rfl)
theorem dL_law_855 : decode cL_law 855 = .ok (.aload_n 3, 1) := dk_45 (dk_at dksL_law_32 12 rfl rfl)
theorem dL_law_856 : decode cL_law 856 = .ok (.iconst 0, 1) := dk_3 (dk_at dksL_law_32 13 rfl rfl)
theorem dL_law_857 : decode cL_law 857 = .ok (.laload, 1) := dk_47 (dk_at dksL_law_32 14 rfl rfl)
theorem dL_law_858 : decode cL_law 858 = .ok (.iload 7, 2) := dk_21 7 (dk_at dksL_law_32 15 rfl rfl)
theorem dL_law_860 : decode cL_law 860 = .ok (.i2l, 1) := dk_133 (dk_at dksL_law_32 17 rfl rfl)
theorem dL_law_861 : decode cL_law 861 = .ok (.lcmp, 1) := dk_148 (dk_at dksL_law_32 18 rfl rfl)
theorem dL_law_862 : decode cL_law 862 = .ok (.ifCond .eq 5, 3) := dk_153 0 5 (dk_at dksL_law_32 19 rfl rfl)
theorem dL_law_865 : decode cL_law 865 = .ok (.iconst 0, 1) := dk_3 (dk_at dksL_law_32 22 rfl rfl)
theorem dL_law_866 : decode cL_law 866 = .ok (.ireturn, 1) := dk_172 (dk_at dksL_law_32 23 rfl rfl)
theorem dL_law_867 : decode cL_law 867 = .ok (.goto 905, 3) := dk_167 3 137 (dk_at dksL_law_33 0 rfl rfl)
theorem dL_law_870 : decode cL_law 870 = .ok (.aload_n 1, 1) := dk_43 (dk_at dksL_law_33 3 rfl rfl)
theorem dL_law_871 : decode cL_law 871 = .ok (.aload_n 0, 1) := dk_42 (dk_at dksL_law_33 4 rfl rfl)
theorem dL_law_872 : decode cL_law 872 = .ok (.iload 5, 2) := dk_21 5 (dk_at dksL_law_33 5 rfl rfl)
theorem dL_law_874 : decode cL_law 874 = .ok (.iconst 1, 1) := dk_4 (dk_at dksL_law_33 7 rfl rfl)
theorem dL_law_875 : decode cL_law 875 = .ok (.iadd, 1) := dk_96 (dk_at dksL_law_33 8 rfl rfl)
theorem dL_law_876 : decode cL_law 876 = .ok (.iaload, 1) := dk_46 (dk_at dksL_law_33 9 rfl rfl)
theorem dL_law_877 : decode cL_law 877 = .ok (.aload_n 0, 1) := dk_42 (dk_at dksL_law_33 10 rfl rfl)
theorem dL_law_878 : decode cL_law 878 = .ok (.iload 5, 2) := dk_21 5 (dk_at dksL_law_33 11 rfl rfl)
theorem dL_law_880 : decode cL_law 880 = .ok (.iconst 2, 1) := dk_5 (dk_at dksL_law_33 13 rfl rfl)
theorem dL_law_881 : decode cL_law 881 = .ok (.iadd, 1) := dk_96 (dk_at dksL_law_33 14 rfl rfl)
theorem dL_law_882 : decode cL_law 882 = .ok (.iaload, 1) := dk_46 (dk_at dksL_law_33 15 rfl rfl)
theorem dL_law_883 : decode cL_law 883 = .ok (.aload_n 3, 1) := dk_45 (dk_at dksL_law_33 16 rfl rfl)
theorem dL_law_884 : decode cL_law 884 = .ok (.invokestatic 162, 3) := dk_184 0 162 (dk_at dksL_law_33 17 rfl rfl)
theorem dL_law_887 : decode cL_law 887 = .ok (.istore 6, 2) := dk_54 6 (dk_at dksL_law_33 20 rfl rfl)
theorem dL_law_889 : decode cL_law 889 = .ok (.aload_n 2, 1) := dk_44 (dk_at dksL_law_33 22 rfl rfl)
theorem dL_law_890 : decode cL_law 890 = .ok (.aload_n 0, 1) := dk_42 (dk_at dksL_law_33 23 rfl rfl)
theorem dL_law_891 : decode cL_law 891 = .ok (.iload 5, 2) := dk_21 5 (dk_at dksL_law_34 0 rfl rfl)
theorem dL_law_893 : decode cL_law 893 = .ok (.iconst 1, 1) := dk_4 (dk_at dksL_law_34 2 rfl rfl)
theorem dL_law_894 : decode cL_law 894 = .ok (.iadd, 1) := dk_96 (dk_at dksL_law_34 3 rfl rfl)
theorem dL_law_895 : decode cL_law 895 = .ok (.iaload, 1) := dk_46 (dk_at dksL_law_34 4 rfl rfl)
theorem dL_law_896 : decode cL_law 896 = .ok (.aload_n 0, 1) := dk_42 (dk_at dksL_law_34 5 rfl rfl)
theorem dL_law_897 : decode cL_law 897 = .ok (.iload 5, 2) := dk_21 5 (dk_at dksL_law_34 6 rfl rfl)
theorem dL_law_899 : decode cL_law 899 = .ok (.iconst 2, 1) := dk_5 (dk_at dksL_law_34 8 rfl rfl)
theorem dL_law_900 : decode cL_law 900 = .ok (.iadd, 1) := dk_96 (dk_at dksL_law_34 9 rfl rfl)
theorem dL_law_901 : decode cL_law 901 = .ok (.iaload, 1) := dk_46 (dk_at dksL_law_34 10 rfl rfl)
theorem dL_law_902 : decode cL_law 902 = .ok (.invokevirtual 164, 3) := dk_182 0 164 (dk_at dksL_law_34 11 rfl rfl)
theorem dL_law_905 : decode cL_law 905 = .ok (.istore 7, 2) := dk_54 7 (dk_at dksL_law_34 14 rfl rfl)
theorem dL_law_907 : decode cL_law 907 = .ok (.aload_n 2, 1) := dk_44 (dk_at dksL_law_34 16 rfl rfl)
theorem dL_law_908 : decode cL_law 908 = .ok (.invokevirtual 120, 3) := dk_182 0 120 (dk_at dksL_law_34 17 rfl rfl)
theorem dL_law_911 : decode cL_law 911 = .ok (.iload 6, 2) := dk_21 6 (dk_at dksL_law_34 20 rfl rfl)
theorem dL_law_913 : decode cL_law 913 = .ok (.if_icmp .eq 5, 3) := dk_159 0 5 (dk_at dksL_law_35 0 rfl rfl)
theorem dL_law_916 : decode cL_law 916 = .ok (.iconst 0, 1) := dk_3 (dk_at dksL_law_35 3 rfl rfl)
theorem dL_law_917 : decode cL_law 917 = .ok (.ireturn, 1) := dk_172 (dk_at dksL_law_35 4 rfl rfl)
theorem dL_law_918 : decode cL_law 918 = .ok (.iload 6, 2) := dk_21 6 (dk_at dksL_law_35 5 rfl rfl)
theorem dL_law_920 : decode cL_law 920 = .ok (.ifCond .ne 15, 3) := dk_154 0 15 (dk_at dksL_law_35 7 rfl rfl)
theorem dL_law_923 : decode cL_law 923 = .ok (.aload_n 3, 1) := dk_45 (dk_at dksL_law_35 10 rfl rfl)
theorem dL_law_924 : decode cL_law 924 = .ok (.iconst 0, 1) := dk_3 (dk_at dksL_law_35 11 rfl rfl)
theorem dL_law_925 : decode cL_law 925 = .ok (.laload, 1) := dk_47 (dk_at dksL_law_35 12 rfl rfl)
theorem dL_law_926 : decode cL_law 926 = .ok (.iload 7, 2) := dk_21 7 (dk_at dksL_law_35 13 rfl rfl)
theorem dL_law_928 : decode cL_law 928 = .ok (.i2l, 1) := dk_133 (dk_at dksL_law_35 15 rfl rfl)
theorem dL_law_929 : decode cL_law 929 = .ok (.lcmp, 1) := dk_148 (dk_at dksL_law_35 16 rfl rfl)
theorem dL_law_930 : decode cL_law 930 = .ok (.ifCond .eq 5, 3) := dk_153 0 5 (dk_at dksL_law_35 17 rfl rfl)
theorem dL_law_933 : decode cL_law 933 = .ok (.iconst 0, 1) := dk_3 (dk_at dksL_law_35 20 rfl rfl)
theorem dL_law_934 : decode cL_law 934 = .ok (.ireturn, 1) := dk_172 (dk_at dksL_law_35 21 rfl rfl)
theorem dL_law_935 : decode cL_law 935 = .ok (.goto 837, 3) := dk_167 3 69 (dk_at dksL_law_36 0 rfl rfl)
theorem dL_law_938 : decode cL_law 938 = .ok (.aload_n 1, 1) := dk_43 (dk_at dksL_law_36 3 rfl rfl)
theorem dL_law_939 : decode cL_law 939 = .ok (.aload_n 0, 1) := dk_42 (dk_at dksL_law_36 4 rfl rfl)
theorem dL_law_940 : decode cL_law 940 = .ok (.iload 5, 2) := dk_21 5 (dk_at dksL_law_36 5 rfl rfl)
theorem dL_law_942 : decode cL_law 942 = .ok (.iconst 1, 1) := dk_4 (dk_at dksL_law_36 7 rfl rfl)
theorem dL_law_943 : decode cL_law 943 = .ok (.iadd, 1) := dk_96 (dk_at dksL_law_36 8 rfl rfl)
theorem dL_law_944 : decode cL_law 944 = .ok (.iaload, 1) := dk_46 (dk_at dksL_law_36 9 rfl rfl)
theorem dL_law_945 : decode cL_law 945 = .ok (.aload_n 0, 1) := dk_42 (dk_at dksL_law_36 10 rfl rfl)
theorem dL_law_946 : decode cL_law 946 = .ok (.iload 5, 2) := dk_21 5 (dk_at dksL_law_36 11 rfl rfl)
theorem dL_law_948 : decode cL_law 948 = .ok (.iconst 2, 1) := dk_5 (dk_at dksL_law_36 13 rfl rfl)
theorem dL_law_949 : decode cL_law 949 = .ok (.iadd, 1) := dk_96 (dk_at dksL_law_36 14 rfl rfl)
theorem dL_law_950 : decode cL_law 950 = .ok (.iaload, 1) := dk_46 (dk_at dksL_law_36 15 rfl rfl)
theorem dL_law_951 : decode cL_law 951 = .ok (.aload_n 0, 1) := dk_42 (dk_at dksL_law_36 16 rfl rfl)
theorem dL_law_952 : decode cL_law 952 = .ok (.iload 5, 2) := dk_21 5 (dk_at dksL_law_36 17 rfl rfl)
theorem dL_law_954 : decode cL_law 954 = .ok (.iconst 3, 1) := dk_6 (dk_at dksL_law_36 19 rfl rfl)
theorem dL_law_955 : decode cL_law 955 = .ok (.iadd, 1) := dk_96 (dk_at dksL_law_36 20 rfl rfl)
theorem dL_law_956 : decode cL_law 956 = .ok (.iaload, 1) := dk_46 (dk_at dksL_law_36 21 rfl rfl)
theorem dL_law_957 : decode cL_law 957 = .ok (.ifCond .eq 7, 3) := dk_153 0 7 (dk_at dksL_law_37 0 rfl rfl)
theorem dL_law_960 : decode cL_law 960 = .ok (.iconst 1, 1) := dk_4 (dk_at dksL_law_37 3 rfl rfl)
theorem dL_law_961 : decode cL_law 961 = .ok (.goto 4, 3) := dk_167 0 4 (dk_at dksL_law_37 4 rfl rfl)
theorem dL_law_964 : decode cL_law 964 = .ok (.iconst 0, 1) := dk_3 (dk_at dksL_law_37 7 rfl rfl)
theorem dL_law_965 : decode cL_law 965 = .ok (.aload_n 3, 1) := dk_45 (dk_at dksL_law_37 8 rfl rfl)
theorem dL_law_966 : decode cL_law 966 = .ok (.invokestatic 165, 3) := dk_184 0 165 (dk_at dksL_law_37 9 rfl rfl)
theorem dL_law_969 : decode cL_law 969 = .ok (.istore 6, 2) := dk_54 6 (dk_at dksL_law_37 12 rfl rfl)
theorem dL_law_971 : decode cL_law 971 = .ok (.aload_n 2, 1) := dk_44 (dk_at dksL_law_37 14 rfl rfl)
theorem dL_law_972 : decode cL_law 972 = .ok (.aload_n 0, 1) := dk_42 (dk_at dksL_law_37 15 rfl rfl)
theorem dL_law_973 : decode cL_law 973 = .ok (.iload 5, 2) := dk_21 5 (dk_at dksL_law_37 16 rfl rfl)
theorem dL_law_975 : decode cL_law 975 = .ok (.iconst 1, 1) := dk_4 (dk_at dksL_law_37 18 rfl rfl)
theorem dL_law_976 : decode cL_law 976 = .ok (.iadd, 1) := dk_96 (dk_at dksL_law_37 19 rfl rfl)
theorem dL_law_977 : decode cL_law 977 = .ok (.iaload, 1) := dk_46 (dk_at dksL_law_37 20 rfl rfl)
theorem dL_law_978 : decode cL_law 978 = .ok (.aload_n 0, 1) := dk_42 (dk_at dksL_law_37 21 rfl rfl)
theorem dL_law_979 : decode cL_law 979 = .ok (.iload 5, 2) := dk_21 5 (dk_at dksL_law_37 22 rfl rfl)
theorem dL_law_981 : decode cL_law 981 = .ok (.iconst 2, 1) := dk_5 (dk_at dksL_law_38 0 rfl rfl)
theorem dL_law_982 : decode cL_law 982 = .ok (.iadd, 1) := dk_96 (dk_at dksL_law_38 1 rfl rfl)
theorem dL_law_983 : decode cL_law 983 = .ok (.iaload, 1) := dk_46 (dk_at dksL_law_38 2 rfl rfl)
theorem dL_law_984 : decode cL_law 984 = .ok (.aload_n 0, 1) := dk_42 (dk_at dksL_law_38 3 rfl rfl)
theorem dL_law_985 : decode cL_law 985 = .ok (.iload 5, 2) := dk_21 5 (dk_at dksL_law_38 4 rfl rfl)
theorem dL_law_987 : decode cL_law 987 = .ok (.iconst 3, 1) := dk_6 (dk_at dksL_law_38 6 rfl rfl)
theorem dL_law_988 : decode cL_law 988 = .ok (.iadd, 1) := dk_96 (dk_at dksL_law_38 7 rfl rfl)
theorem dL_law_989 : decode cL_law 989 = .ok (.iaload, 1) := dk_46 (dk_at dksL_law_38 8 rfl rfl)
theorem dL_law_990 : decode cL_law 990 = .ok (.ifCond .eq 7, 3) := dk_153 0 7 (dk_at dksL_law_38 9 rfl rfl)
theorem dL_law_993 : decode cL_law 993 = .ok (.iconst 1, 1) := dk_4 (dk_at dksL_law_38 12 rfl rfl)
theorem dL_law_994 : decode cL_law 994 = .ok (.goto 4, 3) := dk_167 0 4 (dk_at dksL_law_38 13 rfl rfl)
theorem dL_law_997 : decode cL_law 997 = .ok (.iconst 0, 1) := dk_3 (dk_at dksL_law_38 16 rfl rfl)
theorem dL_law_998 : decode cL_law 998 = .ok (.invokevirtual 168, 3) := dk_182 0 168 (dk_at dksL_law_38 17 rfl rfl)
theorem dL_law_1001 : decode cL_law 1001 = .ok (.istore 7, 2) := dk_54 7 (dk_at dksL_law_38 20 rfl rfl)
theorem dL_law_1003 : decode cL_law 1003 = .ok (.aload_n 2, 1) := dk_44 (dk_at dksL_law_38 22 rfl rfl)
theorem dL_law_1004 : decode cL_law 1004 = .ok (.invokevirtual 120, 3) := dk_182 0 120 (dk_at dksL_law_39 0 rfl rfl)
theorem dL_law_1007 : decode cL_law 1007 = .ok (.iload 6, 2) := dk_21 6 (dk_at dksL_law_39 3 rfl rfl)
theorem dL_law_1009 : decode cL_law 1009 = .ok (.if_icmp .eq 5, 3) := dk_159 0 5 (dk_at dksL_law_39 5 rfl rfl)
theorem dL_law_1012 : decode cL_law 1012 = .ok (.iconst 0, 1) := dk_3 (dk_at dksL_law_39 8 rfl rfl)
theorem dL_law_1013 : decode cL_law 1013 = .ok (.ireturn, 1) := dk_172 (dk_at dksL_law_39 9 rfl rfl)
theorem dL_law_1014 : decode cL_law 1014 = .ok (.iload 6, 2) := dk_21 6 (dk_at dksL_law_39 10 rfl rfl)
theorem dL_law_1016 : decode cL_law 1016 = .ok (.ifCond .ne 15, 3) := dk_154 0 15 (dk_at dksL_law_39 12 rfl rfl)
theorem dL_law_1019 : decode cL_law 1019 = .ok (.aload_n 3, 1) := dk_45 (dk_at dksL_law_39 15 rfl rfl)
theorem dL_law_1020 : decode cL_law 1020 = .ok (.iconst 0, 1) := dk_3 (dk_at dksL_law_39 16 rfl rfl)
theorem dL_law_1021 : decode cL_law 1021 = .ok (.laload, 1) := dk_47 (dk_at dksL_law_39 17 rfl rfl)
theorem dL_law_1022 : decode cL_law 1022 = .ok (.iload 7, 2) := dk_21 7 (dk_at dksL_law_39 18 rfl rfl)
theorem dL_law_1024 : decode cL_law 1024 = .ok (.i2l, 1) := dk_133 (dk_at dksL_law_39 20 rfl rfl)
theorem dL_law_1025 : decode cL_law 1025 = .ok (.lcmp, 1) := dk_148 (dk_at dksL_law_39 21 rfl rfl)
theorem dL_law_1026 : decode cL_law 1026 = .ok (.ifCond .eq 5, 3) := dk_153 0 5 (dk_at dksL_law_40 0 rfl rfl)
theorem dL_law_1029 : decode cL_law 1029 = .ok (.iconst 0, 1) := dk_3 (dk_at dksL_law_40 3 rfl rfl)
theorem dL_law_1030 : decode cL_law 1030 = .ok (.ireturn, 1) := dk_172 (dk_at dksL_law_40 4 rfl rfl)
theorem dL_law_1031 : decode cL_law 1031 = .ok (.goto 741, 3) := dk_167 2 229 (dk_at dksL_law_40 5 rfl rfl)
theorem dL_law_1034 : decode cL_law 1034 = .ok (.aload_n 1, 1) := dk_43 (dk_at dksL_law_40 8 rfl rfl)
theorem dL_law_1035 : decode cL_law 1035 = .ok (.aload_n 0, 1) := dk_42 (dk_at dksL_law_40 9 rfl rfl)
theorem dL_law_1036 : decode cL_law 1036 = .ok (.iload 5, 2) := dk_21 5 (dk_at dksL_law_40 10 rfl rfl)
theorem dL_law_1038 : decode cL_law 1038 = .ok (.iconst 1, 1) := dk_4 (dk_at dksL_law_40 12 rfl rfl)
theorem dL_law_1039 : decode cL_law 1039 = .ok (.iadd, 1) := dk_96 (dk_at dksL_law_40 13 rfl rfl)
theorem dL_law_1040 : decode cL_law 1040 = .ok (.iaload, 1) := dk_46 (dk_at dksL_law_40 14 rfl rfl)
theorem dL_law_1041 : decode cL_law 1041 = .ok (.aload_n 3, 1) := dk_45 (dk_at dksL_law_40 15 rfl rfl)
theorem dL_law_1042 : decode cL_law 1042 = .ok (.invokestatic 169, 3) := dk_184 0 169 (dk_at dksL_law_40 16 rfl rfl)
theorem dL_law_1045 : decode cL_law 1045 = .ok (.istore 6, 2) := dk_54 6 (dk_at dksL_law_40 19 rfl rfl)
theorem dL_law_1047 : decode cL_law 1047 = .ok (.aload_n 2, 1) := dk_44 (dk_at dksL_law_40 21 rfl rfl)
theorem dL_law_1048 : decode cL_law 1048 = .ok (.aload_n 0, 1) := dk_42 (dk_at dksL_law_40 22 rfl rfl)
theorem dL_law_1049 : decode cL_law 1049 = .ok (.iload 5, 2) := dk_21 5 (dk_at dksL_law_41 0 rfl rfl)
theorem dL_law_1051 : decode cL_law 1051 = .ok (.iconst 1, 1) := dk_4 (dk_at dksL_law_41 2 rfl rfl)
theorem dL_law_1052 : decode cL_law 1052 = .ok (.iadd, 1) := dk_96 (dk_at dksL_law_41 3 rfl rfl)
theorem dL_law_1053 : decode cL_law 1053 = .ok (.iaload, 1) := dk_46 (dk_at dksL_law_41 4 rfl rfl)
theorem dL_law_1054 : decode cL_law 1054 = .ok (.invokevirtual 171, 3) := dk_182 0 171 (dk_at dksL_law_41 5 rfl rfl)
theorem dL_law_1057 : decode cL_law 1057 = .ok (.istore 7, 2) := dk_54 7 (dk_at dksL_law_41 8 rfl rfl)
theorem dL_law_1059 : decode cL_law 1059 = .ok (.aload_n 2, 1) := dk_44 (dk_at dksL_law_41 10 rfl rfl)
theorem dL_law_1060 : decode cL_law 1060 = .ok (.invokevirtual 120, 3) := dk_182 0 120 (dk_at dksL_law_41 11 rfl rfl)
theorem dL_law_1063 : decode cL_law 1063 = .ok (.iload 6, 2) := dk_21 6 (dk_at dksL_law_41 14 rfl rfl)
theorem dL_law_1065 : decode cL_law 1065 = .ok (.if_icmp .eq 5, 3) := dk_159 0 5 (dk_at dksL_law_41 16 rfl rfl)
theorem dL_law_1068 : decode cL_law 1068 = .ok (.iconst 0, 1) := dk_3 (dk_at dksL_law_41 19 rfl rfl)
theorem dL_law_1069 : decode cL_law 1069 = .ok (.ireturn, 1) := dk_172 (dk_at dksL_law_41 20 rfl rfl)
theorem dL_law_1070 : decode cL_law 1070 = .ok (.iload 6, 2) := dk_21 6 (dk_at dksL_law_41 21 rfl rfl)
theorem dL_law_1072 : decode cL_law 1072 = .ok (.ifCond .ne 15, 3) := dk_154 0 15 (dk_at dksL_law_42 0 rfl rfl)
theorem dL_law_1075 : decode cL_law 1075 = .ok (.aload_n 3, 1) := dk_45 (dk_at dksL_law_42 3 rfl rfl)
theorem dL_law_1076 : decode cL_law 1076 = .ok (.iconst 0, 1) := dk_3 (dk_at dksL_law_42 4 rfl rfl)
theorem dL_law_1077 : decode cL_law 1077 = .ok (.laload, 1) := dk_47 (dk_at dksL_law_42 5 rfl rfl)
theorem dL_law_1078 : decode cL_law 1078 = .ok (.iload 7, 2) := dk_21 7 (dk_at dksL_law_42 6 rfl rfl)
theorem dL_law_1080 : decode cL_law 1080 = .ok (.i2l, 1) := dk_133 (dk_at dksL_law_42 8 rfl rfl)
theorem dL_law_1081 : decode cL_law 1081 = .ok (.lcmp, 1) := dk_148 (dk_at dksL_law_42 9 rfl rfl)
theorem dL_law_1082 : decode cL_law 1082 = .ok (.ifCond .eq 5, 3) := dk_153 0 5 (dk_at dksL_law_42 10 rfl rfl)
theorem dL_law_1085 : decode cL_law 1085 = .ok (.iconst 0, 1) := dk_3 (dk_at dksL_law_42 13 rfl rfl)
theorem dL_law_1086 : decode cL_law 1086 = .ok (.ireturn, 1) := dk_172 (dk_at dksL_law_42 14 rfl rfl)
theorem dL_law_1087 : decode cL_law 1087 = .ok (.goto 685, 3) := dk_167 2 173 (dk_at dksL_law_42 15 rfl rfl)
theorem dL_law_1090 : decode cL_law 1090 = .ok (.aload_n 1, 1) := dk_43 (dk_at dksL_law_42 18 rfl rfl)
theorem dL_law_1091 : decode cL_law 1091 = .ok (.aload_n 0, 1) := dk_42 (dk_at dksL_law_42 19 rfl rfl)
theorem dL_law_1092 : decode cL_law 1092 = .ok (.iload 5, 2) := dk_21 5 (dk_at dksL_law_42 20 rfl rfl)
theorem dL_law_1094 : decode cL_law 1094 = .ok (.iconst 1, 1) := dk_4 (dk_at dksL_law_42 22 rfl rfl)
theorem dL_law_1095 : decode cL_law 1095 = .ok (.iadd, 1) := dk_96 (dk_at dksL_law_42 23 rfl rfl)
theorem dL_law_1096 : decode cL_law 1096 = .ok (.iaload, 1) := dk_46 (dk_at dksL_law_43 0 rfl rfl)
theorem dL_law_1097 : decode cL_law 1097 = .ok (.aload_n 0, 1) := dk_42 (dk_at dksL_law_43 1 rfl rfl)
theorem dL_law_1098 : decode cL_law 1098 = .ok (.iload 5, 2) := dk_21 5 (dk_at dksL_law_43 2 rfl rfl)
theorem dL_law_1100 : decode cL_law 1100 = .ok (.iconst 2, 1) := dk_5 (dk_at dksL_law_43 4 rfl rfl)
theorem dL_law_1101 : decode cL_law 1101 = .ok (.iadd, 1) := dk_96 (dk_at dksL_law_43 5 rfl rfl)
theorem dL_law_1102 : decode cL_law 1102 = .ok (.iaload, 1) := dk_46 (dk_at dksL_law_43 6 rfl rfl)
theorem dL_law_1103 : decode cL_law 1103 = .ok (.aload_n 3, 1) := dk_45 (dk_at dksL_law_43 7 rfl rfl)
theorem dL_law_1104 : decode cL_law 1104 = .ok (.invokestatic 172, 3) := dk_184 0 172 (dk_at dksL_law_43 8 rfl rfl)
theorem dL_law_1107 : decode cL_law 1107 = .ok (.istore 6, 2) := dk_54 6 (dk_at dksL_law_43 11 rfl rfl)
theorem dL_law_1109 : decode cL_law 1109 = .ok (.aload_n 2, 1) := dk_44 (dk_at dksL_law_43 13 rfl rfl)
theorem dL_law_1110 : decode cL_law 1110 = .ok (.aload_n 0, 1) := dk_42 (dk_at dksL_law_43 14 rfl rfl)
theorem dL_law_1111 : decode cL_law 1111 = .ok (.iload 5, 2) := dk_21 5 (dk_at dksL_law_43 15 rfl rfl)
theorem dL_law_1113 : decode cL_law 1113 = .ok (.iconst 1, 1) := dk_4 (dk_at dksL_law_43 17 rfl rfl)
theorem dL_law_1114 : decode cL_law 1114 = .ok (.iadd, 1) := dk_96 (dk_at dksL_law_43 18 rfl rfl)
theorem dL_law_1115 : decode cL_law 1115 = .ok (.iaload, 1) := dk_46 (dk_at dksL_law_43 19 rfl rfl)
theorem dL_law_1116 : decode cL_law 1116 = .ok (.aload_n 0, 1) := dk_42 (dk_at dksL_law_43 20 rfl rfl)
theorem dL_law_1117 : decode cL_law 1117 = .ok (.iload 5, 2) := dk_21 5 (dk_at dksL_law_43 21 rfl rfl)
theorem dL_law_1119 : decode cL_law 1119 = .ok (.iconst 2, 1) := dk_5 (dk_at dksL_law_43 23 rfl rfl)
theorem dL_law_1120 : decode cL_law 1120 = .ok (.iadd, 1) := dk_96 (dk_at dksL_law_44 0 rfl rfl)
theorem dL_law_1121 : decode cL_law 1121 = .ok (.iaload, 1) := dk_46 (dk_at dksL_law_44 1 rfl rfl)
theorem dL_law_1122 : decode cL_law 1122 = .ok (.invokevirtual 174, 3) := dk_182 0 174 (dk_at dksL_law_44 2 rfl rfl)
theorem dL_law_1125 : decode cL_law 1125 = .ok (.istore 7, 2) := dk_54 7 (dk_at dksL_law_44 5 rfl rfl)
theorem dL_law_1127 : decode cL_law 1127 = .ok (.aload_n 2, 1) := dk_44 (dk_at dksL_law_44 7 rfl rfl)
theorem dL_law_1128 : decode cL_law 1128 = .ok (.invokevirtual 120, 3) := dk_182 0 120 (dk_at dksL_law_44 8 rfl rfl)
theorem dL_law_1131 : decode cL_law 1131 = .ok (.iload 6, 2) := dk_21 6 (dk_at dksL_law_44 11 rfl rfl)
theorem dL_law_1133 : decode cL_law 1133 = .ok (.if_icmp .eq 5, 3) := dk_159 0 5 (dk_at dksL_law_44 13 rfl rfl)
theorem dL_law_1136 : decode cL_law 1136 = .ok (.iconst 0, 1) := dk_3 (dk_at dksL_law_44 16 rfl rfl)
theorem dL_law_1137 : decode cL_law 1137 = .ok (.ireturn, 1) := dk_172 (dk_at dksL_law_44 17 rfl rfl)
theorem dL_law_1138 : decode cL_law 1138 = .ok (.iload 6, 2) := dk_21 6 (dk_at dksL_law_44 18 rfl rfl)
theorem dL_law_1140 : decode cL_law 1140 = .ok (.ifCond .ne 15, 3) := dk_154 0 15 (dk_at dksL_law_44 20 rfl rfl)
theorem dL_law_1143 : decode cL_law 1143 = .ok (.aload_n 3, 1) := dk_45 (dk_at dksL_law_44 23 rfl rfl)
theorem dL_law_1144 : decode cL_law 1144 = .ok (.iconst 0, 1) := dk_3 (dk_at dksL_law_45 0 rfl rfl)
theorem dL_law_1145 : decode cL_law 1145 = .ok (.laload, 1) := dk_47 (dk_at dksL_law_45 1 rfl rfl)
theorem dL_law_1146 : decode cL_law 1146 = .ok (.iload 7, 2) := dk_21 7 (dk_at dksL_law_45 2 rfl rfl)
theorem dL_law_1148 : decode cL_law 1148 = .ok (.i2l, 1) := dk_133 (dk_at dksL_law_45 4 rfl rfl)
theorem dL_law_1149 : decode cL_law 1149 = .ok (.lcmp, 1) := dk_148 (dk_at dksL_law_45 5 rfl rfl)
theorem dL_law_1150 : decode cL_law 1150 = .ok (.ifCond .eq 5, 3) := dk_153 0 5 (dk_at dksL_law_45 6 rfl rfl)
theorem dL_law_1153 : decode cL_law 1153 = .ok (.iconst 0, 1) := dk_3 (dk_at dksL_law_45 9 rfl rfl)
theorem dL_law_1154 : decode cL_law 1154 = .ok (.ireturn, 1) := dk_172 (dk_at dksL_law_45 10 rfl rfl)
theorem dL_law_1155 : decode cL_law 1155 = .ok (.goto 617, 3) := dk_167 2 105 (dk_at dksL_law_45 11 rfl rfl)
theorem dL_law_1158 : decode cL_law 1158 = .ok (.aload_n 1, 1) := dk_43 (dk_at dksL_law_45 14 rfl rfl)
theorem dL_law_1159 : decode cL_law 1159 = .ok (.aload_n 0, 1) := dk_42 (dk_at dksL_law_45 15 rfl rfl)
theorem dL_law_1160 : decode cL_law 1160 = .ok (.iload 5, 2) := dk_21 5 (dk_at dksL_law_45 16 rfl rfl)
theorem dL_law_1162 : decode cL_law 1162 = .ok (.iconst 1, 1) := dk_4 (dk_at dksL_law_45 18 rfl rfl)
theorem dL_law_1163 : decode cL_law 1163 = .ok (.iadd, 1) := dk_96 (dk_at dksL_law_45 19 rfl rfl)
theorem dL_law_1164 : decode cL_law 1164 = .ok (.iaload, 1) := dk_46 (dk_at dksL_law_45 20 rfl rfl)
theorem dL_law_1165 : decode cL_law 1165 = .ok (.aload_n 3, 1) := dk_45 (dk_at dksL_law_45 21 rfl rfl)
theorem dL_law_1166 : decode cL_law 1166 = .ok (.invokestatic 175, 3) := dk_184 0 175 (dk_at dksL_law_46 0 rfl rfl)
theorem dL_law_1169 : decode cL_law 1169 = .ok (.istore 6, 2) := dk_54 6 (dk_at dksL_law_46 3 rfl rfl)
theorem dL_law_1171 : decode cL_law 1171 = .ok (.aload_n 2, 1) := dk_44 (dk_at dksL_law_46 5 rfl rfl)
theorem dL_law_1172 : decode cL_law 1172 = .ok (.aload_n 0, 1) := dk_42 (dk_at dksL_law_46 6 rfl rfl)
theorem dL_law_1173 : decode cL_law 1173 = .ok (.iload 5, 2) := dk_21 5 (dk_at dksL_law_46 7 rfl rfl)
theorem dL_law_1175 : decode cL_law 1175 = .ok (.iconst 1, 1) := dk_4 (dk_at dksL_law_46 9 rfl rfl)
theorem dL_law_1176 : decode cL_law 1176 = .ok (.iadd, 1) := dk_96 (dk_at dksL_law_46 10 rfl rfl)
theorem dL_law_1177 : decode cL_law 1177 = .ok (.iaload, 1) := dk_46 (dk_at dksL_law_46 11 rfl rfl)
theorem dL_law_1178 : decode cL_law 1178 = .ok (.invokevirtual 177, 3) := dk_182 0 177 (dk_at dksL_law_46 12 rfl rfl)
theorem dL_law_1181 : decode cL_law 1181 = .ok (.istore 7, 2) := dk_54 7 (dk_at dksL_law_46 15 rfl rfl)
theorem dL_law_1183 : decode cL_law 1183 = .ok (.aload_n 2, 1) := dk_44 (dk_at dksL_law_46 17 rfl rfl)
theorem dL_law_1184 : decode cL_law 1184 = .ok (.invokevirtual 120, 3) := dk_182 0 120 (dk_at dksL_law_46 18 rfl rfl)
theorem dL_law_1187 : decode cL_law 1187 = .ok (.iload 6, 2) := dk_21 6 (dk_at dksL_law_46 21 rfl rfl)
theorem dL_law_1189 : decode cL_law 1189 = .ok (.if_icmp .eq 5, 3) := dk_159 0 5 (dk_at dksL_law_47 0 rfl rfl)
theorem dL_law_1192 : decode cL_law 1192 = .ok (.iconst 0, 1) := dk_3 (dk_at dksL_law_47 3 rfl rfl)
theorem dL_law_1193 : decode cL_law 1193 = .ok (.ireturn, 1) := dk_172 (dk_at dksL_law_47 4 rfl rfl)
theorem dL_law_1194 : decode cL_law 1194 = .ok (.iload 6, 2) := dk_21 6 (dk_at dksL_law_47 5 rfl rfl)
theorem dL_law_1196 : decode cL_law 1196 = .ok (.ifCond .ne 15, 3) := dk_154 0 15 (dk_at dksL_law_47 7 rfl rfl)
theorem dL_law_1199 : decode cL_law 1199 = .ok (.aload_n 3, 1) := dk_45 (dk_at dksL_law_47 10 rfl rfl)
theorem dL_law_1200 : decode cL_law 1200 = .ok (.iconst 0, 1) := dk_3 (dk_at dksL_law_47 11 rfl rfl)
theorem dL_law_1201 : decode cL_law 1201 = .ok (.laload, 1) := dk_47 (dk_at dksL_law_47 12 rfl rfl)
theorem dL_law_1202 : decode cL_law 1202 = .ok (.iload 7, 2) := dk_21 7 (dk_at dksL_law_47 13 rfl rfl)
theorem dL_law_1204 : decode cL_law 1204 = .ok (.i2l, 1) := dk_133 (dk_at dksL_law_47 15 rfl rfl)
theorem dL_law_1205 : decode cL_law 1205 = .ok (.lcmp, 1) := dk_148 (dk_at dksL_law_47 16 rfl rfl)
theorem dL_law_1206 : decode cL_law 1206 = .ok (.ifCond .eq 5, 3) := dk_153 0 5 (dk_at dksL_law_47 17 rfl rfl)
theorem dL_law_1209 : decode cL_law 1209 = .ok (.iconst 0, 1) := dk_3 (dk_at dksL_law_47 20 rfl rfl)
theorem dL_law_1210 : decode cL_law 1210 = .ok (.ireturn, 1) := dk_172 (dk_at dksL_law_47 21 rfl rfl)
theorem dL_law_1211 : decode cL_law 1211 = .ok (.goto 561, 3) := dk_167 2 49 (dk_at dksL_law_48 0 rfl rfl)
theorem dL_law_1214 : decode cL_law 1214 = .ok (.aload_n 1, 1) := dk_43 (dk_at dksL_law_48 3 rfl rfl)
theorem dL_law_1215 : decode cL_law 1215 = .ok (.aload_n 0, 1) := dk_42 (dk_at dksL_law_48 4 rfl rfl)
theorem dL_law_1216 : decode cL_law 1216 = .ok (.iload 5, 2) := dk_21 5 (dk_at dksL_law_48 5 rfl rfl)
theorem dL_law_1218 : decode cL_law 1218 = .ok (.iconst 1, 1) := dk_4 (dk_at dksL_law_48 7 rfl rfl)
theorem dL_law_1219 : decode cL_law 1219 = .ok (.iadd, 1) := dk_96 (dk_at dksL_law_48 8 rfl rfl)
theorem dL_law_1220 : decode cL_law 1220 = .ok (.iaload, 1) := dk_46 (dk_at dksL_law_48 9 rfl rfl)
theorem dL_law_1221 : decode cL_law 1221 = .ok (.aload_n 0, 1) := dk_42 (dk_at dksL_law_48 10 rfl rfl)
theorem dL_law_1222 : decode cL_law 1222 = .ok (.iload 5, 2) := dk_21 5 (dk_at dksL_law_48 11 rfl rfl)
theorem dL_law_1224 : decode cL_law 1224 = .ok (.iconst 2, 1) := dk_5 (dk_at dksL_law_48 13 rfl rfl)
theorem dL_law_1225 : decode cL_law 1225 = .ok (.iadd, 1) := dk_96 (dk_at dksL_law_48 14 rfl rfl)
theorem dL_law_1226 : decode cL_law 1226 = .ok (.iaload, 1) := dk_46 (dk_at dksL_law_48 15 rfl rfl)
theorem dL_law_1227 : decode cL_law 1227 = .ok (.ifCond .eq 7, 3) := dk_153 0 7 (dk_at dksL_law_48 16 rfl rfl)
theorem dL_law_1230 : decode cL_law 1230 = .ok (.iconst 1, 1) := dk_4 (dk_at dksL_law_48 19 rfl rfl)
theorem dL_law_1231 : decode cL_law 1231 = .ok (.goto 4, 3) := dk_167 0 4 (dk_at dksL_law_48 20 rfl rfl)
theorem dL_law_1234 : decode cL_law 1234 = .ok (.iconst 0, 1) := dk_3 (dk_at dksL_law_48 23 rfl rfl)
theorem dL_law_1235 : decode cL_law 1235 = .ok (.aload_n 3, 1) := dk_45 (dk_at dksL_law_49 0 rfl rfl)
theorem dL_law_1236 : decode cL_law 1236 = .ok (.invokestatic 178, 3) := dk_184 0 178 (dk_at dksL_law_49 1 rfl rfl)
theorem dL_law_1239 : decode cL_law 1239 = .ok (.istore 6, 2) := dk_54 6 (dk_at dksL_law_49 4 rfl rfl)
theorem dL_law_1241 : decode cL_law 1241 = .ok (.aload_n 2, 1) := dk_44 (dk_at dksL_law_49 6 rfl rfl)
theorem dL_law_1242 : decode cL_law 1242 = .ok (.aload_n 0, 1) := dk_42 (dk_at dksL_law_49 7 rfl rfl)
theorem dL_law_1243 : decode cL_law 1243 = .ok (.iload 5, 2) := dk_21 5 (dk_at dksL_law_49 8 rfl rfl)
theorem dL_law_1245 : decode cL_law 1245 = .ok (.iconst 1, 1) := dk_4 (dk_at dksL_law_49 10 rfl rfl)
theorem dL_law_1246 : decode cL_law 1246 = .ok (.iadd, 1) := dk_96 (dk_at dksL_law_49 11 rfl rfl)
theorem dL_law_1247 : decode cL_law 1247 = .ok (.iaload, 1) := dk_46 (dk_at dksL_law_49 12 rfl rfl)
theorem dL_law_1248 : decode cL_law 1248 = .ok (.aload_n 0, 1) := dk_42 (dk_at dksL_law_49 13 rfl rfl)
theorem dL_law_1249 : decode cL_law 1249 = .ok (.iload 5, 2) := dk_21 5 (dk_at dksL_law_49 14 rfl rfl)
theorem dL_law_1251 : decode cL_law 1251 = .ok (.iconst 2, 1) := dk_5 (dk_at dksL_law_49 16 rfl rfl)
theorem dL_law_1252 : decode cL_law 1252 = .ok (.iadd, 1) := dk_96 (dk_at dksL_law_49 17 rfl rfl)
theorem dL_law_1253 : decode cL_law 1253 = .ok (.iaload, 1) := dk_46 (dk_at dksL_law_49 18 rfl rfl)
theorem dL_law_1254 : decode cL_law 1254 = .ok (.ifCond .eq 7, 3) := dk_153 0 7 (dk_at dksL_law_49 19 rfl rfl)
theorem dL_law_1257 : decode cL_law 1257 = .ok (.iconst 1, 1) := dk_4 (dk_at dksL_law_49 22 rfl rfl)
theorem dL_law_1258 : decode cL_law 1258 = .ok (.goto 4, 3) := dk_167 0 4 (dk_at dksL_law_50 0 rfl rfl)
theorem dL_law_1261 : decode cL_law 1261 = .ok (.iconst 0, 1) := dk_3 (dk_at dksL_law_50 3 rfl rfl)
theorem dL_law_1262 : decode cL_law 1262 = .ok (.invokevirtual 181, 3) := dk_182 0 181 (dk_at dksL_law_50 4 rfl rfl)
theorem dL_law_1265 : decode cL_law 1265 = .ok (.istore 7, 2) := dk_54 7 (dk_at dksL_law_50 7 rfl rfl)
theorem dL_law_1267 : decode cL_law 1267 = .ok (.aload_n 2, 1) := dk_44 (dk_at dksL_law_50 9 rfl rfl)
theorem dL_law_1268 : decode cL_law 1268 = .ok (.invokevirtual 120, 3) := dk_182 0 120 (dk_at dksL_law_50 10 rfl rfl)
theorem dL_law_1271 : decode cL_law 1271 = .ok (.iload 6, 2) := dk_21 6 (dk_at dksL_law_50 13 rfl rfl)
theorem dL_law_1273 : decode cL_law 1273 = .ok (.if_icmp .eq 5, 3) := dk_159 0 5 (dk_at dksL_law_50 15 rfl rfl)
theorem dL_law_1276 : decode cL_law 1276 = .ok (.iconst 0, 1) := dk_3 (dk_at dksL_law_50 18 rfl rfl)
theorem dL_law_1277 : decode cL_law 1277 = .ok (.ireturn, 1) := dk_172 (dk_at dksL_law_50 19 rfl rfl)
theorem dL_law_1278 : decode cL_law 1278 = .ok (.iload 6, 2) := dk_21 6 (dk_at dksL_law_50 20 rfl rfl)
theorem dL_law_1280 : decode cL_law 1280 = .ok (.ifCond .ne 15, 3) := dk_154 0 15 (dk_at dksL_law_51 0 rfl rfl)
theorem dL_law_1283 : decode cL_law 1283 = .ok (.aload_n 3, 1) := dk_45 (dk_at dksL_law_51 3 rfl rfl)
theorem dL_law_1284 : decode cL_law 1284 = .ok (.iconst 0, 1) := dk_3 (dk_at dksL_law_51 4 rfl rfl)
theorem dL_law_1285 : decode cL_law 1285 = .ok (.laload, 1) := dk_47 (dk_at dksL_law_51 5 rfl rfl)
theorem dL_law_1286 : decode cL_law 1286 = .ok (.iload 7, 2) := dk_21 7 (dk_at dksL_law_51 6 rfl rfl)
theorem dL_law_1288 : decode cL_law 1288 = .ok (.i2l, 1) := dk_133 (dk_at dksL_law_51 8 rfl rfl)
theorem dL_law_1289 : decode cL_law 1289 = .ok (.lcmp, 1) := dk_148 (dk_at dksL_law_51 9 rfl rfl)
theorem dL_law_1290 : decode cL_law 1290 = .ok (.ifCond .eq 5, 3) := dk_153 0 5 (dk_at dksL_law_51 10 rfl rfl)
theorem dL_law_1293 : decode cL_law 1293 = .ok (.iconst 0, 1) := dk_3 (dk_at dksL_law_51 13 rfl rfl)
theorem dL_law_1294 : decode cL_law 1294 = .ok (.ireturn, 1) := dk_172 (dk_at dksL_law_51 14 rfl rfl)
theorem dL_law_1295 : decode cL_law 1295 = .ok (.goto 477, 3) := dk_167 1 221 (dk_at dksL_law_51 15 rfl rfl)
theorem dL_law_1298 : decode cL_law 1298 = .ok (.aload_n 1, 1) := dk_43 (dk_at dksL_law_51 18 rfl rfl)
theorem dL_law_1299 : decode cL_law 1299 = .ok (.aload 4, 2) := dk_25 4 (dk_at dksL_law_51 19 rfl rfl)
theorem dL_law_1301 : decode cL_law 1301 = .ok (.invokestatic 182, 3) := dk_184 0 182 (dk_at dksL_law_51 21 rfl rfl)
theorem dL_law_1304 : decode cL_law 1304 = .ok (.istore 6, 2) := dk_54 6 (dk_at dksL_law_52 0 rfl rfl)
theorem dL_law_1306 : decode cL_law 1306 = .ok (.aload_n 2, 1) := dk_44 (dk_at dksL_law_52 2 rfl rfl)
theorem dL_law_1307 : decode cL_law 1307 = .ok (.invokevirtual 185, 3) := dk_182 0 185 (dk_at dksL_law_52 3 rfl rfl)
theorem dL_law_1310 : decode cL_law 1310 = .ok (.dstore 7, 2) := dk_57 7 (dk_at dksL_law_52 6 rfl rfl)
theorem dL_law_1312 : decode cL_law 1312 = .ok (.aload_n 2, 1) := dk_44 (dk_at dksL_law_52 8 rfl rfl)
theorem dL_law_1313 : decode cL_law 1313 = .ok (.invokevirtual 120, 3) := dk_182 0 120 (dk_at dksL_law_52 9 rfl rfl)
theorem dL_law_1316 : decode cL_law 1316 = .ok (.iload 6, 2) := dk_21 6 (dk_at dksL_law_52 12 rfl rfl)
theorem dL_law_1318 : decode cL_law 1318 = .ok (.if_icmp .eq 5, 3) := dk_159 0 5 (dk_at dksL_law_52 14 rfl rfl)
theorem dL_law_1321 : decode cL_law 1321 = .ok (.iconst 0, 1) := dk_3 (dk_at dksL_law_52 17 rfl rfl)
theorem dL_law_1322 : decode cL_law 1322 = .ok (.ireturn, 1) := dk_172 (dk_at dksL_law_52 18 rfl rfl)
theorem dL_law_1323 : decode cL_law 1323 = .ok (.iload 6, 2) := dk_21 6 (dk_at dksL_law_52 19 rfl rfl)
theorem dL_law_1325 : decode cL_law 1325 = .ok (.ifCond .ne 35, 3) := dk_154 0 35 (dk_at dksL_law_52 21 rfl rfl)
theorem dL_law_1328 : decode cL_law 1328 = .ok (.aload 4, 2) := dk_25 4 (dk_at dksL_law_53 0 rfl rfl)
theorem dL_law_1330 : decode cL_law 1330 = .ok (.iconst 0, 1) := dk_3 (dk_at dksL_law_53 2 rfl rfl)
theorem dL_law_1331 : decode cL_law 1331 = .ok (.daload, 1) := dk_49 (dk_at dksL_law_53 3 rfl rfl)
theorem dL_law_1332 : decode cL_law 1332 = .ok (.dload 7, 2) := dk_24 7 (dk_at dksL_law_53 4 rfl rfl)
theorem dL_law_1334 : decode cL_law 1334 = .ok (.dcmp .l, 1) := dk_151 (dk_at dksL_law_53 6 rfl rfl)
theorem dL_law_1335 : decode cL_law 1335 = .ok (.ifCond .eq 25, 3) := dk_153 0 25 (dk_at dksL_law_53 7 rfl rfl)
theorem dL_law_1338 : decode cL_law 1338 = .ok (.aload 4, 2) := dk_25 4 (dk_at dksL_law_53 10 rfl rfl)
theorem dL_law_1340 : decode cL_law 1340 = .ok (.iconst 0, 1) := dk_3 (dk_at dksL_law_53 12 rfl rfl)
theorem dL_law_1341 : decode cL_law 1341 = .ok (.daload, 1) := dk_49 (dk_at dksL_law_53 13 rfl rfl)
theorem dL_law_1342 : decode cL_law 1342 = .ok (.aload 4, 2) := dk_25 4 (dk_at dksL_law_53 14 rfl rfl)
theorem dL_law_1344 : decode cL_law 1344 = .ok (.iconst 0, 1) := dk_3 (dk_at dksL_law_53 16 rfl rfl)
theorem dL_law_1345 : decode cL_law 1345 = .ok (.daload, 1) := dk_49 (dk_at dksL_law_53 17 rfl rfl)
theorem dL_law_1346 : decode cL_law 1346 = .ok (.dcmp .l, 1) := dk_151 (dk_at dksL_law_53 18 rfl rfl)
theorem dL_law_1347 : decode cL_law 1347 = .ok (.ifCond .eq 11, 3) := dk_153 0 11 (dk_at dksL_law_53 19 rfl rfl)
theorem dL_law_1350 : decode cL_law 1350 = .ok (.dload 7, 2) := dk_24 7 (dk_at dksL_law_53 22 rfl rfl)
theorem dL_law_1352 : decode cL_law 1352 = .ok (.dload 7, 2) := dk_24 7 (dk_at dksL_law_54 0 rfl rfl)
theorem dL_law_1354 : decode cL_law 1354 = .ok (.dcmp .l, 1) := dk_151 (dk_at dksL_law_54 2 rfl rfl)
theorem dL_law_1355 : decode cL_law 1355 = .ok (.ifCond .ne 5, 3) := dk_154 0 5 (dk_at dksL_law_54 3 rfl rfl)
theorem dL_law_1358 : decode cL_law 1358 = .ok (.iconst 0, 1) := dk_3 (dk_at dksL_law_54 6 rfl rfl)
theorem dL_law_1359 : decode cL_law 1359 = .ok (.ireturn, 1) := dk_172 (dk_at dksL_law_54 7 rfl rfl)
theorem dL_law_1360 : decode cL_law 1360 = .ok (.goto 412, 3) := dk_167 1 156 (dk_at dksL_law_54 8 rfl rfl)
theorem dL_law_1363 : decode cL_law 1363 = .ok (.aload_n 1, 1) := dk_43 (dk_at dksL_law_54 11 rfl rfl)
theorem dL_law_1364 : decode cL_law 1364 = .ok (.aload_n 0, 1) := dk_42 (dk_at dksL_law_54 12 rfl rfl)
theorem dL_law_1365 : decode cL_law 1365 = .ok (.iload 5, 2) := dk_21 5 (dk_at dksL_law_54 13 rfl rfl)
theorem dL_law_1367 : decode cL_law 1367 = .ok (.iconst 1, 1) := dk_4 (dk_at dksL_law_54 15 rfl rfl)
theorem dL_law_1368 : decode cL_law 1368 = .ok (.iadd, 1) := dk_96 (dk_at dksL_law_54 16 rfl rfl)
theorem dL_law_1369 : decode cL_law 1369 = .ok (.iaload, 1) := dk_46 (dk_at dksL_law_54 17 rfl rfl)
theorem dL_law_1370 : decode cL_law 1370 = .ok (.aload 4, 2) := dk_25 4 (dk_at dksL_law_54 18 rfl rfl)
theorem dL_law_1372 : decode cL_law 1372 = .ok (.invokestatic 186, 3) := dk_184 0 186 (dk_at dksL_law_54 20 rfl rfl)
theorem dL_law_1375 : decode cL_law 1375 = .ok (.istore 6, 2) := dk_54 6 (dk_at dksL_law_55 0 rfl rfl)
theorem dL_law_1377 : decode cL_law 1377 = .ok (.aload_n 2, 1) := dk_44 (dk_at dksL_law_55 2 rfl rfl)
theorem dL_law_1378 : decode cL_law 1378 = .ok (.aload_n 0, 1) := dk_42 (dk_at dksL_law_55 3 rfl rfl)
theorem dL_law_1379 : decode cL_law 1379 = .ok (.iload 5, 2) := dk_21 5 (dk_at dksL_law_55 4 rfl rfl)
theorem dL_law_1381 : decode cL_law 1381 = .ok (.iconst 1, 1) := dk_4 (dk_at dksL_law_55 6 rfl rfl)
theorem dL_law_1382 : decode cL_law 1382 = .ok (.iadd, 1) := dk_96 (dk_at dksL_law_55 7 rfl rfl)
theorem dL_law_1383 : decode cL_law 1383 = .ok (.iaload, 1) := dk_46 (dk_at dksL_law_55 8 rfl rfl)
theorem dL_law_1384 : decode cL_law 1384 = .ok (.invokevirtual 189, 3) := dk_182 0 189 (dk_at dksL_law_55 9 rfl rfl)
theorem dL_law_1387 : decode cL_law 1387 = .ok (.fstore 7, 2) := dk_56 7 (dk_at dksL_law_55 12 rfl rfl)
theorem dL_law_1389 : decode cL_law 1389 = .ok (.aload_n 2, 1) := dk_44 (dk_at dksL_law_55 14 rfl rfl)
theorem dL_law_1390 : decode cL_law 1390 = .ok (.invokevirtual 120, 3) := dk_182 0 120 (dk_at dksL_law_55 15 rfl rfl)
theorem dL_law_1393 : decode cL_law 1393 = .ok (.iload 6, 2) := dk_21 6 (dk_at dksL_law_55 18 rfl rfl)
theorem dL_law_1395 : decode cL_law 1395 = .ok (.if_icmp .eq 5, 3) := dk_159 0 5 (dk_at dksL_law_55 20 rfl rfl)
theorem dL_law_1398 : decode cL_law 1398 = .ok (.iconst 0, 1) := dk_3 (dk_at dksL_law_55 23 rfl rfl)
theorem dL_law_1399 : decode cL_law 1399 = .ok (.ireturn, 1) := dk_172 (dk_at dksL_law_56 0 rfl rfl)
theorem dL_law_1400 : decode cL_law 1400 = .ok (.iload 6, 2) := dk_21 6 (dk_at dksL_law_56 1 rfl rfl)
theorem dL_law_1402 : decode cL_law 1402 = .ok (.ifCond .ne 36, 3) := dk_154 0 36 (dk_at dksL_law_56 3 rfl rfl)
theorem dL_law_1405 : decode cL_law 1405 = .ok (.aload 4, 2) := dk_25 4 (dk_at dksL_law_56 6 rfl rfl)
theorem dL_law_1407 : decode cL_law 1407 = .ok (.iconst 0, 1) := dk_3 (dk_at dksL_law_56 8 rfl rfl)
theorem dL_law_1408 : decode cL_law 1408 = .ok (.daload, 1) := dk_49 (dk_at dksL_law_56 9 rfl rfl)
theorem dL_law_1409 : decode cL_law 1409 = .ok (.fload 7, 2) := dk_23 7 (dk_at dksL_law_56 10 rfl rfl)
theorem dL_law_1411 : decode cL_law 1411 = .ok (.f2d, 1) := dk_141 (dk_at dksL_law_56 12 rfl rfl)
theorem dL_law_1412 : decode cL_law 1412 = .ok (.dcmp .l, 1) := dk_151 (dk_at dksL_law_56 13 rfl rfl)
theorem dL_law_1413 : decode cL_law 1413 = .ok (.ifCond .eq 25, 3) := dk_153 0 25 (dk_at dksL_law_56 14 rfl rfl)
theorem dL_law_1416 : decode cL_law 1416 = .ok (.aload 4, 2) := dk_25 4 (dk_at dksL_law_56 17 rfl rfl)
theorem dL_law_1418 : decode cL_law 1418 = .ok (.iconst 0, 1) := dk_3 (dk_at dksL_law_56 19 rfl rfl)
theorem dL_law_1419 : decode cL_law 1419 = .ok (.daload, 1) := dk_49 (dk_at dksL_law_56 20 rfl rfl)
theorem dL_law_1420 : decode cL_law 1420 = .ok (.aload 4, 2) := dk_25 4 (dk_at dksL_law_56 21 rfl rfl)
theorem dL_law_1422 : decode cL_law 1422 = .ok (.iconst 0, 1) := dk_3 (dk_at dksL_law_56 23 rfl rfl)
theorem dL_law_1423 : decode cL_law 1423 = .ok (.daload, 1) := dk_49 (dk_at dksL_law_57 0 rfl rfl)
theorem dL_law_1424 : decode cL_law 1424 = .ok (.dcmp .l, 1) := dk_151 (dk_at dksL_law_57 1 rfl rfl)
theorem dL_law_1425 : decode cL_law 1425 = .ok (.ifCond .eq 11, 3) := dk_153 0 11 (dk_at dksL_law_57 2 rfl rfl)
theorem dL_law_1428 : decode cL_law 1428 = .ok (.fload 7, 2) := dk_23 7 (dk_at dksL_law_57 5 rfl rfl)
theorem dL_law_1430 : decode cL_law 1430 = .ok (.fload 7, 2) := dk_23 7 (dk_at dksL_law_57 7 rfl rfl)
theorem dL_law_1432 : decode cL_law 1432 = .ok (.fcmp .l, 1) := dk_149 (dk_at dksL_law_57 9 rfl rfl)
theorem dL_law_1433 : decode cL_law 1433 = .ok (.ifCond .ne 5, 3) := dk_154 0 5 (dk_at dksL_law_57 10 rfl rfl)
theorem dL_law_1436 : decode cL_law 1436 = .ok (.iconst 0, 1) := dk_3 (dk_at dksL_law_57 13 rfl rfl)
theorem dL_law_1437 : decode cL_law 1437 = .ok (.ireturn, 1) := dk_172 (dk_at dksL_law_57 14 rfl rfl)
theorem dL_law_1438 : decode cL_law 1438 = .ok (.goto 334, 3) := dk_167 1 78 (dk_at dksL_law_57 15 rfl rfl)
theorem dL_law_1441 : decode cL_law 1441 = .ok (.aload_n 1, 1) := dk_43 (dk_at dksL_law_57 18 rfl rfl)
theorem dL_law_1442 : decode cL_law 1442 = .ok (.aload_n 0, 1) := dk_42 (dk_at dksL_law_57 19 rfl rfl)
theorem dL_law_1443 : decode cL_law 1443 = .ok (.iload 5, 2) := dk_21 5 (dk_at dksL_law_57 20 rfl rfl)
theorem dL_law_1445 : decode cL_law 1445 = .ok (.iconst 1, 1) := dk_4 (dk_at dksL_law_57 22 rfl rfl)
theorem dL_law_1446 : decode cL_law 1446 = .ok (.iadd, 1) := dk_96 (dk_at dksL_law_57 23 rfl rfl)
theorem dL_law_1447 : decode cL_law 1447 = .ok (.iaload, 1) := dk_46 (dk_at dksL_law_58 0 rfl rfl)
theorem dL_law_1448 : decode cL_law 1448 = .ok (.aload_n 0, 1) := dk_42 (dk_at dksL_law_58 1 rfl rfl)
theorem dL_law_1449 : decode cL_law 1449 = .ok (.iload 5, 2) := dk_21 5 (dk_at dksL_law_58 2 rfl rfl)
theorem dL_law_1451 : decode cL_law 1451 = .ok (.iconst 2, 1) := dk_5 (dk_at dksL_law_58 4 rfl rfl)
theorem dL_law_1452 : decode cL_law 1452 = .ok (.iadd, 1) := dk_96 (dk_at dksL_law_58 5 rfl rfl)
theorem dL_law_1453 : decode cL_law 1453 = .ok (.iaload, 1) := dk_46 (dk_at dksL_law_58 6 rfl rfl)
theorem dL_law_1454 : decode cL_law 1454 = .ok (.aload_n 0, 1) := dk_42 (dk_at dksL_law_58 7 rfl rfl)
theorem dL_law_1455 : decode cL_law 1455 = .ok (.iload 5, 2) := dk_21 5 (dk_at dksL_law_58 8 rfl rfl)
theorem dL_law_1457 : decode cL_law 1457 = .ok (.iconst 3, 1) := dk_6 (dk_at dksL_law_58 10 rfl rfl)
theorem dL_law_1458 : decode cL_law 1458 = .ok (.iadd, 1) := dk_96 (dk_at dksL_law_58 11 rfl rfl)
theorem dL_law_1459 : decode cL_law 1459 = .ok (.iaload, 1) := dk_46 (dk_at dksL_law_58 12 rfl rfl)
theorem dL_law_1460 : decode cL_law 1460 = .ok (.aload_n 3, 1) := dk_45 (dk_at dksL_law_58 13 rfl rfl)
theorem dL_law_1461 : decode cL_law 1461 = .ok (.invokestatic 190, 3) := dk_184 0 190 (dk_at dksL_law_58 14 rfl rfl)
theorem dL_law_1464 : decode cL_law 1464 = .ok (.istore 6, 2) := dk_54 6 (dk_at dksL_law_58 17 rfl rfl)
theorem dL_law_1466 : decode cL_law 1466 = .ok (.aload_n 2, 1) := dk_44 (dk_at dksL_law_58 19 rfl rfl)
theorem dL_law_1467 : decode cL_law 1467 = .ok (.aload_n 0, 1) := dk_42 (dk_at dksL_law_58 20 rfl rfl)
theorem dL_law_1468 : decode cL_law 1468 = .ok (.iload 5, 2) := dk_21 5 (dk_at dksL_law_58 21 rfl rfl)
theorem dL_law_1470 : decode cL_law 1470 = .ok (.iconst 1, 1) := dk_4 (dk_at dksL_law_58 23 rfl rfl)
theorem dL_law_1471 : decode cL_law 1471 = .ok (.iadd, 1) := dk_96 (dk_at dksL_law_59 0 rfl rfl)
theorem dL_law_1472 : decode cL_law 1472 = .ok (.iaload, 1) := dk_46 (dk_at dksL_law_59 1 rfl rfl)
theorem dL_law_1473 : decode cL_law 1473 = .ok (.aload_n 0, 1) := dk_42 (dk_at dksL_law_59 2 rfl rfl)
theorem dL_law_1474 : decode cL_law 1474 = .ok (.iload 5, 2) := dk_21 5 (dk_at dksL_law_59 3 rfl rfl)
theorem dL_law_1476 : decode cL_law 1476 = .ok (.iconst 2, 1) := dk_5 (dk_at dksL_law_59 5 rfl rfl)
theorem dL_law_1477 : decode cL_law 1477 = .ok (.iadd, 1) := dk_96 (dk_at dksL_law_59 6 rfl rfl)
theorem dL_law_1478 : decode cL_law 1478 = .ok (.iaload, 1) := dk_46 (dk_at dksL_law_59 7 rfl rfl)
theorem dL_law_1479 : decode cL_law 1479 = .ok (.aload_n 0, 1) := dk_42 (dk_at dksL_law_59 8 rfl rfl)
theorem dL_law_1480 : decode cL_law 1480 = .ok (.iload 5, 2) := dk_21 5 (dk_at dksL_law_59 9 rfl rfl)
theorem dL_law_1482 : decode cL_law 1482 = .ok (.iconst 3, 1) := dk_6 (dk_at dksL_law_59 11 rfl rfl)
theorem dL_law_1483 : decode cL_law 1483 = .ok (.iadd, 1) := dk_96 (dk_at dksL_law_59 12 rfl rfl)
theorem dL_law_1484 : decode cL_law 1484 = .ok (.iaload, 1) := dk_46 (dk_at dksL_law_59 13 rfl rfl)
theorem dL_law_1485 : decode cL_law 1485 = .ok (.invokevirtual 193, 3) := dk_182 0 193 (dk_at dksL_law_59 14 rfl rfl)
theorem dL_law_1488 : decode cL_law 1488 = .ok (.istore 7, 2) := dk_54 7 (dk_at dksL_law_59 17 rfl rfl)
theorem dL_law_1490 : decode cL_law 1490 = .ok (.aload_n 2, 1) := dk_44 (dk_at dksL_law_59 19 rfl rfl)
theorem dL_law_1491 : decode cL_law 1491 = .ok (.invokevirtual 120, 3) := dk_182 0 120 (dk_at dksL_law_59 20 rfl rfl)
theorem dL_law_1494 : decode cL_law 1494 = .ok (.iload 6, 2) := dk_21 6 (dk_at dksL_law_60 0 rfl rfl)
theorem dL_law_1496 : decode cL_law 1496 = .ok (.if_icmp .eq 5, 3) := dk_159 0 5 (dk_at dksL_law_60 2 rfl rfl)
theorem dL_law_1499 : decode cL_law 1499 = .ok (.iconst 0, 1) := dk_3 (dk_at dksL_law_60 5 rfl rfl)
theorem dL_law_1500 : decode cL_law 1500 = .ok (.ireturn, 1) := dk_172 (dk_at dksL_law_60 6 rfl rfl)
theorem dL_law_1501 : decode cL_law 1501 = .ok (.iload 6, 2) := dk_21 6 (dk_at dksL_law_60 7 rfl rfl)
theorem dL_law_1503 : decode cL_law 1503 = .ok (.ifCond .ne 15, 3) := dk_154 0 15 (dk_at dksL_law_60 9 rfl rfl)
theorem dL_law_1506 : decode cL_law 1506 = .ok (.aload_n 3, 1) := dk_45 (dk_at dksL_law_60 12 rfl rfl)
theorem dL_law_1507 : decode cL_law 1507 = .ok (.iconst 0, 1) := dk_3 (dk_at dksL_law_60 13 rfl rfl)
theorem dL_law_1508 : decode cL_law 1508 = .ok (.laload, 1) := dk_47 (dk_at dksL_law_60 14 rfl rfl)
theorem dL_law_1509 : decode cL_law 1509 = .ok (.iload 7, 2) := dk_21 7 (dk_at dksL_law_60 15 rfl rfl)
theorem dL_law_1511 : decode cL_law 1511 = .ok (.i2l, 1) := dk_133 (dk_at dksL_law_60 17 rfl rfl)
theorem dL_law_1512 : decode cL_law 1512 = .ok (.lcmp, 1) := dk_148 (dk_at dksL_law_60 18 rfl rfl)
theorem dL_law_1513 : decode cL_law 1513 = .ok (.ifCond .eq 5, 3) := dk_153 0 5 (dk_at dksL_law_60 19 rfl rfl)
theorem dL_law_1516 : decode cL_law 1516 = .ok (.iconst 0, 1) := dk_3 (dk_at dksL_law_60 22 rfl rfl)
theorem dL_law_1517 : decode cL_law 1517 = .ok (.ireturn, 1) := dk_172 (dk_at dksL_law_60 23 rfl rfl)
theorem dL_law_1518 : decode cL_law 1518 = .ok (.goto 254, 3) := dk_167 0 254 (dk_at dksL_law_61 0 rfl rfl)
theorem dL_law_1521 : decode cL_law 1521 = .ok (.aload_n 1, 1) := dk_43 (dk_at dksL_law_61 3 rfl rfl)
theorem dL_law_1522 : decode cL_law 1522 = .ok (.aload_n 0, 1) := dk_42 (dk_at dksL_law_61 4 rfl rfl)
theorem dL_law_1523 : decode cL_law 1523 = .ok (.iload 5, 2) := dk_21 5 (dk_at dksL_law_61 5 rfl rfl)
theorem dL_law_1525 : decode cL_law 1525 = .ok (.iconst 1, 1) := dk_4 (dk_at dksL_law_61 7 rfl rfl)
theorem dL_law_1526 : decode cL_law 1526 = .ok (.iadd, 1) := dk_96 (dk_at dksL_law_61 8 rfl rfl)
theorem dL_law_1527 : decode cL_law 1527 = .ok (.iaload, 1) := dk_46 (dk_at dksL_law_61 9 rfl rfl)
theorem dL_law_1528 : decode cL_law 1528 = .ok (.aload_n 0, 1) := dk_42 (dk_at dksL_law_61 10 rfl rfl)
theorem dL_law_1529 : decode cL_law 1529 = .ok (.iload 5, 2) := dk_21 5 (dk_at dksL_law_61 11 rfl rfl)
theorem dL_law_1531 : decode cL_law 1531 = .ok (.iconst 2, 1) := dk_5 (dk_at dksL_law_61 13 rfl rfl)
theorem dL_law_1532 : decode cL_law 1532 = .ok (.iadd, 1) := dk_96 (dk_at dksL_law_61 14 rfl rfl)
theorem dL_law_1533 : decode cL_law 1533 = .ok (.iaload, 1) := dk_46 (dk_at dksL_law_61 15 rfl rfl)
theorem dL_law_1534 : decode cL_law 1534 = .ok (.aload_n 3, 1) := dk_45 (dk_at dksL_law_61 16 rfl rfl)
theorem dL_law_1535 : decode cL_law 1535 = .ok (.invokestatic 194, 3) := dk_184 0 194 (dk_at dksL_law_61 17 rfl rfl)
theorem dL_law_1538 : decode cL_law 1538 = .ok (.istore 6, 2) := dk_54 6 (dk_at dksL_law_61 20 rfl rfl)
theorem dL_law_1540 : decode cL_law 1540 = .ok (.aload_n 2, 1) := dk_44 (dk_at dksL_law_61 22 rfl rfl)
theorem dL_law_1541 : decode cL_law 1541 = .ok (.aload_n 0, 1) := dk_42 (dk_at dksL_law_61 23 rfl rfl)
theorem dL_law_1542 : decode cL_law 1542 = .ok (.iload 5, 2) := dk_21 5 (dk_at dksL_law_62 0 rfl rfl)
theorem dL_law_1544 : decode cL_law 1544 = .ok (.iconst 1, 1) := dk_4 (dk_at dksL_law_62 2 rfl rfl)
theorem dL_law_1545 : decode cL_law 1545 = .ok (.iadd, 1) := dk_96 (dk_at dksL_law_62 3 rfl rfl)
theorem dL_law_1546 : decode cL_law 1546 = .ok (.iaload, 1) := dk_46 (dk_at dksL_law_62 4 rfl rfl)
theorem dL_law_1547 : decode cL_law 1547 = .ok (.aload_n 0, 1) := dk_42 (dk_at dksL_law_62 5 rfl rfl)
theorem dL_law_1548 : decode cL_law 1548 = .ok (.iload 5, 2) := dk_21 5 (dk_at dksL_law_62 6 rfl rfl)
theorem dL_law_1550 : decode cL_law 1550 = .ok (.iconst 2, 1) := dk_5 (dk_at dksL_law_62 8 rfl rfl)
theorem dL_law_1551 : decode cL_law 1551 = .ok (.iadd, 1) := dk_96 (dk_at dksL_law_62 9 rfl rfl)
theorem dL_law_1552 : decode cL_law 1552 = .ok (.iaload, 1) := dk_46 (dk_at dksL_law_62 10 rfl rfl)
theorem dL_law_1553 : decode cL_law 1553 = .ok (.invokevirtual 196, 3) := dk_182 0 196 (dk_at dksL_law_62 11 rfl rfl)
theorem dL_law_1556 : decode cL_law 1556 = .ok (.istore 7, 2) := dk_54 7 (dk_at dksL_law_62 14 rfl rfl)
theorem dL_law_1558 : decode cL_law 1558 = .ok (.aload_n 2, 1) := dk_44 (dk_at dksL_law_62 16 rfl rfl)
theorem dL_law_1559 : decode cL_law 1559 = .ok (.invokevirtual 120, 3) := dk_182 0 120 (dk_at dksL_law_62 17 rfl rfl)
theorem dL_law_1562 : decode cL_law 1562 = .ok (.iload 6, 2) := dk_21 6 (dk_at dksL_law_62 20 rfl rfl)
theorem dL_law_1564 : decode cL_law 1564 = .ok (.if_icmp .eq 5, 3) := dk_159 0 5 (dk_at dksL_law_63 0 rfl rfl)
theorem dL_law_1567 : decode cL_law 1567 = .ok (.iconst 0, 1) := dk_3 (dk_at dksL_law_63 3 rfl rfl)
theorem dL_law_1568 : decode cL_law 1568 = .ok (.ireturn, 1) := dk_172 (dk_at dksL_law_63 4 rfl rfl)
theorem dL_law_1569 : decode cL_law 1569 = .ok (.iload 6, 2) := dk_21 6 (dk_at dksL_law_63 5 rfl rfl)
theorem dL_law_1571 : decode cL_law 1571 = .ok (.ifCond .ne 15, 3) := dk_154 0 15 (dk_at dksL_law_63 7 rfl rfl)
theorem dL_law_1574 : decode cL_law 1574 = .ok (.aload_n 3, 1) := dk_45 (dk_at dksL_law_63 10 rfl rfl)
theorem dL_law_1575 : decode cL_law 1575 = .ok (.iconst 0, 1) := dk_3 (dk_at dksL_law_63 11 rfl rfl)
theorem dL_law_1576 : decode cL_law 1576 = .ok (.laload, 1) := dk_47 (dk_at dksL_law_63 12 rfl rfl)
theorem dL_law_1577 : decode cL_law 1577 = .ok (.iload 7, 2) := dk_21 7 (dk_at dksL_law_63 13 rfl rfl)
theorem dL_law_1579 : decode cL_law 1579 = .ok (.i2l, 1) := dk_133 (dk_at dksL_law_63 15 rfl rfl)
theorem dL_law_1580 : decode cL_law 1580 = .ok (.lcmp, 1) := dk_148 (dk_at dksL_law_63 16 rfl rfl)
theorem dL_law_1581 : decode cL_law 1581 = .ok (.ifCond .eq 5, 3) := dk_153 0 5 (dk_at dksL_law_63 17 rfl rfl)
theorem dL_law_1584 : decode cL_law 1584 = .ok (.iconst 0, 1) := dk_3 (dk_at dksL_law_63 20 rfl rfl)
theorem dL_law_1585 : decode cL_law 1585 = .ok (.ireturn, 1) := dk_172 (dk_at dksL_law_63 21 rfl rfl)
theorem dL_law_1586 : decode cL_law 1586 = .ok (.goto 186, 3) := dk_167 0 186 (dk_at dksL_law_64 0 rfl rfl)
theorem dL_law_1589 : decode cL_law 1589 = .ok (.aload_n 1, 1) := dk_43 (dk_at dksL_law_64 3 rfl rfl)
theorem dL_law_1590 : decode cL_law 1590 = .ok (.aload_n 0, 1) := dk_42 (dk_at dksL_law_64 4 rfl rfl)
theorem dL_law_1591 : decode cL_law 1591 = .ok (.iload 5, 2) := dk_21 5 (dk_at dksL_law_64 5 rfl rfl)
theorem dL_law_1593 : decode cL_law 1593 = .ok (.iconst 1, 1) := dk_4 (dk_at dksL_law_64 7 rfl rfl)
theorem dL_law_1594 : decode cL_law 1594 = .ok (.iadd, 1) := dk_96 (dk_at dksL_law_64 8 rfl rfl)
theorem dL_law_1595 : decode cL_law 1595 = .ok (.iaload, 1) := dk_46 (dk_at dksL_law_64 9 rfl rfl)
theorem dL_law_1596 : decode cL_law 1596 = .ok (.aload_n 3, 1) := dk_45 (dk_at dksL_law_64 10 rfl rfl)
theorem dL_law_1597 : decode cL_law 1597 = .ok (.invokestatic 197, 3) := dk_184 0 197 (dk_at dksL_law_64 11 rfl rfl)
theorem dL_law_1600 : decode cL_law 1600 = .ok (.istore 6, 2) := dk_54 6 (dk_at dksL_law_64 14 rfl rfl)
theorem dL_law_1602 : decode cL_law 1602 = .ok (.aload_n 2, 1) := dk_44 (dk_at dksL_law_64 16 rfl rfl)
theorem dL_law_1603 : decode cL_law 1603 = .ok (.aload_n 0, 1) := dk_42 (dk_at dksL_law_64 17 rfl rfl)
theorem dL_law_1604 : decode cL_law 1604 = .ok (.iload 5, 2) := dk_21 5 (dk_at dksL_law_64 18 rfl rfl)
theorem dL_law_1606 : decode cL_law 1606 = .ok (.iconst 1, 1) := dk_4 (dk_at dksL_law_64 20 rfl rfl)
theorem dL_law_1607 : decode cL_law 1607 = .ok (.iadd, 1) := dk_96 (dk_at dksL_law_64 21 rfl rfl)
theorem dL_law_1608 : decode cL_law 1608 = .ok (.iaload, 1) := dk_46 (dk_at dksL_law_64 22 rfl rfl)
theorem dL_law_1609 : decode cL_law 1609 = .ok (.invokevirtual 199, 3) := dk_182 0 199 (dk_at dksL_law_65 0 rfl rfl)
theorem dL_law_1612 : decode cL_law 1612 = .ok (.istore 7, 2) := dk_54 7 (dk_at dksL_law_65 3 rfl rfl)
theorem dL_law_1614 : decode cL_law 1614 = .ok (.aload_n 2, 1) := dk_44 (dk_at dksL_law_65 5 rfl rfl)
theorem dL_law_1615 : decode cL_law 1615 = .ok (.invokevirtual 120, 3) := dk_182 0 120 (dk_at dksL_law_65 6 rfl rfl)
theorem dL_law_1618 : decode cL_law 1618 = .ok (.iload 6, 2) := dk_21 6 (dk_at dksL_law_65 9 rfl rfl)
theorem dL_law_1620 : decode cL_law 1620 = .ok (.if_icmp .eq 5, 3) := dk_159 0 5 (dk_at dksL_law_65 11 rfl rfl)
theorem dL_law_1623 : decode cL_law 1623 = .ok (.iconst 0, 1) := dk_3 (dk_at dksL_law_65 14 rfl rfl)
theorem dL_law_1624 : decode cL_law 1624 = .ok (.ireturn, 1) := dk_172 (dk_at dksL_law_65 15 rfl rfl)
theorem dL_law_1625 : decode cL_law 1625 = .ok (.iload 6, 2) := dk_21 6 (dk_at dksL_law_65 16 rfl rfl)
theorem dL_law_1627 : decode cL_law 1627 = .ok (.ifCond .ne 15, 3) := dk_154 0 15 (dk_at dksL_law_65 18 rfl rfl)
theorem dL_law_1630 : decode cL_law 1630 = .ok (.aload_n 3, 1) := dk_45 (dk_at dksL_law_65 21 rfl rfl)
theorem dL_law_1631 : decode cL_law 1631 = .ok (.iconst 0, 1) := dk_3 (dk_at dksL_law_65 22 rfl rfl)
theorem dL_law_1632 : decode cL_law 1632 = .ok (.laload, 1) := dk_47 (dk_at dksL_law_65 23 rfl rfl)
theorem dL_law_1633 : decode cL_law 1633 = .ok (.iload 7, 2) := dk_21 7 (dk_at dksL_law_66 0 rfl rfl)
theorem dL_law_1635 : decode cL_law 1635 = .ok (.i2l, 1) := dk_133 (dk_at dksL_law_66 2 rfl rfl)
theorem dL_law_1636 : decode cL_law 1636 = .ok (.lcmp, 1) := dk_148 (dk_at dksL_law_66 3 rfl rfl)
theorem dL_law_1637 : decode cL_law 1637 = .ok (.ifCond .eq 5, 3) := dk_153 0 5 (dk_at dksL_law_66 4 rfl rfl)
theorem dL_law_1640 : decode cL_law 1640 = .ok (.iconst 0, 1) := dk_3 (dk_at dksL_law_66 7 rfl rfl)
theorem dL_law_1641 : decode cL_law 1641 = .ok (.ireturn, 1) := dk_172 (dk_at dksL_law_66 8 rfl rfl)
theorem dL_law_1642 : decode cL_law 1642 = .ok (.goto 130, 3) := dk_167 0 130 (dk_at dksL_law_66 9 rfl rfl)
theorem dL_law_1645 : decode cL_law 1645 = .ok (.aload_n 1, 1) := dk_43 (dk_at dksL_law_66 12 rfl rfl)
theorem dL_law_1646 : decode cL_law 1646 = .ok (.invokevirtual 200, 3) := dk_182 0 200 (dk_at dksL_law_66 13 rfl rfl)
theorem dL_law_1649 : decode cL_law 1649 = .ok (.aload_n 2, 1) := dk_44 (dk_at dksL_law_66 16 rfl rfl)
theorem dL_law_1650 : decode cL_law 1650 = .ok (.invokevirtual 203, 3) := dk_182 0 203 (dk_at dksL_law_66 17 rfl rfl)
theorem dL_law_1653 : decode cL_law 1653 = .ok (.if_icmp .eq 119, 3) := dk_159 0 119 (dk_at dksL_law_66 20 rfl rfl)
theorem dL_law_1656 : decode cL_law 1656 = .ok (.iconst 0, 1) := dk_3 (dk_at dksL_law_66 23 rfl rfl)
theorem dL_law_1657 : decode cL_law 1657 = .ok (.ireturn, 1) := dk_172 (dk_at dksL_law_67 0 rfl rfl)
theorem dL_law_1658 : decode cL_law 1658 = .ok (.aload_n 1, 1) := dk_43 (dk_at dksL_law_67 1 rfl rfl)
theorem dL_law_1659 : decode cL_law 1659 = .ok (.aload_n 3, 1) := dk_45 (dk_at dksL_law_67 2 rfl rfl)
theorem dL_law_1660 : decode cL_law 1660 = .ok (.invokestatic 204, 3) := dk_184 0 204 (dk_at dksL_law_67 3 rfl rfl)
theorem dL_law_1663 : decode cL_law 1663 = .ok (.istore 6, 2) := dk_54 6 (dk_at dksL_law_67 6 rfl rfl)
theorem dL_law_1665 : decode cL_law 1665 = .ok (.aload_n 2, 1) := dk_44 (dk_at dksL_law_67 8 rfl rfl)
theorem dL_law_1666 : decode cL_law 1666 = .ok (.invokevirtual 206, 3) := dk_182 0 206 (dk_at dksL_law_67 9 rfl rfl)
theorem dL_law_1669 : decode cL_law 1669 = .ok (.istore 7, 2) := dk_54 7 (dk_at dksL_law_67 12 rfl rfl)
theorem dL_law_1671 : decode cL_law 1671 = .ok (.aload_n 2, 1) := dk_44 (dk_at dksL_law_67 14 rfl rfl)
theorem dL_law_1672 : decode cL_law 1672 = .ok (.invokevirtual 120, 3) := dk_182 0 120 (dk_at dksL_law_67 15 rfl rfl)
theorem dL_law_1675 : decode cL_law 1675 = .ok (.iload 6, 2) := dk_21 6 (dk_at dksL_law_67 18 rfl rfl)
theorem dL_law_1677 : decode cL_law 1677 = .ok (.if_icmp .eq 5, 3) := dk_159 0 5 (dk_at dksL_law_67 20 rfl rfl)
theorem dL_law_1680 : decode cL_law 1680 = .ok (.iconst 0, 1) := dk_3 (dk_at dksL_law_67 23 rfl rfl)
theorem dL_law_1681 : decode cL_law 1681 = .ok (.ireturn, 1) := dk_172 (dk_at dksL_law_68 0 rfl rfl)
theorem dL_law_1682 : decode cL_law 1682 = .ok (.iload 6, 2) := dk_21 6 (dk_at dksL_law_68 1 rfl rfl)
theorem dL_law_1684 : decode cL_law 1684 = .ok (.ifCond .ne 15, 3) := dk_154 0 15 (dk_at dksL_law_68 3 rfl rfl)
theorem dL_law_1687 : decode cL_law 1687 = .ok (.aload_n 3, 1) := dk_45 (dk_at dksL_law_68 6 rfl rfl)
theorem dL_law_1688 : decode cL_law 1688 = .ok (.iconst 0, 1) := dk_3 (dk_at dksL_law_68 7 rfl rfl)
theorem dL_law_1689 : decode cL_law 1689 = .ok (.laload, 1) := dk_47 (dk_at dksL_law_68 8 rfl rfl)
theorem dL_law_1690 : decode cL_law 1690 = .ok (.iload 7, 2) := dk_21 7 (dk_at dksL_law_68 9 rfl rfl)
theorem dL_law_1692 : decode cL_law 1692 = .ok (.i2l, 1) := dk_133 (dk_at dksL_law_68 11 rfl rfl)
theorem dL_law_1693 : decode cL_law 1693 = .ok (.lcmp, 1) := dk_148 (dk_at dksL_law_68 12 rfl rfl)
theorem dL_law_1694 : decode cL_law 1694 = .ok (.ifCond .eq 5, 3) := dk_153 0 5 (dk_at dksL_law_68 13 rfl rfl)
theorem dL_law_1697 : decode cL_law 1697 = .ok (.iconst 0, 1) := dk_3 (dk_at dksL_law_68 16 rfl rfl)
theorem dL_law_1698 : decode cL_law 1698 = .ok (.ireturn, 1) := dk_172 (dk_at dksL_law_68 17 rfl rfl)
theorem dL_law_1699 : decode cL_law 1699 = .ok (.goto 73, 3) := dk_167 0 73 (dk_at dksL_law_68 18 rfl rfl)
theorem dL_law_1702 : decode cL_law 1702 = .ok (.aload_n 1, 1) := dk_43 (dk_at dksL_law_68 21 rfl rfl)
theorem dL_law_1703 : decode cL_law 1703 = .ok (.invokevirtual 207, 3) := dk_182 0 207 (dk_at dksL_law_69 0 rfl rfl)
theorem dL_law_1706 : decode cL_law 1706 = .ok (.aload_n 2, 1) := dk_44 (dk_at dksL_law_69 3 rfl rfl)
theorem dL_law_1707 : decode cL_law 1707 = .ok (.invokevirtual 211, 3) := dk_182 0 211 (dk_at dksL_law_69 4 rfl rfl)
theorem dL_law_1710 : decode cL_law 1710 = .ok (.if_icmp .eq 62, 3) := dk_159 0 62 (dk_at dksL_law_69 7 rfl rfl)
theorem dL_law_1713 : decode cL_law 1713 = .ok (.iconst 0, 1) := dk_3 (dk_at dksL_law_69 10 rfl rfl)
theorem dL_law_1714 : decode cL_law 1714 = .ok (.ireturn, 1) := dk_172 (dk_at dksL_law_69 11 rfl rfl)
theorem dL_law_1715 : decode cL_law 1715 = .ok (.aload_n 1, 1) := dk_43 (dk_at dksL_law_69 12 rfl rfl)
theorem dL_law_1716 : decode cL_law 1716 = .ok (.invokevirtual 212, 3) := dk_182 0 212 (dk_at dksL_law_69 13 rfl rfl)
theorem dL_law_1719 : decode cL_law 1719 = .ok (.aload_n 2, 1) := dk_44 (dk_at dksL_law_69 16 rfl rfl)
theorem dL_law_1720 : decode cL_law 1720 = .ok (.invokevirtual 215, 3) := dk_182 0 215 (dk_at dksL_law_69 17 rfl rfl)
theorem dL_law_1723 : decode cL_law 1723 = .ok (.if_icmp .eq 49, 3) := dk_159 0 49 (dk_at dksL_law_69 20 rfl rfl)
theorem dL_law_1726 : decode cL_law 1726 = .ok (.iconst 0, 1) := dk_3 (dk_at dksL_law_69 23 rfl rfl)
theorem dL_law_1727 : decode cL_law 1727 = .ok (.ireturn, 1) := dk_172 (dk_at dksL_law_70 0 rfl rfl)
theorem dL_law_1728 : decode cL_law 1728 = .ok (.aload_n 1, 1) := dk_43 (dk_at dksL_law_70 1 rfl rfl)
theorem dL_law_1729 : decode cL_law 1729 = .ok (.aload_n 3, 1) := dk_45 (dk_at dksL_law_70 2 rfl rfl)
theorem dL_law_1730 : decode cL_law 1730 = .ok (.invokestatic 216, 3) := dk_184 0 216 (dk_at dksL_law_70 3 rfl rfl)
theorem dL_law_1733 : decode cL_law 1733 = .ok (.istore 6, 2) := dk_54 6 (dk_at dksL_law_70 6 rfl rfl)
theorem dL_law_1735 : decode cL_law 1735 = .ok (.aload_n 2, 1) := dk_44 (dk_at dksL_law_70 8 rfl rfl)
theorem dL_law_1736 : decode cL_law 1736 = .ok (.invokevirtual 218, 3) := dk_182 0 218 (dk_at dksL_law_70 9 rfl rfl)
theorem dL_law_1739 : decode cL_law 1739 = .ok (.istore 7, 2) := dk_54 7 (dk_at dksL_law_70 12 rfl rfl)
theorem dL_law_1741 : decode cL_law 1741 = .ok (.aload_n 2, 1) := dk_44 (dk_at dksL_law_70 14 rfl rfl)
theorem dL_law_1742 : decode cL_law 1742 = .ok (.invokevirtual 120, 3) := dk_182 0 120 (dk_at dksL_law_70 15 rfl rfl)
theorem dL_law_1745 : decode cL_law 1745 = .ok (.iload 6, 2) := dk_21 6 (dk_at dksL_law_70 18 rfl rfl)
theorem dL_law_1747 : decode cL_law 1747 = .ok (.if_icmp .eq 5, 3) := dk_159 0 5 (dk_at dksL_law_70 20 rfl rfl)
theorem dL_law_1750 : decode cL_law 1750 = .ok (.iconst 0, 1) := dk_3 (dk_at dksL_law_70 23 rfl rfl)
theorem dL_law_1751 : decode cL_law 1751 = .ok (.ireturn, 1) := dk_172 (dk_at dksL_law_71 0 rfl rfl)
theorem dL_law_1752 : decode cL_law 1752 = .ok (.iload 6, 2) := dk_21 6 (dk_at dksL_law_71 1 rfl rfl)
theorem dL_law_1754 : decode cL_law 1754 = .ok (.ifCond .ne 15, 3) := dk_154 0 15 (dk_at dksL_law_71 3 rfl rfl)
theorem dL_law_1757 : decode cL_law 1757 = .ok (.aload_n 3, 1) := dk_45 (dk_at dksL_law_71 6 rfl rfl)
theorem dL_law_1758 : decode cL_law 1758 = .ok (.iconst 0, 1) := dk_3 (dk_at dksL_law_71 7 rfl rfl)
theorem dL_law_1759 : decode cL_law 1759 = .ok (.laload, 1) := dk_47 (dk_at dksL_law_71 8 rfl rfl)
theorem dL_law_1760 : decode cL_law 1760 = .ok (.iload 7, 2) := dk_21 7 (dk_at dksL_law_71 9 rfl rfl)
theorem dL_law_1762 : decode cL_law 1762 = .ok (.i2l, 1) := dk_133 (dk_at dksL_law_71 11 rfl rfl)
theorem dL_law_1763 : decode cL_law 1763 = .ok (.lcmp, 1) := dk_148 (dk_at dksL_law_71 12 rfl rfl)
theorem dL_law_1764 : decode cL_law 1764 = .ok (.ifCond .eq 5, 3) := dk_153 0 5 (dk_at dksL_law_71 13 rfl rfl)
theorem dL_law_1767 : decode cL_law 1767 = .ok (.iconst 0, 1) := dk_3 (dk_at dksL_law_71 16 rfl rfl)
theorem dL_law_1768 : decode cL_law 1768 = .ok (.ireturn, 1) := dk_172 (dk_at dksL_law_71 17 rfl rfl)
theorem dL_law_1769 : decode cL_law 1769 = .ok (.goto 3, 3) := dk_167 0 3 (dk_at dksL_law_71 18 rfl rfl)
theorem dL_law_1772 : decode cL_law 1772 = .ok (.iinc 5 4, 3) := dk_132 5 4 (dk_at dksL_law_71 21 rfl rfl)
theorem dL_law_1775 : decode cL_law 1775 = .ok (.goto (-1747), 3) := dk_167 249 45 (dk_at dksL_law_72 0 rfl rfl)
theorem dL_law_1778 : decode cL_law 1778 = .ok (.iconst 1, 1) := dk_4 (dk_at dksL_law_72 3 rfl rfl)
theorem dL_law_1779 : decode cL_law 1779 = .ok (.ireturn, 1) := dk_172 (dk_at dksL_law_72 4 rfl rfl)

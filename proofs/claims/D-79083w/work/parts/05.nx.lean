/-! DanceNotation -/
set_option maxRecDepth 100000
def RX1 : String := "DanceNotation"
def TX1 : u_T := fun k => match k with
  | 0 => ("DanceNotation", "dance", "LDanceNotation$Dance;", false)
  | 1 => ("DanceNotation", "commands", "Ljava/util/LinkedList;", false)
  | 2 => ("DanceNotation", "undoSteps", "Ljava/util/ArrayDeque;", true)
  | 3 => ("DanceNotation", "savedDance", "LDanceNotation$Dance;", false)
  | 4 => ("DanceNotation", "savedCommands", "Ljava/util/LinkedList;", false)
  | 5 => ("DanceNotation", "input", "Ljava/lang/StringBuilder;", false)
  | 6 => ("DanceNotation", "output", "Ljava/lang/String;", false)
  | 7 => ("DanceNotation", "lastError", "LDanceNotation$SyntaxException;", false)
  | 8 => ("DanceNotation", "refusedDancer", "I", false)
  | _ => ("DanceNotation", "reason", "I", false)
def tyX1 : Nat → FieldType := fun k => match k with
  | 0 => .object "DanceNotation$Dance"
  | 1 => .object "java/util/LinkedList"
  | 2 => .object "java/util/ArrayDeque"
  | 3 => .object "DanceNotation$Dance"
  | 4 => .object "java/util/LinkedList"
  | 5 => .object "java/lang/StringBuilder"
  | 6 => .object "java/lang/String"
  | 7 => .object "DanceNotation$SyntaxException"
  | 8 => .int
  | _ => .int
abbrev wsX10 : List Cond := u_ws RX1 TX1 10
theorem nmX1 : ∀ a, a < 10 → ∀ b, b < 10 → a ≠ b → (TX1 a).2.1 ≠ (TX1 b).2.1 := by decide +kernel
theorem tyX1_ok : ∀ k, k < 10 → parseFieldDescriptor (TX1 k).2.2.1 = some (tyX1 k) := by decide +kernel
abbrev cX1_init : ByteArray := prog_1_method_11_code
def yX1_init : MethodName := ⟨RX1, "<init>", "()V"⟩
def dkwX1_init_2 : List UInt8 := [183, 0, 57, 181, 0, 58, 42, 18, 62, 181, 0, 64, 42, 2, 181, 0, 68, 177]
abbrev dktX1_init_2 : List UInt8 := dkwX1_init_2 ++ []
def dkwX1_init_1 : List UInt8 := [183, 0, 43, 181, 0, 44, 42, 187, 0, 48, 89, 183, 0, 50, 181, 0, 51, 42, 187, 0, 55, 89]
abbrev dktX1_init_1 : List UInt8 := dkwX1_init_1 ++ dktX1_init_2
def dkwX1_init_0 : List UInt8 := [42, 183, 0, 29, 42, 187, 0, 32, 89, 8, 8, 183, 0, 34, 181, 0, 37, 42, 187, 0, 41, 89]
abbrev dktX1_init_0 : List UInt8 := dkwX1_init_0 ++ dktX1_init_1
theorem dksX1_init_0 : cX1_init.data.toList.drop 0 = dktX1_init_0 := by decide +kernel
theorem dksX1_init_1 : cX1_init.data.toList.drop 22 = dktX1_init_1 := dk_seg dksX1_init_0 22 rfl rfl
theorem dksX1_init_2 : cX1_init.data.toList.drop 44 = dktX1_init_2 := dk_seg dksX1_init_1 22 rfl rfl
theorem dX1_init_0 : decode cX1_init 0 = .ok (.aload_n 0, 1) := dk_42 (dk_at dksX1_init_0 0 rfl rfl)
theorem dX1_init_1 : decode cX1_init 1 = .ok (.invokespecial 29, 3) := dk_183 0 29 (dk_at dksX1_init_0 1 rfl rfl)
theorem dX1_init_4 : decode cX1_init 4 = .ok (.aload_n 0, 1) := dk_42 (dk_at dksX1_init_0 4 rfl rfl)
theorem dX1_init_5 : decode cX1_init 5 = .ok (.new 32, 3) := dk_187 0 32 (dk_at dksX1_init_0 5 rfl rfl)
theorem dX1_init_8 : decode cX1_init 8 = .ok (.dup, 1) := dk_89 (dk_at dksX1_init_0 8 rfl rfl)
theorem dX1_init_9 : decode cX1_init 9 = .ok (.iconst 5, 1) := dk_8 (dk_at dksX1_init_0 9 rfl rfl)
theorem dX1_init_10 : decode cX1_init 10 = .ok (.iconst 5, 1) := dk_8 (dk_at dksX1_init_0 10 rfl rfl)
theorem dX1_init_11 : decode cX1_init 11 = .ok (.invokespecial 34, 3) := dk_183 0 34 (dk_at dksX1_init_0 11 rfl rfl)
theorem dX1_init_14 : decode cX1_init 14 = .ok (.putfield 37, 3) := dk_181 0 37 (dk_at dksX1_init_0 14 rfl rfl)
theorem dX1_init_17 : decode cX1_init 17 = .ok (.aload_n 0, 1) := dk_42 (dk_at dksX1_init_0 17 rfl rfl)
theorem dX1_init_18 : decode cX1_init 18 = .ok (.new 41, 3) := dk_187 0 41 (dk_at dksX1_init_0 18 rfl rfl)
theorem dX1_init_21 : decode cX1_init 21 = .ok (.dup, 1) := dk_89 (dk_at dksX1_init_0 21 rfl rfl)
theorem dX1_init_22 : decode cX1_init 22 = .ok (.invokespecial 43, 3) := dk_183 0 43 (dk_at dksX1_init_1 0 rfl rfl)
theorem dX1_init_25 : decode cX1_init 25 = .ok (.putfield 44, 3) := dk_181 0 44 (dk_at dksX1_init_1 3 rfl rfl)
theorem dX1_init_28 : decode cX1_init 28 = .ok (.aload_n 0, 1) := dk_42 (dk_at dksX1_init_1 6 rfl rfl)
theorem dX1_init_29 : decode cX1_init 29 = .ok (.new 48, 3) := dk_187 0 48 (dk_at dksX1_init_1 7 rfl rfl)
theorem dX1_init_32 : decode cX1_init 32 = .ok (.dup, 1) := dk_89 (dk_at dksX1_init_1 10 rfl rfl)
theorem dX1_init_33 : decode cX1_init 33 = .ok (.invokespecial 50, 3) := dk_183 0 50 (dk_at dksX1_init_1 11 rfl rfl)
theorem dX1_init_36 : decode cX1_init 36 = .ok (.putfield 51, 3) := dk_181 0 51 (dk_at dksX1_init_1 14 rfl rfl)
theorem dX1_init_39 : decode cX1_init 39 = .ok (.aload_n 0, 1) := dk_42 (dk_at dksX1_init_1 17 rfl rfl)
theorem dX1_init_40 : decode cX1_init 40 = .ok (.new 55, 3) := dk_187 0 55 (dk_at dksX1_init_1 18 rfl rfl)
theorem dX1_init_43 : decode cX1_init 43 = .ok (.dup, 1) := dk_89 (dk_at dksX1_init_1 21 rfl rfl)
theorem dX1_init_44 : decode cX1_init 44 = .ok (.invokespecial 57, 3) := dk_183 0 57 (dk_at dksX1_init_2 0 rfl rfl)
theorem dX1_init_47 : decode cX1_init 47 = .ok (.putfield 58, 3) := dk_181 0 58 (dk_at dksX1_init_2 3 rfl rfl)
theorem dX1_init_50 : decode cX1_init 50 = .ok (.aload_n 0, 1) := dk_42 (dk_at dksX1_init_2 6 rfl rfl)
theorem dX1_init_51 : decode cX1_init 51 = .ok (.ldc 62, 2) := dk_18 62 (dk_at dksX1_init_2 7 rfl rfl)
theorem dX1_init_53 : decode cX1_init 53 = .ok (.putfield 64, 3) := dk_181 0 64 (dk_at dksX1_init_2 9 rfl rfl)
theorem dX1_init_56 : decode cX1_init 56 = .ok (.aload_n 0, 1) := dk_42 (dk_at dksX1_init_2 12 rfl rfl)
theorem dX1_init_57 : decode cX1_init 57 = .ok (.iconst (-1), 1) := dk_2 (dk_at dksX1_init_2 13 rfl rfl)
theorem dX1_init_58 : decode cX1_init 58 = .ok (.putfield 68, 3) := dk_181 0 68 (dk_at dksX1_init_2 14 rfl rfl)
theorem dX1_init_61 : decode cX1_init 61 = .ok (.return_, 1) := dk_177 (dk_at dksX1_init_2 17 rfl rfl)
abbrev cX1_reason : ByteArray := prog_1_method_46_code
def yX1_reason : MethodName := ⟨RX1, "reason", "()I"⟩
theorem dX1_reason_0 : decode cX1_reason 0 = .ok (.aload_n 0, 1) := by decide +kernel
theorem dX1_reason_1 : decode cX1_reason 1 = .ok (.getfield 16, 3) := by decide +kernel
theorem dX1_reason_4 : decode cX1_reason 4 = .ok (.ireturn, 1) := by decide +kernel
abbrev cX1_isReplayed : ByteArray := prog_1_method_48_code
def yX1_isReplayed : MethodName := ⟨RX1, "isReplayed", "()Z"⟩
def dkwX1_isReplayed_2 : List UInt8 := [192, 0, 89, 78, 45, 43, 182, 0, 88, 54, 4, 167, 255, 230, 43, 42, 180, 0, 37, 182, 1, 129, 172]
abbrev dktX1_isReplayed_2 : List UInt8 := dkwX1_isReplayed_2 ++ []
def dkwX1_isReplayed_1 : List UInt8 := [180, 0, 44, 182, 1, 128, 77, 44, 185, 1, 0, 1, 0, 153, 0, 23, 44, 185, 1, 6, 1, 0]
abbrev dktX1_isReplayed_1 : List UInt8 := dkwX1_isReplayed_1 ++ dktX1_isReplayed_2
def dkwX1_isReplayed_0 : List UInt8 := [187, 0, 32, 89, 42, 180, 0, 37, 180, 1, 95, 42, 180, 0, 37, 180, 1, 125, 183, 0, 34, 76, 42]
abbrev dktX1_isReplayed_0 : List UInt8 := dkwX1_isReplayed_0 ++ dktX1_isReplayed_1
theorem dksX1_isReplayed_0 : cX1_isReplayed.data.toList.drop 0 = dktX1_isReplayed_0 := by decide +kernel
theorem dksX1_isReplayed_1 : cX1_isReplayed.data.toList.drop 23 = dktX1_isReplayed_1 := dk_seg dksX1_isReplayed_0 23 rfl rfl
theorem dksX1_isReplayed_2 : cX1_isReplayed.data.toList.drop 45 = dktX1_isReplayed_2 := dk_seg dksX1_isReplayed_1 22 rfl rfl
theorem dX1_isReplayed_0 : decode cX1_isReplayed 0 = .ok (.new 32, 3) := dk_187 0 32 (dk_at dksX1_isReplayed_0 0 rfl rfl)
theorem dX1_isReplayed_3 : decode cX1_isReplayed 3 = .ok (.dup, 1) := dk_89 (dk_at dksX1_isReplayed_0 3 rfl rfl)
theorem dX1_isReplayed_4 : decode cX1_isReplayed 4 = .ok (.aload_n 0, 1) := dk_42 (dk_at dksX1_isReplayed_0 4 rfl rfl)
theorem dX1_isReplayed_5 : decode cX1_isReplayed 5 = .ok (.getfield 37, 3) := dk_180 0 37 (dk_at dksX1_isReplayed_0 5 rfl rfl)
theorem dX1_isReplayed_8 : decode cX1_isReplayed 8 = .ok (.getfield 351, 3) := dk_180 1 95 (dk_at dksX1_isReplayed_0 8 rfl rfl)
theorem dX1_isReplayed_11 : decode cX1_isReplayed 11 = .ok (.aload_n 0, 1) := dk_42 (dk_at dksX1_isReplayed_0 11 rfl rfl)
theorem dX1_isReplayed_12 : decode cX1_isReplayed 12 = .ok (.getfield 37, 3) := dk_180 0 37 (dk_at dksX1_isReplayed_0 12 rfl rfl)
theorem dX1_isReplayed_15 : decode cX1_isReplayed 15 = .ok (.getfield 381, 3) := dk_180 1 125 (dk_at dksX1_isReplayed_0 15 rfl rfl)
theorem dX1_isReplayed_18 : decode cX1_isReplayed 18 = .ok (.invokespecial 34, 3) := dk_183 0 34 (dk_at dksX1_isReplayed_0 18 rfl rfl)
theorem dX1_isReplayed_21 : decode cX1_isReplayed 21 = .ok (.astore_n 1, 1) := dk_76 (dk_at dksX1_isReplayed_0 21 rfl rfl)
theorem dX1_isReplayed_22 : decode cX1_isReplayed 22 = .ok (.aload_n 0, 1) := dk_42 (dk_at dksX1_isReplayed_0 22 rfl rfl)
theorem dX1_isReplayed_23 : decode cX1_isReplayed 23 = .ok (.getfield 44, 3) := dk_180 0 44 (dk_at dksX1_isReplayed_1 0 rfl rfl)
theorem dX1_isReplayed_26 : decode cX1_isReplayed 26 = .ok (.invokevirtual 384, 3) := dk_182 1 128 (dk_at dksX1_isReplayed_1 3 rfl rfl)
theorem dX1_isReplayed_29 : decode cX1_isReplayed 29 = .ok (.astore_n 2, 1) := dk_77 (dk_at dksX1_isReplayed_1 6 rfl rfl)
theorem dX1_isReplayed_30 : decode cX1_isReplayed 30 = .ok (.aload_n 2, 1) := dk_44 (dk_at dksX1_isReplayed_1 7 rfl rfl)
theorem dX1_isReplayed_31 : decode cX1_isReplayed 31 = .ok (.invokeinterface 256 1, 5) := by decide +kernel
theorem dX1_isReplayed_36 : decode cX1_isReplayed 36 = .ok (.ifCond .eq 23, 3) := dk_153 0 23 (dk_at dksX1_isReplayed_1 13 rfl rfl)
theorem dX1_isReplayed_39 : decode cX1_isReplayed 39 = .ok (.aload_n 2, 1) := dk_44 (dk_at dksX1_isReplayed_1 16 rfl rfl)
theorem dX1_isReplayed_40 : decode cX1_isReplayed 40 = .ok (.invokeinterface 262 1, 5) := by decide +kernel
theorem dX1_isReplayed_45 : decode cX1_isReplayed 45 = .ok (.checkcast 89, 3) := dk_192 0 89 (dk_at dksX1_isReplayed_2 0 rfl rfl)
theorem dX1_isReplayed_48 : decode cX1_isReplayed 48 = .ok (.astore_n 3, 1) := dk_78 (dk_at dksX1_isReplayed_2 3 rfl rfl)
theorem dX1_isReplayed_49 : decode cX1_isReplayed 49 = .ok (.aload_n 3, 1) := dk_45 (dk_at dksX1_isReplayed_2 4 rfl rfl)
theorem dX1_isReplayed_50 : decode cX1_isReplayed 50 = .ok (.aload_n 1, 1) := dk_43 (dk_at dksX1_isReplayed_2 5 rfl rfl)
theorem dX1_isReplayed_51 : decode cX1_isReplayed 51 = .ok (.invokevirtual 88, 3) := dk_182 0 88 (dk_at dksX1_isReplayed_2 6 rfl rfl)
theorem dX1_isReplayed_54 : decode cX1_isReplayed 54 = .ok (.istore 4, 2) := dk_54 4 (dk_at dksX1_isReplayed_2 9 rfl rfl)
theorem dX1_isReplayed_56 : decode cX1_isReplayed 56 = .ok (.goto (-26), 3) := dk_167 255 230 (dk_at dksX1_isReplayed_2 11 rfl rfl)
theorem dX1_isReplayed_59 : decode cX1_isReplayed 59 = .ok (.aload_n 1, 1) := dk_43 (dk_at dksX1_isReplayed_2 14 rfl rfl)
theorem dX1_isReplayed_60 : decode cX1_isReplayed 60 = .ok (.aload_n 0, 1) := dk_42 (dk_at dksX1_isReplayed_2 15 rfl rfl)
theorem dX1_isReplayed_61 : decode cX1_isReplayed 61 = .ok (.getfield 37, 3) := dk_180 0 37 (dk_at dksX1_isReplayed_2 16 rfl rfl)
theorem dX1_isReplayed_64 : decode cX1_isReplayed 64 = .ok (.invokevirtual 385, 3) := dk_182 1 129 (dk_at dksX1_isReplayed_2 19 rfl rfl)
theorem dX1_isReplayed_67 : decode cX1_isReplayed 67 = .ok (.ireturn, 1) := dk_172 (dk_at dksX1_isReplayed_2 22 rfl rfl)
abbrev cX1_mirrored : ByteArray := prog_1_method_9_code
def yX1_mirrored : MethodName := ⟨RX1, "mirrored", "(C)C"⟩
def dkwX1_mirrored_0 : List UInt8 := [26, 16, 101, 160, 0, 8, 16, 119, 167, 0, 15, 26, 16, 119, 160, 0, 8, 16, 101, 167, 0, 4, 26, 172]
abbrev dktX1_mirrored_0 : List UInt8 := dkwX1_mirrored_0 ++ []
theorem dksX1_mirrored_0 : cX1_mirrored.data.toList.drop 0 = dktX1_mirrored_0 := by decide +kernel
theorem dX1_mirrored_0 : decode cX1_mirrored 0 = .ok (.iload_n 0, 1) := dk_26 (dk_at dksX1_mirrored_0 0 rfl rfl)
theorem dX1_mirrored_1 : decode cX1_mirrored 1 = .ok (.bipush 101, 2) := dk_16 101 (dk_at dksX1_mirrored_0 1 rfl rfl)
theorem dX1_mirrored_3 : decode cX1_mirrored 3 = .ok (.if_icmp .ne 8, 3) := dk_160 0 8 (dk_at dksX1_mirrored_0 3 rfl rfl)
theorem dX1_mirrored_6 : decode cX1_mirrored 6 = .ok (.bipush 119, 2) := dk_16 119 (dk_at dksX1_mirrored_0 6 rfl rfl)
theorem dX1_mirrored_8 : decode cX1_mirrored 8 = .ok (.goto 15, 3) := dk_167 0 15 (dk_at dksX1_mirrored_0 8 rfl rfl)
theorem dX1_mirrored_11 : decode cX1_mirrored 11 = .ok (.iload_n 0, 1) := dk_26 (dk_at dksX1_mirrored_0 11 rfl rfl)
theorem dX1_mirrored_12 : decode cX1_mirrored 12 = .ok (.bipush 119, 2) := dk_16 119 (dk_at dksX1_mirrored_0 12 rfl rfl)
theorem dX1_mirrored_14 : decode cX1_mirrored 14 = .ok (.if_icmp .ne 8, 3) := dk_160 0 8 (dk_at dksX1_mirrored_0 14 rfl rfl)
theorem dX1_mirrored_17 : decode cX1_mirrored 17 = .ok (.bipush 101, 2) := dk_16 101 (dk_at dksX1_mirrored_0 17 rfl rfl)
theorem dX1_mirrored_19 : decode cX1_mirrored 19 = .ok (.goto 4, 3) := dk_167 0 4 (dk_at dksX1_mirrored_0 19 rfl rfl)
theorem dX1_mirrored_22 : decode cX1_mirrored 22 = .ok (.iload_n 0, 1) := dk_26 (dk_at dksX1_mirrored_0 22 rfl rfl)
theorem dX1_mirrored_23 : decode cX1_mirrored 23 = .ok (.ireturn, 1) := dk_172 (dk_at dksX1_mirrored_0 23 rfl rfl)
abbrev cX1_opposite : ByteArray := prog_1_method_10_code
def yX1_opposite : MethodName := ⟨RX1, "opposite", "(C)C"⟩
def dkwX1_opposite_1 : List UInt8 := [184, 0, 25, 172]
abbrev dktX1_opposite_1 : List UInt8 := dkwX1_opposite_1 ++ []
def dkwX1_opposite_0 : List UInt8 := [26, 16, 110, 160, 0, 8, 16, 115, 167, 0, 18, 26, 16, 115, 160, 0, 8, 16, 110, 167, 0, 7, 26]
abbrev dktX1_opposite_0 : List UInt8 := dkwX1_opposite_0 ++ dktX1_opposite_1
theorem dksX1_opposite_0 : cX1_opposite.data.toList.drop 0 = dktX1_opposite_0 := by decide +kernel
theorem dksX1_opposite_1 : cX1_opposite.data.toList.drop 23 = dktX1_opposite_1 := dk_seg dksX1_opposite_0 23 rfl rfl
theorem dX1_opposite_0 : decode cX1_opposite 0 = .ok (.iload_n 0, 1) := dk_26 (dk_at dksX1_opposite_0 0 rfl rfl)
theorem dX1_opposite_1 : decode cX1_opposite 1 = .ok (.bipush 110, 2) := dk_16 110 (dk_at dksX1_opposite_0 1 rfl rfl)
theorem dX1_opposite_3 : decode cX1_opposite 3 = .ok (.if_icmp .ne 8, 3) := dk_160 0 8 (dk_at dksX1_opposite_0 3 rfl rfl)
theorem dX1_opposite_6 : decode cX1_opposite 6 = .ok (.bipush 115, 2) := dk_16 115 (dk_at dksX1_opposite_0 6 rfl rfl)
theorem dX1_opposite_8 : decode cX1_opposite 8 = .ok (.goto 18, 3) := dk_167 0 18 (dk_at dksX1_opposite_0 8 rfl rfl)
theorem dX1_opposite_11 : decode cX1_opposite 11 = .ok (.iload_n 0, 1) := dk_26 (dk_at dksX1_opposite_0 11 rfl rfl)
theorem dX1_opposite_12 : decode cX1_opposite 12 = .ok (.bipush 115, 2) := dk_16 115 (dk_at dksX1_opposite_0 12 rfl rfl)
theorem dX1_opposite_14 : decode cX1_opposite 14 = .ok (.if_icmp .ne 8, 3) := dk_160 0 8 (dk_at dksX1_opposite_0 14 rfl rfl)
theorem dX1_opposite_17 : decode cX1_opposite 17 = .ok (.bipush 110, 2) := dk_16 110 (dk_at dksX1_opposite_0 17 rfl rfl)
theorem dX1_opposite_19 : decode cX1_opposite 19 = .ok (.goto 7, 3) := dk_167 0 7 (dk_at dksX1_opposite_0 19 rfl rfl)
theorem dX1_opposite_22 : decode cX1_opposite 22 = .ok (.iload_n 0, 1) := dk_26 (dk_at dksX1_opposite_0 22 rfl rfl)
theorem dX1_opposite_23 : decode cX1_opposite 23 = .ok (.invokestatic 25, 3) := dk_184 0 25 (dk_at dksX1_opposite_1 0 rfl rfl)
theorem dX1_opposite_26 : decode cX1_opposite 26 = .ok (.ireturn, 1) := dk_172 (dk_at dksX1_opposite_1 3 rfl rfl)
abbrev cX1_snapshot : ByteArray := prog_1_method_49_code
def yX1_snapshot : MethodName := ⟨RX1, "snapshot", "()I"⟩
def dkwX1_snapshot_1 : List UInt8 := [181, 1, 139, 42, 180, 0, 37, 182, 1, 142, 172]
abbrev dktX1_snapshot_1 : List UInt8 := dkwX1_snapshot_1 ++ []
def dkwX1_snapshot_0 : List UInt8 := [42, 42, 180, 0, 37, 182, 0, 79, 181, 1, 133, 42, 187, 0, 41, 89, 42, 180, 0, 44, 183, 1, 136]
abbrev dktX1_snapshot_0 : List UInt8 := dkwX1_snapshot_0 ++ dktX1_snapshot_1
theorem dksX1_snapshot_0 : cX1_snapshot.data.toList.drop 0 = dktX1_snapshot_0 := by decide +kernel
theorem dksX1_snapshot_1 : cX1_snapshot.data.toList.drop 23 = dktX1_snapshot_1 := dk_seg dksX1_snapshot_0 23 rfl rfl
theorem dX1_snapshot_0 : decode cX1_snapshot 0 = .ok (.aload_n 0, 1) := dk_42 (dk_at dksX1_snapshot_0 0 rfl rfl)
theorem dX1_snapshot_1 : decode cX1_snapshot 1 = .ok (.aload_n 0, 1) := dk_42 (dk_at dksX1_snapshot_0 1 rfl rfl)
theorem dX1_snapshot_2 : decode cX1_snapshot 2 = .ok (.getfield 37, 3) := dk_180 0 37 (dk_at dksX1_snapshot_0 2 rfl rfl)
theorem dX1_snapshot_5 : decode cX1_snapshot 5 = .ok (.invokevirtual 79, 3) := dk_182 0 79 (dk_at dksX1_snapshot_0 5 rfl rfl)
theorem dX1_snapshot_8 : decode cX1_snapshot 8 = .ok (.putfield 389, 3) := dk_181 1 133 (dk_at dksX1_snapshot_0 8 rfl rfl)
theorem dX1_snapshot_11 : decode cX1_snapshot 11 = .ok (.aload_n 0, 1) := dk_42 (dk_at dksX1_snapshot_0 11 rfl rfl)
theorem dX1_snapshot_12 : decode cX1_snapshot 12 = .ok (.new 41, 3) := dk_187 0 41 (dk_at dksX1_snapshot_0 12 rfl rfl)
theorem dX1_snapshot_15 : decode cX1_snapshot 15 = .ok (.dup, 1) := dk_89 (dk_at dksX1_snapshot_0 15 rfl rfl)
theorem dX1_snapshot_16 : decode cX1_snapshot 16 = .ok (.aload_n 0, 1) := dk_42 (dk_at dksX1_snapshot_0 16 rfl rfl)
theorem dX1_snapshot_17 : decode cX1_snapshot 17 = .ok (.getfield 44, 3) := dk_180 0 44 (dk_at dksX1_snapshot_0 17 rfl rfl)
theorem dX1_snapshot_20 : decode cX1_snapshot 20 = .ok (.invokespecial 392, 3) := dk_183 1 136 (dk_at dksX1_snapshot_0 20 rfl rfl)
theorem dX1_snapshot_23 : decode cX1_snapshot 23 = .ok (.putfield 395, 3) := dk_181 1 139 (dk_at dksX1_snapshot_1 0 rfl rfl)
theorem dX1_snapshot_26 : decode cX1_snapshot 26 = .ok (.aload_n 0, 1) := dk_42 (dk_at dksX1_snapshot_1 3 rfl rfl)
theorem dX1_snapshot_27 : decode cX1_snapshot 27 = .ok (.getfield 37, 3) := dk_180 0 37 (dk_at dksX1_snapshot_1 4 rfl rfl)
theorem dX1_snapshot_30 : decode cX1_snapshot 30 = .ok (.invokevirtual 398, 3) := dk_182 1 142 (dk_at dksX1_snapshot_1 7 rfl rfl)
theorem dX1_snapshot_33 : decode cX1_snapshot 33 = .ok (.ireturn, 1) := dk_172 (dk_at dksX1_snapshot_1 10 rfl rfl)
abbrev cX1_stage : ByteArray := prog_1_method_18_code
def yX1_stage : MethodName := ⟨RX1, "stage", "(II)I"⟩
def dkwX1_stage_3 : List UInt8 := [172]
abbrev dktX1_stage_3 : List UInt8 := dkwX1_stage_3 ++ []
def dkwX1_stage_2 : List UInt8 := [181, 0, 37, 42, 180, 0, 44, 182, 0, 136, 42, 180, 0, 51, 182, 0, 139, 42, 180, 0, 37, 182, 0, 118]
abbrev dktX1_stage_2 : List UInt8 := dkwX1_stage_2 ++ dktX1_stage_3
def dkwX1_stage_1 : List UInt8 := [184, 0, 108, 153, 0, 7, 4, 167, 0, 4, 3, 184, 0, 133, 42, 187, 0, 32, 89, 27, 28, 183, 0, 34]
abbrev dktX1_stage_1 : List UInt8 := dkwX1_stage_1 ++ dktX1_stage_2
def dkwX1_stage_0 : List UInt8 := [27, 133, 20, 0, 129, 20, 0, 131, 184, 0, 108, 153, 0, 21, 28, 133, 20, 0, 129, 20, 0, 131]
abbrev dktX1_stage_0 : List UInt8 := dkwX1_stage_0 ++ dktX1_stage_1
theorem dksX1_stage_0 : cX1_stage.data.toList.drop 0 = dktX1_stage_0 := by decide +kernel
theorem dksX1_stage_1 : cX1_stage.data.toList.drop 22 = dktX1_stage_1 := dk_seg dksX1_stage_0 22 rfl rfl
theorem dksX1_stage_2 : cX1_stage.data.toList.drop 46 = dktX1_stage_2 := dk_seg dksX1_stage_1 24 rfl rfl
theorem dksX1_stage_3 : cX1_stage.data.toList.drop 70 = dktX1_stage_3 := dk_seg dksX1_stage_2 24 rfl rfl
theorem dX1_stage_0 : decode cX1_stage 0 = .ok (.iload_n 1, 1) := dk_27 (dk_at dksX1_stage_0 0 rfl rfl)
theorem dX1_stage_1 : decode cX1_stage 1 = .ok (.i2l, 1) := dk_133 (dk_at dksX1_stage_0 1 rfl rfl)
theorem dX1_stage_2 : decode cX1_stage 2 = .ok (.ldc2_w 129, 3) := dk_20 0 129 (dk_at dksX1_stage_0 2 rfl rfl)
theorem dX1_stage_5 : decode cX1_stage 5 = .ok (.ldc2_w 131, 3) := dk_20 0 131 (dk_at dksX1_stage_0 5 rfl rfl)
theorem dX1_stage_8 : decode cX1_stage 8 = .ok (.invokestatic 108, 3) := dk_184 0 108 (dk_at dksX1_stage_0 8 rfl rfl)
theorem dX1_stage_11 : decode cX1_stage 11 = .ok (.ifCond .eq 21, 3) := dk_153 0 21 (dk_at dksX1_stage_0 11 rfl rfl)
theorem dX1_stage_14 : decode cX1_stage 14 = .ok (.iload_n 2, 1) := dk_28 (dk_at dksX1_stage_0 14 rfl rfl)
theorem dX1_stage_15 : decode cX1_stage 15 = .ok (.i2l, 1) := dk_133 (dk_at dksX1_stage_0 15 rfl rfl)
theorem dX1_stage_16 : decode cX1_stage 16 = .ok (.ldc2_w 129, 3) := dk_20 0 129 (dk_at dksX1_stage_0 16 rfl rfl)
theorem dX1_stage_19 : decode cX1_stage 19 = .ok (.ldc2_w 131, 3) := dk_20 0 131 (dk_at dksX1_stage_0 19 rfl rfl)
theorem dX1_stage_22 : decode cX1_stage 22 = .ok (.invokestatic 108, 3) := dk_184 0 108 (dk_at dksX1_stage_1 0 rfl rfl)
theorem dX1_stage_25 : decode cX1_stage 25 = .ok (.ifCond .eq 7, 3) := dk_153 0 7 (dk_at dksX1_stage_1 3 rfl rfl)
theorem dX1_stage_28 : decode cX1_stage 28 = .ok (.iconst 1, 1) := dk_4 (dk_at dksX1_stage_1 6 rfl rfl)
theorem dX1_stage_29 : decode cX1_stage 29 = .ok (.goto 4, 3) := dk_167 0 4 (dk_at dksX1_stage_1 7 rfl rfl)
theorem dX1_stage_32 : decode cX1_stage 32 = .ok (.iconst 0, 1) := dk_3 (dk_at dksX1_stage_1 10 rfl rfl)
theorem dX1_stage_33 : decode cX1_stage 33 = .ok (.invokestatic 133, 3) := dk_184 0 133 (dk_at dksX1_stage_1 11 rfl rfl)
theorem dX1_stage_36 : decode cX1_stage 36 = .ok (.aload_n 0, 1) := dk_42 (dk_at dksX1_stage_1 14 rfl rfl)
theorem dX1_stage_37 : decode cX1_stage 37 = .ok (.new 32, 3) := dk_187 0 32 (dk_at dksX1_stage_1 15 rfl rfl)
theorem dX1_stage_40 : decode cX1_stage 40 = .ok (.dup, 1) := dk_89 (dk_at dksX1_stage_1 18 rfl rfl)
theorem dX1_stage_41 : decode cX1_stage 41 = .ok (.iload_n 1, 1) := dk_27 (dk_at dksX1_stage_1 19 rfl rfl)
theorem dX1_stage_42 : decode cX1_stage 42 = .ok (.iload_n 2, 1) := dk_28 (dk_at dksX1_stage_1 20 rfl rfl)
theorem dX1_stage_43 : decode cX1_stage 43 = .ok (.invokespecial 34, 3) := dk_183 0 34 (dk_at dksX1_stage_1 21 rfl rfl)
theorem dX1_stage_46 : decode cX1_stage 46 = .ok (.putfield 37, 3) := dk_181 0 37 (dk_at dksX1_stage_2 0 rfl rfl)
theorem dX1_stage_49 : decode cX1_stage 49 = .ok (.aload_n 0, 1) := dk_42 (dk_at dksX1_stage_2 3 rfl rfl)
theorem dX1_stage_50 : decode cX1_stage 50 = .ok (.getfield 44, 3) := dk_180 0 44 (dk_at dksX1_stage_2 4 rfl rfl)
theorem dX1_stage_53 : decode cX1_stage 53 = .ok (.invokevirtual 136, 3) := dk_182 0 136 (dk_at dksX1_stage_2 7 rfl rfl)
theorem dX1_stage_56 : decode cX1_stage 56 = .ok (.aload_n 0, 1) := dk_42 (dk_at dksX1_stage_2 10 rfl rfl)
theorem dX1_stage_57 : decode cX1_stage 57 = .ok (.getfield 51, 3) := dk_180 0 51 (dk_at dksX1_stage_2 11 rfl rfl)
theorem dX1_stage_60 : decode cX1_stage 60 = .ok (.invokevirtual 139, 3) := dk_182 0 139 (dk_at dksX1_stage_2 14 rfl rfl)
theorem dX1_stage_63 : decode cX1_stage 63 = .ok (.aload_n 0, 1) := dk_42 (dk_at dksX1_stage_2 17 rfl rfl)
theorem dX1_stage_64 : decode cX1_stage 64 = .ok (.getfield 37, 3) := dk_180 0 37 (dk_at dksX1_stage_2 18 rfl rfl)
theorem dX1_stage_67 : decode cX1_stage 67 = .ok (.invokevirtual 118, 3) := dk_182 0 118 (dk_at dksX1_stage_2 21 rfl rfl)
theorem dX1_stage_70 : decode cX1_stage 70 = .ok (.ireturn, 1) := dk_172 (dk_at dksX1_stage_3 0 rfl rfl)
abbrev cX1_inRange : ByteArray := prog_1_method_1_code
def yX1_inRange : MethodName := ⟨RX1, "inRange", "(JJJ)Z"⟩
def dkwX1_inRange_0 : List UInt8 := [30, 32, 148, 155, 0, 14, 30, 22, 4, 148, 157, 0, 7, 4, 167, 0, 4, 3, 172]
abbrev dktX1_inRange_0 : List UInt8 := dkwX1_inRange_0 ++ []
theorem dksX1_inRange_0 : cX1_inRange.data.toList.drop 0 = dktX1_inRange_0 := by decide +kernel
theorem dX1_inRange_0 : decode cX1_inRange 0 = .ok (.lload_n 0, 1) := dk_30 (dk_at dksX1_inRange_0 0 rfl rfl)
theorem dX1_inRange_1 : decode cX1_inRange 1 = .ok (.lload_n 2, 1) := dk_32 (dk_at dksX1_inRange_0 1 rfl rfl)
theorem dX1_inRange_2 : decode cX1_inRange 2 = .ok (.lcmp, 1) := dk_148 (dk_at dksX1_inRange_0 2 rfl rfl)
theorem dX1_inRange_3 : decode cX1_inRange 3 = .ok (.ifCond .lt 14, 3) := dk_155 0 14 (dk_at dksX1_inRange_0 3 rfl rfl)
theorem dX1_inRange_6 : decode cX1_inRange 6 = .ok (.lload_n 0, 1) := dk_30 (dk_at dksX1_inRange_0 6 rfl rfl)
theorem dX1_inRange_7 : decode cX1_inRange 7 = .ok (.lload 4, 2) := dk_22 4 (dk_at dksX1_inRange_0 7 rfl rfl)
theorem dX1_inRange_9 : decode cX1_inRange 9 = .ok (.lcmp, 1) := dk_148 (dk_at dksX1_inRange_0 9 rfl rfl)
theorem dX1_inRange_10 : decode cX1_inRange 10 = .ok (.ifCond .gt 7, 3) := dk_157 0 7 (dk_at dksX1_inRange_0 10 rfl rfl)
theorem dX1_inRange_13 : decode cX1_inRange 13 = .ok (.iconst 1, 1) := dk_4 (dk_at dksX1_inRange_0 13 rfl rfl)
theorem dX1_inRange_14 : decode cX1_inRange 14 = .ok (.goto 4, 3) := dk_167 0 4 (dk_at dksX1_inRange_0 14 rfl rfl)
theorem dX1_inRange_17 : decode cX1_inRange 17 = .ok (.iconst 0, 1) := dk_3 (dk_at dksX1_inRange_0 17 rfl rfl)
theorem dX1_inRange_18 : decode cX1_inRange 18 = .ok (.ireturn, 1) := dk_172 (dk_at dksX1_inRange_0 18 rfl rfl)
abbrev cX1_checkArgument : ByteArray := prog_1_method_2_code
def yX1_checkArgument : MethodName := ⟨RX1, "checkArgument", "(Z)V"⟩
def dkwX1_checkArgument_0 : List UInt8 := [26, 154, 0, 11, 187, 0, 1, 89, 183, 0, 3, 191, 177]
abbrev dktX1_checkArgument_0 : List UInt8 := dkwX1_checkArgument_0 ++ []
theorem dksX1_checkArgument_0 : cX1_checkArgument.data.toList.drop 0 = dktX1_checkArgument_0 := by decide +kernel
theorem dX1_checkArgument_0 : decode cX1_checkArgument 0 = .ok (.iload_n 0, 1) := dk_26 (dk_at dksX1_checkArgument_0 0 rfl rfl)
theorem dX1_checkArgument_1 : decode cX1_checkArgument 1 = .ok (.ifCond .ne 11, 3) := dk_154 0 11 (dk_at dksX1_checkArgument_0 1 rfl rfl)
theorem dX1_checkArgument_4 : decode cX1_checkArgument 4 = .ok (.new 1, 3) := dk_187 0 1 (dk_at dksX1_checkArgument_0 4 rfl rfl)
theorem dX1_checkArgument_7 : decode cX1_checkArgument 7 = .ok (.dup, 1) := dk_89 (dk_at dksX1_checkArgument_0 7 rfl rfl)
theorem dX1_checkArgument_8 : decode cX1_checkArgument 8 = .ok (.invokespecial 3, 3) := dk_183 0 3 (dk_at dksX1_checkArgument_0 8 rfl rfl)
theorem dX1_checkArgument_11 : decode cX1_checkArgument 11 = .ok (.athrow, 1) := dk_191 (dk_at dksX1_checkArgument_0 11 rfl rfl)
theorem dX1_checkArgument_12 : decode cX1_checkArgument 12 = .ok (.return_, 1) := dk_177 (dk_at dksX1_checkArgument_0 12 rfl rfl)
abbrev cX1_place : ByteArray := prog_1_method_19_code
def yX1_place : MethodName := ⟨RX1, "place", "(II)I"⟩
def dkwX1_place_2 : List UInt8 := [89, 4, 28, 79, 183, 0, 100, 182, 0, 103, 172]
abbrev dktX1_place_2 : List UInt8 := dkwX1_place_2 ++ []
def dkwX1_place_1 : List UInt8 := [4, 167, 0, 4, 3, 184, 0, 133, 42, 187, 0, 89, 89, 178, 0, 155, 1, 5, 188, 10, 89, 3, 27, 79]
abbrev dktX1_place_1 : List UInt8 := dkwX1_place_1 ++ dktX1_place_2
def dkwX1_place_0 : List UInt8 := [27, 184, 0, 140, 42, 28, 182, 0, 144, 27, 28, 42, 180, 0, 37, 180, 0, 147, 184, 0, 151, 154, 0, 7]
abbrev dktX1_place_0 : List UInt8 := dkwX1_place_0 ++ dktX1_place_1
theorem dksX1_place_0 : cX1_place.data.toList.drop 0 = dktX1_place_0 := by decide +kernel
theorem dksX1_place_1 : cX1_place.data.toList.drop 24 = dktX1_place_1 := dk_seg dksX1_place_0 24 rfl rfl
theorem dksX1_place_2 : cX1_place.data.toList.drop 48 = dktX1_place_2 := dk_seg dksX1_place_1 24 rfl rfl
theorem dX1_place_0 : decode cX1_place 0 = .ok (.iload_n 1, 1) := dk_27 (dk_at dksX1_place_0 0 rfl rfl)
theorem dX1_place_1 : decode cX1_place 1 = .ok (.invokestatic 140, 3) := dk_184 0 140 (dk_at dksX1_place_0 1 rfl rfl)
theorem dX1_place_4 : decode cX1_place 4 = .ok (.aload_n 0, 1) := dk_42 (dk_at dksX1_place_0 4 rfl rfl)
theorem dX1_place_5 : decode cX1_place 5 = .ok (.iload_n 2, 1) := dk_28 (dk_at dksX1_place_0 5 rfl rfl)
theorem dX1_place_6 : decode cX1_place 6 = .ok (.invokevirtual 144, 3) := dk_182 0 144 (dk_at dksX1_place_0 6 rfl rfl)
theorem dX1_place_9 : decode cX1_place 9 = .ok (.iload_n 1, 1) := dk_27 (dk_at dksX1_place_0 9 rfl rfl)
theorem dX1_place_10 : decode cX1_place 10 = .ok (.iload_n 2, 1) := dk_28 (dk_at dksX1_place_0 10 rfl rfl)
theorem dX1_place_11 : decode cX1_place 11 = .ok (.aload_n 0, 1) := dk_42 (dk_at dksX1_place_0 11 rfl rfl)
theorem dX1_place_12 : decode cX1_place 12 = .ok (.getfield 37, 3) := dk_180 0 37 (dk_at dksX1_place_0 12 rfl rfl)
theorem dX1_place_15 : decode cX1_place 15 = .ok (.getfield 147, 3) := dk_180 0 147 (dk_at dksX1_place_0 15 rfl rfl)
theorem dX1_place_18 : decode cX1_place 18 = .ok (.invokestatic 151, 3) := dk_184 0 151 (dk_at dksX1_place_0 18 rfl rfl)
theorem dX1_place_21 : decode cX1_place 21 = .ok (.ifCond .ne 7, 3) := dk_154 0 7 (dk_at dksX1_place_0 21 rfl rfl)
theorem dX1_place_24 : decode cX1_place 24 = .ok (.iconst 1, 1) := dk_4 (dk_at dksX1_place_1 0 rfl rfl)
theorem dX1_place_25 : decode cX1_place 25 = .ok (.goto 4, 3) := dk_167 0 4 (dk_at dksX1_place_1 1 rfl rfl)
theorem dX1_place_28 : decode cX1_place 28 = .ok (.iconst 0, 1) := dk_3 (dk_at dksX1_place_1 4 rfl rfl)
theorem dX1_place_29 : decode cX1_place 29 = .ok (.invokestatic 133, 3) := dk_184 0 133 (dk_at dksX1_place_1 5 rfl rfl)
theorem dX1_place_32 : decode cX1_place 32 = .ok (.aload_n 0, 1) := dk_42 (dk_at dksX1_place_1 8 rfl rfl)
theorem dX1_place_33 : decode cX1_place 33 = .ok (.new 89, 3) := dk_187 0 89 (dk_at dksX1_place_1 9 rfl rfl)
theorem dX1_place_36 : decode cX1_place 36 = .ok (.dup, 1) := dk_89 (dk_at dksX1_place_1 12 rfl rfl)
theorem dX1_place_37 : decode cX1_place 37 = .ok (.getstatic 155, 3) := dk_178 0 155 (dk_at dksX1_place_1 13 rfl rfl)
theorem dX1_place_40 : decode cX1_place 40 = .ok (.aconst_null, 1) := dk_1 (dk_at dksX1_place_1 16 rfl rfl)
theorem dX1_place_41 : decode cX1_place 41 = .ok (.iconst 2, 1) := dk_5 (dk_at dksX1_place_1 17 rfl rfl)
theorem dX1_place_42 : decode cX1_place 42 = .ok (.newarray .int, 2) := dk_188_10 (dk_at dksX1_place_1 18 rfl rfl)
theorem dX1_place_44 : decode cX1_place 44 = .ok (.dup, 1) := dk_89 (dk_at dksX1_place_1 20 rfl rfl)
theorem dX1_place_45 : decode cX1_place 45 = .ok (.iconst 0, 1) := dk_3 (dk_at dksX1_place_1 21 rfl rfl)
theorem dX1_place_46 : decode cX1_place 46 = .ok (.iload_n 1, 1) := dk_27 (dk_at dksX1_place_1 22 rfl rfl)
theorem dX1_place_47 : decode cX1_place 47 = .ok (.iastore, 1) := dk_79 (dk_at dksX1_place_1 23 rfl rfl)
theorem dX1_place_48 : decode cX1_place 48 = .ok (.dup, 1) := dk_89 (dk_at dksX1_place_2 0 rfl rfl)
theorem dX1_place_49 : decode cX1_place 49 = .ok (.iconst 1, 1) := dk_4 (dk_at dksX1_place_2 1 rfl rfl)
theorem dX1_place_50 : decode cX1_place 50 = .ok (.iload_n 2, 1) := dk_28 (dk_at dksX1_place_2 2 rfl rfl)
theorem dX1_place_51 : decode cX1_place 51 = .ok (.iastore, 1) := dk_79 (dk_at dksX1_place_2 3 rfl rfl)
theorem dX1_place_52 : decode cX1_place 52 = .ok (.invokespecial 100, 3) := dk_183 0 100 (dk_at dksX1_place_2 4 rfl rfl)
theorem dX1_place_55 : decode cX1_place 55 = .ok (.invokevirtual 103, 3) := dk_182 0 103 (dk_at dksX1_place_2 7 rfl rfl)
theorem dX1_place_58 : decode cX1_place 58 = .ok (.ireturn, 1) := dk_172 (dk_at dksX1_place_2 10 rfl rfl)
abbrev cX1_checkDancer : ByteArray := prog_1_method_14_code
def yX1_checkDancer : MethodName := ⟨RX1, "checkDancer", "(I)V"⟩
def dkwX1_checkDancer_0 : List UInt8 := [26, 133, 9, 20, 0, 106, 184, 0, 108, 184, 0, 112, 177]
abbrev dktX1_checkDancer_0 : List UInt8 := dkwX1_checkDancer_0 ++ []
theorem dksX1_checkDancer_0 : cX1_checkDancer.data.toList.drop 0 = dktX1_checkDancer_0 := by decide +kernel
theorem dX1_checkDancer_0 : decode cX1_checkDancer 0 = .ok (.iload_n 0, 1) := dk_26 (dk_at dksX1_checkDancer_0 0 rfl rfl)
theorem dX1_checkDancer_1 : decode cX1_checkDancer 1 = .ok (.i2l, 1) := dk_133 (dk_at dksX1_checkDancer_0 1 rfl rfl)
theorem dX1_checkDancer_2 : decode cX1_checkDancer 2 = .ok (.lconst 0, 1) := dk_9 (dk_at dksX1_checkDancer_0 2 rfl rfl)
theorem dX1_checkDancer_3 : decode cX1_checkDancer 3 = .ok (.ldc2_w 106, 3) := dk_20 0 106 (dk_at dksX1_checkDancer_0 3 rfl rfl)
theorem dX1_checkDancer_6 : decode cX1_checkDancer 6 = .ok (.invokestatic 108, 3) := dk_184 0 108 (dk_at dksX1_checkDancer_0 6 rfl rfl)
theorem dX1_checkDancer_9 : decode cX1_checkDancer 9 = .ok (.invokestatic 112, 3) := dk_184 0 112 (dk_at dksX1_checkDancer_0 9 rfl rfl)
theorem dX1_checkDancer_12 : decode cX1_checkDancer 12 = .ok (.return_, 1) := dk_177 (dk_at dksX1_checkDancer_0 12 rfl rfl)
abbrev cX1_checkIndex : ByteArray := prog_1_method_3_code
def yX1_checkIndex : MethodName := ⟨RX1, "checkIndex", "(Z)V"⟩
def dkwX1_checkIndex_0 : List UInt8 := [26, 154, 0, 11, 187, 0, 7, 89, 183, 0, 9, 191, 177]
abbrev dktX1_checkIndex_0 : List UInt8 := dkwX1_checkIndex_0 ++ []
theorem dksX1_checkIndex_0 : cX1_checkIndex.data.toList.drop 0 = dktX1_checkIndex_0 := by decide +kernel
theorem dX1_checkIndex_0 : decode cX1_checkIndex 0 = .ok (.iload_n 0, 1) := dk_26 (dk_at dksX1_checkIndex_0 0 rfl rfl)
theorem dX1_checkIndex_1 : decode cX1_checkIndex 1 = .ok (.ifCond .ne 11, 3) := dk_154 0 11 (dk_at dksX1_checkIndex_0 1 rfl rfl)
theorem dX1_checkIndex_4 : decode cX1_checkIndex 4 = .ok (.new 7, 3) := dk_187 0 7 (dk_at dksX1_checkIndex_0 4 rfl rfl)
theorem dX1_checkIndex_7 : decode cX1_checkIndex 7 = .ok (.dup, 1) := dk_89 (dk_at dksX1_checkIndex_0 7 rfl rfl)
theorem dX1_checkIndex_8 : decode cX1_checkIndex 8 = .ok (.invokespecial 9, 3) := dk_183 0 9 (dk_at dksX1_checkIndex_0 8 rfl rfl)
theorem dX1_checkIndex_11 : decode cX1_checkIndex 11 = .ok (.athrow, 1) := dk_191 (dk_at dksX1_checkIndex_0 11 rfl rfl)
theorem dX1_checkIndex_12 : decode cX1_checkIndex 12 = .ok (.return_, 1) := dk_177 (dk_at dksX1_checkIndex_0 12 rfl rfl)
abbrev cX1_checkPlace : ByteArray := prog_1_method_15_code
def yX1_checkPlace : MethodName := ⟨RX1, "checkPlace", "(I)V"⟩
def dkwX1_checkPlace_0 : List UInt8 := [27, 133, 20, 0, 116, 42, 180, 0, 37, 182, 0, 118, 4, 100, 133, 184, 0, 108, 184, 0, 112, 177]
abbrev dktX1_checkPlace_0 : List UInt8 := dkwX1_checkPlace_0 ++ []
theorem dksX1_checkPlace_0 : cX1_checkPlace.data.toList.drop 0 = dktX1_checkPlace_0 := by decide +kernel
theorem dX1_checkPlace_0 : decode cX1_checkPlace 0 = .ok (.iload_n 1, 1) := dk_27 (dk_at dksX1_checkPlace_0 0 rfl rfl)
theorem dX1_checkPlace_1 : decode cX1_checkPlace 1 = .ok (.i2l, 1) := dk_133 (dk_at dksX1_checkPlace_0 1 rfl rfl)
theorem dX1_checkPlace_2 : decode cX1_checkPlace 2 = .ok (.ldc2_w 116, 3) := dk_20 0 116 (dk_at dksX1_checkPlace_0 2 rfl rfl)
theorem dX1_checkPlace_5 : decode cX1_checkPlace 5 = .ok (.aload_n 0, 1) := dk_42 (dk_at dksX1_checkPlace_0 5 rfl rfl)
theorem dX1_checkPlace_6 : decode cX1_checkPlace 6 = .ok (.getfield 37, 3) := dk_180 0 37 (dk_at dksX1_checkPlace_0 6 rfl rfl)
theorem dX1_checkPlace_9 : decode cX1_checkPlace 9 = .ok (.invokevirtual 118, 3) := dk_182 0 118 (dk_at dksX1_checkPlace_0 9 rfl rfl)
theorem dX1_checkPlace_12 : decode cX1_checkPlace 12 = .ok (.iconst 1, 1) := dk_4 (dk_at dksX1_checkPlace_0 12 rfl rfl)
theorem dX1_checkPlace_13 : decode cX1_checkPlace 13 = .ok (.isub, 1) := dk_100 (dk_at dksX1_checkPlace_0 13 rfl rfl)
theorem dX1_checkPlace_14 : decode cX1_checkPlace 14 = .ok (.i2l, 1) := dk_133 (dk_at dksX1_checkPlace_0 14 rfl rfl)
theorem dX1_checkPlace_15 : decode cX1_checkPlace 15 = .ok (.invokestatic 108, 3) := dk_184 0 108 (dk_at dksX1_checkPlace_0 15 rfl rfl)
theorem dX1_checkPlace_18 : decode cX1_checkPlace 18 = .ok (.invokestatic 112, 3) := dk_184 0 112 (dk_at dksX1_checkPlace_0 18 rfl rfl)
theorem dX1_checkPlace_21 : decode cX1_checkPlace 21 = .ok (.return_, 1) := dk_177 (dk_at dksX1_checkPlace_0 21 rfl rfl)
abbrev cX1_isTaken : ByteArray := prog_1_method_17_code
def yX1_isTaken : MethodName := ⟨RX1, "isTaken", "(II[I)Z"⟩
def dkwX1_isTaken_1 : List UInt8 := [44, 21, 4, 46, 27, 160, 0, 7, 4, 167, 0, 4, 3, 128, 62, 132, 4, 1, 167, 255, 219, 29, 172]
abbrev dktX1_isTaken_1 : List UInt8 := dkwX1_isTaken_1 ++ []
def dkwX1_isTaken_0 : List UInt8 := [3, 62, 3, 54, 4, 21, 4, 16, 8, 162, 0, 36, 29, 21, 4, 26, 159, 0, 20, 27, 2, 159, 0, 15]
abbrev dktX1_isTaken_0 : List UInt8 := dkwX1_isTaken_0 ++ dktX1_isTaken_1
theorem dksX1_isTaken_0 : cX1_isTaken.data.toList.drop 0 = dktX1_isTaken_0 := by decide +kernel
theorem dksX1_isTaken_1 : cX1_isTaken.data.toList.drop 24 = dktX1_isTaken_1 := dk_seg dksX1_isTaken_0 24 rfl rfl
theorem dX1_isTaken_0 : decode cX1_isTaken 0 = .ok (.iconst 0, 1) := dk_3 (dk_at dksX1_isTaken_0 0 rfl rfl)
theorem dX1_isTaken_1 : decode cX1_isTaken 1 = .ok (.istore_n 3, 1) := dk_62 (dk_at dksX1_isTaken_0 1 rfl rfl)
theorem dX1_isTaken_2 : decode cX1_isTaken 2 = .ok (.iconst 0, 1) := dk_3 (dk_at dksX1_isTaken_0 2 rfl rfl)
theorem dX1_isTaken_3 : decode cX1_isTaken 3 = .ok (.istore 4, 2) := dk_54 4 (dk_at dksX1_isTaken_0 3 rfl rfl)
theorem dX1_isTaken_5 : decode cX1_isTaken 5 = .ok (.iload 4, 2) := dk_21 4 (dk_at dksX1_isTaken_0 5 rfl rfl)
theorem dX1_isTaken_7 : decode cX1_isTaken 7 = .ok (.bipush 8, 2) := dk_16 8 (dk_at dksX1_isTaken_0 7 rfl rfl)
theorem dX1_isTaken_9 : decode cX1_isTaken 9 = .ok (.if_icmp .ge 36, 3) := dk_162 0 36 (dk_at dksX1_isTaken_0 9 rfl rfl)
theorem dX1_isTaken_12 : decode cX1_isTaken 12 = .ok (.iload_n 3, 1) := dk_29 (dk_at dksX1_isTaken_0 12 rfl rfl)
theorem dX1_isTaken_13 : decode cX1_isTaken 13 = .ok (.iload 4, 2) := dk_21 4 (dk_at dksX1_isTaken_0 13 rfl rfl)
theorem dX1_isTaken_15 : decode cX1_isTaken 15 = .ok (.iload_n 0, 1) := dk_26 (dk_at dksX1_isTaken_0 15 rfl rfl)
theorem dX1_isTaken_16 : decode cX1_isTaken 16 = .ok (.if_icmp .eq 20, 3) := dk_159 0 20 (dk_at dksX1_isTaken_0 16 rfl rfl)
theorem dX1_isTaken_19 : decode cX1_isTaken 19 = .ok (.iload_n 1, 1) := dk_27 (dk_at dksX1_isTaken_0 19 rfl rfl)
theorem dX1_isTaken_20 : decode cX1_isTaken 20 = .ok (.iconst (-1), 1) := dk_2 (dk_at dksX1_isTaken_0 20 rfl rfl)
theorem dX1_isTaken_21 : decode cX1_isTaken 21 = .ok (.if_icmp .eq 15, 3) := dk_159 0 15 (dk_at dksX1_isTaken_0 21 rfl rfl)
theorem dX1_isTaken_24 : decode cX1_isTaken 24 = .ok (.aload_n 2, 1) := dk_44 (dk_at dksX1_isTaken_1 0 rfl rfl)
theorem dX1_isTaken_25 : decode cX1_isTaken 25 = .ok (.iload 4, 2) := dk_21 4 (dk_at dksX1_isTaken_1 1 rfl rfl)
theorem dX1_isTaken_27 : decode cX1_isTaken 27 = .ok (.iaload, 1) := dk_46 (dk_at dksX1_isTaken_1 3 rfl rfl)
theorem dX1_isTaken_28 : decode cX1_isTaken 28 = .ok (.iload_n 1, 1) := dk_27 (dk_at dksX1_isTaken_1 4 rfl rfl)
theorem dX1_isTaken_29 : decode cX1_isTaken 29 = .ok (.if_icmp .ne 7, 3) := dk_160 0 7 (dk_at dksX1_isTaken_1 5 rfl rfl)
theorem dX1_isTaken_32 : decode cX1_isTaken 32 = .ok (.iconst 1, 1) := dk_4 (dk_at dksX1_isTaken_1 8 rfl rfl)
theorem dX1_isTaken_33 : decode cX1_isTaken 33 = .ok (.goto 4, 3) := dk_167 0 4 (dk_at dksX1_isTaken_1 9 rfl rfl)
theorem dX1_isTaken_36 : decode cX1_isTaken 36 = .ok (.iconst 0, 1) := dk_3 (dk_at dksX1_isTaken_1 12 rfl rfl)
theorem dX1_isTaken_37 : decode cX1_isTaken 37 = .ok (.ior, 1) := dk_128 (dk_at dksX1_isTaken_1 13 rfl rfl)
theorem dX1_isTaken_38 : decode cX1_isTaken 38 = .ok (.istore_n 3, 1) := dk_62 (dk_at dksX1_isTaken_1 14 rfl rfl)
theorem dX1_isTaken_39 : decode cX1_isTaken 39 = .ok (.iinc 4 1, 3) := dk_132 4 1 (dk_at dksX1_isTaken_1 15 rfl rfl)
theorem dX1_isTaken_42 : decode cX1_isTaken 42 = .ok (.goto (-37), 3) := dk_167 255 219 (dk_at dksX1_isTaken_1 18 rfl rfl)
theorem dX1_isTaken_45 : decode cX1_isTaken 45 = .ok (.iload_n 3, 1) := dk_29 (dk_at dksX1_isTaken_1 21 rfl rfl)
theorem dX1_isTaken_46 : decode cX1_isTaken 46 = .ok (.ireturn, 1) := dk_172 (dk_at dksX1_isTaken_1 22 rfl rfl)
abbrev cX1_carryOut : ByteArray := prog_1_method_12_code
def yX1_carryOut : MethodName := ⟨RX1, "carryOut", "(LDanceNotation$Command;)I"⟩
def dkwX1_carryOut_2 : List UInt8 := [180, 0, 37, 182, 0, 88, 172]
abbrev dktX1_carryOut_2 : List UInt8 := dkwX1_carryOut_2 ++ []
def dkwX1_carryOut_1 : List UInt8 := [180, 0, 51, 42, 180, 0, 37, 182, 0, 79, 182, 0, 83, 42, 180, 0, 44, 43, 182, 0, 87, 43, 42]
abbrev dktX1_carryOut_1 : List UInt8 := dkwX1_carryOut_1 ++ dktX1_carryOut_2
def dkwX1_carryOut_0 : List UInt8 := [42, 180, 0, 51, 182, 0, 71, 16, 8, 160, 0, 14, 42, 180, 0, 51, 182, 0, 75, 192, 0, 32, 77, 42]
abbrev dktX1_carryOut_0 : List UInt8 := dkwX1_carryOut_0 ++ dktX1_carryOut_1
theorem dksX1_carryOut_0 : cX1_carryOut.data.toList.drop 0 = dktX1_carryOut_0 := by decide +kernel
theorem dksX1_carryOut_1 : cX1_carryOut.data.toList.drop 24 = dktX1_carryOut_1 := dk_seg dksX1_carryOut_0 24 rfl rfl
theorem dksX1_carryOut_2 : cX1_carryOut.data.toList.drop 47 = dktX1_carryOut_2 := dk_seg dksX1_carryOut_1 23 rfl rfl
theorem dX1_carryOut_0 : decode cX1_carryOut 0 = .ok (.aload_n 0, 1) := dk_42 (dk_at dksX1_carryOut_0 0 rfl rfl)
theorem dX1_carryOut_1 : decode cX1_carryOut 1 = .ok (.getfield 51, 3) := dk_180 0 51 (dk_at dksX1_carryOut_0 1 rfl rfl)
theorem dX1_carryOut_4 : decode cX1_carryOut 4 = .ok (.invokevirtual 71, 3) := dk_182 0 71 (dk_at dksX1_carryOut_0 4 rfl rfl)
theorem dX1_carryOut_7 : decode cX1_carryOut 7 = .ok (.bipush 8, 2) := dk_16 8 (dk_at dksX1_carryOut_0 7 rfl rfl)
theorem dX1_carryOut_9 : decode cX1_carryOut 9 = .ok (.if_icmp .ne 14, 3) := dk_160 0 14 (dk_at dksX1_carryOut_0 9 rfl rfl)
theorem dX1_carryOut_12 : decode cX1_carryOut 12 = .ok (.aload_n 0, 1) := dk_42 (dk_at dksX1_carryOut_0 12 rfl rfl)
theorem dX1_carryOut_13 : decode cX1_carryOut 13 = .ok (.getfield 51, 3) := dk_180 0 51 (dk_at dksX1_carryOut_0 13 rfl rfl)
theorem dX1_carryOut_16 : decode cX1_carryOut 16 = .ok (.invokevirtual 75, 3) := dk_182 0 75 (dk_at dksX1_carryOut_0 16 rfl rfl)
theorem dX1_carryOut_19 : decode cX1_carryOut 19 = .ok (.checkcast 32, 3) := dk_192 0 32 (dk_at dksX1_carryOut_0 19 rfl rfl)
theorem dX1_carryOut_22 : decode cX1_carryOut 22 = .ok (.astore_n 2, 1) := dk_77 (dk_at dksX1_carryOut_0 22 rfl rfl)
theorem dX1_carryOut_23 : decode cX1_carryOut 23 = .ok (.aload_n 0, 1) := dk_42 (dk_at dksX1_carryOut_0 23 rfl rfl)
theorem dX1_carryOut_24 : decode cX1_carryOut 24 = .ok (.getfield 51, 3) := dk_180 0 51 (dk_at dksX1_carryOut_1 0 rfl rfl)
theorem dX1_carryOut_27 : decode cX1_carryOut 27 = .ok (.aload_n 0, 1) := dk_42 (dk_at dksX1_carryOut_1 3 rfl rfl)
theorem dX1_carryOut_28 : decode cX1_carryOut 28 = .ok (.getfield 37, 3) := dk_180 0 37 (dk_at dksX1_carryOut_1 4 rfl rfl)
theorem dX1_carryOut_31 : decode cX1_carryOut 31 = .ok (.invokevirtual 79, 3) := dk_182 0 79 (dk_at dksX1_carryOut_1 7 rfl rfl)
theorem dX1_carryOut_34 : decode cX1_carryOut 34 = .ok (.invokevirtual 83, 3) := dk_182 0 83 (dk_at dksX1_carryOut_1 10 rfl rfl)
theorem dX1_carryOut_37 : decode cX1_carryOut 37 = .ok (.aload_n 0, 1) := dk_42 (dk_at dksX1_carryOut_1 13 rfl rfl)
theorem dX1_carryOut_38 : decode cX1_carryOut 38 = .ok (.getfield 44, 3) := dk_180 0 44 (dk_at dksX1_carryOut_1 14 rfl rfl)
theorem dX1_carryOut_41 : decode cX1_carryOut 41 = .ok (.aload_n 1, 1) := dk_43 (dk_at dksX1_carryOut_1 17 rfl rfl)
theorem dX1_carryOut_42 : decode cX1_carryOut 42 = .ok (.invokevirtual 87, 3) := dk_182 0 87 (dk_at dksX1_carryOut_1 18 rfl rfl)
theorem dX1_carryOut_45 : decode cX1_carryOut 45 = .ok (.aload_n 1, 1) := dk_43 (dk_at dksX1_carryOut_1 21 rfl rfl)
theorem dX1_carryOut_46 : decode cX1_carryOut 46 = .ok (.aload_n 0, 1) := dk_42 (dk_at dksX1_carryOut_1 22 rfl rfl)
theorem dX1_carryOut_47 : decode cX1_carryOut 47 = .ok (.getfield 37, 3) := dk_180 0 37 (dk_at dksX1_carryOut_2 0 rfl rfl)
theorem dX1_carryOut_50 : decode cX1_carryOut 50 = .ok (.invokevirtual 88, 3) := dk_182 0 88 (dk_at dksX1_carryOut_2 3 rfl rfl)
theorem dX1_carryOut_53 : decode cX1_carryOut 53 = .ok (.ireturn, 1) := dk_172 (dk_at dksX1_carryOut_2 6 rfl rfl)
abbrev cX1_append : ByteArray := prog_1_method_20_code
def yX1_append : MethodName := ⟨RX1, "append", "(C)I"⟩
def dkwX1_append_2 : List UInt8 := [182, 0, 162, 172]
abbrev dktX1_append_2 : List UInt8 := dkwX1_append_2 ++ []
def dkwX1_append_1 : List UInt8 := [162, 0, 7, 4, 167, 0, 4, 3, 184, 0, 165, 42, 180, 0, 58, 27, 182, 0, 168, 87, 42, 180, 0, 58]
abbrev dktX1_append_1 : List UInt8 := dkwX1_append_1 ++ dktX1_append_2
def dkwX1_append_0 : List UInt8 := [27, 133, 20, 0, 158, 20, 0, 160, 184, 0, 108, 184, 0, 133, 42, 180, 0, 58, 182, 0, 162, 16, 100]
abbrev dktX1_append_0 : List UInt8 := dkwX1_append_0 ++ dktX1_append_1
theorem dksX1_append_0 : cX1_append.data.toList.drop 0 = dktX1_append_0 := by decide +kernel
theorem dksX1_append_1 : cX1_append.data.toList.drop 23 = dktX1_append_1 := dk_seg dksX1_append_0 23 rfl rfl
theorem dksX1_append_2 : cX1_append.data.toList.drop 47 = dktX1_append_2 := dk_seg dksX1_append_1 24 rfl rfl
theorem dX1_append_0 : decode cX1_append 0 = .ok (.iload_n 1, 1) := dk_27 (dk_at dksX1_append_0 0 rfl rfl)
theorem dX1_append_1 : decode cX1_append 1 = .ok (.i2l, 1) := dk_133 (dk_at dksX1_append_0 1 rfl rfl)
theorem dX1_append_2 : decode cX1_append 2 = .ok (.ldc2_w 158, 3) := dk_20 0 158 (dk_at dksX1_append_0 2 rfl rfl)
theorem dX1_append_5 : decode cX1_append 5 = .ok (.ldc2_w 160, 3) := dk_20 0 160 (dk_at dksX1_append_0 5 rfl rfl)
theorem dX1_append_8 : decode cX1_append 8 = .ok (.invokestatic 108, 3) := dk_184 0 108 (dk_at dksX1_append_0 8 rfl rfl)
theorem dX1_append_11 : decode cX1_append 11 = .ok (.invokestatic 133, 3) := dk_184 0 133 (dk_at dksX1_append_0 11 rfl rfl)
theorem dX1_append_14 : decode cX1_append 14 = .ok (.aload_n 0, 1) := dk_42 (dk_at dksX1_append_0 14 rfl rfl)
theorem dX1_append_15 : decode cX1_append 15 = .ok (.getfield 58, 3) := dk_180 0 58 (dk_at dksX1_append_0 15 rfl rfl)
theorem dX1_append_18 : decode cX1_append 18 = .ok (.invokevirtual 162, 3) := dk_182 0 162 (dk_at dksX1_append_0 18 rfl rfl)
theorem dX1_append_21 : decode cX1_append 21 = .ok (.bipush 100, 2) := dk_16 100 (dk_at dksX1_append_0 21 rfl rfl)
theorem dX1_append_23 : decode cX1_append 23 = .ok (.if_icmp .ge 7, 3) := dk_162 0 7 (dk_at dksX1_append_1 0 rfl rfl)
theorem dX1_append_26 : decode cX1_append 26 = .ok (.iconst 1, 1) := dk_4 (dk_at dksX1_append_1 3 rfl rfl)
theorem dX1_append_27 : decode cX1_append 27 = .ok (.goto 4, 3) := dk_167 0 4 (dk_at dksX1_append_1 4 rfl rfl)
theorem dX1_append_30 : decode cX1_append 30 = .ok (.iconst 0, 1) := dk_3 (dk_at dksX1_append_1 7 rfl rfl)
theorem dX1_append_31 : decode cX1_append 31 = .ok (.invokestatic 165, 3) := dk_184 0 165 (dk_at dksX1_append_1 8 rfl rfl)
theorem dX1_append_34 : decode cX1_append 34 = .ok (.aload_n 0, 1) := dk_42 (dk_at dksX1_append_1 11 rfl rfl)
theorem dX1_append_35 : decode cX1_append 35 = .ok (.getfield 58, 3) := dk_180 0 58 (dk_at dksX1_append_1 12 rfl rfl)
theorem dX1_append_38 : decode cX1_append 38 = .ok (.iload_n 1, 1) := dk_27 (dk_at dksX1_append_1 15 rfl rfl)
theorem dX1_append_39 : decode cX1_append 39 = .ok (.invokevirtual 168, 3) := dk_182 0 168 (dk_at dksX1_append_1 16 rfl rfl)
theorem dX1_append_42 : decode cX1_append 42 = .ok (.pop, 1) := dk_87 (dk_at dksX1_append_1 19 rfl rfl)
theorem dX1_append_43 : decode cX1_append 43 = .ok (.aload_n 0, 1) := dk_42 (dk_at dksX1_append_1 20 rfl rfl)
theorem dX1_append_44 : decode cX1_append 44 = .ok (.getfield 58, 3) := dk_180 0 58 (dk_at dksX1_append_1 21 rfl rfl)
theorem dX1_append_47 : decode cX1_append 47 = .ok (.invokevirtual 162, 3) := dk_182 0 162 (dk_at dksX1_append_2 0 rfl rfl)
theorem dX1_append_50 : decode cX1_append 50 = .ok (.ireturn, 1) := dk_172 (dk_at dksX1_append_2 3 rfl rfl)
abbrev cX1_checkAllowed : ByteArray := prog_1_method_5_code
def yX1_checkAllowed : MethodName := ⟨RX1, "checkAllowed", "(Z)V"⟩
def dkwX1_checkAllowed_0 : List UInt8 := [26, 154, 0, 11, 187, 0, 13, 89, 183, 0, 15, 191, 177]
abbrev dktX1_checkAllowed_0 : List UInt8 := dkwX1_checkAllowed_0 ++ []
theorem dksX1_checkAllowed_0 : cX1_checkAllowed.data.toList.drop 0 = dktX1_checkAllowed_0 := by decide +kernel
theorem dX1_checkAllowed_0 : decode cX1_checkAllowed 0 = .ok (.iload_n 0, 1) := dk_26 (dk_at dksX1_checkAllowed_0 0 rfl rfl)
theorem dX1_checkAllowed_1 : decode cX1_checkAllowed 1 = .ok (.ifCond .ne 11, 3) := dk_154 0 11 (dk_at dksX1_checkAllowed_0 1 rfl rfl)
theorem dX1_checkAllowed_4 : decode cX1_checkAllowed 4 = .ok (.new 13, 3) := dk_187 0 13 (dk_at dksX1_checkAllowed_0 4 rfl rfl)
theorem dX1_checkAllowed_7 : decode cX1_checkAllowed 7 = .ok (.dup, 1) := dk_89 (dk_at dksX1_checkAllowed_0 7 rfl rfl)
theorem dX1_checkAllowed_8 : decode cX1_checkAllowed 8 = .ok (.invokespecial 15, 3) := dk_183 0 15 (dk_at dksX1_checkAllowed_0 8 rfl rfl)
theorem dX1_checkAllowed_11 : decode cX1_checkAllowed 11 = .ok (.athrow, 1) := dk_191 (dk_at dksX1_checkAllowed_0 11 rfl rfl)
theorem dX1_checkAllowed_12 : decode cX1_checkAllowed 12 = .ok (.return_, 1) := dk_177 (dk_at dksX1_checkAllowed_0 12 rfl rfl)
abbrev cX1_read : ByteArray := prog_1_method_21_code
def yX1_read : MethodName := ⟨RX1, "read", "()I"⟩
def dkwX1_read_4 : List UInt8 := [191, 42, 44, 192, 0, 191, 181, 0, 199, 187, 0, 1, 89, 183, 0, 3, 191]
abbrev dktX1_read_4 : List UInt8 := dkwX1_read_4 ++ []
def dkwX1_read_3 : List UInt8 := [160, 0, 10, 45, 180, 0, 196, 167, 0, 7, 42, 180, 0, 68, 181, 0, 68, 187, 0, 13, 89, 183, 0, 15]
abbrev dktX1_read_3 : List UInt8 := dkwX1_read_3 ++ dktX1_read_4
def dkwX1_read_2 : List UInt8 := [153, 0, 47, 44, 192, 0, 193, 78, 42, 45, 180, 0, 195, 181, 0, 16, 42, 45, 180, 0, 195, 4]
abbrev dktX1_read_2 : List UInt8 := dkwX1_read_2 ++ dktX1_read_3
def dkwX1_read_1 : List UInt8 := [182, 0, 177, 77, 44, 182, 0, 181, 42, 44, 182, 0, 186, 44, 182, 0, 190, 172, 77, 44, 193, 0, 193]
abbrev dktX1_read_1 : List UInt8 := dkwX1_read_1 ++ dktX1_read_2
def dkwX1_read_0 : List UInt8 := [187, 0, 172, 89, 42, 180, 0, 58, 183, 0, 174, 76, 42, 187, 0, 55, 89, 183, 0, 57, 181, 0, 58, 43]
abbrev dktX1_read_0 : List UInt8 := dkwX1_read_0 ++ dktX1_read_1
theorem dksX1_read_0 : cX1_read.data.toList.drop 0 = dktX1_read_0 := by decide +kernel
theorem dksX1_read_1 : cX1_read.data.toList.drop 24 = dktX1_read_1 := dk_seg dksX1_read_0 24 rfl rfl
theorem dksX1_read_2 : cX1_read.data.toList.drop 47 = dktX1_read_2 := dk_seg dksX1_read_1 23 rfl rfl
theorem dksX1_read_3 : cX1_read.data.toList.drop 69 = dktX1_read_3 := dk_seg dksX1_read_2 22 rfl rfl
theorem dksX1_read_4 : cX1_read.data.toList.drop 93 = dktX1_read_4 := dk_seg dksX1_read_3 24 rfl rfl
theorem dX1_read_0 : decode cX1_read 0 = .ok (.new 172, 3) := dk_187 0 172 (dk_at dksX1_read_0 0 rfl rfl)
theorem dX1_read_3 : decode cX1_read 3 = .ok (.dup, 1) := dk_89 (dk_at dksX1_read_0 3 rfl rfl)
theorem dX1_read_4 : decode cX1_read 4 = .ok (.aload_n 0, 1) := dk_42 (dk_at dksX1_read_0 4 rfl rfl)
theorem dX1_read_5 : decode cX1_read 5 = .ok (.getfield 58, 3) := dk_180 0 58 (dk_at dksX1_read_0 5 rfl rfl)
theorem dX1_read_8 : decode cX1_read 8 = .ok (.invokespecial 174, 3) := dk_183 0 174 (dk_at dksX1_read_0 8 rfl rfl)
theorem dX1_read_11 : decode cX1_read 11 = .ok (.astore_n 1, 1) := dk_76 (dk_at dksX1_read_0 11 rfl rfl)
theorem dX1_read_12 : decode cX1_read 12 = .ok (.aload_n 0, 1) := dk_42 (dk_at dksX1_read_0 12 rfl rfl)
theorem dX1_read_13 : decode cX1_read 13 = .ok (.new 55, 3) := dk_187 0 55 (dk_at dksX1_read_0 13 rfl rfl)
theorem dX1_read_16 : decode cX1_read 16 = .ok (.dup, 1) := dk_89 (dk_at dksX1_read_0 16 rfl rfl)
theorem dX1_read_17 : decode cX1_read 17 = .ok (.invokespecial 57, 3) := dk_183 0 57 (dk_at dksX1_read_0 17 rfl rfl)
theorem dX1_read_20 : decode cX1_read 20 = .ok (.putfield 58, 3) := dk_181 0 58 (dk_at dksX1_read_0 20 rfl rfl)
theorem dX1_read_23 : decode cX1_read 23 = .ok (.aload_n 1, 1) := dk_43 (dk_at dksX1_read_0 23 rfl rfl)
theorem dX1_read_24 : decode cX1_read 24 = .ok (.invokevirtual 177, 3) := dk_182 0 177 (dk_at dksX1_read_1 0 rfl rfl)
theorem dX1_read_27 : decode cX1_read 27 = .ok (.astore_n 2, 1) := dk_77 (dk_at dksX1_read_1 3 rfl rfl)
theorem dX1_read_28 : decode cX1_read 28 = .ok (.aload_n 2, 1) := dk_44 (dk_at dksX1_read_1 4 rfl rfl)
theorem dX1_read_29 : decode cX1_read 29 = .ok (.invokevirtual 181, 3) := dk_182 0 181 (dk_at dksX1_read_1 5 rfl rfl)
theorem dX1_read_32 : decode cX1_read 32 = .ok (.aload_n 0, 1) := dk_42 (dk_at dksX1_read_1 8 rfl rfl)
theorem dX1_read_33 : decode cX1_read 33 = .ok (.aload_n 2, 1) := dk_44 (dk_at dksX1_read_1 9 rfl rfl)
theorem dX1_read_34 : decode cX1_read 34 = .ok (.invokevirtual 186, 3) := dk_182 0 186 (dk_at dksX1_read_1 10 rfl rfl)
theorem dX1_read_37 : decode cX1_read 37 = .ok (.aload_n 2, 1) := dk_44 (dk_at dksX1_read_1 13 rfl rfl)
theorem dX1_read_38 : decode cX1_read 38 = .ok (.invokevirtual 190, 3) := dk_182 0 190 (dk_at dksX1_read_1 14 rfl rfl)
theorem dX1_read_41 : decode cX1_read 41 = .ok (.ireturn, 1) := dk_172 (dk_at dksX1_read_1 17 rfl rfl)
theorem dX1_read_42 : decode cX1_read 42 = .ok (.astore_n 2, 1) := dk_77 (dk_at dksX1_read_1 18 rfl rfl)
theorem dX1_read_43 : decode cX1_read 43 = .ok (.aload_n 2, 1) := dk_44 (dk_at dksX1_read_1 19 rfl rfl)
theorem dX1_read_44 : decode cX1_read 44 = .ok (.instanceof 193, 3) := dk_193 0 193 (dk_at dksX1_read_1 20 rfl rfl)
theorem dX1_read_47 : decode cX1_read 47 = .ok (.ifCond .eq 47, 3) := dk_153 0 47 (dk_at dksX1_read_2 0 rfl rfl)
theorem dX1_read_50 : decode cX1_read 50 = .ok (.aload_n 2, 1) := dk_44 (dk_at dksX1_read_2 3 rfl rfl)
theorem dX1_read_51 : decode cX1_read 51 = .ok (.checkcast 193, 3) := dk_192 0 193 (dk_at dksX1_read_2 4 rfl rfl)
theorem dX1_read_54 : decode cX1_read 54 = .ok (.astore_n 3, 1) := dk_78 (dk_at dksX1_read_2 7 rfl rfl)
theorem dX1_read_55 : decode cX1_read 55 = .ok (.aload_n 0, 1) := dk_42 (dk_at dksX1_read_2 8 rfl rfl)
theorem dX1_read_56 : decode cX1_read 56 = .ok (.aload_n 3, 1) := dk_45 (dk_at dksX1_read_2 9 rfl rfl)
theorem dX1_read_57 : decode cX1_read 57 = .ok (.getfield 195, 3) := dk_180 0 195 (dk_at dksX1_read_2 10 rfl rfl)
theorem dX1_read_60 : decode cX1_read 60 = .ok (.putfield 16, 3) := dk_181 0 16 (dk_at dksX1_read_2 13 rfl rfl)
theorem dX1_read_63 : decode cX1_read 63 = .ok (.aload_n 0, 1) := dk_42 (dk_at dksX1_read_2 16 rfl rfl)
theorem dX1_read_64 : decode cX1_read 64 = .ok (.aload_n 3, 1) := dk_45 (dk_at dksX1_read_2 17 rfl rfl)
theorem dX1_read_65 : decode cX1_read 65 = .ok (.getfield 195, 3) := dk_180 0 195 (dk_at dksX1_read_2 18 rfl rfl)
theorem dX1_read_68 : decode cX1_read 68 = .ok (.iconst 1, 1) := dk_4 (dk_at dksX1_read_2 21 rfl rfl)
theorem dX1_read_69 : decode cX1_read 69 = .ok (.if_icmp .ne 10, 3) := dk_160 0 10 (dk_at dksX1_read_3 0 rfl rfl)
theorem dX1_read_72 : decode cX1_read 72 = .ok (.aload_n 3, 1) := dk_45 (dk_at dksX1_read_3 3 rfl rfl)
theorem dX1_read_73 : decode cX1_read 73 = .ok (.getfield 196, 3) := dk_180 0 196 (dk_at dksX1_read_3 4 rfl rfl)
theorem dX1_read_76 : decode cX1_read 76 = .ok (.goto 7, 3) := dk_167 0 7 (dk_at dksX1_read_3 7 rfl rfl)
theorem dX1_read_79 : decode cX1_read 79 = .ok (.aload_n 0, 1) := dk_42 (dk_at dksX1_read_3 10 rfl rfl)
theorem dX1_read_80 : decode cX1_read 80 = .ok (.getfield 68, 3) := dk_180 0 68 (dk_at dksX1_read_3 11 rfl rfl)
theorem dX1_read_83 : decode cX1_read 83 = .ok (.putfield 68, 3) := dk_181 0 68 (dk_at dksX1_read_3 14 rfl rfl)
theorem dX1_read_86 : decode cX1_read 86 = .ok (.new 13, 3) := dk_187 0 13 (dk_at dksX1_read_3 17 rfl rfl)
theorem dX1_read_89 : decode cX1_read 89 = .ok (.dup, 1) := dk_89 (dk_at dksX1_read_3 20 rfl rfl)
theorem dX1_read_90 : decode cX1_read 90 = .ok (.invokespecial 15, 3) := dk_183 0 15 (dk_at dksX1_read_3 21 rfl rfl)
theorem dX1_read_93 : decode cX1_read 93 = .ok (.athrow, 1) := dk_191 (dk_at dksX1_read_4 0 rfl rfl)
theorem dX1_read_94 : decode cX1_read 94 = .ok (.aload_n 0, 1) := dk_42 (dk_at dksX1_read_4 1 rfl rfl)
theorem dX1_read_95 : decode cX1_read 95 = .ok (.aload_n 2, 1) := dk_44 (dk_at dksX1_read_4 2 rfl rfl)
theorem dX1_read_96 : decode cX1_read 96 = .ok (.checkcast 191, 3) := dk_192 0 191 (dk_at dksX1_read_4 3 rfl rfl)
theorem dX1_read_99 : decode cX1_read 99 = .ok (.putfield 199, 3) := dk_181 0 199 (dk_at dksX1_read_4 6 rfl rfl)
theorem dX1_read_102 : decode cX1_read 102 = .ok (.new 1, 3) := dk_187 0 1 (dk_at dksX1_read_4 9 rfl rfl)
theorem dX1_read_105 : decode cX1_read 105 = .ok (.dup, 1) := dk_89 (dk_at dksX1_read_4 12 rfl rfl)
theorem dX1_read_106 : decode cX1_read 106 = .ok (.invokespecial 3, 3) := dk_183 0 3 (dk_at dksX1_read_4 13 rfl rfl)
theorem dX1_read_109 : decode cX1_read 109 = .ok (.athrow, 1) := dk_191 (dk_at dksX1_read_4 16 rfl rfl)
abbrev cX1_setPiece : ByteArray := prog_1_method_13_code
def yX1_setPiece : MethodName := ⟨RX1, "setPiece", "(LDanceNotation$Node;)V"⟩
def dkwX1_setPiece_0 : List UInt8 := [42, 187, 0, 89, 89, 178, 0, 94, 43, 3, 188, 10, 183, 0, 100, 182, 0, 103, 61, 177]
abbrev dktX1_setPiece_0 : List UInt8 := dkwX1_setPiece_0 ++ []
theorem dksX1_setPiece_0 : cX1_setPiece.data.toList.drop 0 = dktX1_setPiece_0 := by decide +kernel
theorem dX1_setPiece_0 : decode cX1_setPiece 0 = .ok (.aload_n 0, 1) := dk_42 (dk_at dksX1_setPiece_0 0 rfl rfl)
theorem dX1_setPiece_1 : decode cX1_setPiece 1 = .ok (.new 89, 3) := dk_187 0 89 (dk_at dksX1_setPiece_0 1 rfl rfl)
theorem dX1_setPiece_4 : decode cX1_setPiece 4 = .ok (.dup, 1) := dk_89 (dk_at dksX1_setPiece_0 4 rfl rfl)
theorem dX1_setPiece_5 : decode cX1_setPiece 5 = .ok (.getstatic 94, 3) := dk_178 0 94 (dk_at dksX1_setPiece_0 5 rfl rfl)
theorem dX1_setPiece_8 : decode cX1_setPiece 8 = .ok (.aload_n 1, 1) := dk_43 (dk_at dksX1_setPiece_0 8 rfl rfl)
theorem dX1_setPiece_9 : decode cX1_setPiece 9 = .ok (.iconst 0, 1) := dk_3 (dk_at dksX1_setPiece_0 9 rfl rfl)
theorem dX1_setPiece_10 : decode cX1_setPiece 10 = .ok (.newarray .int, 2) := dk_188_10 (dk_at dksX1_setPiece_0 10 rfl rfl)
theorem dX1_setPiece_12 : decode cX1_setPiece 12 = .ok (.invokespecial 100, 3) := dk_183 0 100 (dk_at dksX1_setPiece_0 12 rfl rfl)
theorem dX1_setPiece_15 : decode cX1_setPiece 15 = .ok (.invokevirtual 103, 3) := dk_182 0 103 (dk_at dksX1_setPiece_0 15 rfl rfl)
theorem dX1_setPiece_18 : decode cX1_setPiece 18 = .ok (.istore_n 2, 1) := dk_61 (dk_at dksX1_setPiece_0 18 rfl rfl)
theorem dX1_setPiece_19 : decode cX1_setPiece 19 = .ok (.return_, 1) := dk_177 (dk_at dksX1_setPiece_0 19 rfl rfl)
abbrev cX1_errorPosition : ByteArray := prog_1_method_22_code
def yX1_errorPosition : MethodName := ⟨RX1, "errorPosition", "()I"⟩
def dkwX1_errorPosition_0 : List UInt8 := [42, 180, 0, 199, 198, 0, 7, 4, 167, 0, 4, 3, 184, 0, 203, 42, 180, 0, 199, 180, 0, 206, 172]
abbrev dktX1_errorPosition_0 : List UInt8 := dkwX1_errorPosition_0 ++ []
theorem dksX1_errorPosition_0 : cX1_errorPosition.data.toList.drop 0 = dktX1_errorPosition_0 := by decide +kernel
theorem dX1_errorPosition_0 : decode cX1_errorPosition 0 = .ok (.aload_n 0, 1) := dk_42 (dk_at dksX1_errorPosition_0 0 rfl rfl)
theorem dX1_errorPosition_1 : decode cX1_errorPosition 1 = .ok (.getfield 199, 3) := dk_180 0 199 (dk_at dksX1_errorPosition_0 1 rfl rfl)
theorem dX1_errorPosition_4 : decode cX1_errorPosition 4 = .ok (.ifnull 7, 3) := dk_198 0 7 (dk_at dksX1_errorPosition_0 4 rfl rfl)
theorem dX1_errorPosition_7 : decode cX1_errorPosition 7 = .ok (.iconst 1, 1) := dk_4 (dk_at dksX1_errorPosition_0 7 rfl rfl)
theorem dX1_errorPosition_8 : decode cX1_errorPosition 8 = .ok (.goto 4, 3) := dk_167 0 4 (dk_at dksX1_errorPosition_0 8 rfl rfl)
theorem dX1_errorPosition_11 : decode cX1_errorPosition 11 = .ok (.iconst 0, 1) := dk_3 (dk_at dksX1_errorPosition_0 11 rfl rfl)
theorem dX1_errorPosition_12 : decode cX1_errorPosition 12 = .ok (.invokestatic 203, 3) := dk_184 0 203 (dk_at dksX1_errorPosition_0 12 rfl rfl)
theorem dX1_errorPosition_15 : decode cX1_errorPosition 15 = .ok (.aload_n 0, 1) := dk_42 (dk_at dksX1_errorPosition_0 15 rfl rfl)
theorem dX1_errorPosition_16 : decode cX1_errorPosition 16 = .ok (.getfield 199, 3) := dk_180 0 199 (dk_at dksX1_errorPosition_0 16 rfl rfl)
theorem dX1_errorPosition_19 : decode cX1_errorPosition 19 = .ok (.getfield 206, 3) := dk_180 0 206 (dk_at dksX1_errorPosition_0 19 rfl rfl)
theorem dX1_errorPosition_22 : decode cX1_errorPosition 22 = .ok (.ireturn, 1) := dk_172 (dk_at dksX1_errorPosition_0 22 rfl rfl)
abbrev cX1_checkElement : ByteArray := prog_1_method_4_code
def yX1_checkElement : MethodName := ⟨RX1, "checkElement", "(Z)V"⟩
def dkwX1_checkElement_0 : List UInt8 := [26, 154, 0, 11, 187, 0, 10, 89, 183, 0, 12, 191, 177]
abbrev dktX1_checkElement_0 : List UInt8 := dkwX1_checkElement_0 ++ []
theorem dksX1_checkElement_0 : cX1_checkElement.data.toList.drop 0 = dktX1_checkElement_0 := by decide +kernel
theorem dX1_checkElement_0 : decode cX1_checkElement 0 = .ok (.iload_n 0, 1) := dk_26 (dk_at dksX1_checkElement_0 0 rfl rfl)
theorem dX1_checkElement_1 : decode cX1_checkElement 1 = .ok (.ifCond .ne 11, 3) := dk_154 0 11 (dk_at dksX1_checkElement_0 1 rfl rfl)
theorem dX1_checkElement_4 : decode cX1_checkElement 4 = .ok (.new 10, 3) := dk_187 0 10 (dk_at dksX1_checkElement_0 4 rfl rfl)
theorem dX1_checkElement_7 : decode cX1_checkElement 7 = .ok (.dup, 1) := dk_89 (dk_at dksX1_checkElement_0 7 rfl rfl)
theorem dX1_checkElement_8 : decode cX1_checkElement 8 = .ok (.invokespecial 12, 3) := dk_183 0 12 (dk_at dksX1_checkElement_0 8 rfl rfl)
theorem dX1_checkElement_11 : decode cX1_checkElement 11 = .ok (.athrow, 1) := dk_191 (dk_at dksX1_checkElement_0 11 rfl rfl)
theorem dX1_checkElement_12 : decode cX1_checkElement 12 = .ok (.return_, 1) := dk_177 (dk_at dksX1_checkElement_0 12 rfl rfl)
abbrev cX1_refusedDancer : ByteArray := prog_1_method_23_code
def yX1_refusedDancer : MethodName := ⟨RX1, "refusedDancer", "()I"⟩
def dkwX1_refusedDancer_0 : List UInt8 := [42, 180, 0, 68, 2, 159, 0, 7, 4, 167, 0, 4, 3, 184, 0, 203, 42, 180, 0, 68, 172]
abbrev dktX1_refusedDancer_0 : List UInt8 := dkwX1_refusedDancer_0 ++ []
theorem dksX1_refusedDancer_0 : cX1_refusedDancer.data.toList.drop 0 = dktX1_refusedDancer_0 := by decide +kernel
theorem dX1_refusedDancer_0 : decode cX1_refusedDancer 0 = .ok (.aload_n 0, 1) := dk_42 (dk_at dksX1_refusedDancer_0 0 rfl rfl)
theorem dX1_refusedDancer_1 : decode cX1_refusedDancer 1 = .ok (.getfield 68, 3) := dk_180 0 68 (dk_at dksX1_refusedDancer_0 1 rfl rfl)
theorem dX1_refusedDancer_4 : decode cX1_refusedDancer 4 = .ok (.iconst (-1), 1) := dk_2 (dk_at dksX1_refusedDancer_0 4 rfl rfl)
theorem dX1_refusedDancer_5 : decode cX1_refusedDancer 5 = .ok (.if_icmp .eq 7, 3) := dk_159 0 7 (dk_at dksX1_refusedDancer_0 5 rfl rfl)
theorem dX1_refusedDancer_8 : decode cX1_refusedDancer 8 = .ok (.iconst 1, 1) := dk_4 (dk_at dksX1_refusedDancer_0 8 rfl rfl)
theorem dX1_refusedDancer_9 : decode cX1_refusedDancer 9 = .ok (.goto 4, 3) := dk_167 0 4 (dk_at dksX1_refusedDancer_0 9 rfl rfl)
theorem dX1_refusedDancer_12 : decode cX1_refusedDancer 12 = .ok (.iconst 0, 1) := dk_3 (dk_at dksX1_refusedDancer_0 12 rfl rfl)
theorem dX1_refusedDancer_13 : decode cX1_refusedDancer 13 = .ok (.invokestatic 203, 3) := dk_184 0 203 (dk_at dksX1_refusedDancer_0 13 rfl rfl)
theorem dX1_refusedDancer_16 : decode cX1_refusedDancer 16 = .ok (.aload_n 0, 1) := dk_42 (dk_at dksX1_refusedDancer_0 16 rfl rfl)
theorem dX1_refusedDancer_17 : decode cX1_refusedDancer 17 = .ok (.getfield 68, 3) := dk_180 0 68 (dk_at dksX1_refusedDancer_0 17 rfl rfl)
theorem dX1_refusedDancer_20 : decode cX1_refusedDancer 20 = .ok (.ireturn, 1) := dk_172 (dk_at dksX1_refusedDancer_0 20 rfl rfl)
abbrev cX1_write : ByteArray := prog_1_method_24_code
def yX1_write : MethodName := ⟨RX1, "write", "()I"⟩
def dkwX1_write_0 : List UInt8 := [42, 182, 0, 209, 42, 42, 180, 0, 37, 182, 0, 212, 181, 0, 64, 42, 180, 0, 64, 182, 0, 216, 172]
abbrev dktX1_write_0 : List UInt8 := dkwX1_write_0 ++ []
theorem dksX1_write_0 : cX1_write.data.toList.drop 0 = dktX1_write_0 := by decide +kernel
theorem dX1_write_0 : decode cX1_write 0 = .ok (.aload_n 0, 1) := dk_42 (dk_at dksX1_write_0 0 rfl rfl)
theorem dX1_write_1 : decode cX1_write 1 = .ok (.invokevirtual 209, 3) := dk_182 0 209 (dk_at dksX1_write_0 1 rfl rfl)
theorem dX1_write_4 : decode cX1_write 4 = .ok (.aload_n 0, 1) := dk_42 (dk_at dksX1_write_0 4 rfl rfl)
theorem dX1_write_5 : decode cX1_write 5 = .ok (.aload_n 0, 1) := dk_42 (dk_at dksX1_write_0 5 rfl rfl)
theorem dX1_write_6 : decode cX1_write 6 = .ok (.getfield 37, 3) := dk_180 0 37 (dk_at dksX1_write_0 6 rfl rfl)
theorem dX1_write_9 : decode cX1_write 9 = .ok (.invokevirtual 212, 3) := dk_182 0 212 (dk_at dksX1_write_0 9 rfl rfl)
theorem dX1_write_12 : decode cX1_write 12 = .ok (.putfield 64, 3) := dk_181 0 64 (dk_at dksX1_write_0 12 rfl rfl)
theorem dX1_write_15 : decode cX1_write 15 = .ok (.aload_n 0, 1) := dk_42 (dk_at dksX1_write_0 15 rfl rfl)
theorem dX1_write_16 : decode cX1_write 16 = .ok (.getfield 64, 3) := dk_180 0 64 (dk_at dksX1_write_0 16 rfl rfl)
theorem dX1_write_19 : decode cX1_write 19 = .ok (.invokevirtual 216, 3) := dk_182 0 216 (dk_at dksX1_write_0 19 rfl rfl)
theorem dX1_write_22 : decode cX1_write 22 = .ok (.ireturn, 1) := dk_172 (dk_at dksX1_write_0 22 rfl rfl)
abbrev cX1_checkPiece : ByteArray := prog_1_method_16_code
def yX1_checkPiece : MethodName := ⟨RX1, "checkPiece", "()V"⟩
def dkwX1_checkPiece_0 : List UInt8 := [42, 42, 180, 0, 37, 180, 0, 121, 198, 0, 7, 4, 167, 0, 4, 3, 6, 182, 0, 125, 177]
abbrev dktX1_checkPiece_0 : List UInt8 := dkwX1_checkPiece_0 ++ []
theorem dksX1_checkPiece_0 : cX1_checkPiece.data.toList.drop 0 = dktX1_checkPiece_0 := by decide +kernel
theorem dX1_checkPiece_0 : decode cX1_checkPiece 0 = .ok (.aload_n 0, 1) := dk_42 (dk_at dksX1_checkPiece_0 0 rfl rfl)
theorem dX1_checkPiece_1 : decode cX1_checkPiece 1 = .ok (.aload_n 0, 1) := dk_42 (dk_at dksX1_checkPiece_0 1 rfl rfl)
theorem dX1_checkPiece_2 : decode cX1_checkPiece 2 = .ok (.getfield 37, 3) := dk_180 0 37 (dk_at dksX1_checkPiece_0 2 rfl rfl)
theorem dX1_checkPiece_5 : decode cX1_checkPiece 5 = .ok (.getfield 121, 3) := dk_180 0 121 (dk_at dksX1_checkPiece_0 5 rfl rfl)
theorem dX1_checkPiece_8 : decode cX1_checkPiece 8 = .ok (.ifnull 7, 3) := dk_198 0 7 (dk_at dksX1_checkPiece_0 8 rfl rfl)
theorem dX1_checkPiece_11 : decode cX1_checkPiece 11 = .ok (.iconst 1, 1) := dk_4 (dk_at dksX1_checkPiece_0 11 rfl rfl)
theorem dX1_checkPiece_12 : decode cX1_checkPiece 12 = .ok (.goto 4, 3) := dk_167 0 4 (dk_at dksX1_checkPiece_0 12 rfl rfl)
theorem dX1_checkPiece_15 : decode cX1_checkPiece 15 = .ok (.iconst 0, 1) := dk_3 (dk_at dksX1_checkPiece_0 15 rfl rfl)
theorem dX1_checkPiece_16 : decode cX1_checkPiece 16 = .ok (.iconst 3, 1) := dk_6 (dk_at dksX1_checkPiece_0 16 rfl rfl)
theorem dX1_checkPiece_17 : decode cX1_checkPiece 17 = .ok (.invokevirtual 125, 3) := dk_182 0 125 (dk_at dksX1_checkPiece_0 17 rfl rfl)
theorem dX1_checkPiece_20 : decode cX1_checkPiece 20 = .ok (.return_, 1) := dk_177 (dk_at dksX1_checkPiece_0 20 rfl rfl)
abbrev cX1_checkReason : ByteArray := prog_1_method_6_code
def yX1_checkReason : MethodName := ⟨RX1, "checkReason", "(ZI)V"⟩
def dkwX1_checkReason_0 : List UInt8 := [27, 154, 0, 16, 42, 28, 181, 0, 16, 187, 0, 22, 89, 183, 0, 24, 191, 177]
abbrev dktX1_checkReason_0 : List UInt8 := dkwX1_checkReason_0 ++ []
theorem dksX1_checkReason_0 : cX1_checkReason.data.toList.drop 0 = dktX1_checkReason_0 := by decide +kernel
theorem dX1_checkReason_0 : decode cX1_checkReason 0 = .ok (.iload_n 1, 1) := dk_27 (dk_at dksX1_checkReason_0 0 rfl rfl)
theorem dX1_checkReason_1 : decode cX1_checkReason 1 = .ok (.ifCond .ne 16, 3) := dk_154 0 16 (dk_at dksX1_checkReason_0 1 rfl rfl)
theorem dX1_checkReason_4 : decode cX1_checkReason 4 = .ok (.aload_n 0, 1) := dk_42 (dk_at dksX1_checkReason_0 4 rfl rfl)
theorem dX1_checkReason_5 : decode cX1_checkReason 5 = .ok (.iload_n 2, 1) := dk_28 (dk_at dksX1_checkReason_0 5 rfl rfl)
theorem dX1_checkReason_6 : decode cX1_checkReason 6 = .ok (.putfield 16, 3) := dk_181 0 16 (dk_at dksX1_checkReason_0 6 rfl rfl)
theorem dX1_checkReason_9 : decode cX1_checkReason 9 = .ok (.new 22, 3) := dk_187 0 22 (dk_at dksX1_checkReason_0 9 rfl rfl)
theorem dX1_checkReason_12 : decode cX1_checkReason 12 = .ok (.dup, 1) := dk_89 (dk_at dksX1_checkReason_0 12 rfl rfl)
theorem dX1_checkReason_13 : decode cX1_checkReason 13 = .ok (.invokespecial 24, 3) := dk_183 0 24 (dk_at dksX1_checkReason_0 13 rfl rfl)
theorem dX1_checkReason_16 : decode cX1_checkReason 16 = .ok (.athrow, 1) := dk_191 (dk_at dksX1_checkReason_0 16 rfl rfl)
theorem dX1_checkReason_17 : decode cX1_checkReason 17 = .ok (.return_, 1) := dk_177 (dk_at dksX1_checkReason_0 17 rfl rfl)
abbrev cX1_output : ByteArray := prog_1_method_25_code
def yX1_output : MethodName := ⟨RX1, "output", "(I)C"⟩
def dkwX1_output_1 : List UInt8 := [182, 0, 219, 172]
abbrev dktX1_output_1 : List UInt8 := dkwX1_output_1 ++ []
def dkwX1_output_0 : List UInt8 := [27, 133, 9, 42, 180, 0, 64, 182, 0, 216, 4, 100, 133, 184, 0, 108, 184, 0, 112, 42, 180, 0, 64, 27]
abbrev dktX1_output_0 : List UInt8 := dkwX1_output_0 ++ dktX1_output_1
theorem dksX1_output_0 : cX1_output.data.toList.drop 0 = dktX1_output_0 := by decide +kernel
theorem dksX1_output_1 : cX1_output.data.toList.drop 24 = dktX1_output_1 := dk_seg dksX1_output_0 24 rfl rfl
theorem dX1_output_0 : decode cX1_output 0 = .ok (.iload_n 1, 1) := dk_27 (dk_at dksX1_output_0 0 rfl rfl)
theorem dX1_output_1 : decode cX1_output 1 = .ok (.i2l, 1) := dk_133 (dk_at dksX1_output_0 1 rfl rfl)
theorem dX1_output_2 : decode cX1_output 2 = .ok (.lconst 0, 1) := dk_9 (dk_at dksX1_output_0 2 rfl rfl)
theorem dX1_output_3 : decode cX1_output 3 = .ok (.aload_n 0, 1) := dk_42 (dk_at dksX1_output_0 3 rfl rfl)
theorem dX1_output_4 : decode cX1_output 4 = .ok (.getfield 64, 3) := dk_180 0 64 (dk_at dksX1_output_0 4 rfl rfl)
theorem dX1_output_7 : decode cX1_output 7 = .ok (.invokevirtual 216, 3) := dk_182 0 216 (dk_at dksX1_output_0 7 rfl rfl)
theorem dX1_output_10 : decode cX1_output 10 = .ok (.iconst 1, 1) := dk_4 (dk_at dksX1_output_0 10 rfl rfl)
theorem dX1_output_11 : decode cX1_output 11 = .ok (.isub, 1) := dk_100 (dk_at dksX1_output_0 11 rfl rfl)
theorem dX1_output_12 : decode cX1_output 12 = .ok (.i2l, 1) := dk_133 (dk_at dksX1_output_0 12 rfl rfl)
theorem dX1_output_13 : decode cX1_output 13 = .ok (.invokestatic 108, 3) := dk_184 0 108 (dk_at dksX1_output_0 13 rfl rfl)
theorem dX1_output_16 : decode cX1_output 16 = .ok (.invokestatic 112, 3) := dk_184 0 112 (dk_at dksX1_output_0 16 rfl rfl)
theorem dX1_output_19 : decode cX1_output 19 = .ok (.aload_n 0, 1) := dk_42 (dk_at dksX1_output_0 19 rfl rfl)
theorem dX1_output_20 : decode cX1_output 20 = .ok (.getfield 64, 3) := dk_180 0 64 (dk_at dksX1_output_0 20 rfl rfl)
theorem dX1_output_23 : decode cX1_output 23 = .ok (.iload_n 1, 1) := dk_27 (dk_at dksX1_output_0 23 rfl rfl)
theorem dX1_output_24 : decode cX1_output 24 = .ok (.invokevirtual 219, 3) := dk_182 0 219 (dk_at dksX1_output_1 0 rfl rfl)
theorem dX1_output_27 : decode cX1_output 27 = .ok (.ireturn, 1) := dk_172 (dk_at dksX1_output_1 3 rfl rfl)
abbrev cX1_mirror : ByteArray := prog_1_method_27_code
def yX1_mirror : MethodName := ⟨RX1, "mirror", "()I"⟩
def dkwX1_mirror_2 : List UInt8 := [182, 0, 236, 172]
abbrev dktX1_mirror_2 : List UInt8 := dkwX1_mirror_2 ++ []
def dkwX1_mirror_1 : List UInt8 := [76, 43, 180, 0, 231, 167, 0, 17, 187, 0, 229, 89, 42, 180, 0, 37, 180, 0, 121, 183, 0, 234]
abbrev dktX1_mirror_1 : List UInt8 := dkwX1_mirror_1 ++ dktX1_mirror_2
def dkwX1_mirror_0 : List UInt8 := [42, 182, 0, 209, 42, 42, 180, 0, 37, 180, 0, 121, 77, 44, 193, 0, 229, 153, 0, 15, 44, 192, 0, 229]
abbrev dktX1_mirror_0 : List UInt8 := dkwX1_mirror_0 ++ dktX1_mirror_1
theorem dksX1_mirror_0 : cX1_mirror.data.toList.drop 0 = dktX1_mirror_0 := by decide +kernel
theorem dksX1_mirror_1 : cX1_mirror.data.toList.drop 24 = dktX1_mirror_1 := dk_seg dksX1_mirror_0 24 rfl rfl
theorem dksX1_mirror_2 : cX1_mirror.data.toList.drop 46 = dktX1_mirror_2 := dk_seg dksX1_mirror_1 22 rfl rfl
theorem dX1_mirror_0 : decode cX1_mirror 0 = .ok (.aload_n 0, 1) := dk_42 (dk_at dksX1_mirror_0 0 rfl rfl)
theorem dX1_mirror_1 : decode cX1_mirror 1 = .ok (.invokevirtual 209, 3) := dk_182 0 209 (dk_at dksX1_mirror_0 1 rfl rfl)
theorem dX1_mirror_4 : decode cX1_mirror 4 = .ok (.aload_n 0, 1) := dk_42 (dk_at dksX1_mirror_0 4 rfl rfl)
theorem dX1_mirror_5 : decode cX1_mirror 5 = .ok (.aload_n 0, 1) := dk_42 (dk_at dksX1_mirror_0 5 rfl rfl)
theorem dX1_mirror_6 : decode cX1_mirror 6 = .ok (.getfield 37, 3) := dk_180 0 37 (dk_at dksX1_mirror_0 6 rfl rfl)
theorem dX1_mirror_9 : decode cX1_mirror 9 = .ok (.getfield 121, 3) := dk_180 0 121 (dk_at dksX1_mirror_0 9 rfl rfl)
theorem dX1_mirror_12 : decode cX1_mirror 12 = .ok (.astore_n 2, 1) := dk_77 (dk_at dksX1_mirror_0 12 rfl rfl)
theorem dX1_mirror_13 : decode cX1_mirror 13 = .ok (.aload_n 2, 1) := dk_44 (dk_at dksX1_mirror_0 13 rfl rfl)
theorem dX1_mirror_14 : decode cX1_mirror 14 = .ok (.instanceof 229, 3) := dk_193 0 229 (dk_at dksX1_mirror_0 14 rfl rfl)
theorem dX1_mirror_17 : decode cX1_mirror 17 = .ok (.ifCond .eq 15, 3) := dk_153 0 15 (dk_at dksX1_mirror_0 17 rfl rfl)
theorem dX1_mirror_20 : decode cX1_mirror 20 = .ok (.aload_n 2, 1) := dk_44 (dk_at dksX1_mirror_0 20 rfl rfl)
theorem dX1_mirror_21 : decode cX1_mirror 21 = .ok (.checkcast 229, 3) := dk_192 0 229 (dk_at dksX1_mirror_0 21 rfl rfl)
theorem dX1_mirror_24 : decode cX1_mirror 24 = .ok (.astore_n 1, 1) := dk_76 (dk_at dksX1_mirror_1 0 rfl rfl)
theorem dX1_mirror_25 : decode cX1_mirror 25 = .ok (.aload_n 1, 1) := dk_43 (dk_at dksX1_mirror_1 1 rfl rfl)
theorem dX1_mirror_26 : decode cX1_mirror 26 = .ok (.getfield 231, 3) := dk_180 0 231 (dk_at dksX1_mirror_1 2 rfl rfl)
theorem dX1_mirror_29 : decode cX1_mirror 29 = .ok (.goto 17, 3) := dk_167 0 17 (dk_at dksX1_mirror_1 5 rfl rfl)
theorem dX1_mirror_32 : decode cX1_mirror 32 = .ok (.new 229, 3) := dk_187 0 229 (dk_at dksX1_mirror_1 8 rfl rfl)
theorem dX1_mirror_35 : decode cX1_mirror 35 = .ok (.dup, 1) := dk_89 (dk_at dksX1_mirror_1 11 rfl rfl)
theorem dX1_mirror_36 : decode cX1_mirror 36 = .ok (.aload_n 0, 1) := dk_42 (dk_at dksX1_mirror_1 12 rfl rfl)
theorem dX1_mirror_37 : decode cX1_mirror 37 = .ok (.getfield 37, 3) := dk_180 0 37 (dk_at dksX1_mirror_1 13 rfl rfl)
theorem dX1_mirror_40 : decode cX1_mirror 40 = .ok (.getfield 121, 3) := dk_180 0 121 (dk_at dksX1_mirror_1 16 rfl rfl)
theorem dX1_mirror_43 : decode cX1_mirror 43 = .ok (.invokespecial 234, 3) := dk_183 0 234 (dk_at dksX1_mirror_1 19 rfl rfl)
theorem dX1_mirror_46 : decode cX1_mirror 46 = .ok (.invokevirtual 236, 3) := dk_182 0 236 (dk_at dksX1_mirror_2 0 rfl rfl)
theorem dX1_mirror_49 : decode cX1_mirror 49 = .ok (.ireturn, 1) := dk_172 (dk_at dksX1_mirror_2 3 rfl rfl)
abbrev cX1_replace : ByteArray := prog_1_method_26_code
def yX1_replace : MethodName := ⟨RX1, "replace", "(LDanceNotation$Node;)I"⟩
def dkwX1_replace_1 : List UInt8 := [182, 0, 186, 43, 182, 0, 226, 172]
abbrev dktX1_replace_1 : List UInt8 := dkwX1_replace_1 ++ []
def dkwX1_replace_0 : List UInt8 := [42, 43, 182, 0, 223, 16, 20, 163, 0, 7, 4, 167, 0, 4, 3, 16, 7, 182, 0, 125, 42, 43]
abbrev dktX1_replace_0 : List UInt8 := dkwX1_replace_0 ++ dktX1_replace_1
theorem dksX1_replace_0 : cX1_replace.data.toList.drop 0 = dktX1_replace_0 := by decide +kernel
theorem dksX1_replace_1 : cX1_replace.data.toList.drop 22 = dktX1_replace_1 := dk_seg dksX1_replace_0 22 rfl rfl
theorem dX1_replace_0 : decode cX1_replace 0 = .ok (.aload_n 0, 1) := dk_42 (dk_at dksX1_replace_0 0 rfl rfl)
theorem dX1_replace_1 : decode cX1_replace 1 = .ok (.aload_n 1, 1) := dk_43 (dk_at dksX1_replace_0 1 rfl rfl)
theorem dX1_replace_2 : decode cX1_replace 2 = .ok (.invokevirtual 223, 3) := dk_182 0 223 (dk_at dksX1_replace_0 2 rfl rfl)
theorem dX1_replace_5 : decode cX1_replace 5 = .ok (.bipush 20, 2) := dk_16 20 (dk_at dksX1_replace_0 5 rfl rfl)
theorem dX1_replace_7 : decode cX1_replace 7 = .ok (.if_icmp .gt 7, 3) := dk_163 0 7 (dk_at dksX1_replace_0 7 rfl rfl)
theorem dX1_replace_10 : decode cX1_replace 10 = .ok (.iconst 1, 1) := dk_4 (dk_at dksX1_replace_0 10 rfl rfl)
theorem dX1_replace_11 : decode cX1_replace 11 = .ok (.goto 4, 3) := dk_167 0 4 (dk_at dksX1_replace_0 11 rfl rfl)
theorem dX1_replace_14 : decode cX1_replace 14 = .ok (.iconst 0, 1) := dk_3 (dk_at dksX1_replace_0 14 rfl rfl)
theorem dX1_replace_15 : decode cX1_replace 15 = .ok (.bipush 7, 2) := dk_16 7 (dk_at dksX1_replace_0 15 rfl rfl)
theorem dX1_replace_17 : decode cX1_replace 17 = .ok (.invokevirtual 125, 3) := dk_182 0 125 (dk_at dksX1_replace_0 17 rfl rfl)
theorem dX1_replace_20 : decode cX1_replace 20 = .ok (.aload_n 0, 1) := dk_42 (dk_at dksX1_replace_0 20 rfl rfl)
theorem dX1_replace_21 : decode cX1_replace 21 = .ok (.aload_n 1, 1) := dk_43 (dk_at dksX1_replace_0 21 rfl rfl)
theorem dX1_replace_22 : decode cX1_replace 22 = .ok (.invokevirtual 186, 3) := dk_182 0 186 (dk_at dksX1_replace_1 0 rfl rfl)
theorem dX1_replace_25 : decode cX1_replace 25 = .ok (.aload_n 1, 1) := dk_43 (dk_at dksX1_replace_1 3 rfl rfl)
theorem dX1_replace_26 : decode cX1_replace 26 = .ok (.invokevirtual 226, 3) := dk_182 0 226 (dk_at dksX1_replace_1 4 rfl rfl)
theorem dX1_replace_29 : decode cX1_replace 29 = .ok (.ireturn, 1) := dk_172 (dk_at dksX1_replace_1 7 rfl rfl)
abbrev cX1_reverse : ByteArray := prog_1_method_28_code
def yX1_reverse : MethodName := ⟨RX1, "reverse", "()I"⟩
def dkwX1_reverse_2 : List UInt8 := [182, 0, 236, 172]
abbrev dktX1_reverse_2 : List UInt8 := dkwX1_reverse_2 ++ []
def dkwX1_reverse_1 : List UInt8 := [76, 43, 180, 0, 242, 167, 0, 17, 187, 0, 240, 89, 42, 180, 0, 37, 180, 0, 121, 183, 0, 243]
abbrev dktX1_reverse_1 : List UInt8 := dkwX1_reverse_1 ++ dktX1_reverse_2
def dkwX1_reverse_0 : List UInt8 := [42, 182, 0, 209, 42, 42, 180, 0, 37, 180, 0, 121, 77, 44, 193, 0, 240, 153, 0, 15, 44, 192, 0, 240]
abbrev dktX1_reverse_0 : List UInt8 := dkwX1_reverse_0 ++ dktX1_reverse_1
theorem dksX1_reverse_0 : cX1_reverse.data.toList.drop 0 = dktX1_reverse_0 := by decide +kernel
theorem dksX1_reverse_1 : cX1_reverse.data.toList.drop 24 = dktX1_reverse_1 := dk_seg dksX1_reverse_0 24 rfl rfl
theorem dksX1_reverse_2 : cX1_reverse.data.toList.drop 46 = dktX1_reverse_2 := dk_seg dksX1_reverse_1 22 rfl rfl
theorem dX1_reverse_0 : decode cX1_reverse 0 = .ok (.aload_n 0, 1) := dk_42 (dk_at dksX1_reverse_0 0 rfl rfl)
theorem dX1_reverse_1 : decode cX1_reverse 1 = .ok (.invokevirtual 209, 3) := dk_182 0 209 (dk_at dksX1_reverse_0 1 rfl rfl)
theorem dX1_reverse_4 : decode cX1_reverse 4 = .ok (.aload_n 0, 1) := dk_42 (dk_at dksX1_reverse_0 4 rfl rfl)
theorem dX1_reverse_5 : decode cX1_reverse 5 = .ok (.aload_n 0, 1) := dk_42 (dk_at dksX1_reverse_0 5 rfl rfl)
theorem dX1_reverse_6 : decode cX1_reverse 6 = .ok (.getfield 37, 3) := dk_180 0 37 (dk_at dksX1_reverse_0 6 rfl rfl)
theorem dX1_reverse_9 : decode cX1_reverse 9 = .ok (.getfield 121, 3) := dk_180 0 121 (dk_at dksX1_reverse_0 9 rfl rfl)
theorem dX1_reverse_12 : decode cX1_reverse 12 = .ok (.astore_n 2, 1) := dk_77 (dk_at dksX1_reverse_0 12 rfl rfl)
theorem dX1_reverse_13 : decode cX1_reverse 13 = .ok (.aload_n 2, 1) := dk_44 (dk_at dksX1_reverse_0 13 rfl rfl)
theorem dX1_reverse_14 : decode cX1_reverse 14 = .ok (.instanceof 240, 3) := dk_193 0 240 (dk_at dksX1_reverse_0 14 rfl rfl)
theorem dX1_reverse_17 : decode cX1_reverse 17 = .ok (.ifCond .eq 15, 3) := dk_153 0 15 (dk_at dksX1_reverse_0 17 rfl rfl)
theorem dX1_reverse_20 : decode cX1_reverse 20 = .ok (.aload_n 2, 1) := dk_44 (dk_at dksX1_reverse_0 20 rfl rfl)
theorem dX1_reverse_21 : decode cX1_reverse 21 = .ok (.checkcast 240, 3) := dk_192 0 240 (dk_at dksX1_reverse_0 21 rfl rfl)
theorem dX1_reverse_24 : decode cX1_reverse 24 = .ok (.astore_n 1, 1) := dk_76 (dk_at dksX1_reverse_1 0 rfl rfl)
theorem dX1_reverse_25 : decode cX1_reverse 25 = .ok (.aload_n 1, 1) := dk_43 (dk_at dksX1_reverse_1 1 rfl rfl)
theorem dX1_reverse_26 : decode cX1_reverse 26 = .ok (.getfield 242, 3) := dk_180 0 242 (dk_at dksX1_reverse_1 2 rfl rfl)
theorem dX1_reverse_29 : decode cX1_reverse 29 = .ok (.goto 17, 3) := dk_167 0 17 (dk_at dksX1_reverse_1 5 rfl rfl)
theorem dX1_reverse_32 : decode cX1_reverse 32 = .ok (.new 240, 3) := dk_187 0 240 (dk_at dksX1_reverse_1 8 rfl rfl)
theorem dX1_reverse_35 : decode cX1_reverse 35 = .ok (.dup, 1) := dk_89 (dk_at dksX1_reverse_1 11 rfl rfl)
theorem dX1_reverse_36 : decode cX1_reverse 36 = .ok (.aload_n 0, 1) := dk_42 (dk_at dksX1_reverse_1 12 rfl rfl)
theorem dX1_reverse_37 : decode cX1_reverse 37 = .ok (.getfield 37, 3) := dk_180 0 37 (dk_at dksX1_reverse_1 13 rfl rfl)
theorem dX1_reverse_40 : decode cX1_reverse 40 = .ok (.getfield 121, 3) := dk_180 0 121 (dk_at dksX1_reverse_1 16 rfl rfl)
theorem dX1_reverse_43 : decode cX1_reverse 43 = .ok (.invokespecial 243, 3) := dk_183 0 243 (dk_at dksX1_reverse_1 19 rfl rfl)
theorem dX1_reverse_46 : decode cX1_reverse 46 = .ok (.invokevirtual 236, 3) := dk_182 0 236 (dk_at dksX1_reverse_2 0 rfl rfl)
theorem dX1_reverse_49 : decode cX1_reverse 49 = .ok (.ireturn, 1) := dk_172 (dk_at dksX1_reverse_2 3 rfl rfl)
abbrev cX1_repeat : ByteArray := prog_1_method_29_code
def yX1_repeat : MethodName := ⟨RX1, "repeat", "(I)I"⟩
def dkwX1_repeat_3 : List UInt8 := [182, 0, 190, 172]
abbrev dktX1_repeat_3 : List UInt8 := dkwX1_repeat_3 ++ []
def dkwX1_repeat_2 : List UInt8 := [17, 3, 231, 163, 0, 7, 4, 167, 0, 4, 3, 16, 7, 182, 0, 125, 42, 44, 182, 0, 236, 62, 44]
abbrev dktX1_repeat_2 : List UInt8 := dkwX1_repeat_2 ++ dktX1_repeat_3
def dkwX1_repeat_1 : List UInt8 := [180, 0, 37, 180, 0, 121, 183, 0, 246, 77, 42, 44, 182, 0, 190, 16, 99, 163, 0, 17, 44, 182, 0, 249]
abbrev dktX1_repeat_1 : List UInt8 := dkwX1_repeat_1 ++ dktX1_repeat_2
def dkwX1_repeat_0 : List UInt8 := [27, 133, 20, 0, 129, 20, 0, 131, 184, 0, 108, 184, 0, 133, 42, 182, 0, 209, 187, 0, 244, 89, 27, 42]
abbrev dktX1_repeat_0 : List UInt8 := dkwX1_repeat_0 ++ dktX1_repeat_1
theorem dksX1_repeat_0 : cX1_repeat.data.toList.drop 0 = dktX1_repeat_0 := by decide +kernel
theorem dksX1_repeat_1 : cX1_repeat.data.toList.drop 24 = dktX1_repeat_1 := dk_seg dksX1_repeat_0 24 rfl rfl
theorem dksX1_repeat_2 : cX1_repeat.data.toList.drop 48 = dktX1_repeat_2 := dk_seg dksX1_repeat_1 24 rfl rfl
theorem dksX1_repeat_3 : cX1_repeat.data.toList.drop 71 = dktX1_repeat_3 := dk_seg dksX1_repeat_2 23 rfl rfl
theorem dX1_repeat_0 : decode cX1_repeat 0 = .ok (.iload_n 1, 1) := dk_27 (dk_at dksX1_repeat_0 0 rfl rfl)
theorem dX1_repeat_1 : decode cX1_repeat 1 = .ok (.i2l, 1) := dk_133 (dk_at dksX1_repeat_0 1 rfl rfl)
theorem dX1_repeat_2 : decode cX1_repeat 2 = .ok (.ldc2_w 129, 3) := dk_20 0 129 (dk_at dksX1_repeat_0 2 rfl rfl)
theorem dX1_repeat_5 : decode cX1_repeat 5 = .ok (.ldc2_w 131, 3) := dk_20 0 131 (dk_at dksX1_repeat_0 5 rfl rfl)
theorem dX1_repeat_8 : decode cX1_repeat 8 = .ok (.invokestatic 108, 3) := dk_184 0 108 (dk_at dksX1_repeat_0 8 rfl rfl)
theorem dX1_repeat_11 : decode cX1_repeat 11 = .ok (.invokestatic 133, 3) := dk_184 0 133 (dk_at dksX1_repeat_0 11 rfl rfl)
theorem dX1_repeat_14 : decode cX1_repeat 14 = .ok (.aload_n 0, 1) := dk_42 (dk_at dksX1_repeat_0 14 rfl rfl)
theorem dX1_repeat_15 : decode cX1_repeat 15 = .ok (.invokevirtual 209, 3) := dk_182 0 209 (dk_at dksX1_repeat_0 15 rfl rfl)
theorem dX1_repeat_18 : decode cX1_repeat 18 = .ok (.new 244, 3) := dk_187 0 244 (dk_at dksX1_repeat_0 18 rfl rfl)
theorem dX1_repeat_21 : decode cX1_repeat 21 = .ok (.dup, 1) := dk_89 (dk_at dksX1_repeat_0 21 rfl rfl)
theorem dX1_repeat_22 : decode cX1_repeat 22 = .ok (.iload_n 1, 1) := dk_27 (dk_at dksX1_repeat_0 22 rfl rfl)
theorem dX1_repeat_23 : decode cX1_repeat 23 = .ok (.aload_n 0, 1) := dk_42 (dk_at dksX1_repeat_0 23 rfl rfl)
theorem dX1_repeat_24 : decode cX1_repeat 24 = .ok (.getfield 37, 3) := dk_180 0 37 (dk_at dksX1_repeat_1 0 rfl rfl)
theorem dX1_repeat_27 : decode cX1_repeat 27 = .ok (.getfield 121, 3) := dk_180 0 121 (dk_at dksX1_repeat_1 3 rfl rfl)
theorem dX1_repeat_30 : decode cX1_repeat 30 = .ok (.invokespecial 246, 3) := dk_183 0 246 (dk_at dksX1_repeat_1 6 rfl rfl)
theorem dX1_repeat_33 : decode cX1_repeat 33 = .ok (.astore_n 2, 1) := dk_77 (dk_at dksX1_repeat_1 9 rfl rfl)
theorem dX1_repeat_34 : decode cX1_repeat 34 = .ok (.aload_n 0, 1) := dk_42 (dk_at dksX1_repeat_1 10 rfl rfl)
theorem dX1_repeat_35 : decode cX1_repeat 35 = .ok (.aload_n 2, 1) := dk_44 (dk_at dksX1_repeat_1 11 rfl rfl)
theorem dX1_repeat_36 : decode cX1_repeat 36 = .ok (.invokevirtual 190, 3) := dk_182 0 190 (dk_at dksX1_repeat_1 12 rfl rfl)
theorem dX1_repeat_39 : decode cX1_repeat 39 = .ok (.bipush 99, 2) := dk_16 99 (dk_at dksX1_repeat_1 15 rfl rfl)
theorem dX1_repeat_41 : decode cX1_repeat 41 = .ok (.if_icmp .gt 17, 3) := dk_163 0 17 (dk_at dksX1_repeat_1 17 rfl rfl)
theorem dX1_repeat_44 : decode cX1_repeat 44 = .ok (.aload_n 2, 1) := dk_44 (dk_at dksX1_repeat_1 20 rfl rfl)
theorem dX1_repeat_45 : decode cX1_repeat 45 = .ok (.invokevirtual 249, 3) := dk_182 0 249 (dk_at dksX1_repeat_1 21 rfl rfl)
theorem dX1_repeat_48 : decode cX1_repeat 48 = .ok (.sipush 999, 3) := dk_17 3 231 (dk_at dksX1_repeat_2 0 rfl rfl)
theorem dX1_repeat_51 : decode cX1_repeat 51 = .ok (.if_icmp .gt 7, 3) := dk_163 0 7 (dk_at dksX1_repeat_2 3 rfl rfl)
theorem dX1_repeat_54 : decode cX1_repeat 54 = .ok (.iconst 1, 1) := dk_4 (dk_at dksX1_repeat_2 6 rfl rfl)
theorem dX1_repeat_55 : decode cX1_repeat 55 = .ok (.goto 4, 3) := dk_167 0 4 (dk_at dksX1_repeat_2 7 rfl rfl)
theorem dX1_repeat_58 : decode cX1_repeat 58 = .ok (.iconst 0, 1) := dk_3 (dk_at dksX1_repeat_2 10 rfl rfl)
theorem dX1_repeat_59 : decode cX1_repeat 59 = .ok (.bipush 7, 2) := dk_16 7 (dk_at dksX1_repeat_2 11 rfl rfl)
theorem dX1_repeat_61 : decode cX1_repeat 61 = .ok (.invokevirtual 125, 3) := dk_182 0 125 (dk_at dksX1_repeat_2 13 rfl rfl)
theorem dX1_repeat_64 : decode cX1_repeat 64 = .ok (.aload_n 0, 1) := dk_42 (dk_at dksX1_repeat_2 16 rfl rfl)
theorem dX1_repeat_65 : decode cX1_repeat 65 = .ok (.aload_n 2, 1) := dk_44 (dk_at dksX1_repeat_2 17 rfl rfl)
theorem dX1_repeat_66 : decode cX1_repeat 66 = .ok (.invokevirtual 236, 3) := dk_182 0 236 (dk_at dksX1_repeat_2 18 rfl rfl)
theorem dX1_repeat_69 : decode cX1_repeat 69 = .ok (.istore_n 3, 1) := dk_62 (dk_at dksX1_repeat_2 21 rfl rfl)
theorem dX1_repeat_70 : decode cX1_repeat 70 = .ok (.aload_n 2, 1) := dk_44 (dk_at dksX1_repeat_2 22 rfl rfl)
theorem dX1_repeat_71 : decode cX1_repeat 71 = .ok (.invokevirtual 190, 3) := dk_182 0 190 (dk_at dksX1_repeat_3 0 rfl rfl)
theorem dX1_repeat_74 : decode cX1_repeat 74 = .ok (.ireturn, 1) := dk_172 (dk_at dksX1_repeat_3 3 rfl rfl)
abbrev cX1_exchange : ByteArray := prog_1_method_30_code
def yX1_exchange : MethodName := ⟨RX1, "exchange", "(II)I"⟩
def dkwX1_exchange_6 : List UInt8 := [182, 0, 125, 42, 42, 180, 0, 37, 180, 0, 121, 45, 182, 1, 15, 182, 0, 186, 21, 4, 172]
abbrev dktX1_exchange_6 : List UInt8 := dkwX1_exchange_6 ++ []
def dkwX1_exchange_5 : List UInt8 := [167, 0, 4, 3, 96, 54, 4, 167, 255, 207, 42, 21, 4, 158, 0, 7, 4, 167, 0, 4, 3, 16, 6]
abbrev dktX1_exchange_5 : List UInt8 := dkwX1_exchange_5 ++ dktX1_exchange_6
def dkwX1_exchange_4 : List UInt8 := [58, 7, 25, 7, 193, 1, 9, 153, 0, 19, 25, 7, 192, 1, 9, 58, 6, 25, 6, 45, 182, 1, 11]
abbrev dktX1_exchange_4 : List UInt8 := dkwX1_exchange_4 ++ dktX1_exchange_5
def dkwX1_exchange_3 : List UInt8 := [182, 0, 252, 58, 5, 25, 5, 185, 1, 0, 1, 0, 153, 0, 45, 21, 4, 25, 5, 185, 1, 6, 1, 0]
abbrev dktX1_exchange_3 : List UInt8 := dkwX1_exchange_3 ++ dktX1_exchange_4
def dkwX1_exchange_2 : List UInt8 := [167, 0, 5, 21, 4, 79, 132, 4, 1, 167, 255, 220, 3, 54, 4, 42, 180, 0, 37, 180, 0, 121]
abbrev dktX1_exchange_2 : List UInt8 := dkwX1_exchange_2 ++ dktX1_exchange_3
def dkwX1_exchange_1 : List UInt8 := [162, 0, 35, 45, 21, 4, 21, 4, 27, 160, 0, 7, 28, 167, 0, 15, 21, 4, 28, 160, 0, 7, 27]
abbrev dktX1_exchange_1 : List UInt8 := dkwX1_exchange_1 ++ dktX1_exchange_2
def dkwX1_exchange_0 : List UInt8 := [27, 184, 0, 140, 28, 184, 0, 140, 42, 182, 0, 209, 16, 8, 188, 10, 78, 3, 54, 4, 21, 4, 16, 8]
abbrev dktX1_exchange_0 : List UInt8 := dkwX1_exchange_0 ++ dktX1_exchange_1
theorem dksX1_exchange_0 : cX1_exchange.data.toList.drop 0 = dktX1_exchange_0 := by decide +kernel
theorem dksX1_exchange_1 : cX1_exchange.data.toList.drop 24 = dktX1_exchange_1 := dk_seg dksX1_exchange_0 24 rfl rfl
theorem dksX1_exchange_2 : cX1_exchange.data.toList.drop 47 = dktX1_exchange_2 := dk_seg dksX1_exchange_1 23 rfl rfl
theorem dksX1_exchange_3 : cX1_exchange.data.toList.drop 69 = dktX1_exchange_3 := dk_seg dksX1_exchange_2 22 rfl rfl
theorem dksX1_exchange_4 : cX1_exchange.data.toList.drop 93 = dktX1_exchange_4 := dk_seg dksX1_exchange_3 24 rfl rfl
theorem dksX1_exchange_5 : cX1_exchange.data.toList.drop 116 = dktX1_exchange_5 := dk_seg dksX1_exchange_4 23 rfl rfl
theorem dksX1_exchange_6 : cX1_exchange.data.toList.drop 139 = dktX1_exchange_6 := dk_seg dksX1_exchange_5 23 rfl rfl
theorem dX1_exchange_0 : decode cX1_exchange 0 = .ok (.iload_n 1, 1) := dk_27 (dk_at dksX1_exchange_0 0 rfl rfl)
theorem dX1_exchange_1 : decode cX1_exchange 1 = .ok (.invokestatic 140, 3) := dk_184 0 140 (dk_at dksX1_exchange_0 1 rfl rfl)
theorem dX1_exchange_4 : decode cX1_exchange 4 = .ok (.iload_n 2, 1) := dk_28 (dk_at dksX1_exchange_0 4 rfl rfl)
theorem dX1_exchange_5 : decode cX1_exchange 5 = .ok (.invokestatic 140, 3) := dk_184 0 140 (dk_at dksX1_exchange_0 5 rfl rfl)
theorem dX1_exchange_8 : decode cX1_exchange 8 = .ok (.aload_n 0, 1) := dk_42 (dk_at dksX1_exchange_0 8 rfl rfl)
theorem dX1_exchange_9 : decode cX1_exchange 9 = .ok (.invokevirtual 209, 3) := dk_182 0 209 (dk_at dksX1_exchange_0 9 rfl rfl)
theorem dX1_exchange_12 : decode cX1_exchange 12 = .ok (.bipush 8, 2) := dk_16 8 (dk_at dksX1_exchange_0 12 rfl rfl)
theorem dX1_exchange_14 : decode cX1_exchange 14 = .ok (.newarray .int, 2) := dk_188_10 (dk_at dksX1_exchange_0 14 rfl rfl)
theorem dX1_exchange_16 : decode cX1_exchange 16 = .ok (.astore_n 3, 1) := dk_78 (dk_at dksX1_exchange_0 16 rfl rfl)
theorem dX1_exchange_17 : decode cX1_exchange 17 = .ok (.iconst 0, 1) := dk_3 (dk_at dksX1_exchange_0 17 rfl rfl)
theorem dX1_exchange_18 : decode cX1_exchange 18 = .ok (.istore 4, 2) := dk_54 4 (dk_at dksX1_exchange_0 18 rfl rfl)
theorem dX1_exchange_20 : decode cX1_exchange 20 = .ok (.iload 4, 2) := dk_21 4 (dk_at dksX1_exchange_0 20 rfl rfl)
theorem dX1_exchange_22 : decode cX1_exchange 22 = .ok (.bipush 8, 2) := dk_16 8 (dk_at dksX1_exchange_0 22 rfl rfl)
theorem dX1_exchange_24 : decode cX1_exchange 24 = .ok (.if_icmp .ge 35, 3) := dk_162 0 35 (dk_at dksX1_exchange_1 0 rfl rfl)
theorem dX1_exchange_27 : decode cX1_exchange 27 = .ok (.aload_n 3, 1) := dk_45 (dk_at dksX1_exchange_1 3 rfl rfl)
theorem dX1_exchange_28 : decode cX1_exchange 28 = .ok (.iload 4, 2) := dk_21 4 (dk_at dksX1_exchange_1 4 rfl rfl)
theorem dX1_exchange_30 : decode cX1_exchange 30 = .ok (.iload 4, 2) := dk_21 4 (dk_at dksX1_exchange_1 6 rfl rfl)
theorem dX1_exchange_32 : decode cX1_exchange 32 = .ok (.iload_n 1, 1) := dk_27 (dk_at dksX1_exchange_1 8 rfl rfl)
theorem dX1_exchange_33 : decode cX1_exchange 33 = .ok (.if_icmp .ne 7, 3) := dk_160 0 7 (dk_at dksX1_exchange_1 9 rfl rfl)
theorem dX1_exchange_36 : decode cX1_exchange 36 = .ok (.iload_n 2, 1) := dk_28 (dk_at dksX1_exchange_1 12 rfl rfl)
theorem dX1_exchange_37 : decode cX1_exchange 37 = .ok (.goto 15, 3) := dk_167 0 15 (dk_at dksX1_exchange_1 13 rfl rfl)
theorem dX1_exchange_40 : decode cX1_exchange 40 = .ok (.iload 4, 2) := dk_21 4 (dk_at dksX1_exchange_1 16 rfl rfl)
theorem dX1_exchange_42 : decode cX1_exchange 42 = .ok (.iload_n 2, 1) := dk_28 (dk_at dksX1_exchange_1 18 rfl rfl)
theorem dX1_exchange_43 : decode cX1_exchange 43 = .ok (.if_icmp .ne 7, 3) := dk_160 0 7 (dk_at dksX1_exchange_1 19 rfl rfl)
theorem dX1_exchange_46 : decode cX1_exchange 46 = .ok (.iload_n 1, 1) := dk_27 (dk_at dksX1_exchange_1 22 rfl rfl)
theorem dX1_exchange_47 : decode cX1_exchange 47 = .ok (.goto 5, 3) := dk_167 0 5 (dk_at dksX1_exchange_2 0 rfl rfl)
theorem dX1_exchange_50 : decode cX1_exchange 50 = .ok (.iload 4, 2) := dk_21 4 (dk_at dksX1_exchange_2 3 rfl rfl)
theorem dX1_exchange_52 : decode cX1_exchange 52 = .ok (.iastore, 1) := dk_79 (dk_at dksX1_exchange_2 5 rfl rfl)
theorem dX1_exchange_53 : decode cX1_exchange 53 = .ok (.iinc 4 1, 3) := dk_132 4 1 (dk_at dksX1_exchange_2 6 rfl rfl)
theorem dX1_exchange_56 : decode cX1_exchange 56 = .ok (.goto (-36), 3) := dk_167 255 220 (dk_at dksX1_exchange_2 9 rfl rfl)
theorem dX1_exchange_59 : decode cX1_exchange 59 = .ok (.iconst 0, 1) := dk_3 (dk_at dksX1_exchange_2 12 rfl rfl)
theorem dX1_exchange_60 : decode cX1_exchange 60 = .ok (.istore 4, 2) := dk_54 4 (dk_at dksX1_exchange_2 13 rfl rfl)
theorem dX1_exchange_62 : decode cX1_exchange 62 = .ok (.aload_n 0, 1) := dk_42 (dk_at dksX1_exchange_2 15 rfl rfl)
theorem dX1_exchange_63 : decode cX1_exchange 63 = .ok (.getfield 37, 3) := dk_180 0 37 (dk_at dksX1_exchange_2 16 rfl rfl)
theorem dX1_exchange_66 : decode cX1_exchange 66 = .ok (.getfield 121, 3) := dk_180 0 121 (dk_at dksX1_exchange_2 19 rfl rfl)
theorem dX1_exchange_69 : decode cX1_exchange 69 = .ok (.invokevirtual 252, 3) := dk_182 0 252 (dk_at dksX1_exchange_3 0 rfl rfl)
theorem dX1_exchange_72 : decode cX1_exchange 72 = .ok (.astore 5, 2) := dk_58 5 (dk_at dksX1_exchange_3 3 rfl rfl)
theorem dX1_exchange_74 : decode cX1_exchange 74 = .ok (.aload 5, 2) := dk_25 5 (dk_at dksX1_exchange_3 5 rfl rfl)
theorem dX1_exchange_76 : decode cX1_exchange 76 = .ok (.invokeinterface 256 1, 5) := by decide +kernel
theorem dX1_exchange_81 : decode cX1_exchange 81 = .ok (.ifCond .eq 45, 3) := dk_153 0 45 (dk_at dksX1_exchange_3 12 rfl rfl)
theorem dX1_exchange_84 : decode cX1_exchange 84 = .ok (.iload 4, 2) := dk_21 4 (dk_at dksX1_exchange_3 15 rfl rfl)
theorem dX1_exchange_86 : decode cX1_exchange 86 = .ok (.aload 5, 2) := dk_25 5 (dk_at dksX1_exchange_3 17 rfl rfl)
theorem dX1_exchange_88 : decode cX1_exchange 88 = .ok (.invokeinterface 262 1, 5) := by decide +kernel
theorem dX1_exchange_93 : decode cX1_exchange 93 = .ok (.astore 7, 2) := dk_58 7 (dk_at dksX1_exchange_4 0 rfl rfl)
theorem dX1_exchange_95 : decode cX1_exchange 95 = .ok (.aload 7, 2) := dk_25 7 (dk_at dksX1_exchange_4 2 rfl rfl)
theorem dX1_exchange_97 : decode cX1_exchange 97 = .ok (.instanceof 265, 3) := dk_193 1 9 (dk_at dksX1_exchange_4 4 rfl rfl)
theorem dX1_exchange_100 : decode cX1_exchange 100 = .ok (.ifCond .eq 19, 3) := dk_153 0 19 (dk_at dksX1_exchange_4 7 rfl rfl)
theorem dX1_exchange_103 : decode cX1_exchange 103 = .ok (.aload 7, 2) := dk_25 7 (dk_at dksX1_exchange_4 10 rfl rfl)
theorem dX1_exchange_105 : decode cX1_exchange 105 = .ok (.checkcast 265, 3) := dk_192 1 9 (dk_at dksX1_exchange_4 12 rfl rfl)
theorem dX1_exchange_108 : decode cX1_exchange 108 = .ok (.astore 6, 2) := dk_58 6 (dk_at dksX1_exchange_4 15 rfl rfl)
theorem dX1_exchange_110 : decode cX1_exchange 110 = .ok (.aload 6, 2) := dk_25 6 (dk_at dksX1_exchange_4 17 rfl rfl)
theorem dX1_exchange_112 : decode cX1_exchange 112 = .ok (.aload_n 3, 1) := dk_45 (dk_at dksX1_exchange_4 19 rfl rfl)
theorem dX1_exchange_113 : decode cX1_exchange 113 = .ok (.invokevirtual 267, 3) := dk_182 1 11 (dk_at dksX1_exchange_4 20 rfl rfl)
theorem dX1_exchange_116 : decode cX1_exchange 116 = .ok (.goto 4, 3) := dk_167 0 4 (dk_at dksX1_exchange_5 0 rfl rfl)
theorem dX1_exchange_119 : decode cX1_exchange 119 = .ok (.iconst 0, 1) := dk_3 (dk_at dksX1_exchange_5 3 rfl rfl)
theorem dX1_exchange_120 : decode cX1_exchange 120 = .ok (.iadd, 1) := dk_96 (dk_at dksX1_exchange_5 4 rfl rfl)
theorem dX1_exchange_121 : decode cX1_exchange 121 = .ok (.istore 4, 2) := dk_54 4 (dk_at dksX1_exchange_5 5 rfl rfl)
theorem dX1_exchange_123 : decode cX1_exchange 123 = .ok (.goto (-49), 3) := dk_167 255 207 (dk_at dksX1_exchange_5 7 rfl rfl)
theorem dX1_exchange_126 : decode cX1_exchange 126 = .ok (.aload_n 0, 1) := dk_42 (dk_at dksX1_exchange_5 10 rfl rfl)
theorem dX1_exchange_127 : decode cX1_exchange 127 = .ok (.iload 4, 2) := dk_21 4 (dk_at dksX1_exchange_5 11 rfl rfl)
theorem dX1_exchange_129 : decode cX1_exchange 129 = .ok (.ifCond .le 7, 3) := dk_158 0 7 (dk_at dksX1_exchange_5 13 rfl rfl)
theorem dX1_exchange_132 : decode cX1_exchange 132 = .ok (.iconst 1, 1) := dk_4 (dk_at dksX1_exchange_5 16 rfl rfl)
theorem dX1_exchange_133 : decode cX1_exchange 133 = .ok (.goto 4, 3) := dk_167 0 4 (dk_at dksX1_exchange_5 17 rfl rfl)
theorem dX1_exchange_136 : decode cX1_exchange 136 = .ok (.iconst 0, 1) := dk_3 (dk_at dksX1_exchange_5 20 rfl rfl)
theorem dX1_exchange_137 : decode cX1_exchange 137 = .ok (.bipush 6, 2) := dk_16 6 (dk_at dksX1_exchange_5 21 rfl rfl)
theorem dX1_exchange_139 : decode cX1_exchange 139 = .ok (.invokevirtual 125, 3) := dk_182 0 125 (dk_at dksX1_exchange_6 0 rfl rfl)
theorem dX1_exchange_142 : decode cX1_exchange 142 = .ok (.aload_n 0, 1) := dk_42 (dk_at dksX1_exchange_6 3 rfl rfl)
theorem dX1_exchange_143 : decode cX1_exchange 143 = .ok (.aload_n 0, 1) := dk_42 (dk_at dksX1_exchange_6 4 rfl rfl)
theorem dX1_exchange_144 : decode cX1_exchange 144 = .ok (.getfield 37, 3) := dk_180 0 37 (dk_at dksX1_exchange_6 5 rfl rfl)
theorem dX1_exchange_147 : decode cX1_exchange 147 = .ok (.getfield 121, 3) := dk_180 0 121 (dk_at dksX1_exchange_6 8 rfl rfl)
theorem dX1_exchange_150 : decode cX1_exchange 150 = .ok (.aload_n 3, 1) := dk_45 (dk_at dksX1_exchange_6 11 rfl rfl)
theorem dX1_exchange_151 : decode cX1_exchange 151 = .ok (.invokevirtual 271, 3) := dk_182 1 15 (dk_at dksX1_exchange_6 12 rfl rfl)
theorem dX1_exchange_154 : decode cX1_exchange 154 = .ok (.invokevirtual 186, 3) := dk_182 0 186 (dk_at dksX1_exchange_6 15 rfl rfl)
theorem dX1_exchange_157 : decode cX1_exchange 157 = .ok (.iload 4, 2) := dk_21 4 (dk_at dksX1_exchange_6 18 rfl rfl)
theorem dX1_exchange_159 : decode cX1_exchange 159 = .ok (.ireturn, 1) := dk_172 (dk_at dksX1_exchange_6 20 rfl rfl)
abbrev cX1_tree : ByteArray := prog_1_method_32_code
def yX1_tree : MethodName := ⟨RX1, "tree", "(I)I"⟩
def dkwX1_tree_4 : List UInt8 := [182, 1, 32, 172]
abbrev dktX1_tree_4 : List UInt8 := dkwX1_tree_4 ++ []
def dkwX1_tree_3 : List UInt8 := [182, 1, 21, 172, 42, 180, 0, 37, 180, 1, 24, 180, 1, 28, 172, 42, 180, 0, 37, 180, 0, 121]
abbrev dktX1_tree_3 : List UInt8 := dkwX1_tree_3 ++ dktX1_tree_4
def dkwX1_tree_2 : List UInt8 := [42, 180, 0, 37, 180, 0, 121, 182, 0, 226, 172, 42, 180, 0, 37, 180, 0, 121, 182, 0, 223, 172, 42]
abbrev dktX1_tree_2 : List UInt8 := dkwX1_tree_2 ++ dktX1_tree_3
def dkwX1_tree_1 : List UInt8 := [170, 0, 0, 0, 0, 0, 69, 0, 0, 0, 0, 0, 0, 0, 3, 0, 0, 0, 31, 0, 0, 0, 42, 0, 0, 0, 53, 0, 0, 0, 58]
abbrev dktX1_tree_1 : List UInt8 := dkwX1_tree_1 ++ dktX1_tree_2
def dkwX1_tree_0 : List UInt8 := [27, 133, 9, 20, 1, 19, 184, 0, 108, 184, 0, 133, 42, 182, 0, 209, 27]
abbrev dktX1_tree_0 : List UInt8 := dkwX1_tree_0 ++ dktX1_tree_1
theorem dksX1_tree_0 : cX1_tree.data.toList.drop 0 = dktX1_tree_0 := by decide +kernel
theorem dksX1_tree_1 : cX1_tree.data.toList.drop 17 = dktX1_tree_1 := dk_seg dksX1_tree_0 17 rfl rfl
theorem dksX1_tree_2 : cX1_tree.data.toList.drop 48 = dktX1_tree_2 := dk_seg dksX1_tree_1 31 rfl rfl
theorem dksX1_tree_3 : cX1_tree.data.toList.drop 71 = dktX1_tree_3 := dk_seg dksX1_tree_2 23 rfl rfl
theorem dksX1_tree_4 : cX1_tree.data.toList.drop 93 = dktX1_tree_4 := dk_seg dksX1_tree_3 22 rfl rfl
theorem dX1_tree_0 : decode cX1_tree 0 = .ok (.iload_n 1, 1) := dk_27 (dk_at dksX1_tree_0 0 rfl rfl)
theorem dX1_tree_1 : decode cX1_tree 1 = .ok (.i2l, 1) := dk_133 (dk_at dksX1_tree_0 1 rfl rfl)
theorem dX1_tree_2 : decode cX1_tree 2 = .ok (.lconst 0, 1) := dk_9 (dk_at dksX1_tree_0 2 rfl rfl)
theorem dX1_tree_3 : decode cX1_tree 3 = .ok (.ldc2_w 275, 3) := dk_20 1 19 (dk_at dksX1_tree_0 3 rfl rfl)
theorem dX1_tree_6 : decode cX1_tree 6 = .ok (.invokestatic 108, 3) := dk_184 0 108 (dk_at dksX1_tree_0 6 rfl rfl)
theorem dX1_tree_9 : decode cX1_tree 9 = .ok (.invokestatic 133, 3) := dk_184 0 133 (dk_at dksX1_tree_0 9 rfl rfl)
theorem dX1_tree_12 : decode cX1_tree 12 = .ok (.aload_n 0, 1) := dk_42 (dk_at dksX1_tree_0 12 rfl rfl)
theorem dX1_tree_13 : decode cX1_tree 13 = .ok (.invokevirtual 209, 3) := dk_182 0 209 (dk_at dksX1_tree_0 13 rfl rfl)
theorem dX1_tree_16 : decode cX1_tree 16 = .ok (.iload_n 1, 1) := dk_27 (dk_at dksX1_tree_0 16 rfl rfl)
theorem dX1_tree_17 : decode cX1_tree 17 = .ok (.tableswitch 69 0 3 #[31, 42, 53, 58], 31) := by decide +kernel
theorem dX1_tree_48 : decode cX1_tree 48 = .ok (.aload_n 0, 1) := dk_42 (dk_at dksX1_tree_2 0 rfl rfl)
theorem dX1_tree_49 : decode cX1_tree 49 = .ok (.getfield 37, 3) := dk_180 0 37 (dk_at dksX1_tree_2 1 rfl rfl)
theorem dX1_tree_52 : decode cX1_tree 52 = .ok (.getfield 121, 3) := dk_180 0 121 (dk_at dksX1_tree_2 4 rfl rfl)
theorem dX1_tree_55 : decode cX1_tree 55 = .ok (.invokevirtual 226, 3) := dk_182 0 226 (dk_at dksX1_tree_2 7 rfl rfl)
theorem dX1_tree_58 : decode cX1_tree 58 = .ok (.ireturn, 1) := dk_172 (dk_at dksX1_tree_2 10 rfl rfl)
theorem dX1_tree_59 : decode cX1_tree 59 = .ok (.aload_n 0, 1) := dk_42 (dk_at dksX1_tree_2 11 rfl rfl)
theorem dX1_tree_60 : decode cX1_tree 60 = .ok (.getfield 37, 3) := dk_180 0 37 (dk_at dksX1_tree_2 12 rfl rfl)
theorem dX1_tree_63 : decode cX1_tree 63 = .ok (.getfield 121, 3) := dk_180 0 121 (dk_at dksX1_tree_2 15 rfl rfl)
theorem dX1_tree_66 : decode cX1_tree 66 = .ok (.invokevirtual 223, 3) := dk_182 0 223 (dk_at dksX1_tree_2 18 rfl rfl)
theorem dX1_tree_69 : decode cX1_tree 69 = .ok (.ireturn, 1) := dk_172 (dk_at dksX1_tree_2 21 rfl rfl)
theorem dX1_tree_70 : decode cX1_tree 70 = .ok (.aload_n 0, 1) := dk_42 (dk_at dksX1_tree_2 22 rfl rfl)
theorem dX1_tree_71 : decode cX1_tree 71 = .ok (.invokevirtual 277, 3) := dk_182 1 21 (dk_at dksX1_tree_3 0 rfl rfl)
theorem dX1_tree_74 : decode cX1_tree 74 = .ok (.ireturn, 1) := dk_172 (dk_at dksX1_tree_3 3 rfl rfl)
theorem dX1_tree_75 : decode cX1_tree 75 = .ok (.aload_n 0, 1) := dk_42 (dk_at dksX1_tree_3 4 rfl rfl)
theorem dX1_tree_76 : decode cX1_tree 76 = .ok (.getfield 37, 3) := dk_180 0 37 (dk_at dksX1_tree_3 5 rfl rfl)
theorem dX1_tree_79 : decode cX1_tree 79 = .ok (.getfield 280, 3) := dk_180 1 24 (dk_at dksX1_tree_3 8 rfl rfl)
theorem dX1_tree_82 : decode cX1_tree 82 = .ok (.getfield 284, 3) := dk_180 1 28 (dk_at dksX1_tree_3 11 rfl rfl)
theorem dX1_tree_85 : decode cX1_tree 85 = .ok (.ireturn, 1) := dk_172 (dk_at dksX1_tree_3 14 rfl rfl)
theorem dX1_tree_86 : decode cX1_tree 86 = .ok (.aload_n 0, 1) := dk_42 (dk_at dksX1_tree_3 15 rfl rfl)
theorem dX1_tree_87 : decode cX1_tree 87 = .ok (.getfield 37, 3) := dk_180 0 37 (dk_at dksX1_tree_3 16 rfl rfl)
theorem dX1_tree_90 : decode cX1_tree 90 = .ok (.getfield 121, 3) := dk_180 0 121 (dk_at dksX1_tree_3 19 rfl rfl)
theorem dX1_tree_93 : decode cX1_tree 93 = .ok (.invokevirtual 288, 3) := dk_182 1 32 (dk_at dksX1_tree_4 0 rfl rfl)
theorem dX1_tree_96 : decode cX1_tree 96 = .ok (.ireturn, 1) := dk_172 (dk_at dksX1_tree_4 3 rfl rfl)
abbrev cX1_leafCount : ByteArray := prog_1_method_31_code
def yX1_leafCount : MethodName := ⟨RX1, "leafCount", "()I"⟩
def dkwX1_leafCount_1 : List UInt8 := [185, 1, 6, 1, 0, 192, 0, 182, 78, 132, 1, 1, 167, 255, 234, 27, 172]
abbrev dktX1_leafCount_1 : List UInt8 := dkwX1_leafCount_1 ++ []
def dkwX1_leafCount_0 : List UInt8 := [3, 60, 42, 180, 0, 37, 180, 0, 121, 182, 0, 252, 77, 44, 185, 1, 0, 1, 0, 153, 0, 19, 44]
abbrev dktX1_leafCount_0 : List UInt8 := dkwX1_leafCount_0 ++ dktX1_leafCount_1
theorem dksX1_leafCount_0 : cX1_leafCount.data.toList.drop 0 = dktX1_leafCount_0 := by decide +kernel
theorem dksX1_leafCount_1 : cX1_leafCount.data.toList.drop 23 = dktX1_leafCount_1 := dk_seg dksX1_leafCount_0 23 rfl rfl
theorem dX1_leafCount_0 : decode cX1_leafCount 0 = .ok (.iconst 0, 1) := dk_3 (dk_at dksX1_leafCount_0 0 rfl rfl)
theorem dX1_leafCount_1 : decode cX1_leafCount 1 = .ok (.istore_n 1, 1) := dk_60 (dk_at dksX1_leafCount_0 1 rfl rfl)
theorem dX1_leafCount_2 : decode cX1_leafCount 2 = .ok (.aload_n 0, 1) := dk_42 (dk_at dksX1_leafCount_0 2 rfl rfl)
theorem dX1_leafCount_3 : decode cX1_leafCount 3 = .ok (.getfield 37, 3) := dk_180 0 37 (dk_at dksX1_leafCount_0 3 rfl rfl)
theorem dX1_leafCount_6 : decode cX1_leafCount 6 = .ok (.getfield 121, 3) := dk_180 0 121 (dk_at dksX1_leafCount_0 6 rfl rfl)
theorem dX1_leafCount_9 : decode cX1_leafCount 9 = .ok (.invokevirtual 252, 3) := dk_182 0 252 (dk_at dksX1_leafCount_0 9 rfl rfl)
theorem dX1_leafCount_12 : decode cX1_leafCount 12 = .ok (.astore_n 2, 1) := dk_77 (dk_at dksX1_leafCount_0 12 rfl rfl)
theorem dX1_leafCount_13 : decode cX1_leafCount 13 = .ok (.aload_n 2, 1) := dk_44 (dk_at dksX1_leafCount_0 13 rfl rfl)
theorem dX1_leafCount_14 : decode cX1_leafCount 14 = .ok (.invokeinterface 256 1, 5) := by decide +kernel
theorem dX1_leafCount_19 : decode cX1_leafCount 19 = .ok (.ifCond .eq 19, 3) := dk_153 0 19 (dk_at dksX1_leafCount_0 19 rfl rfl)
theorem dX1_leafCount_22 : decode cX1_leafCount 22 = .ok (.aload_n 2, 1) := dk_44 (dk_at dksX1_leafCount_0 22 rfl rfl)
theorem dX1_leafCount_23 : decode cX1_leafCount 23 = .ok (.invokeinterface 262 1, 5) := by decide +kernel
theorem dX1_leafCount_28 : decode cX1_leafCount 28 = .ok (.checkcast 182, 3) := dk_192 0 182 (dk_at dksX1_leafCount_1 5 rfl rfl)
theorem dX1_leafCount_31 : decode cX1_leafCount 31 = .ok (.astore_n 3, 1) := dk_78 (dk_at dksX1_leafCount_1 8 rfl rfl)
theorem dX1_leafCount_32 : decode cX1_leafCount 32 = .ok (.iinc 1 1, 3) := dk_132 1 1 (dk_at dksX1_leafCount_1 9 rfl rfl)
theorem dX1_leafCount_35 : decode cX1_leafCount 35 = .ok (.goto (-22), 3) := dk_167 255 234 (dk_at dksX1_leafCount_1 12 rfl rfl)
theorem dX1_leafCount_38 : decode cX1_leafCount 38 = .ok (.iload_n 1, 1) := dk_27 (dk_at dksX1_leafCount_1 15 rfl rfl)
theorem dX1_leafCount_39 : decode cX1_leafCount 39 = .ok (.ireturn, 1) := dk_172 (dk_at dksX1_leafCount_1 16 rfl rfl)
abbrev cX1_step : ByteArray := prog_1_method_33_code
def yX1_step : MethodName := ⟨RX1, "step", "(II)C"⟩
def dkwX1_step_1 : List UInt8 := [184, 0, 108, 184, 0, 203, 42, 180, 0, 37, 180, 1, 24, 180, 1, 35, 27, 50, 28, 52, 172]
abbrev dktX1_step_1 : List UInt8 := dkwX1_step_1 ++ []
def dkwX1_step_0 : List UInt8 := [27, 184, 0, 140, 42, 182, 0, 209, 28, 133, 9, 42, 180, 0, 37, 180, 1, 24, 180, 1, 28, 4, 100, 133]
abbrev dktX1_step_0 : List UInt8 := dkwX1_step_0 ++ dktX1_step_1
theorem dksX1_step_0 : cX1_step.data.toList.drop 0 = dktX1_step_0 := by decide +kernel
theorem dksX1_step_1 : cX1_step.data.toList.drop 24 = dktX1_step_1 := dk_seg dksX1_step_0 24 rfl rfl
theorem dX1_step_0 : decode cX1_step 0 = .ok (.iload_n 1, 1) := dk_27 (dk_at dksX1_step_0 0 rfl rfl)
theorem dX1_step_1 : decode cX1_step 1 = .ok (.invokestatic 140, 3) := dk_184 0 140 (dk_at dksX1_step_0 1 rfl rfl)
theorem dX1_step_4 : decode cX1_step 4 = .ok (.aload_n 0, 1) := dk_42 (dk_at dksX1_step_0 4 rfl rfl)
theorem dX1_step_5 : decode cX1_step 5 = .ok (.invokevirtual 209, 3) := dk_182 0 209 (dk_at dksX1_step_0 5 rfl rfl)
theorem dX1_step_8 : decode cX1_step 8 = .ok (.iload_n 2, 1) := dk_28 (dk_at dksX1_step_0 8 rfl rfl)
theorem dX1_step_9 : decode cX1_step 9 = .ok (.i2l, 1) := dk_133 (dk_at dksX1_step_0 9 rfl rfl)
theorem dX1_step_10 : decode cX1_step 10 = .ok (.lconst 0, 1) := dk_9 (dk_at dksX1_step_0 10 rfl rfl)
theorem dX1_step_11 : decode cX1_step 11 = .ok (.aload_n 0, 1) := dk_42 (dk_at dksX1_step_0 11 rfl rfl)
theorem dX1_step_12 : decode cX1_step 12 = .ok (.getfield 37, 3) := dk_180 0 37 (dk_at dksX1_step_0 12 rfl rfl)
theorem dX1_step_15 : decode cX1_step 15 = .ok (.getfield 280, 3) := dk_180 1 24 (dk_at dksX1_step_0 15 rfl rfl)
theorem dX1_step_18 : decode cX1_step 18 = .ok (.getfield 284, 3) := dk_180 1 28 (dk_at dksX1_step_0 18 rfl rfl)
theorem dX1_step_21 : decode cX1_step 21 = .ok (.iconst 1, 1) := dk_4 (dk_at dksX1_step_0 21 rfl rfl)
theorem dX1_step_22 : decode cX1_step 22 = .ok (.isub, 1) := dk_100 (dk_at dksX1_step_0 22 rfl rfl)
theorem dX1_step_23 : decode cX1_step 23 = .ok (.i2l, 1) := dk_133 (dk_at dksX1_step_0 23 rfl rfl)
theorem dX1_step_24 : decode cX1_step 24 = .ok (.invokestatic 108, 3) := dk_184 0 108 (dk_at dksX1_step_1 0 rfl rfl)
theorem dX1_step_27 : decode cX1_step 27 = .ok (.invokestatic 203, 3) := dk_184 0 203 (dk_at dksX1_step_1 3 rfl rfl)
theorem dX1_step_30 : decode cX1_step 30 = .ok (.aload_n 0, 1) := dk_42 (dk_at dksX1_step_1 6 rfl rfl)
theorem dX1_step_31 : decode cX1_step 31 = .ok (.getfield 37, 3) := dk_180 0 37 (dk_at dksX1_step_1 7 rfl rfl)
theorem dX1_step_34 : decode cX1_step 34 = .ok (.getfield 280, 3) := dk_180 1 24 (dk_at dksX1_step_1 10 rfl rfl)
theorem dX1_step_37 : decode cX1_step 37 = .ok (.getfield 291, 3) := dk_180 1 35 (dk_at dksX1_step_1 13 rfl rfl)
theorem dX1_step_40 : decode cX1_step 40 = .ok (.iload_n 1, 1) := dk_27 (dk_at dksX1_step_1 16 rfl rfl)
theorem dX1_step_41 : decode cX1_step 41 = .ok (.aaload, 1) := dk_50 (dk_at dksX1_step_1 17 rfl rfl)
theorem dX1_step_42 : decode cX1_step 42 = .ok (.iload_n 2, 1) := dk_28 (dk_at dksX1_step_1 18 rfl rfl)
theorem dX1_step_43 : decode cX1_step 43 = .ok (.caload, 1) := dk_52 (dk_at dksX1_step_1 19 rfl rfl)
theorem dX1_step_44 : decode cX1_step 44 = .ok (.ireturn, 1) := dk_172 (dk_at dksX1_step_1 20 rfl rfl)
abbrev cX1_position : ByteArray := prog_1_method_34_code
def yX1_position : MethodName := ⟨RX1, "position", "(IIZ)I"⟩
def dkwX1_position_2 : List UInt8 := [184, 0, 203, 42, 180, 0, 37, 27, 28, 29, 182, 1, 43, 172]
abbrev dktX1_position_2 : List UInt8 := dkwX1_position_2 ++ []
def dkwX1_position_1 : List UInt8 := [184, 0, 108, 153, 0, 18, 42, 180, 0, 37, 27, 182, 1, 39, 153, 0, 7, 4, 167, 0, 4, 3]
abbrev dktX1_position_1 : List UInt8 := dkwX1_position_1 ++ dktX1_position_2
def dkwX1_position_0 : List UInt8 := [27, 184, 0, 140, 42, 182, 0, 209, 28, 133, 9, 42, 180, 0, 37, 180, 1, 24, 180, 1, 28, 133]
abbrev dktX1_position_0 : List UInt8 := dkwX1_position_0 ++ dktX1_position_1
theorem dksX1_position_0 : cX1_position.data.toList.drop 0 = dktX1_position_0 := by decide +kernel
theorem dksX1_position_1 : cX1_position.data.toList.drop 22 = dktX1_position_1 := dk_seg dksX1_position_0 22 rfl rfl
theorem dksX1_position_2 : cX1_position.data.toList.drop 44 = dktX1_position_2 := dk_seg dksX1_position_1 22 rfl rfl
theorem dX1_position_0 : decode cX1_position 0 = .ok (.iload_n 1, 1) := dk_27 (dk_at dksX1_position_0 0 rfl rfl)
theorem dX1_position_1 : decode cX1_position 1 = .ok (.invokestatic 140, 3) := dk_184 0 140 (dk_at dksX1_position_0 1 rfl rfl)
theorem dX1_position_4 : decode cX1_position 4 = .ok (.aload_n 0, 1) := dk_42 (dk_at dksX1_position_0 4 rfl rfl)
theorem dX1_position_5 : decode cX1_position 5 = .ok (.invokevirtual 209, 3) := dk_182 0 209 (dk_at dksX1_position_0 5 rfl rfl)
theorem dX1_position_8 : decode cX1_position 8 = .ok (.iload_n 2, 1) := dk_28 (dk_at dksX1_position_0 8 rfl rfl)
theorem dX1_position_9 : decode cX1_position 9 = .ok (.i2l, 1) := dk_133 (dk_at dksX1_position_0 9 rfl rfl)
theorem dX1_position_10 : decode cX1_position 10 = .ok (.lconst 0, 1) := dk_9 (dk_at dksX1_position_0 10 rfl rfl)
theorem dX1_position_11 : decode cX1_position 11 = .ok (.aload_n 0, 1) := dk_42 (dk_at dksX1_position_0 11 rfl rfl)
theorem dX1_position_12 : decode cX1_position 12 = .ok (.getfield 37, 3) := dk_180 0 37 (dk_at dksX1_position_0 12 rfl rfl)
theorem dX1_position_15 : decode cX1_position 15 = .ok (.getfield 280, 3) := dk_180 1 24 (dk_at dksX1_position_0 15 rfl rfl)
theorem dX1_position_18 : decode cX1_position 18 = .ok (.getfield 284, 3) := dk_180 1 28 (dk_at dksX1_position_0 18 rfl rfl)
theorem dX1_position_21 : decode cX1_position 21 = .ok (.i2l, 1) := dk_133 (dk_at dksX1_position_0 21 rfl rfl)
theorem dX1_position_22 : decode cX1_position 22 = .ok (.invokestatic 108, 3) := dk_184 0 108 (dk_at dksX1_position_1 0 rfl rfl)
theorem dX1_position_25 : decode cX1_position 25 = .ok (.ifCond .eq 18, 3) := dk_153 0 18 (dk_at dksX1_position_1 3 rfl rfl)
theorem dX1_position_28 : decode cX1_position 28 = .ok (.aload_n 0, 1) := dk_42 (dk_at dksX1_position_1 6 rfl rfl)
theorem dX1_position_29 : decode cX1_position 29 = .ok (.getfield 37, 3) := dk_180 0 37 (dk_at dksX1_position_1 7 rfl rfl)
theorem dX1_position_32 : decode cX1_position 32 = .ok (.iload_n 1, 1) := dk_27 (dk_at dksX1_position_1 10 rfl rfl)
theorem dX1_position_33 : decode cX1_position 33 = .ok (.invokevirtual 295, 3) := dk_182 1 39 (dk_at dksX1_position_1 11 rfl rfl)
theorem dX1_position_36 : decode cX1_position 36 = .ok (.ifCond .eq 7, 3) := dk_153 0 7 (dk_at dksX1_position_1 14 rfl rfl)
theorem dX1_position_39 : decode cX1_position 39 = .ok (.iconst 1, 1) := dk_4 (dk_at dksX1_position_1 17 rfl rfl)
theorem dX1_position_40 : decode cX1_position 40 = .ok (.goto 4, 3) := dk_167 0 4 (dk_at dksX1_position_1 18 rfl rfl)
theorem dX1_position_43 : decode cX1_position 43 = .ok (.iconst 0, 1) := dk_3 (dk_at dksX1_position_1 21 rfl rfl)
theorem dX1_position_44 : decode cX1_position 44 = .ok (.invokestatic 203, 3) := dk_184 0 203 (dk_at dksX1_position_2 0 rfl rfl)
theorem dX1_position_47 : decode cX1_position 47 = .ok (.aload_n 0, 1) := dk_42 (dk_at dksX1_position_2 3 rfl rfl)
theorem dX1_position_48 : decode cX1_position 48 = .ok (.getfield 37, 3) := dk_180 0 37 (dk_at dksX1_position_2 4 rfl rfl)
theorem dX1_position_51 : decode cX1_position 51 = .ok (.iload_n 1, 1) := dk_27 (dk_at dksX1_position_2 7 rfl rfl)
theorem dX1_position_52 : decode cX1_position 52 = .ok (.iload_n 2, 1) := dk_28 (dk_at dksX1_position_2 8 rfl rfl)
theorem dX1_position_53 : decode cX1_position 53 = .ok (.iload_n 3, 1) := dk_29 (dk_at dksX1_position_2 9 rfl rfl)
theorem dX1_position_54 : decode cX1_position 54 = .ok (.invokevirtual 299, 3) := dk_182 1 43 (dk_at dksX1_position_2 10 rfl rfl)
theorem dX1_position_57 : decode cX1_position 57 = .ok (.ireturn, 1) := dk_172 (dk_at dksX1_position_2 13 rfl rfl)
abbrev cX1_rowsOf : ByteArray := prog_1_method_7_code
def yX1_rowsOf : MethodName := ⟨RX1, "rowsOf", "(C)I"⟩
def dkwX1_rowsOf_0 : List UInt8 := [26, 16, 110, 160, 0, 7, 4, 167, 0, 14, 26, 16, 115, 160, 0, 7, 2, 167, 0, 4, 3, 172]
abbrev dktX1_rowsOf_0 : List UInt8 := dkwX1_rowsOf_0 ++ []
theorem dksX1_rowsOf_0 : cX1_rowsOf.data.toList.drop 0 = dktX1_rowsOf_0 := by decide +kernel
theorem dX1_rowsOf_0 : decode cX1_rowsOf 0 = .ok (.iload_n 0, 1) := dk_26 (dk_at dksX1_rowsOf_0 0 rfl rfl)
theorem dX1_rowsOf_1 : decode cX1_rowsOf 1 = .ok (.bipush 110, 2) := dk_16 110 (dk_at dksX1_rowsOf_0 1 rfl rfl)
theorem dX1_rowsOf_3 : decode cX1_rowsOf 3 = .ok (.if_icmp .ne 7, 3) := dk_160 0 7 (dk_at dksX1_rowsOf_0 3 rfl rfl)
theorem dX1_rowsOf_6 : decode cX1_rowsOf 6 = .ok (.iconst 1, 1) := dk_4 (dk_at dksX1_rowsOf_0 6 rfl rfl)
theorem dX1_rowsOf_7 : decode cX1_rowsOf 7 = .ok (.goto 14, 3) := dk_167 0 14 (dk_at dksX1_rowsOf_0 7 rfl rfl)
theorem dX1_rowsOf_10 : decode cX1_rowsOf 10 = .ok (.iload_n 0, 1) := dk_26 (dk_at dksX1_rowsOf_0 10 rfl rfl)
theorem dX1_rowsOf_11 : decode cX1_rowsOf 11 = .ok (.bipush 115, 2) := dk_16 115 (dk_at dksX1_rowsOf_0 11 rfl rfl)
theorem dX1_rowsOf_13 : decode cX1_rowsOf 13 = .ok (.if_icmp .ne 7, 3) := dk_160 0 7 (dk_at dksX1_rowsOf_0 13 rfl rfl)
theorem dX1_rowsOf_16 : decode cX1_rowsOf 16 = .ok (.iconst (-1), 1) := dk_2 (dk_at dksX1_rowsOf_0 16 rfl rfl)
theorem dX1_rowsOf_17 : decode cX1_rowsOf 17 = .ok (.goto 4, 3) := dk_167 0 4 (dk_at dksX1_rowsOf_0 17 rfl rfl)
theorem dX1_rowsOf_20 : decode cX1_rowsOf 20 = .ok (.iconst 0, 1) := dk_3 (dk_at dksX1_rowsOf_0 20 rfl rfl)
theorem dX1_rowsOf_21 : decode cX1_rowsOf 21 = .ok (.ireturn, 1) := dk_172 (dk_at dksX1_rowsOf_0 21 rfl rfl)
abbrev cX1_columnsOf : ByteArray := prog_1_method_8_code
def yX1_columnsOf : MethodName := ⟨RX1, "columnsOf", "(C)I"⟩
def dkwX1_columnsOf_0 : List UInt8 := [26, 16, 101, 160, 0, 7, 4, 167, 0, 14, 26, 16, 119, 160, 0, 7, 2, 167, 0, 4, 3, 172]
abbrev dktX1_columnsOf_0 : List UInt8 := dkwX1_columnsOf_0 ++ []
theorem dksX1_columnsOf_0 : cX1_columnsOf.data.toList.drop 0 = dktX1_columnsOf_0 := by decide +kernel
theorem dX1_columnsOf_0 : decode cX1_columnsOf 0 = .ok (.iload_n 0, 1) := dk_26 (dk_at dksX1_columnsOf_0 0 rfl rfl)
theorem dX1_columnsOf_1 : decode cX1_columnsOf 1 = .ok (.bipush 101, 2) := dk_16 101 (dk_at dksX1_columnsOf_0 1 rfl rfl)
theorem dX1_columnsOf_3 : decode cX1_columnsOf 3 = .ok (.if_icmp .ne 7, 3) := dk_160 0 7 (dk_at dksX1_columnsOf_0 3 rfl rfl)
theorem dX1_columnsOf_6 : decode cX1_columnsOf 6 = .ok (.iconst 1, 1) := dk_4 (dk_at dksX1_columnsOf_0 6 rfl rfl)
theorem dX1_columnsOf_7 : decode cX1_columnsOf 7 = .ok (.goto 14, 3) := dk_167 0 14 (dk_at dksX1_columnsOf_0 7 rfl rfl)
theorem dX1_columnsOf_10 : decode cX1_columnsOf 10 = .ok (.iload_n 0, 1) := dk_26 (dk_at dksX1_columnsOf_0 10 rfl rfl)
theorem dX1_columnsOf_11 : decode cX1_columnsOf 11 = .ok (.bipush 119, 2) := dk_16 119 (dk_at dksX1_columnsOf_0 11 rfl rfl)
theorem dX1_columnsOf_13 : decode cX1_columnsOf 13 = .ok (.if_icmp .ne 7, 3) := dk_160 0 7 (dk_at dksX1_columnsOf_0 13 rfl rfl)
theorem dX1_columnsOf_16 : decode cX1_columnsOf 16 = .ok (.iconst (-1), 1) := dk_2 (dk_at dksX1_columnsOf_0 16 rfl rfl)
theorem dX1_columnsOf_17 : decode cX1_columnsOf 17 = .ok (.goto 4, 3) := dk_167 0 4 (dk_at dksX1_columnsOf_0 17 rfl rfl)
theorem dX1_columnsOf_20 : decode cX1_columnsOf 20 = .ok (.iconst 0, 1) := dk_3 (dk_at dksX1_columnsOf_0 20 rfl rfl)
theorem dX1_columnsOf_21 : decode cX1_columnsOf 21 = .ok (.ireturn, 1) := dk_172 (dk_at dksX1_columnsOf_0 21 rfl rfl)
abbrev cX1_problemCount : ByteArray := prog_1_method_35_code
def yX1_problemCount : MethodName := ⟨RX1, "problemCount", "(I)I"⟩
def dkwX1_problemCount_3 : List UInt8 := [61, 167, 255, 216, 28, 172]
abbrev dktX1_problemCount_3 : List UInt8 := dkwX1_problemCount_3 ++ []
def dkwX1_problemCount_2 : List UInt8 := [192, 1, 55, 58, 4, 28, 27, 153, 0, 11, 25, 4, 4, 46, 27, 160, 0, 7, 4, 167, 0, 4, 3, 96]
abbrev dktX1_problemCount_2 : List UInt8 := dkwX1_problemCount_2 ++ dktX1_problemCount_3
def dkwX1_problemCount_1 : List UInt8 := [182, 1, 46, 182, 1, 50, 78, 45, 185, 1, 0, 1, 0, 153, 0, 37, 45, 185, 1, 6, 1, 0]
abbrev dktX1_problemCount_1 : List UInt8 := dkwX1_problemCount_1 ++ dktX1_problemCount_2
def dkwX1_problemCount_0 : List UInt8 := [27, 133, 9, 20, 1, 19, 184, 0, 108, 184, 0, 133, 42, 182, 0, 209, 3, 61, 42, 180, 0, 37]
abbrev dktX1_problemCount_0 : List UInt8 := dkwX1_problemCount_0 ++ dktX1_problemCount_1
theorem dksX1_problemCount_0 : cX1_problemCount.data.toList.drop 0 = dktX1_problemCount_0 := by decide +kernel
theorem dksX1_problemCount_1 : cX1_problemCount.data.toList.drop 22 = dktX1_problemCount_1 := dk_seg dksX1_problemCount_0 22 rfl rfl
theorem dksX1_problemCount_2 : cX1_problemCount.data.toList.drop 44 = dktX1_problemCount_2 := dk_seg dksX1_problemCount_1 22 rfl rfl
theorem dksX1_problemCount_3 : cX1_problemCount.data.toList.drop 68 = dktX1_problemCount_3 := dk_seg dksX1_problemCount_2 24 rfl rfl
theorem dX1_problemCount_0 : decode cX1_problemCount 0 = .ok (.iload_n 1, 1) := dk_27 (dk_at dksX1_problemCount_0 0 rfl rfl)
theorem dX1_problemCount_1 : decode cX1_problemCount 1 = .ok (.i2l, 1) := dk_133 (dk_at dksX1_problemCount_0 1 rfl rfl)
theorem dX1_problemCount_2 : decode cX1_problemCount 2 = .ok (.lconst 0, 1) := dk_9 (dk_at dksX1_problemCount_0 2 rfl rfl)
theorem dX1_problemCount_3 : decode cX1_problemCount 3 = .ok (.ldc2_w 275, 3) := dk_20 1 19 (dk_at dksX1_problemCount_0 3 rfl rfl)
theorem dX1_problemCount_6 : decode cX1_problemCount 6 = .ok (.invokestatic 108, 3) := dk_184 0 108 (dk_at dksX1_problemCount_0 6 rfl rfl)
theorem dX1_problemCount_9 : decode cX1_problemCount 9 = .ok (.invokestatic 133, 3) := dk_184 0 133 (dk_at dksX1_problemCount_0 9 rfl rfl)
theorem dX1_problemCount_12 : decode cX1_problemCount 12 = .ok (.aload_n 0, 1) := dk_42 (dk_at dksX1_problemCount_0 12 rfl rfl)
theorem dX1_problemCount_13 : decode cX1_problemCount 13 = .ok (.invokevirtual 209, 3) := dk_182 0 209 (dk_at dksX1_problemCount_0 13 rfl rfl)
theorem dX1_problemCount_16 : decode cX1_problemCount 16 = .ok (.iconst 0, 1) := dk_3 (dk_at dksX1_problemCount_0 16 rfl rfl)
theorem dX1_problemCount_17 : decode cX1_problemCount 17 = .ok (.istore_n 2, 1) := dk_61 (dk_at dksX1_problemCount_0 17 rfl rfl)
theorem dX1_problemCount_18 : decode cX1_problemCount 18 = .ok (.aload_n 0, 1) := dk_42 (dk_at dksX1_problemCount_0 18 rfl rfl)
theorem dX1_problemCount_19 : decode cX1_problemCount 19 = .ok (.getfield 37, 3) := dk_180 0 37 (dk_at dksX1_problemCount_0 19 rfl rfl)
theorem dX1_problemCount_22 : decode cX1_problemCount 22 = .ok (.invokevirtual 302, 3) := dk_182 1 46 (dk_at dksX1_problemCount_1 0 rfl rfl)
theorem dX1_problemCount_25 : decode cX1_problemCount 25 = .ok (.invokevirtual 306, 3) := dk_182 1 50 (dk_at dksX1_problemCount_1 3 rfl rfl)
theorem dX1_problemCount_28 : decode cX1_problemCount 28 = .ok (.astore_n 3, 1) := dk_78 (dk_at dksX1_problemCount_1 6 rfl rfl)
theorem dX1_problemCount_29 : decode cX1_problemCount 29 = .ok (.aload_n 3, 1) := dk_45 (dk_at dksX1_problemCount_1 7 rfl rfl)
theorem dX1_problemCount_30 : decode cX1_problemCount 30 = .ok (.invokeinterface 256 1, 5) := by decide +kernel
theorem dX1_problemCount_35 : decode cX1_problemCount 35 = .ok (.ifCond .eq 37, 3) := dk_153 0 37 (dk_at dksX1_problemCount_1 13 rfl rfl)
theorem dX1_problemCount_38 : decode cX1_problemCount 38 = .ok (.aload_n 3, 1) := dk_45 (dk_at dksX1_problemCount_1 16 rfl rfl)
theorem dX1_problemCount_39 : decode cX1_problemCount 39 = .ok (.invokeinterface 262 1, 5) := by decide +kernel
theorem dX1_problemCount_44 : decode cX1_problemCount 44 = .ok (.checkcast 311, 3) := dk_192 1 55 (dk_at dksX1_problemCount_2 0 rfl rfl)
theorem dX1_problemCount_47 : decode cX1_problemCount 47 = .ok (.astore 4, 2) := dk_58 4 (dk_at dksX1_problemCount_2 3 rfl rfl)
theorem dX1_problemCount_49 : decode cX1_problemCount 49 = .ok (.iload_n 2, 1) := dk_28 (dk_at dksX1_problemCount_2 5 rfl rfl)
theorem dX1_problemCount_50 : decode cX1_problemCount 50 = .ok (.iload_n 1, 1) := dk_27 (dk_at dksX1_problemCount_2 6 rfl rfl)
theorem dX1_problemCount_51 : decode cX1_problemCount 51 = .ok (.ifCond .eq 11, 3) := dk_153 0 11 (dk_at dksX1_problemCount_2 7 rfl rfl)
theorem dX1_problemCount_54 : decode cX1_problemCount 54 = .ok (.aload 4, 2) := dk_25 4 (dk_at dksX1_problemCount_2 10 rfl rfl)
theorem dX1_problemCount_56 : decode cX1_problemCount 56 = .ok (.iconst 1, 1) := dk_4 (dk_at dksX1_problemCount_2 12 rfl rfl)
theorem dX1_problemCount_57 : decode cX1_problemCount 57 = .ok (.iaload, 1) := dk_46 (dk_at dksX1_problemCount_2 13 rfl rfl)
theorem dX1_problemCount_58 : decode cX1_problemCount 58 = .ok (.iload_n 1, 1) := dk_27 (dk_at dksX1_problemCount_2 14 rfl rfl)
theorem dX1_problemCount_59 : decode cX1_problemCount 59 = .ok (.if_icmp .ne 7, 3) := dk_160 0 7 (dk_at dksX1_problemCount_2 15 rfl rfl)
theorem dX1_problemCount_62 : decode cX1_problemCount 62 = .ok (.iconst 1, 1) := dk_4 (dk_at dksX1_problemCount_2 18 rfl rfl)
theorem dX1_problemCount_63 : decode cX1_problemCount 63 = .ok (.goto 4, 3) := dk_167 0 4 (dk_at dksX1_problemCount_2 19 rfl rfl)
theorem dX1_problemCount_66 : decode cX1_problemCount 66 = .ok (.iconst 0, 1) := dk_3 (dk_at dksX1_problemCount_2 22 rfl rfl)
theorem dX1_problemCount_67 : decode cX1_problemCount 67 = .ok (.iadd, 1) := dk_96 (dk_at dksX1_problemCount_2 23 rfl rfl)
theorem dX1_problemCount_68 : decode cX1_problemCount 68 = .ok (.istore_n 2, 1) := dk_61 (dk_at dksX1_problemCount_3 0 rfl rfl)
theorem dX1_problemCount_69 : decode cX1_problemCount 69 = .ok (.goto (-40), 3) := dk_167 255 216 (dk_at dksX1_problemCount_3 1 rfl rfl)
theorem dX1_problemCount_72 : decode cX1_problemCount 72 = .ok (.iload_n 2, 1) := dk_28 (dk_at dksX1_problemCount_3 4 rfl rfl)
theorem dX1_problemCount_73 : decode cX1_problemCount 73 = .ok (.ireturn, 1) := dk_172 (dk_at dksX1_problemCount_3 5 rfl rfl)
abbrev cX1_problem : ByteArray := prog_1_method_36_code
def yX1_problem : MethodName := ⟨RX1, "problem", "(II)I"⟩
def dkwX1_problem_2 : List UInt8 := [28, 46, 172]
abbrev dktX1_problem_2 : List UInt8 := dkwX1_problem_2 ++ []
def dkwX1_problem_1 : List UInt8 := [27, 133, 9, 45, 182, 1, 58, 4, 100, 133, 184, 0, 108, 184, 0, 203, 45, 27, 182, 1, 59, 192, 1, 55]
abbrev dktX1_problem_1 : List UInt8 := dkwX1_problem_1 ++ dktX1_problem_2
def dkwX1_problem_0 : List UInt8 := [28, 133, 9, 20, 1, 56, 184, 0, 108, 184, 0, 133, 42, 182, 0, 209, 42, 180, 0, 37, 182, 1, 46, 78]
abbrev dktX1_problem_0 : List UInt8 := dkwX1_problem_0 ++ dktX1_problem_1
theorem dksX1_problem_0 : cX1_problem.data.toList.drop 0 = dktX1_problem_0 := by decide +kernel
theorem dksX1_problem_1 : cX1_problem.data.toList.drop 24 = dktX1_problem_1 := dk_seg dksX1_problem_0 24 rfl rfl
theorem dksX1_problem_2 : cX1_problem.data.toList.drop 48 = dktX1_problem_2 := dk_seg dksX1_problem_1 24 rfl rfl
theorem dX1_problem_0 : decode cX1_problem 0 = .ok (.iload_n 2, 1) := dk_28 (dk_at dksX1_problem_0 0 rfl rfl)
theorem dX1_problem_1 : decode cX1_problem 1 = .ok (.i2l, 1) := dk_133 (dk_at dksX1_problem_0 1 rfl rfl)
theorem dX1_problem_2 : decode cX1_problem 2 = .ok (.lconst 0, 1) := dk_9 (dk_at dksX1_problem_0 2 rfl rfl)
theorem dX1_problem_3 : decode cX1_problem 3 = .ok (.ldc2_w 312, 3) := dk_20 1 56 (dk_at dksX1_problem_0 3 rfl rfl)
theorem dX1_problem_6 : decode cX1_problem 6 = .ok (.invokestatic 108, 3) := dk_184 0 108 (dk_at dksX1_problem_0 6 rfl rfl)
theorem dX1_problem_9 : decode cX1_problem 9 = .ok (.invokestatic 133, 3) := dk_184 0 133 (dk_at dksX1_problem_0 9 rfl rfl)
theorem dX1_problem_12 : decode cX1_problem 12 = .ok (.aload_n 0, 1) := dk_42 (dk_at dksX1_problem_0 12 rfl rfl)
theorem dX1_problem_13 : decode cX1_problem 13 = .ok (.invokevirtual 209, 3) := dk_182 0 209 (dk_at dksX1_problem_0 13 rfl rfl)
theorem dX1_problem_16 : decode cX1_problem 16 = .ok (.aload_n 0, 1) := dk_42 (dk_at dksX1_problem_0 16 rfl rfl)
theorem dX1_problem_17 : decode cX1_problem 17 = .ok (.getfield 37, 3) := dk_180 0 37 (dk_at dksX1_problem_0 17 rfl rfl)
theorem dX1_problem_20 : decode cX1_problem 20 = .ok (.invokevirtual 302, 3) := dk_182 1 46 (dk_at dksX1_problem_0 20 rfl rfl)
theorem dX1_problem_23 : decode cX1_problem 23 = .ok (.astore_n 3, 1) := dk_78 (dk_at dksX1_problem_0 23 rfl rfl)
theorem dX1_problem_24 : decode cX1_problem 24 = .ok (.iload_n 1, 1) := dk_27 (dk_at dksX1_problem_1 0 rfl rfl)
theorem dX1_problem_25 : decode cX1_problem 25 = .ok (.i2l, 1) := dk_133 (dk_at dksX1_problem_1 1 rfl rfl)
theorem dX1_problem_26 : decode cX1_problem 26 = .ok (.lconst 0, 1) := dk_9 (dk_at dksX1_problem_1 2 rfl rfl)
theorem dX1_problem_27 : decode cX1_problem 27 = .ok (.aload_n 3, 1) := dk_45 (dk_at dksX1_problem_1 3 rfl rfl)
theorem dX1_problem_28 : decode cX1_problem 28 = .ok (.invokevirtual 314, 3) := dk_182 1 58 (dk_at dksX1_problem_1 4 rfl rfl)
theorem dX1_problem_31 : decode cX1_problem 31 = .ok (.iconst 1, 1) := dk_4 (dk_at dksX1_problem_1 7 rfl rfl)
theorem dX1_problem_32 : decode cX1_problem 32 = .ok (.isub, 1) := dk_100 (dk_at dksX1_problem_1 8 rfl rfl)
theorem dX1_problem_33 : decode cX1_problem 33 = .ok (.i2l, 1) := dk_133 (dk_at dksX1_problem_1 9 rfl rfl)
theorem dX1_problem_34 : decode cX1_problem 34 = .ok (.invokestatic 108, 3) := dk_184 0 108 (dk_at dksX1_problem_1 10 rfl rfl)
theorem dX1_problem_37 : decode cX1_problem 37 = .ok (.invokestatic 203, 3) := dk_184 0 203 (dk_at dksX1_problem_1 13 rfl rfl)
theorem dX1_problem_40 : decode cX1_problem 40 = .ok (.aload_n 3, 1) := dk_45 (dk_at dksX1_problem_1 16 rfl rfl)
theorem dX1_problem_41 : decode cX1_problem 41 = .ok (.iload_n 1, 1) := dk_27 (dk_at dksX1_problem_1 17 rfl rfl)
theorem dX1_problem_42 : decode cX1_problem 42 = .ok (.invokevirtual 315, 3) := dk_182 1 59 (dk_at dksX1_problem_1 18 rfl rfl)
theorem dX1_problem_45 : decode cX1_problem 45 = .ok (.checkcast 311, 3) := dk_192 1 55 (dk_at dksX1_problem_1 21 rfl rfl)
theorem dX1_problem_48 : decode cX1_problem 48 = .ok (.iload_n 2, 1) := dk_28 (dk_at dksX1_problem_2 0 rfl rfl)
theorem dX1_problem_49 : decode cX1_problem 49 = .ok (.iaload, 1) := dk_46 (dk_at dksX1_problem_2 1 rfl rfl)
theorem dX1_problem_50 : decode cX1_problem 50 = .ok (.ireturn, 1) := dk_172 (dk_at dksX1_problem_2 2 rfl rfl)
abbrev cX1_cue : ByteArray := prog_1_method_37_code
def yX1_cue : MethodName := ⟨RX1, "cue", "(I)I"⟩
def dkwX1_cue_2 : List UInt8 := [182, 1, 66, 172]
abbrev dktX1_cue_2 : List UInt8 := dkwX1_cue_2 ++ []
def dkwX1_cue_1 : List UInt8 := [184, 0, 108, 184, 0, 203, 27, 2, 160, 0, 7, 28, 167, 0, 14, 42, 180, 0, 37, 180, 1, 24, 27]
abbrev dktX1_cue_1 : List UInt8 := dkwX1_cue_1 ++ dktX1_cue_2
def dkwX1_cue_0 : List UInt8 := [42, 182, 0, 209, 42, 180, 0, 37, 180, 1, 24, 182, 1, 63, 61, 27, 133, 20, 0, 116, 28, 4, 100, 133]
abbrev dktX1_cue_0 : List UInt8 := dkwX1_cue_0 ++ dktX1_cue_1
theorem dksX1_cue_0 : cX1_cue.data.toList.drop 0 = dktX1_cue_0 := by decide +kernel
theorem dksX1_cue_1 : cX1_cue.data.toList.drop 24 = dktX1_cue_1 := dk_seg dksX1_cue_0 24 rfl rfl
theorem dksX1_cue_2 : cX1_cue.data.toList.drop 47 = dktX1_cue_2 := dk_seg dksX1_cue_1 23 rfl rfl
theorem dX1_cue_0 : decode cX1_cue 0 = .ok (.aload_n 0, 1) := dk_42 (dk_at dksX1_cue_0 0 rfl rfl)
theorem dX1_cue_1 : decode cX1_cue 1 = .ok (.invokevirtual 209, 3) := dk_182 0 209 (dk_at dksX1_cue_0 1 rfl rfl)
theorem dX1_cue_4 : decode cX1_cue 4 = .ok (.aload_n 0, 1) := dk_42 (dk_at dksX1_cue_0 4 rfl rfl)
theorem dX1_cue_5 : decode cX1_cue 5 = .ok (.getfield 37, 3) := dk_180 0 37 (dk_at dksX1_cue_0 5 rfl rfl)
theorem dX1_cue_8 : decode cX1_cue 8 = .ok (.getfield 280, 3) := dk_180 1 24 (dk_at dksX1_cue_0 8 rfl rfl)
theorem dX1_cue_11 : decode cX1_cue 11 = .ok (.invokevirtual 319, 3) := dk_182 1 63 (dk_at dksX1_cue_0 11 rfl rfl)
theorem dX1_cue_14 : decode cX1_cue 14 = .ok (.istore_n 2, 1) := dk_61 (dk_at dksX1_cue_0 14 rfl rfl)
theorem dX1_cue_15 : decode cX1_cue 15 = .ok (.iload_n 1, 1) := dk_27 (dk_at dksX1_cue_0 15 rfl rfl)
theorem dX1_cue_16 : decode cX1_cue 16 = .ok (.i2l, 1) := dk_133 (dk_at dksX1_cue_0 16 rfl rfl)
theorem dX1_cue_17 : decode cX1_cue 17 = .ok (.ldc2_w 116, 3) := dk_20 0 116 (dk_at dksX1_cue_0 17 rfl rfl)
theorem dX1_cue_20 : decode cX1_cue 20 = .ok (.iload_n 2, 1) := dk_28 (dk_at dksX1_cue_0 20 rfl rfl)
theorem dX1_cue_21 : decode cX1_cue 21 = .ok (.iconst 1, 1) := dk_4 (dk_at dksX1_cue_0 21 rfl rfl)
theorem dX1_cue_22 : decode cX1_cue 22 = .ok (.isub, 1) := dk_100 (dk_at dksX1_cue_0 22 rfl rfl)
theorem dX1_cue_23 : decode cX1_cue 23 = .ok (.i2l, 1) := dk_133 (dk_at dksX1_cue_0 23 rfl rfl)
theorem dX1_cue_24 : decode cX1_cue 24 = .ok (.invokestatic 108, 3) := dk_184 0 108 (dk_at dksX1_cue_1 0 rfl rfl)
theorem dX1_cue_27 : decode cX1_cue 27 = .ok (.invokestatic 203, 3) := dk_184 0 203 (dk_at dksX1_cue_1 3 rfl rfl)
theorem dX1_cue_30 : decode cX1_cue 30 = .ok (.iload_n 1, 1) := dk_27 (dk_at dksX1_cue_1 6 rfl rfl)
theorem dX1_cue_31 : decode cX1_cue 31 = .ok (.iconst (-1), 1) := dk_2 (dk_at dksX1_cue_1 7 rfl rfl)
theorem dX1_cue_32 : decode cX1_cue 32 = .ok (.if_icmp .ne 7, 3) := dk_160 0 7 (dk_at dksX1_cue_1 8 rfl rfl)
theorem dX1_cue_35 : decode cX1_cue 35 = .ok (.iload_n 2, 1) := dk_28 (dk_at dksX1_cue_1 11 rfl rfl)
theorem dX1_cue_36 : decode cX1_cue 36 = .ok (.goto 14, 3) := dk_167 0 14 (dk_at dksX1_cue_1 12 rfl rfl)
theorem dX1_cue_39 : decode cX1_cue 39 = .ok (.aload_n 0, 1) := dk_42 (dk_at dksX1_cue_1 15 rfl rfl)
theorem dX1_cue_40 : decode cX1_cue 40 = .ok (.getfield 37, 3) := dk_180 0 37 (dk_at dksX1_cue_1 16 rfl rfl)
theorem dX1_cue_43 : decode cX1_cue 43 = .ok (.getfield 280, 3) := dk_180 1 24 (dk_at dksX1_cue_1 19 rfl rfl)
theorem dX1_cue_46 : decode cX1_cue 46 = .ok (.iload_n 1, 1) := dk_27 (dk_at dksX1_cue_1 22 rfl rfl)
theorem dX1_cue_47 : decode cX1_cue 47 = .ok (.invokevirtual 322, 3) := dk_182 1 66 (dk_at dksX1_cue_2 0 rfl rfl)
theorem dX1_cue_50 : decode cX1_cue 50 = .ok (.ireturn, 1) := dk_172 (dk_at dksX1_cue_2 3 rfl rfl)
abbrev cX1_displacement : ByteArray := prog_1_method_38_code
def yX1_displacement : MethodName := ⟨RX1, "displacement", "(IZ)I"⟩
def dkwX1_displacement_0 : List UInt8 := [27, 184, 0, 140, 42, 182, 0, 209, 42, 180, 0, 37, 180, 0, 121, 27, 28, 182, 1, 70, 172]
abbrev dktX1_displacement_0 : List UInt8 := dkwX1_displacement_0 ++ []
theorem dksX1_displacement_0 : cX1_displacement.data.toList.drop 0 = dktX1_displacement_0 := by decide +kernel
theorem dX1_displacement_0 : decode cX1_displacement 0 = .ok (.iload_n 1, 1) := dk_27 (dk_at dksX1_displacement_0 0 rfl rfl)
theorem dX1_displacement_1 : decode cX1_displacement 1 = .ok (.invokestatic 140, 3) := dk_184 0 140 (dk_at dksX1_displacement_0 1 rfl rfl)
theorem dX1_displacement_4 : decode cX1_displacement 4 = .ok (.aload_n 0, 1) := dk_42 (dk_at dksX1_displacement_0 4 rfl rfl)
theorem dX1_displacement_5 : decode cX1_displacement 5 = .ok (.invokevirtual 209, 3) := dk_182 0 209 (dk_at dksX1_displacement_0 5 rfl rfl)
theorem dX1_displacement_8 : decode cX1_displacement 8 = .ok (.aload_n 0, 1) := dk_42 (dk_at dksX1_displacement_0 8 rfl rfl)
theorem dX1_displacement_9 : decode cX1_displacement 9 = .ok (.getfield 37, 3) := dk_180 0 37 (dk_at dksX1_displacement_0 9 rfl rfl)
theorem dX1_displacement_12 : decode cX1_displacement 12 = .ok (.getfield 121, 3) := dk_180 0 121 (dk_at dksX1_displacement_0 12 rfl rfl)
theorem dX1_displacement_15 : decode cX1_displacement 15 = .ok (.iload_n 1, 1) := dk_27 (dk_at dksX1_displacement_0 15 rfl rfl)
theorem dX1_displacement_16 : decode cX1_displacement 16 = .ok (.iload_n 2, 1) := dk_28 (dk_at dksX1_displacement_0 16 rfl rfl)
theorem dX1_displacement_17 : decode cX1_displacement 17 = .ok (.invokevirtual 326, 3) := dk_182 1 70 (dk_at dksX1_displacement_0 17 rfl rfl)
theorem dX1_displacement_20 : decode cX1_displacement 20 = .ok (.ireturn, 1) := dk_172 (dk_at dksX1_displacement_0 20 rfl rfl)
abbrev cX1_meanSteps : ByteArray := prog_1_method_40_code
def yX1_meanSteps : MethodName := ⟨RX1, "meanSteps", "()D"⟩
def dkwX1_meanSteps_2 : List UInt8 := [132, 3, 1, 167, 255, 239, 28, 135, 27, 184, 1, 80, 135, 111, 175]
abbrev dktX1_meanSteps_2 : List UInt8 := dkwX1_meanSteps_2 ++ []
def dkwX1_meanSteps_1 : List UInt8 := [183, 1, 76, 191, 3, 61, 3, 62, 29, 16, 8, 162, 0, 17, 28, 42, 29, 182, 1, 77, 96, 61]
abbrev dktX1_meanSteps_1 : List UInt8 := dkwX1_meanSteps_1 ++ dktX1_meanSteps_2
def dkwX1_meanSteps_0 : List UInt8 := [42, 182, 0, 209, 42, 180, 0, 37, 180, 0, 121, 182, 1, 32, 60, 27, 154, 0, 11, 187, 1, 74, 89]
abbrev dktX1_meanSteps_0 : List UInt8 := dkwX1_meanSteps_0 ++ dktX1_meanSteps_1
theorem dksX1_meanSteps_0 : cX1_meanSteps.data.toList.drop 0 = dktX1_meanSteps_0 := by decide +kernel
theorem dksX1_meanSteps_1 : cX1_meanSteps.data.toList.drop 23 = dktX1_meanSteps_1 := dk_seg dksX1_meanSteps_0 23 rfl rfl
theorem dksX1_meanSteps_2 : cX1_meanSteps.data.toList.drop 45 = dktX1_meanSteps_2 := dk_seg dksX1_meanSteps_1 22 rfl rfl
theorem dX1_meanSteps_0 : decode cX1_meanSteps 0 = .ok (.aload_n 0, 1) := dk_42 (dk_at dksX1_meanSteps_0 0 rfl rfl)
theorem dX1_meanSteps_1 : decode cX1_meanSteps 1 = .ok (.invokevirtual 209, 3) := dk_182 0 209 (dk_at dksX1_meanSteps_0 1 rfl rfl)
theorem dX1_meanSteps_4 : decode cX1_meanSteps 4 = .ok (.aload_n 0, 1) := dk_42 (dk_at dksX1_meanSteps_0 4 rfl rfl)
theorem dX1_meanSteps_5 : decode cX1_meanSteps 5 = .ok (.getfield 37, 3) := dk_180 0 37 (dk_at dksX1_meanSteps_0 5 rfl rfl)
theorem dX1_meanSteps_8 : decode cX1_meanSteps 8 = .ok (.getfield 121, 3) := dk_180 0 121 (dk_at dksX1_meanSteps_0 8 rfl rfl)
theorem dX1_meanSteps_11 : decode cX1_meanSteps 11 = .ok (.invokevirtual 288, 3) := dk_182 1 32 (dk_at dksX1_meanSteps_0 11 rfl rfl)
theorem dX1_meanSteps_14 : decode cX1_meanSteps 14 = .ok (.istore_n 1, 1) := dk_60 (dk_at dksX1_meanSteps_0 14 rfl rfl)
theorem dX1_meanSteps_15 : decode cX1_meanSteps 15 = .ok (.iload_n 1, 1) := dk_27 (dk_at dksX1_meanSteps_0 15 rfl rfl)
theorem dX1_meanSteps_16 : decode cX1_meanSteps 16 = .ok (.ifCond .ne 11, 3) := dk_154 0 11 (dk_at dksX1_meanSteps_0 16 rfl rfl)
theorem dX1_meanSteps_19 : decode cX1_meanSteps 19 = .ok (.new 330, 3) := dk_187 1 74 (dk_at dksX1_meanSteps_0 19 rfl rfl)
theorem dX1_meanSteps_22 : decode cX1_meanSteps 22 = .ok (.dup, 1) := dk_89 (dk_at dksX1_meanSteps_0 22 rfl rfl)
theorem dX1_meanSteps_23 : decode cX1_meanSteps 23 = .ok (.invokespecial 332, 3) := dk_183 1 76 (dk_at dksX1_meanSteps_1 0 rfl rfl)
theorem dX1_meanSteps_26 : decode cX1_meanSteps 26 = .ok (.athrow, 1) := dk_191 (dk_at dksX1_meanSteps_1 3 rfl rfl)
theorem dX1_meanSteps_27 : decode cX1_meanSteps 27 = .ok (.iconst 0, 1) := dk_3 (dk_at dksX1_meanSteps_1 4 rfl rfl)
theorem dX1_meanSteps_28 : decode cX1_meanSteps 28 = .ok (.istore_n 2, 1) := dk_61 (dk_at dksX1_meanSteps_1 5 rfl rfl)
theorem dX1_meanSteps_29 : decode cX1_meanSteps 29 = .ok (.iconst 0, 1) := dk_3 (dk_at dksX1_meanSteps_1 6 rfl rfl)
theorem dX1_meanSteps_30 : decode cX1_meanSteps 30 = .ok (.istore_n 3, 1) := dk_62 (dk_at dksX1_meanSteps_1 7 rfl rfl)
theorem dX1_meanSteps_31 : decode cX1_meanSteps 31 = .ok (.iload_n 3, 1) := dk_29 (dk_at dksX1_meanSteps_1 8 rfl rfl)
theorem dX1_meanSteps_32 : decode cX1_meanSteps 32 = .ok (.bipush 8, 2) := dk_16 8 (dk_at dksX1_meanSteps_1 9 rfl rfl)
theorem dX1_meanSteps_34 : decode cX1_meanSteps 34 = .ok (.if_icmp .ge 17, 3) := dk_162 0 17 (dk_at dksX1_meanSteps_1 11 rfl rfl)
theorem dX1_meanSteps_37 : decode cX1_meanSteps 37 = .ok (.iload_n 2, 1) := dk_28 (dk_at dksX1_meanSteps_1 14 rfl rfl)
theorem dX1_meanSteps_38 : decode cX1_meanSteps 38 = .ok (.aload_n 0, 1) := dk_42 (dk_at dksX1_meanSteps_1 15 rfl rfl)
theorem dX1_meanSteps_39 : decode cX1_meanSteps 39 = .ok (.iload_n 3, 1) := dk_29 (dk_at dksX1_meanSteps_1 16 rfl rfl)
theorem dX1_meanSteps_40 : decode cX1_meanSteps 40 = .ok (.invokevirtual 333, 3) := dk_182 1 77 (dk_at dksX1_meanSteps_1 17 rfl rfl)
theorem dX1_meanSteps_43 : decode cX1_meanSteps 43 = .ok (.iadd, 1) := dk_96 (dk_at dksX1_meanSteps_1 20 rfl rfl)
theorem dX1_meanSteps_44 : decode cX1_meanSteps 44 = .ok (.istore_n 2, 1) := dk_61 (dk_at dksX1_meanSteps_1 21 rfl rfl)
theorem dX1_meanSteps_45 : decode cX1_meanSteps 45 = .ok (.iinc 3 1, 3) := dk_132 3 1 (dk_at dksX1_meanSteps_2 0 rfl rfl)
theorem dX1_meanSteps_48 : decode cX1_meanSteps 48 = .ok (.goto (-17), 3) := dk_167 255 239 (dk_at dksX1_meanSteps_2 3 rfl rfl)
theorem dX1_meanSteps_51 : decode cX1_meanSteps 51 = .ok (.iload_n 2, 1) := dk_28 (dk_at dksX1_meanSteps_2 6 rfl rfl)
theorem dX1_meanSteps_52 : decode cX1_meanSteps 52 = .ok (.i2d, 1) := dk_135 (dk_at dksX1_meanSteps_2 7 rfl rfl)
theorem dX1_meanSteps_53 : decode cX1_meanSteps 53 = .ok (.iload_n 1, 1) := dk_27 (dk_at dksX1_meanSteps_2 8 rfl rfl)
theorem dX1_meanSteps_54 : decode cX1_meanSteps 54 = .ok (.invokestatic 336, 3) := dk_184 1 80 (dk_at dksX1_meanSteps_2 9 rfl rfl)
theorem dX1_meanSteps_57 : decode cX1_meanSteps 57 = .ok (.i2d, 1) := dk_135 (dk_at dksX1_meanSteps_2 12 rfl rfl)
theorem dX1_meanSteps_58 : decode cX1_meanSteps 58 = .ok (.ddiv, 1) := dk_111 (dk_at dksX1_meanSteps_2 13 rfl rfl)
theorem dX1_meanSteps_59 : decode cX1_meanSteps 59 = .ok (.dreturn, 1) := dk_175 (dk_at dksX1_meanSteps_2 14 rfl rfl)
abbrev cX1_moves : ByteArray := prog_1_method_39_code
def yX1_moves : MethodName := ⟨RX1, "moves", "(I)I"⟩
def dkwX1_moves_2 : List UInt8 := [96, 61, 132, 5, 1, 167, 255, 225, 28, 172]
abbrev dktX1_moves_2 : List UInt8 := dkwX1_moves_2 ++ []
def dkwX1_moves_1 : List UInt8 := [21, 4, 162, 0, 30, 45, 21, 5, 52, 54, 6, 28, 21, 6, 16, 46, 160, 0, 7, 3, 167, 0, 4, 4]
abbrev dktX1_moves_1 : List UInt8 := dkwX1_moves_1 ++ dktX1_moves_2
def dkwX1_moves_0 : List UInt8 := [3, 61, 42, 180, 0, 37, 180, 1, 24, 180, 1, 35, 27, 50, 78, 45, 190, 54, 4, 3, 54, 5, 21, 5]
abbrev dktX1_moves_0 : List UInt8 := dkwX1_moves_0 ++ dktX1_moves_1
theorem dksX1_moves_0 : cX1_moves.data.toList.drop 0 = dktX1_moves_0 := by decide +kernel
theorem dksX1_moves_1 : cX1_moves.data.toList.drop 24 = dktX1_moves_1 := dk_seg dksX1_moves_0 24 rfl rfl
theorem dksX1_moves_2 : cX1_moves.data.toList.drop 48 = dktX1_moves_2 := dk_seg dksX1_moves_1 24 rfl rfl
theorem dX1_moves_0 : decode cX1_moves 0 = .ok (.iconst 0, 1) := dk_3 (dk_at dksX1_moves_0 0 rfl rfl)
theorem dX1_moves_1 : decode cX1_moves 1 = .ok (.istore_n 2, 1) := dk_61 (dk_at dksX1_moves_0 1 rfl rfl)
theorem dX1_moves_2 : decode cX1_moves 2 = .ok (.aload_n 0, 1) := dk_42 (dk_at dksX1_moves_0 2 rfl rfl)
theorem dX1_moves_3 : decode cX1_moves 3 = .ok (.getfield 37, 3) := dk_180 0 37 (dk_at dksX1_moves_0 3 rfl rfl)
theorem dX1_moves_6 : decode cX1_moves 6 = .ok (.getfield 280, 3) := dk_180 1 24 (dk_at dksX1_moves_0 6 rfl rfl)
theorem dX1_moves_9 : decode cX1_moves 9 = .ok (.getfield 291, 3) := dk_180 1 35 (dk_at dksX1_moves_0 9 rfl rfl)
theorem dX1_moves_12 : decode cX1_moves 12 = .ok (.iload_n 1, 1) := dk_27 (dk_at dksX1_moves_0 12 rfl rfl)
theorem dX1_moves_13 : decode cX1_moves 13 = .ok (.aaload, 1) := dk_50 (dk_at dksX1_moves_0 13 rfl rfl)
theorem dX1_moves_14 : decode cX1_moves 14 = .ok (.astore_n 3, 1) := dk_78 (dk_at dksX1_moves_0 14 rfl rfl)
theorem dX1_moves_15 : decode cX1_moves 15 = .ok (.aload_n 3, 1) := dk_45 (dk_at dksX1_moves_0 15 rfl rfl)
theorem dX1_moves_16 : decode cX1_moves 16 = .ok (.arraylength, 1) := dk_190 (dk_at dksX1_moves_0 16 rfl rfl)
theorem dX1_moves_17 : decode cX1_moves 17 = .ok (.istore 4, 2) := dk_54 4 (dk_at dksX1_moves_0 17 rfl rfl)
theorem dX1_moves_19 : decode cX1_moves 19 = .ok (.iconst 0, 1) := dk_3 (dk_at dksX1_moves_0 19 rfl rfl)
theorem dX1_moves_20 : decode cX1_moves 20 = .ok (.istore 5, 2) := dk_54 5 (dk_at dksX1_moves_0 20 rfl rfl)
theorem dX1_moves_22 : decode cX1_moves 22 = .ok (.iload 5, 2) := dk_21 5 (dk_at dksX1_moves_0 22 rfl rfl)
theorem dX1_moves_24 : decode cX1_moves 24 = .ok (.iload 4, 2) := dk_21 4 (dk_at dksX1_moves_1 0 rfl rfl)
theorem dX1_moves_26 : decode cX1_moves 26 = .ok (.if_icmp .ge 30, 3) := dk_162 0 30 (dk_at dksX1_moves_1 2 rfl rfl)
theorem dX1_moves_29 : decode cX1_moves 29 = .ok (.aload_n 3, 1) := dk_45 (dk_at dksX1_moves_1 5 rfl rfl)
theorem dX1_moves_30 : decode cX1_moves 30 = .ok (.iload 5, 2) := dk_21 5 (dk_at dksX1_moves_1 6 rfl rfl)
theorem dX1_moves_32 : decode cX1_moves 32 = .ok (.caload, 1) := dk_52 (dk_at dksX1_moves_1 8 rfl rfl)
theorem dX1_moves_33 : decode cX1_moves 33 = .ok (.istore 6, 2) := dk_54 6 (dk_at dksX1_moves_1 9 rfl rfl)
theorem dX1_moves_35 : decode cX1_moves 35 = .ok (.iload_n 2, 1) := dk_28 (dk_at dksX1_moves_1 11 rfl rfl)
theorem dX1_moves_36 : decode cX1_moves 36 = .ok (.iload 6, 2) := dk_21 6 (dk_at dksX1_moves_1 12 rfl rfl)
theorem dX1_moves_38 : decode cX1_moves 38 = .ok (.bipush 46, 2) := dk_16 46 (dk_at dksX1_moves_1 14 rfl rfl)
theorem dX1_moves_40 : decode cX1_moves 40 = .ok (.if_icmp .ne 7, 3) := dk_160 0 7 (dk_at dksX1_moves_1 16 rfl rfl)
theorem dX1_moves_43 : decode cX1_moves 43 = .ok (.iconst 0, 1) := dk_3 (dk_at dksX1_moves_1 19 rfl rfl)
theorem dX1_moves_44 : decode cX1_moves 44 = .ok (.goto 4, 3) := dk_167 0 4 (dk_at dksX1_moves_1 20 rfl rfl)
theorem dX1_moves_47 : decode cX1_moves 47 = .ok (.iconst 1, 1) := dk_4 (dk_at dksX1_moves_1 23 rfl rfl)
theorem dX1_moves_48 : decode cX1_moves 48 = .ok (.iadd, 1) := dk_96 (dk_at dksX1_moves_2 0 rfl rfl)
theorem dX1_moves_49 : decode cX1_moves 49 = .ok (.istore_n 2, 1) := dk_61 (dk_at dksX1_moves_2 1 rfl rfl)
theorem dX1_moves_50 : decode cX1_moves 50 = .ok (.iinc 5 1, 3) := dk_132 5 1 (dk_at dksX1_moves_2 2 rfl rfl)
theorem dX1_moves_53 : decode cX1_moves 53 = .ok (.goto (-31), 3) := dk_167 255 225 (dk_at dksX1_moves_2 5 rfl rfl)
theorem dX1_moves_56 : decode cX1_moves 56 = .ok (.iload_n 2, 1) := dk_28 (dk_at dksX1_moves_2 8 rfl rfl)
theorem dX1_moves_57 : decode cX1_moves 57 = .ok (.ireturn, 1) := dk_172 (dk_at dksX1_moves_2 9 rfl rfl)
abbrev cX1_movingShare : ByteArray := prog_1_method_41_code
def yX1_movingShare : MethodName := ⟨RX1, "movingShare", "(I)F"⟩
def dkwX1_movingShare_1 : List UInt8 := [89, 183, 1, 76, 191, 42, 27, 182, 1, 77, 134, 42, 180, 0, 37, 180, 1, 24, 180, 1, 28, 134, 110, 174]
abbrev dktX1_movingShare_1 : List UInt8 := dkwX1_movingShare_1 ++ []
def dkwX1_movingShare_0 : List UInt8 := [27, 184, 0, 140, 42, 182, 0, 209, 42, 180, 0, 37, 180, 1, 24, 180, 1, 28, 154, 0, 11, 187, 1, 74]
abbrev dktX1_movingShare_0 : List UInt8 := dkwX1_movingShare_0 ++ dktX1_movingShare_1
theorem dksX1_movingShare_0 : cX1_movingShare.data.toList.drop 0 = dktX1_movingShare_0 := by decide +kernel
theorem dksX1_movingShare_1 : cX1_movingShare.data.toList.drop 24 = dktX1_movingShare_1 := dk_seg dksX1_movingShare_0 24 rfl rfl
theorem dX1_movingShare_0 : decode cX1_movingShare 0 = .ok (.iload_n 1, 1) := dk_27 (dk_at dksX1_movingShare_0 0 rfl rfl)
theorem dX1_movingShare_1 : decode cX1_movingShare 1 = .ok (.invokestatic 140, 3) := dk_184 0 140 (dk_at dksX1_movingShare_0 1 rfl rfl)
theorem dX1_movingShare_4 : decode cX1_movingShare 4 = .ok (.aload_n 0, 1) := dk_42 (dk_at dksX1_movingShare_0 4 rfl rfl)
theorem dX1_movingShare_5 : decode cX1_movingShare 5 = .ok (.invokevirtual 209, 3) := dk_182 0 209 (dk_at dksX1_movingShare_0 5 rfl rfl)
theorem dX1_movingShare_8 : decode cX1_movingShare 8 = .ok (.aload_n 0, 1) := dk_42 (dk_at dksX1_movingShare_0 8 rfl rfl)
theorem dX1_movingShare_9 : decode cX1_movingShare 9 = .ok (.getfield 37, 3) := dk_180 0 37 (dk_at dksX1_movingShare_0 9 rfl rfl)
theorem dX1_movingShare_12 : decode cX1_movingShare 12 = .ok (.getfield 280, 3) := dk_180 1 24 (dk_at dksX1_movingShare_0 12 rfl rfl)
theorem dX1_movingShare_15 : decode cX1_movingShare 15 = .ok (.getfield 284, 3) := dk_180 1 28 (dk_at dksX1_movingShare_0 15 rfl rfl)
theorem dX1_movingShare_18 : decode cX1_movingShare 18 = .ok (.ifCond .ne 11, 3) := dk_154 0 11 (dk_at dksX1_movingShare_0 18 rfl rfl)
theorem dX1_movingShare_21 : decode cX1_movingShare 21 = .ok (.new 330, 3) := dk_187 1 74 (dk_at dksX1_movingShare_0 21 rfl rfl)
theorem dX1_movingShare_24 : decode cX1_movingShare 24 = .ok (.dup, 1) := dk_89 (dk_at dksX1_movingShare_1 0 rfl rfl)
theorem dX1_movingShare_25 : decode cX1_movingShare 25 = .ok (.invokespecial 332, 3) := dk_183 1 76 (dk_at dksX1_movingShare_1 1 rfl rfl)
theorem dX1_movingShare_28 : decode cX1_movingShare 28 = .ok (.athrow, 1) := dk_191 (dk_at dksX1_movingShare_1 4 rfl rfl)
theorem dX1_movingShare_29 : decode cX1_movingShare 29 = .ok (.aload_n 0, 1) := dk_42 (dk_at dksX1_movingShare_1 5 rfl rfl)
theorem dX1_movingShare_30 : decode cX1_movingShare 30 = .ok (.iload_n 1, 1) := dk_27 (dk_at dksX1_movingShare_1 6 rfl rfl)
theorem dX1_movingShare_31 : decode cX1_movingShare 31 = .ok (.invokevirtual 333, 3) := dk_182 1 77 (dk_at dksX1_movingShare_1 7 rfl rfl)
theorem dX1_movingShare_34 : decode cX1_movingShare 34 = .ok (.i2f, 1) := dk_134 (dk_at dksX1_movingShare_1 10 rfl rfl)
theorem dX1_movingShare_35 : decode cX1_movingShare 35 = .ok (.aload_n 0, 1) := dk_42 (dk_at dksX1_movingShare_1 11 rfl rfl)
theorem dX1_movingShare_36 : decode cX1_movingShare 36 = .ok (.getfield 37, 3) := dk_180 0 37 (dk_at dksX1_movingShare_1 12 rfl rfl)
theorem dX1_movingShare_39 : decode cX1_movingShare 39 = .ok (.getfield 280, 3) := dk_180 1 24 (dk_at dksX1_movingShare_1 15 rfl rfl)
theorem dX1_movingShare_42 : decode cX1_movingShare 42 = .ok (.getfield 284, 3) := dk_180 1 28 (dk_at dksX1_movingShare_1 18 rfl rfl)
theorem dX1_movingShare_45 : decode cX1_movingShare 45 = .ok (.i2f, 1) := dk_134 (dk_at dksX1_movingShare_1 21 rfl rfl)
theorem dX1_movingShare_46 : decode cX1_movingShare 46 = .ok (.fdiv, 1) := dk_110 (dk_at dksX1_movingShare_1 22 rfl rfl)
theorem dX1_movingShare_47 : decode cX1_movingShare 47 = .ok (.freturn, 1) := dk_174 (dk_at dksX1_movingShare_1 23 rfl rfl)
abbrev cX1_setFormation : ByteArray := prog_1_method_43_code
def yX1_setFormation : MethodName := ⟨RX1, "setFormation", "(III)I"⟩
def dkwX1_setFormation_2 : List UInt8 := [188, 10, 89, 3, 27, 79, 89, 4, 28, 79, 89, 5, 29, 79, 183, 0, 100, 182, 0, 103, 172]
abbrev dktX1_setFormation_2 : List UInt8 := dkwX1_setFormation_2 ++ []
def dkwX1_setFormation_1 : List UInt8 := [184, 0, 151, 154, 0, 7, 4, 167, 0, 4, 3, 184, 0, 133, 42, 187, 0, 89, 89, 178, 1, 92, 1, 6]
abbrev dktX1_setFormation_1 : List UInt8 := dkwX1_setFormation_1 ++ dktX1_setFormation_2
def dkwX1_setFormation_0 : List UInt8 := [27, 184, 1, 85, 28, 184, 0, 140, 42, 29, 182, 0, 144, 28, 29, 42, 180, 0, 37, 180, 1, 88, 27, 50]
abbrev dktX1_setFormation_0 : List UInt8 := dkwX1_setFormation_0 ++ dktX1_setFormation_1
theorem dksX1_setFormation_0 : cX1_setFormation.data.toList.drop 0 = dktX1_setFormation_0 := by decide +kernel
theorem dksX1_setFormation_1 : cX1_setFormation.data.toList.drop 24 = dktX1_setFormation_1 := dk_seg dksX1_setFormation_0 24 rfl rfl
theorem dksX1_setFormation_2 : cX1_setFormation.data.toList.drop 48 = dktX1_setFormation_2 := dk_seg dksX1_setFormation_1 24 rfl rfl
theorem dX1_setFormation_0 : decode cX1_setFormation 0 = .ok (.iload_n 1, 1) := dk_27 (dk_at dksX1_setFormation_0 0 rfl rfl)
theorem dX1_setFormation_1 : decode cX1_setFormation 1 = .ok (.invokestatic 341, 3) := dk_184 1 85 (dk_at dksX1_setFormation_0 1 rfl rfl)
theorem dX1_setFormation_4 : decode cX1_setFormation 4 = .ok (.iload_n 2, 1) := dk_28 (dk_at dksX1_setFormation_0 4 rfl rfl)
theorem dX1_setFormation_5 : decode cX1_setFormation 5 = .ok (.invokestatic 140, 3) := dk_184 0 140 (dk_at dksX1_setFormation_0 5 rfl rfl)
theorem dX1_setFormation_8 : decode cX1_setFormation 8 = .ok (.aload_n 0, 1) := dk_42 (dk_at dksX1_setFormation_0 8 rfl rfl)
theorem dX1_setFormation_9 : decode cX1_setFormation 9 = .ok (.iload_n 3, 1) := dk_29 (dk_at dksX1_setFormation_0 9 rfl rfl)
theorem dX1_setFormation_10 : decode cX1_setFormation 10 = .ok (.invokevirtual 144, 3) := dk_182 0 144 (dk_at dksX1_setFormation_0 10 rfl rfl)
theorem dX1_setFormation_13 : decode cX1_setFormation 13 = .ok (.iload_n 2, 1) := dk_28 (dk_at dksX1_setFormation_0 13 rfl rfl)
theorem dX1_setFormation_14 : decode cX1_setFormation 14 = .ok (.iload_n 3, 1) := dk_29 (dk_at dksX1_setFormation_0 14 rfl rfl)
theorem dX1_setFormation_15 : decode cX1_setFormation 15 = .ok (.aload_n 0, 1) := dk_42 (dk_at dksX1_setFormation_0 15 rfl rfl)
theorem dX1_setFormation_16 : decode cX1_setFormation 16 = .ok (.getfield 37, 3) := dk_180 0 37 (dk_at dksX1_setFormation_0 16 rfl rfl)
theorem dX1_setFormation_19 : decode cX1_setFormation 19 = .ok (.getfield 344, 3) := dk_180 1 88 (dk_at dksX1_setFormation_0 19 rfl rfl)
theorem dX1_setFormation_22 : decode cX1_setFormation 22 = .ok (.iload_n 1, 1) := dk_27 (dk_at dksX1_setFormation_0 22 rfl rfl)
theorem dX1_setFormation_23 : decode cX1_setFormation 23 = .ok (.aaload, 1) := dk_50 (dk_at dksX1_setFormation_0 23 rfl rfl)
theorem dX1_setFormation_24 : decode cX1_setFormation 24 = .ok (.invokestatic 151, 3) := dk_184 0 151 (dk_at dksX1_setFormation_1 0 rfl rfl)
theorem dX1_setFormation_27 : decode cX1_setFormation 27 = .ok (.ifCond .ne 7, 3) := dk_154 0 7 (dk_at dksX1_setFormation_1 3 rfl rfl)
theorem dX1_setFormation_30 : decode cX1_setFormation 30 = .ok (.iconst 1, 1) := dk_4 (dk_at dksX1_setFormation_1 6 rfl rfl)
theorem dX1_setFormation_31 : decode cX1_setFormation 31 = .ok (.goto 4, 3) := dk_167 0 4 (dk_at dksX1_setFormation_1 7 rfl rfl)
theorem dX1_setFormation_34 : decode cX1_setFormation 34 = .ok (.iconst 0, 1) := dk_3 (dk_at dksX1_setFormation_1 10 rfl rfl)
theorem dX1_setFormation_35 : decode cX1_setFormation 35 = .ok (.invokestatic 133, 3) := dk_184 0 133 (dk_at dksX1_setFormation_1 11 rfl rfl)
theorem dX1_setFormation_38 : decode cX1_setFormation 38 = .ok (.aload_n 0, 1) := dk_42 (dk_at dksX1_setFormation_1 14 rfl rfl)
theorem dX1_setFormation_39 : decode cX1_setFormation 39 = .ok (.new 89, 3) := dk_187 0 89 (dk_at dksX1_setFormation_1 15 rfl rfl)
theorem dX1_setFormation_42 : decode cX1_setFormation 42 = .ok (.dup, 1) := dk_89 (dk_at dksX1_setFormation_1 18 rfl rfl)
theorem dX1_setFormation_43 : decode cX1_setFormation 43 = .ok (.getstatic 348, 3) := dk_178 1 92 (dk_at dksX1_setFormation_1 19 rfl rfl)
theorem dX1_setFormation_46 : decode cX1_setFormation 46 = .ok (.aconst_null, 1) := dk_1 (dk_at dksX1_setFormation_1 22 rfl rfl)
theorem dX1_setFormation_47 : decode cX1_setFormation 47 = .ok (.iconst 3, 1) := dk_6 (dk_at dksX1_setFormation_1 23 rfl rfl)
theorem dX1_setFormation_48 : decode cX1_setFormation 48 = .ok (.newarray .int, 2) := dk_188_10 (dk_at dksX1_setFormation_2 0 rfl rfl)
theorem dX1_setFormation_50 : decode cX1_setFormation 50 = .ok (.dup, 1) := dk_89 (dk_at dksX1_setFormation_2 2 rfl rfl)
theorem dX1_setFormation_51 : decode cX1_setFormation 51 = .ok (.iconst 0, 1) := dk_3 (dk_at dksX1_setFormation_2 3 rfl rfl)
theorem dX1_setFormation_52 : decode cX1_setFormation 52 = .ok (.iload_n 1, 1) := dk_27 (dk_at dksX1_setFormation_2 4 rfl rfl)
theorem dX1_setFormation_53 : decode cX1_setFormation 53 = .ok (.iastore, 1) := dk_79 (dk_at dksX1_setFormation_2 5 rfl rfl)
theorem dX1_setFormation_54 : decode cX1_setFormation 54 = .ok (.dup, 1) := dk_89 (dk_at dksX1_setFormation_2 6 rfl rfl)
theorem dX1_setFormation_55 : decode cX1_setFormation 55 = .ok (.iconst 1, 1) := dk_4 (dk_at dksX1_setFormation_2 7 rfl rfl)
theorem dX1_setFormation_56 : decode cX1_setFormation 56 = .ok (.iload_n 2, 1) := dk_28 (dk_at dksX1_setFormation_2 8 rfl rfl)
theorem dX1_setFormation_57 : decode cX1_setFormation 57 = .ok (.iastore, 1) := dk_79 (dk_at dksX1_setFormation_2 9 rfl rfl)
theorem dX1_setFormation_58 : decode cX1_setFormation 58 = .ok (.dup, 1) := dk_89 (dk_at dksX1_setFormation_2 10 rfl rfl)
theorem dX1_setFormation_59 : decode cX1_setFormation 59 = .ok (.iconst 2, 1) := dk_5 (dk_at dksX1_setFormation_2 11 rfl rfl)
theorem dX1_setFormation_60 : decode cX1_setFormation 60 = .ok (.iload_n 3, 1) := dk_29 (dk_at dksX1_setFormation_2 12 rfl rfl)
theorem dX1_setFormation_61 : decode cX1_setFormation 61 = .ok (.iastore, 1) := dk_79 (dk_at dksX1_setFormation_2 13 rfl rfl)
theorem dX1_setFormation_62 : decode cX1_setFormation 62 = .ok (.invokespecial 100, 3) := dk_183 0 100 (dk_at dksX1_setFormation_2 14 rfl rfl)
theorem dX1_setFormation_65 : decode cX1_setFormation 65 = .ok (.invokevirtual 103, 3) := dk_182 0 103 (dk_at dksX1_setFormation_2 17 rfl rfl)
theorem dX1_setFormation_68 : decode cX1_setFormation 68 = .ok (.ireturn, 1) := dk_172 (dk_at dksX1_setFormation_2 20 rfl rfl)
abbrev cX1_checkFormation : ByteArray := prog_1_method_42_code
def yX1_checkFormation : MethodName := ⟨RX1, "checkFormation", "(I)V"⟩
def dkwX1_checkFormation_0 : List UInt8 := [26, 133, 9, 20, 1, 56, 184, 0, 108, 184, 0, 112, 177]
abbrev dktX1_checkFormation_0 : List UInt8 := dkwX1_checkFormation_0 ++ []
theorem dksX1_checkFormation_0 : cX1_checkFormation.data.toList.drop 0 = dktX1_checkFormation_0 := by decide +kernel
theorem dX1_checkFormation_0 : decode cX1_checkFormation 0 = .ok (.iload_n 0, 1) := dk_26 (dk_at dksX1_checkFormation_0 0 rfl rfl)
theorem dX1_checkFormation_1 : decode cX1_checkFormation 1 = .ok (.i2l, 1) := dk_133 (dk_at dksX1_checkFormation_0 1 rfl rfl)
theorem dX1_checkFormation_2 : decode cX1_checkFormation 2 = .ok (.lconst 0, 1) := dk_9 (dk_at dksX1_checkFormation_0 2 rfl rfl)
theorem dX1_checkFormation_3 : decode cX1_checkFormation 3 = .ok (.ldc2_w 312, 3) := dk_20 1 56 (dk_at dksX1_checkFormation_0 3 rfl rfl)
theorem dX1_checkFormation_6 : decode cX1_checkFormation 6 = .ok (.invokestatic 108, 3) := dk_184 0 108 (dk_at dksX1_checkFormation_0 6 rfl rfl)
theorem dX1_checkFormation_9 : decode cX1_checkFormation 9 = .ok (.invokestatic 112, 3) := dk_184 0 112 (dk_at dksX1_checkFormation_0 9 rfl rfl)
theorem dX1_checkFormation_12 : decode cX1_checkFormation 12 = .ok (.return_, 1) := dk_177 (dk_at dksX1_checkFormation_0 12 rfl rfl)
abbrev cX1_distance : ByteArray := prog_1_method_44_code
def yX1_distance : MethodName := ⟨RX1, "distance", "(II)I"⟩
def dkwX1_distance_5 : List UInt8 := [180, 0, 37, 21, 4, 28, 3, 182, 1, 43, 100, 184, 1, 98, 96, 62, 132, 4, 1, 167, 255, 158, 29, 172]
abbrev dktX1_distance_5 : List UInt8 := dkwX1_distance_5 ++ []
def dkwX1_distance_4 : List UInt8 := [4, 182, 1, 43, 100, 184, 1, 98, 96, 62, 29, 21, 5, 42, 180, 0, 37, 180, 1, 95, 112, 42]
abbrev dktX1_distance_4 : List UInt8 := dkwX1_distance_4 ++ dktX1_distance_5
def dkwX1_distance_3 : List UInt8 := [182, 1, 39, 153, 0, 59, 29, 21, 5, 42, 180, 0, 37, 180, 1, 95, 108, 42, 180, 0, 37, 21, 4, 28]
abbrev dktX1_distance_3 : List UInt8 := dkwX1_distance_3 ++ dktX1_distance_4
def dkwX1_distance_2 : List UInt8 := [180, 1, 88, 27, 50, 21, 4, 46, 54, 5, 21, 5, 2, 159, 0, 71, 42, 180, 0, 37, 21, 4]
abbrev dktX1_distance_2 : List UInt8 := dkwX1_distance_2 ++ dktX1_distance_3
def dkwX1_distance_1 : List UInt8 := [184, 0, 108, 184, 0, 203, 3, 62, 3, 54, 4, 21, 4, 16, 8, 162, 0, 97, 42, 180, 0, 37]
abbrev dktX1_distance_1 : List UInt8 := dkwX1_distance_1 ++ dktX1_distance_2
def dkwX1_distance_0 : List UInt8 := [27, 184, 1, 85, 42, 182, 0, 209, 28, 133, 9, 42, 180, 0, 37, 180, 1, 24, 180, 1, 28, 133]
abbrev dktX1_distance_0 : List UInt8 := dkwX1_distance_0 ++ dktX1_distance_1
theorem dksX1_distance_0 : cX1_distance.data.toList.drop 0 = dktX1_distance_0 := by decide +kernel
theorem dksX1_distance_1 : cX1_distance.data.toList.drop 22 = dktX1_distance_1 := dk_seg dksX1_distance_0 22 rfl rfl
theorem dksX1_distance_2 : cX1_distance.data.toList.drop 44 = dktX1_distance_2 := dk_seg dksX1_distance_1 22 rfl rfl
theorem dksX1_distance_3 : cX1_distance.data.toList.drop 66 = dktX1_distance_3 := dk_seg dksX1_distance_2 22 rfl rfl
theorem dksX1_distance_4 : cX1_distance.data.toList.drop 90 = dktX1_distance_4 := dk_seg dksX1_distance_3 24 rfl rfl
theorem dksX1_distance_5 : cX1_distance.data.toList.drop 112 = dktX1_distance_5 := dk_seg dksX1_distance_4 22 rfl rfl
theorem dX1_distance_0 : decode cX1_distance 0 = .ok (.iload_n 1, 1) := dk_27 (dk_at dksX1_distance_0 0 rfl rfl)
theorem dX1_distance_1 : decode cX1_distance 1 = .ok (.invokestatic 341, 3) := dk_184 1 85 (dk_at dksX1_distance_0 1 rfl rfl)
theorem dX1_distance_4 : decode cX1_distance 4 = .ok (.aload_n 0, 1) := dk_42 (dk_at dksX1_distance_0 4 rfl rfl)
theorem dX1_distance_5 : decode cX1_distance 5 = .ok (.invokevirtual 209, 3) := dk_182 0 209 (dk_at dksX1_distance_0 5 rfl rfl)
theorem dX1_distance_8 : decode cX1_distance 8 = .ok (.iload_n 2, 1) := dk_28 (dk_at dksX1_distance_0 8 rfl rfl)
theorem dX1_distance_9 : decode cX1_distance 9 = .ok (.i2l, 1) := dk_133 (dk_at dksX1_distance_0 9 rfl rfl)
theorem dX1_distance_10 : decode cX1_distance 10 = .ok (.lconst 0, 1) := dk_9 (dk_at dksX1_distance_0 10 rfl rfl)
theorem dX1_distance_11 : decode cX1_distance 11 = .ok (.aload_n 0, 1) := dk_42 (dk_at dksX1_distance_0 11 rfl rfl)
theorem dX1_distance_12 : decode cX1_distance 12 = .ok (.getfield 37, 3) := dk_180 0 37 (dk_at dksX1_distance_0 12 rfl rfl)
theorem dX1_distance_15 : decode cX1_distance 15 = .ok (.getfield 280, 3) := dk_180 1 24 (dk_at dksX1_distance_0 15 rfl rfl)
theorem dX1_distance_18 : decode cX1_distance 18 = .ok (.getfield 284, 3) := dk_180 1 28 (dk_at dksX1_distance_0 18 rfl rfl)
theorem dX1_distance_21 : decode cX1_distance 21 = .ok (.i2l, 1) := dk_133 (dk_at dksX1_distance_0 21 rfl rfl)
theorem dX1_distance_22 : decode cX1_distance 22 = .ok (.invokestatic 108, 3) := dk_184 0 108 (dk_at dksX1_distance_1 0 rfl rfl)
theorem dX1_distance_25 : decode cX1_distance 25 = .ok (.invokestatic 203, 3) := dk_184 0 203 (dk_at dksX1_distance_1 3 rfl rfl)
theorem dX1_distance_28 : decode cX1_distance 28 = .ok (.iconst 0, 1) := dk_3 (dk_at dksX1_distance_1 6 rfl rfl)
theorem dX1_distance_29 : decode cX1_distance 29 = .ok (.istore_n 3, 1) := dk_62 (dk_at dksX1_distance_1 7 rfl rfl)
theorem dX1_distance_30 : decode cX1_distance 30 = .ok (.iconst 0, 1) := dk_3 (dk_at dksX1_distance_1 8 rfl rfl)
theorem dX1_distance_31 : decode cX1_distance 31 = .ok (.istore 4, 2) := dk_54 4 (dk_at dksX1_distance_1 9 rfl rfl)
theorem dX1_distance_33 : decode cX1_distance 33 = .ok (.iload 4, 2) := dk_21 4 (dk_at dksX1_distance_1 11 rfl rfl)
theorem dX1_distance_35 : decode cX1_distance 35 = .ok (.bipush 8, 2) := dk_16 8 (dk_at dksX1_distance_1 13 rfl rfl)
theorem dX1_distance_37 : decode cX1_distance 37 = .ok (.if_icmp .ge 97, 3) := dk_162 0 97 (dk_at dksX1_distance_1 15 rfl rfl)
theorem dX1_distance_40 : decode cX1_distance 40 = .ok (.aload_n 0, 1) := dk_42 (dk_at dksX1_distance_1 18 rfl rfl)
theorem dX1_distance_41 : decode cX1_distance 41 = .ok (.getfield 37, 3) := dk_180 0 37 (dk_at dksX1_distance_1 19 rfl rfl)
theorem dX1_distance_44 : decode cX1_distance 44 = .ok (.getfield 344, 3) := dk_180 1 88 (dk_at dksX1_distance_2 0 rfl rfl)
theorem dX1_distance_47 : decode cX1_distance 47 = .ok (.iload_n 1, 1) := dk_27 (dk_at dksX1_distance_2 3 rfl rfl)
theorem dX1_distance_48 : decode cX1_distance 48 = .ok (.aaload, 1) := dk_50 (dk_at dksX1_distance_2 4 rfl rfl)
theorem dX1_distance_49 : decode cX1_distance 49 = .ok (.iload 4, 2) := dk_21 4 (dk_at dksX1_distance_2 5 rfl rfl)
theorem dX1_distance_51 : decode cX1_distance 51 = .ok (.iaload, 1) := dk_46 (dk_at dksX1_distance_2 7 rfl rfl)
theorem dX1_distance_52 : decode cX1_distance 52 = .ok (.istore 5, 2) := dk_54 5 (dk_at dksX1_distance_2 8 rfl rfl)
theorem dX1_distance_54 : decode cX1_distance 54 = .ok (.iload 5, 2) := dk_21 5 (dk_at dksX1_distance_2 10 rfl rfl)
theorem dX1_distance_56 : decode cX1_distance 56 = .ok (.iconst (-1), 1) := dk_2 (dk_at dksX1_distance_2 12 rfl rfl)
theorem dX1_distance_57 : decode cX1_distance 57 = .ok (.if_icmp .eq 71, 3) := dk_159 0 71 (dk_at dksX1_distance_2 13 rfl rfl)
theorem dX1_distance_60 : decode cX1_distance 60 = .ok (.aload_n 0, 1) := dk_42 (dk_at dksX1_distance_2 16 rfl rfl)
theorem dX1_distance_61 : decode cX1_distance 61 = .ok (.getfield 37, 3) := dk_180 0 37 (dk_at dksX1_distance_2 17 rfl rfl)
theorem dX1_distance_64 : decode cX1_distance 64 = .ok (.iload 4, 2) := dk_21 4 (dk_at dksX1_distance_2 20 rfl rfl)
theorem dX1_distance_66 : decode cX1_distance 66 = .ok (.invokevirtual 295, 3) := dk_182 1 39 (dk_at dksX1_distance_3 0 rfl rfl)
theorem dX1_distance_69 : decode cX1_distance 69 = .ok (.ifCond .eq 59, 3) := dk_153 0 59 (dk_at dksX1_distance_3 3 rfl rfl)
theorem dX1_distance_72 : decode cX1_distance 72 = .ok (.iload_n 3, 1) := dk_29 (dk_at dksX1_distance_3 6 rfl rfl)
theorem dX1_distance_73 : decode cX1_distance 73 = .ok (.iload 5, 2) := dk_21 5 (dk_at dksX1_distance_3 7 rfl rfl)
theorem dX1_distance_75 : decode cX1_distance 75 = .ok (.aload_n 0, 1) := dk_42 (dk_at dksX1_distance_3 9 rfl rfl)
theorem dX1_distance_76 : decode cX1_distance 76 = .ok (.getfield 37, 3) := dk_180 0 37 (dk_at dksX1_distance_3 10 rfl rfl)
theorem dX1_distance_79 : decode cX1_distance 79 = .ok (.getfield 351, 3) := dk_180 1 95 (dk_at dksX1_distance_3 13 rfl rfl)
theorem dX1_distance_82 : decode cX1_distance 82 = .ok (.idiv, 1) := dk_108 (dk_at dksX1_distance_3 16 rfl rfl)
theorem dX1_distance_83 : decode cX1_distance 83 = .ok (.aload_n 0, 1) := dk_42 (dk_at dksX1_distance_3 17 rfl rfl)
theorem dX1_distance_84 : decode cX1_distance 84 = .ok (.getfield 37, 3) := dk_180 0 37 (dk_at dksX1_distance_3 18 rfl rfl)
theorem dX1_distance_87 : decode cX1_distance 87 = .ok (.iload 4, 2) := dk_21 4 (dk_at dksX1_distance_3 21 rfl rfl)
theorem dX1_distance_89 : decode cX1_distance 89 = .ok (.iload_n 2, 1) := dk_28 (dk_at dksX1_distance_3 23 rfl rfl)
theorem dX1_distance_90 : decode cX1_distance 90 = .ok (.iconst 1, 1) := dk_4 (dk_at dksX1_distance_4 0 rfl rfl)
theorem dX1_distance_91 : decode cX1_distance 91 = .ok (.invokevirtual 299, 3) := dk_182 1 43 (dk_at dksX1_distance_4 1 rfl rfl)
theorem dX1_distance_94 : decode cX1_distance 94 = .ok (.isub, 1) := dk_100 (dk_at dksX1_distance_4 4 rfl rfl)
theorem dX1_distance_95 : decode cX1_distance 95 = .ok (.invokestatic 354, 3) := dk_184 1 98 (dk_at dksX1_distance_4 5 rfl rfl)
theorem dX1_distance_98 : decode cX1_distance 98 = .ok (.iadd, 1) := dk_96 (dk_at dksX1_distance_4 8 rfl rfl)
theorem dX1_distance_99 : decode cX1_distance 99 = .ok (.istore_n 3, 1) := dk_62 (dk_at dksX1_distance_4 9 rfl rfl)
theorem dX1_distance_100 : decode cX1_distance 100 = .ok (.iload_n 3, 1) := dk_29 (dk_at dksX1_distance_4 10 rfl rfl)
theorem dX1_distance_101 : decode cX1_distance 101 = .ok (.iload 5, 2) := dk_21 5 (dk_at dksX1_distance_4 11 rfl rfl)
theorem dX1_distance_103 : decode cX1_distance 103 = .ok (.aload_n 0, 1) := dk_42 (dk_at dksX1_distance_4 13 rfl rfl)
theorem dX1_distance_104 : decode cX1_distance 104 = .ok (.getfield 37, 3) := dk_180 0 37 (dk_at dksX1_distance_4 14 rfl rfl)
theorem dX1_distance_107 : decode cX1_distance 107 = .ok (.getfield 351, 3) := dk_180 1 95 (dk_at dksX1_distance_4 17 rfl rfl)
theorem dX1_distance_110 : decode cX1_distance 110 = .ok (.irem, 1) := dk_112 (dk_at dksX1_distance_4 20 rfl rfl)
theorem dX1_distance_111 : decode cX1_distance 111 = .ok (.aload_n 0, 1) := dk_42 (dk_at dksX1_distance_4 21 rfl rfl)
theorem dX1_distance_112 : decode cX1_distance 112 = .ok (.getfield 37, 3) := dk_180 0 37 (dk_at dksX1_distance_5 0 rfl rfl)
theorem dX1_distance_115 : decode cX1_distance 115 = .ok (.iload 4, 2) := dk_21 4 (dk_at dksX1_distance_5 3 rfl rfl)
theorem dX1_distance_117 : decode cX1_distance 117 = .ok (.iload_n 2, 1) := dk_28 (dk_at dksX1_distance_5 5 rfl rfl)
theorem dX1_distance_118 : decode cX1_distance 118 = .ok (.iconst 0, 1) := dk_3 (dk_at dksX1_distance_5 6 rfl rfl)
theorem dX1_distance_119 : decode cX1_distance 119 = .ok (.invokevirtual 299, 3) := dk_182 1 43 (dk_at dksX1_distance_5 7 rfl rfl)
theorem dX1_distance_122 : decode cX1_distance 122 = .ok (.isub, 1) := dk_100 (dk_at dksX1_distance_5 10 rfl rfl)
theorem dX1_distance_123 : decode cX1_distance 123 = .ok (.invokestatic 354, 3) := dk_184 1 98 (dk_at dksX1_distance_5 11 rfl rfl)
theorem dX1_distance_126 : decode cX1_distance 126 = .ok (.iadd, 1) := dk_96 (dk_at dksX1_distance_5 14 rfl rfl)
theorem dX1_distance_127 : decode cX1_distance 127 = .ok (.istore_n 3, 1) := dk_62 (dk_at dksX1_distance_5 15 rfl rfl)
theorem dX1_distance_128 : decode cX1_distance 128 = .ok (.iinc 4 1, 3) := dk_132 4 1 (dk_at dksX1_distance_5 16 rfl rfl)
theorem dX1_distance_131 : decode cX1_distance 131 = .ok (.goto (-98), 3) := dk_167 255 158 (dk_at dksX1_distance_5 19 rfl rfl)
theorem dX1_distance_134 : decode cX1_distance 134 = .ok (.iload_n 3, 1) := dk_29 (dk_at dksX1_distance_5 22 rfl rfl)
theorem dX1_distance_135 : decode cX1_distance 135 = .ok (.ireturn, 1) := dk_172 (dk_at dksX1_distance_5 23 rfl rfl)
abbrev cX1_plan : ByteArray := prog_1_method_45_code
def yX1_plan : MethodName := ⟨RX1, "plan", "(I)I"⟩
def dkwX1_plan_4 : List UInt8 := [3, 16, 7, 182, 0, 125, 42, 25, 4, 182, 0, 236, 54, 5, 45, 182, 0, 190, 172]
abbrev dktX1_plan_4 : List UInt8 := dkwX1_plan_4 ++ []
def dkwX1_plan_3 : List UInt8 := [180, 0, 37, 45, 182, 1, 116, 58, 4, 42, 25, 4, 182, 0, 190, 16, 99, 163, 0, 7, 4, 167, 0, 4]
abbrev dktX1_plan_3 : List UInt8 := dkwX1_plan_3 ++ dktX1_plan_4
def dkwX1_plan_2 : List UInt8 := [182, 1, 103, 154, 0, 7, 4, 167, 0, 4, 3, 16, 6, 182, 0, 125, 4, 44, 184, 1, 110, 78, 42]
abbrev dktX1_plan_2 : List UInt8 := dkwX1_plan_2 ++ dktX1_plan_3
def dkwX1_plan_1 : List UInt8 := [180, 0, 37, 27, 182, 1, 106, 77, 42, 44, 198, 0, 7, 4, 167, 0, 4, 3, 8, 182, 0, 125, 42, 44]
abbrev dktX1_plan_1 : List UInt8 := dkwX1_plan_1 ++ dktX1_plan_2
def dkwX1_plan_0 : List UInt8 := [27, 184, 1, 85, 42, 182, 0, 209, 42, 42, 180, 0, 37, 182, 1, 46, 182, 1, 103, 7, 182, 0, 125, 42]
abbrev dktX1_plan_0 : List UInt8 := dkwX1_plan_0 ++ dktX1_plan_1
theorem dksX1_plan_0 : cX1_plan.data.toList.drop 0 = dktX1_plan_0 := by decide +kernel
theorem dksX1_plan_1 : cX1_plan.data.toList.drop 24 = dktX1_plan_1 := dk_seg dksX1_plan_0 24 rfl rfl
theorem dksX1_plan_2 : cX1_plan.data.toList.drop 48 = dktX1_plan_2 := dk_seg dksX1_plan_1 24 rfl rfl
theorem dksX1_plan_3 : cX1_plan.data.toList.drop 71 = dktX1_plan_3 := dk_seg dksX1_plan_2 23 rfl rfl
theorem dksX1_plan_4 : cX1_plan.data.toList.drop 95 = dktX1_plan_4 := dk_seg dksX1_plan_3 24 rfl rfl
theorem dX1_plan_0 : decode cX1_plan 0 = .ok (.iload_n 1, 1) := dk_27 (dk_at dksX1_plan_0 0 rfl rfl)
theorem dX1_plan_1 : decode cX1_plan 1 = .ok (.invokestatic 341, 3) := dk_184 1 85 (dk_at dksX1_plan_0 1 rfl rfl)
theorem dX1_plan_4 : decode cX1_plan 4 = .ok (.aload_n 0, 1) := dk_42 (dk_at dksX1_plan_0 4 rfl rfl)
theorem dX1_plan_5 : decode cX1_plan 5 = .ok (.invokevirtual 209, 3) := dk_182 0 209 (dk_at dksX1_plan_0 5 rfl rfl)
theorem dX1_plan_8 : decode cX1_plan 8 = .ok (.aload_n 0, 1) := dk_42 (dk_at dksX1_plan_0 8 rfl rfl)
theorem dX1_plan_9 : decode cX1_plan 9 = .ok (.aload_n 0, 1) := dk_42 (dk_at dksX1_plan_0 9 rfl rfl)
theorem dX1_plan_10 : decode cX1_plan 10 = .ok (.getfield 37, 3) := dk_180 0 37 (dk_at dksX1_plan_0 10 rfl rfl)
theorem dX1_plan_13 : decode cX1_plan 13 = .ok (.invokevirtual 302, 3) := dk_182 1 46 (dk_at dksX1_plan_0 13 rfl rfl)
theorem dX1_plan_16 : decode cX1_plan 16 = .ok (.invokevirtual 359, 3) := dk_182 1 103 (dk_at dksX1_plan_0 16 rfl rfl)
theorem dX1_plan_19 : decode cX1_plan 19 = .ok (.iconst 4, 1) := dk_7 (dk_at dksX1_plan_0 19 rfl rfl)
theorem dX1_plan_20 : decode cX1_plan 20 = .ok (.invokevirtual 125, 3) := dk_182 0 125 (dk_at dksX1_plan_0 20 rfl rfl)
theorem dX1_plan_23 : decode cX1_plan 23 = .ok (.aload_n 0, 1) := dk_42 (dk_at dksX1_plan_0 23 rfl rfl)
theorem dX1_plan_24 : decode cX1_plan 24 = .ok (.getfield 37, 3) := dk_180 0 37 (dk_at dksX1_plan_1 0 rfl rfl)
theorem dX1_plan_27 : decode cX1_plan 27 = .ok (.iload_n 1, 1) := dk_27 (dk_at dksX1_plan_1 3 rfl rfl)
theorem dX1_plan_28 : decode cX1_plan 28 = .ok (.invokevirtual 362, 3) := dk_182 1 106 (dk_at dksX1_plan_1 4 rfl rfl)
theorem dX1_plan_31 : decode cX1_plan 31 = .ok (.astore_n 2, 1) := dk_77 (dk_at dksX1_plan_1 7 rfl rfl)
theorem dX1_plan_32 : decode cX1_plan 32 = .ok (.aload_n 0, 1) := dk_42 (dk_at dksX1_plan_1 8 rfl rfl)
theorem dX1_plan_33 : decode cX1_plan 33 = .ok (.aload_n 2, 1) := dk_44 (dk_at dksX1_plan_1 9 rfl rfl)
theorem dX1_plan_34 : decode cX1_plan 34 = .ok (.ifnull 7, 3) := dk_198 0 7 (dk_at dksX1_plan_1 10 rfl rfl)
theorem dX1_plan_37 : decode cX1_plan 37 = .ok (.iconst 1, 1) := dk_4 (dk_at dksX1_plan_1 13 rfl rfl)
theorem dX1_plan_38 : decode cX1_plan 38 = .ok (.goto 4, 3) := dk_167 0 4 (dk_at dksX1_plan_1 14 rfl rfl)
theorem dX1_plan_41 : decode cX1_plan 41 = .ok (.iconst 0, 1) := dk_3 (dk_at dksX1_plan_1 17 rfl rfl)
theorem dX1_plan_42 : decode cX1_plan 42 = .ok (.iconst 5, 1) := dk_8 (dk_at dksX1_plan_1 18 rfl rfl)
theorem dX1_plan_43 : decode cX1_plan 43 = .ok (.invokevirtual 125, 3) := dk_182 0 125 (dk_at dksX1_plan_1 19 rfl rfl)
theorem dX1_plan_46 : decode cX1_plan 46 = .ok (.aload_n 0, 1) := dk_42 (dk_at dksX1_plan_1 22 rfl rfl)
theorem dX1_plan_47 : decode cX1_plan 47 = .ok (.aload_n 2, 1) := dk_44 (dk_at dksX1_plan_1 23 rfl rfl)
theorem dX1_plan_48 : decode cX1_plan 48 = .ok (.invokevirtual 359, 3) := dk_182 1 103 (dk_at dksX1_plan_2 0 rfl rfl)
theorem dX1_plan_51 : decode cX1_plan 51 = .ok (.ifCond .ne 7, 3) := dk_154 0 7 (dk_at dksX1_plan_2 3 rfl rfl)
theorem dX1_plan_54 : decode cX1_plan 54 = .ok (.iconst 1, 1) := dk_4 (dk_at dksX1_plan_2 6 rfl rfl)
theorem dX1_plan_55 : decode cX1_plan 55 = .ok (.goto 4, 3) := dk_167 0 4 (dk_at dksX1_plan_2 7 rfl rfl)
theorem dX1_plan_58 : decode cX1_plan 58 = .ok (.iconst 0, 1) := dk_3 (dk_at dksX1_plan_2 10 rfl rfl)
theorem dX1_plan_59 : decode cX1_plan 59 = .ok (.bipush 6, 2) := dk_16 6 (dk_at dksX1_plan_2 11 rfl rfl)
theorem dX1_plan_61 : decode cX1_plan 61 = .ok (.invokevirtual 125, 3) := dk_182 0 125 (dk_at dksX1_plan_2 13 rfl rfl)
theorem dX1_plan_64 : decode cX1_plan 64 = .ok (.iconst 1, 1) := dk_4 (dk_at dksX1_plan_2 16 rfl rfl)
theorem dX1_plan_65 : decode cX1_plan 65 = .ok (.aload_n 2, 1) := dk_44 (dk_at dksX1_plan_2 17 rfl rfl)
theorem dX1_plan_66 : decode cX1_plan 66 = .ok (.invokestatic 366, 3) := dk_184 1 110 (dk_at dksX1_plan_2 18 rfl rfl)
theorem dX1_plan_69 : decode cX1_plan 69 = .ok (.astore_n 3, 1) := dk_78 (dk_at dksX1_plan_2 21 rfl rfl)
theorem dX1_plan_70 : decode cX1_plan 70 = .ok (.aload_n 0, 1) := dk_42 (dk_at dksX1_plan_2 22 rfl rfl)
theorem dX1_plan_71 : decode cX1_plan 71 = .ok (.getfield 37, 3) := dk_180 0 37 (dk_at dksX1_plan_3 0 rfl rfl)
theorem dX1_plan_74 : decode cX1_plan 74 = .ok (.aload_n 3, 1) := dk_45 (dk_at dksX1_plan_3 3 rfl rfl)
theorem dX1_plan_75 : decode cX1_plan 75 = .ok (.invokevirtual 372, 3) := dk_182 1 116 (dk_at dksX1_plan_3 4 rfl rfl)
theorem dX1_plan_78 : decode cX1_plan 78 = .ok (.astore 4, 2) := dk_58 4 (dk_at dksX1_plan_3 7 rfl rfl)
theorem dX1_plan_80 : decode cX1_plan 80 = .ok (.aload_n 0, 1) := dk_42 (dk_at dksX1_plan_3 9 rfl rfl)
theorem dX1_plan_81 : decode cX1_plan 81 = .ok (.aload 4, 2) := dk_25 4 (dk_at dksX1_plan_3 10 rfl rfl)
theorem dX1_plan_83 : decode cX1_plan 83 = .ok (.invokevirtual 190, 3) := dk_182 0 190 (dk_at dksX1_plan_3 12 rfl rfl)
theorem dX1_plan_86 : decode cX1_plan 86 = .ok (.bipush 99, 2) := dk_16 99 (dk_at dksX1_plan_3 15 rfl rfl)
theorem dX1_plan_88 : decode cX1_plan 88 = .ok (.if_icmp .gt 7, 3) := dk_163 0 7 (dk_at dksX1_plan_3 17 rfl rfl)
theorem dX1_plan_91 : decode cX1_plan 91 = .ok (.iconst 1, 1) := dk_4 (dk_at dksX1_plan_3 20 rfl rfl)
theorem dX1_plan_92 : decode cX1_plan 92 = .ok (.goto 4, 3) := dk_167 0 4 (dk_at dksX1_plan_3 21 rfl rfl)
theorem dX1_plan_95 : decode cX1_plan 95 = .ok (.iconst 0, 1) := dk_3 (dk_at dksX1_plan_4 0 rfl rfl)
theorem dX1_plan_96 : decode cX1_plan 96 = .ok (.bipush 7, 2) := dk_16 7 (dk_at dksX1_plan_4 1 rfl rfl)
theorem dX1_plan_98 : decode cX1_plan 98 = .ok (.invokevirtual 125, 3) := dk_182 0 125 (dk_at dksX1_plan_4 3 rfl rfl)
theorem dX1_plan_101 : decode cX1_plan 101 = .ok (.aload_n 0, 1) := dk_42 (dk_at dksX1_plan_4 6 rfl rfl)
theorem dX1_plan_102 : decode cX1_plan 102 = .ok (.aload 4, 2) := dk_25 4 (dk_at dksX1_plan_4 7 rfl rfl)
theorem dX1_plan_104 : decode cX1_plan 104 = .ok (.invokevirtual 236, 3) := dk_182 0 236 (dk_at dksX1_plan_4 9 rfl rfl)
theorem dX1_plan_107 : decode cX1_plan 107 = .ok (.istore 5, 2) := dk_54 5 (dk_at dksX1_plan_4 12 rfl rfl)
theorem dX1_plan_109 : decode cX1_plan 109 = .ok (.aload_n 3, 1) := dk_45 (dk_at dksX1_plan_4 14 rfl rfl)
theorem dX1_plan_110 : decode cX1_plan 110 = .ok (.invokevirtual 190, 3) := dk_182 0 190 (dk_at dksX1_plan_4 15 rfl rfl)
theorem dX1_plan_113 : decode cX1_plan 113 = .ok (.ireturn, 1) := dk_172 (dk_at dksX1_plan_4 18 rfl rfl)
abbrev cX1_undo : ByteArray := prog_1_method_47_code
def yX1_undo : MethodName := ⟨RX1, "undo", "()I"⟩
def dkwX1_undo_2 : List UInt8 := [180, 0, 51, 182, 0, 71, 172]
abbrev dktX1_undo_2 : List UInt8 := dkwX1_undo_2 ++ []
def dkwX1_undo_1 : List UInt8 := [180, 0, 51, 182, 1, 121, 192, 0, 32, 181, 0, 37, 42, 180, 0, 44, 182, 1, 124, 192, 0, 89, 76, 42]
abbrev dktX1_undo_1 : List UInt8 := dkwX1_undo_1 ++ dktX1_undo_2
def dkwX1_undo_0 : List UInt8 := [42, 42, 180, 0, 51, 182, 1, 120, 154, 0, 7, 4, 167, 0, 4, 3, 16, 6, 182, 0, 125, 42, 42]
abbrev dktX1_undo_0 : List UInt8 := dkwX1_undo_0 ++ dktX1_undo_1
theorem dksX1_undo_0 : cX1_undo.data.toList.drop 0 = dktX1_undo_0 := by decide +kernel
theorem dksX1_undo_1 : cX1_undo.data.toList.drop 23 = dktX1_undo_1 := dk_seg dksX1_undo_0 23 rfl rfl
theorem dksX1_undo_2 : cX1_undo.data.toList.drop 47 = dktX1_undo_2 := dk_seg dksX1_undo_1 24 rfl rfl
theorem dX1_undo_0 : decode cX1_undo 0 = .ok (.aload_n 0, 1) := dk_42 (dk_at dksX1_undo_0 0 rfl rfl)
theorem dX1_undo_1 : decode cX1_undo 1 = .ok (.aload_n 0, 1) := dk_42 (dk_at dksX1_undo_0 1 rfl rfl)
theorem dX1_undo_2 : decode cX1_undo 2 = .ok (.getfield 51, 3) := dk_180 0 51 (dk_at dksX1_undo_0 2 rfl rfl)
theorem dX1_undo_5 : decode cX1_undo 5 = .ok (.invokevirtual 376, 3) := dk_182 1 120 (dk_at dksX1_undo_0 5 rfl rfl)
theorem dX1_undo_8 : decode cX1_undo 8 = .ok (.ifCond .ne 7, 3) := dk_154 0 7 (dk_at dksX1_undo_0 8 rfl rfl)
theorem dX1_undo_11 : decode cX1_undo 11 = .ok (.iconst 1, 1) := dk_4 (dk_at dksX1_undo_0 11 rfl rfl)
theorem dX1_undo_12 : decode cX1_undo 12 = .ok (.goto 4, 3) := dk_167 0 4 (dk_at dksX1_undo_0 12 rfl rfl)
theorem dX1_undo_15 : decode cX1_undo 15 = .ok (.iconst 0, 1) := dk_3 (dk_at dksX1_undo_0 15 rfl rfl)
theorem dX1_undo_16 : decode cX1_undo 16 = .ok (.bipush 6, 2) := dk_16 6 (dk_at dksX1_undo_0 16 rfl rfl)
theorem dX1_undo_18 : decode cX1_undo 18 = .ok (.invokevirtual 125, 3) := dk_182 0 125 (dk_at dksX1_undo_0 18 rfl rfl)
theorem dX1_undo_21 : decode cX1_undo 21 = .ok (.aload_n 0, 1) := dk_42 (dk_at dksX1_undo_0 21 rfl rfl)
theorem dX1_undo_22 : decode cX1_undo 22 = .ok (.aload_n 0, 1) := dk_42 (dk_at dksX1_undo_0 22 rfl rfl)
theorem dX1_undo_23 : decode cX1_undo 23 = .ok (.getfield 51, 3) := dk_180 0 51 (dk_at dksX1_undo_1 0 rfl rfl)
theorem dX1_undo_26 : decode cX1_undo 26 = .ok (.invokevirtual 377, 3) := dk_182 1 121 (dk_at dksX1_undo_1 3 rfl rfl)
theorem dX1_undo_29 : decode cX1_undo 29 = .ok (.checkcast 32, 3) := dk_192 0 32 (dk_at dksX1_undo_1 6 rfl rfl)
theorem dX1_undo_32 : decode cX1_undo 32 = .ok (.putfield 37, 3) := dk_181 0 37 (dk_at dksX1_undo_1 9 rfl rfl)
theorem dX1_undo_35 : decode cX1_undo 35 = .ok (.aload_n 0, 1) := dk_42 (dk_at dksX1_undo_1 12 rfl rfl)
theorem dX1_undo_36 : decode cX1_undo 36 = .ok (.getfield 44, 3) := dk_180 0 44 (dk_at dksX1_undo_1 13 rfl rfl)
theorem dX1_undo_39 : decode cX1_undo 39 = .ok (.invokevirtual 380, 3) := dk_182 1 124 (dk_at dksX1_undo_1 16 rfl rfl)
theorem dX1_undo_42 : decode cX1_undo 42 = .ok (.checkcast 89, 3) := dk_192 0 89 (dk_at dksX1_undo_1 19 rfl rfl)
theorem dX1_undo_45 : decode cX1_undo 45 = .ok (.astore_n 1, 1) := dk_76 (dk_at dksX1_undo_1 22 rfl rfl)
theorem dX1_undo_46 : decode cX1_undo 46 = .ok (.aload_n 0, 1) := dk_42 (dk_at dksX1_undo_1 23 rfl rfl)
theorem dX1_undo_47 : decode cX1_undo 47 = .ok (.getfield 51, 3) := dk_180 0 51 (dk_at dksX1_undo_2 0 rfl rfl)
theorem dX1_undo_50 : decode cX1_undo 50 = .ok (.invokevirtual 71, 3) := dk_182 0 71 (dk_at dksX1_undo_2 3 rfl rfl)
theorem dX1_undo_53 : decode cX1_undo 53 = .ok (.ireturn, 1) := dk_172 (dk_at dksX1_undo_2 6 rfl rfl)
abbrev cX1_restore : ByteArray := prog_1_method_50_code
def yX1_restore : MethodName := ⟨RX1, "restore", "()I"⟩
def dkwX1_restore_2 : List UInt8 := [180, 0, 51, 182, 0, 139, 42, 180, 0, 37, 182, 1, 142, 172]
abbrev dktX1_restore_2 : List UInt8 := dkwX1_restore_2 ++ []
def dkwX1_restore_1 : List UInt8 := [182, 0, 79, 181, 0, 37, 42, 187, 0, 41, 89, 42, 180, 1, 139, 183, 1, 136, 181, 0, 44, 42]
abbrev dktX1_restore_1 : List UInt8 := dkwX1_restore_1 ++ dktX1_restore_2
def dkwX1_restore_0 : List UInt8 := [42, 42, 180, 1, 133, 198, 0, 7, 4, 167, 0, 4, 3, 16, 6, 182, 0, 125, 42, 42, 180, 1, 133]
abbrev dktX1_restore_0 : List UInt8 := dkwX1_restore_0 ++ dktX1_restore_1
theorem dksX1_restore_0 : cX1_restore.data.toList.drop 0 = dktX1_restore_0 := by decide +kernel
theorem dksX1_restore_1 : cX1_restore.data.toList.drop 23 = dktX1_restore_1 := dk_seg dksX1_restore_0 23 rfl rfl
theorem dksX1_restore_2 : cX1_restore.data.toList.drop 45 = dktX1_restore_2 := dk_seg dksX1_restore_1 22 rfl rfl
theorem dX1_restore_0 : decode cX1_restore 0 = .ok (.aload_n 0, 1) := dk_42 (dk_at dksX1_restore_0 0 rfl rfl)
theorem dX1_restore_1 : decode cX1_restore 1 = .ok (.aload_n 0, 1) := dk_42 (dk_at dksX1_restore_0 1 rfl rfl)
theorem dX1_restore_2 : decode cX1_restore 2 = .ok (.getfield 389, 3) := dk_180 1 133 (dk_at dksX1_restore_0 2 rfl rfl)
theorem dX1_restore_5 : decode cX1_restore 5 = .ok (.ifnull 7, 3) := dk_198 0 7 (dk_at dksX1_restore_0 5 rfl rfl)
theorem dX1_restore_8 : decode cX1_restore 8 = .ok (.iconst 1, 1) := dk_4 (dk_at dksX1_restore_0 8 rfl rfl)
theorem dX1_restore_9 : decode cX1_restore 9 = .ok (.goto 4, 3) := dk_167 0 4 (dk_at dksX1_restore_0 9 rfl rfl)
theorem dX1_restore_12 : decode cX1_restore 12 = .ok (.iconst 0, 1) := dk_3 (dk_at dksX1_restore_0 12 rfl rfl)
theorem dX1_restore_13 : decode cX1_restore 13 = .ok (.bipush 6, 2) := dk_16 6 (dk_at dksX1_restore_0 13 rfl rfl)
theorem dX1_restore_15 : decode cX1_restore 15 = .ok (.invokevirtual 125, 3) := dk_182 0 125 (dk_at dksX1_restore_0 15 rfl rfl)
theorem dX1_restore_18 : decode cX1_restore 18 = .ok (.aload_n 0, 1) := dk_42 (dk_at dksX1_restore_0 18 rfl rfl)
theorem dX1_restore_19 : decode cX1_restore 19 = .ok (.aload_n 0, 1) := dk_42 (dk_at dksX1_restore_0 19 rfl rfl)
theorem dX1_restore_20 : decode cX1_restore 20 = .ok (.getfield 389, 3) := dk_180 1 133 (dk_at dksX1_restore_0 20 rfl rfl)
theorem dX1_restore_23 : decode cX1_restore 23 = .ok (.invokevirtual 79, 3) := dk_182 0 79 (dk_at dksX1_restore_1 0 rfl rfl)
theorem dX1_restore_26 : decode cX1_restore 26 = .ok (.putfield 37, 3) := dk_181 0 37 (dk_at dksX1_restore_1 3 rfl rfl)
theorem dX1_restore_29 : decode cX1_restore 29 = .ok (.aload_n 0, 1) := dk_42 (dk_at dksX1_restore_1 6 rfl rfl)
theorem dX1_restore_30 : decode cX1_restore 30 = .ok (.new 41, 3) := dk_187 0 41 (dk_at dksX1_restore_1 7 rfl rfl)
theorem dX1_restore_33 : decode cX1_restore 33 = .ok (.dup, 1) := dk_89 (dk_at dksX1_restore_1 10 rfl rfl)
theorem dX1_restore_34 : decode cX1_restore 34 = .ok (.aload_n 0, 1) := dk_42 (dk_at dksX1_restore_1 11 rfl rfl)
theorem dX1_restore_35 : decode cX1_restore 35 = .ok (.getfield 395, 3) := dk_180 1 139 (dk_at dksX1_restore_1 12 rfl rfl)
theorem dX1_restore_38 : decode cX1_restore 38 = .ok (.invokespecial 392, 3) := dk_183 1 136 (dk_at dksX1_restore_1 15 rfl rfl)
theorem dX1_restore_41 : decode cX1_restore 41 = .ok (.putfield 44, 3) := dk_181 0 44 (dk_at dksX1_restore_1 18 rfl rfl)
theorem dX1_restore_44 : decode cX1_restore 44 = .ok (.aload_n 0, 1) := dk_42 (dk_at dksX1_restore_1 21 rfl rfl)
theorem dX1_restore_45 : decode cX1_restore 45 = .ok (.getfield 51, 3) := dk_180 0 51 (dk_at dksX1_restore_2 0 rfl rfl)
theorem dX1_restore_48 : decode cX1_restore 48 = .ok (.invokevirtual 139, 3) := dk_182 0 139 (dk_at dksX1_restore_2 3 rfl rfl)
theorem dX1_restore_51 : decode cX1_restore 51 = .ok (.aload_n 0, 1) := dk_42 (dk_at dksX1_restore_2 6 rfl rfl)
theorem dX1_restore_52 : decode cX1_restore 52 = .ok (.getfield 37, 3) := dk_180 0 37 (dk_at dksX1_restore_2 7 rfl rfl)
theorem dX1_restore_55 : decode cX1_restore 55 = .ok (.invokevirtual 398, 3) := dk_182 1 142 (dk_at dksX1_restore_2 10 rfl rfl)
theorem dX1_restore_58 : decode cX1_restore 58 = .ok (.ireturn, 1) := dk_172 (dk_at dksX1_restore_2 13 rfl rfl)
theorem q118 : (Jvm.Cond.initialized "DanceNotation") ∈ lw_all := lw_g (lw_at lw_m1 1 rfl) rfl
theorem q178 : (Jvm.Cond.instantiable "DanceNotation" (10 : Nat)) ∈ lw_all := lw_g (lw_at lw_m1 61 rfl) rfl
theorem q180 : (Jvm.Cond.instanceMethod ({ cls := "DanceNotation", name := "<init>", desc := "()V" } : Jvm.MethodName)) ∈ lw_all := lw_g (lw_at lw_m1 63 rfl) rfl
theorem q181 : (Jvm.Cond.code ({ cls := "DanceNotation", name := "<init>", desc := "()V" } : Jvm.MethodName) prog_1_method_11_code (1 : Nat) (Option.none : Option Jvm.ClassFile.FieldType)) ∈ lw_all := lw_g (lw_at lw_m1 64 rfl) rfl
theorem q182 : (Jvm.Cond.methodLink "DanceNotation" (29 : Nat) ({ cls := "java/lang/Object", name := "<init>", desc := "()V" } : Jvm.MethodName)) ∈ lw_all := lw_g (lw_at lw_m1 65 rfl) rfl
theorem q185 : (Jvm.Cond.classLink "DanceNotation" (32 : Nat) "DanceNotation$Dance") ∈ lw_all := lw_g (lw_at lw_m1 68 rfl) rfl
theorem q187 : (Jvm.Cond.methodLink "DanceNotation" (34 : Nat) ({ cls := "DanceNotation$Dance", name := "<init>", desc := "(II)V" } : Jvm.MethodName)) ∈ lw_all := lw_g (lw_at lw_m1 70 rfl) rfl
theorem q196 : (Jvm.Cond.fieldLinkNest "DanceNotation" (351 : Nat) "DanceNotation$Dance" "columns" "I" "DanceNotation") ∈ lw_tbl := lw_at lw_m1 79 rfl
theorem q200 : (Jvm.Cond.fieldLinkNest "DanceNotation" (381 : Nat) "DanceNotation$Dance" "rows" "I" "DanceNotation") ∈ lw_tbl := lw_at lw_m1 83 rfl
theorem q204 : (Jvm.Cond.fieldLinkNest "DanceNotation" (147 : Nat) "DanceNotation$Dance" "starts" "[I" "DanceNotation") ∈ lw_tbl := lw_at lw_m1 87 rfl
theorem q207 : (Jvm.Cond.fieldLinkNest "DanceNotation" (344 : Nat) "DanceNotation$Dance" "formations" "[[I" "DanceNotation") ∈ lw_tbl := lw_at lw_m1 90 rfl
theorem q210 : (Jvm.Cond.fieldLinkNest "DanceNotation" (121 : Nat) "DanceNotation$Dance" "piece" "LDanceNotation$Node;" "DanceNotation") ∈ lw_tbl := lw_at lw_m1 93 rfl
theorem q214 : (Jvm.Cond.fieldLinkNest "DanceNotation" (280 : Nat) "DanceNotation$Dance" "score" "LDanceNotation$Score;" "DanceNotation") ∈ lw_tbl := lw_at lw_m1 97 rfl
theorem q229 : (Jvm.Cond.classLink "DanceNotation" (41 : Nat) "java/util/LinkedList") ∈ lw_all := lw_g (lw_at lw_m1 112 rfl) rfl
theorem q231 : (Jvm.Cond.methodLink "DanceNotation" (43 : Nat) ({ cls := "java/util/LinkedList", name := "<init>", desc := "()V" } : Jvm.MethodName)) ∈ lw_all := lw_g (lw_at lw_m1 114 rfl) rfl
theorem q265 : (Jvm.Cond.classLink "DanceNotation" (48 : Nat) "java/util/ArrayDeque") ∈ lw_all := lw_g (lw_at lw_m1 148 rfl) rfl
theorem q267 : (Jvm.Cond.methodLink "DanceNotation" (50 : Nat) ({ cls := "java/util/ArrayDeque", name := "<init>", desc := "()V" } : Jvm.MethodName)) ∈ lw_all := lw_g (lw_at lw_m1 150 rfl) rfl
theorem q283 : (Jvm.Cond.classLink "DanceNotation" (55 : Nat) "java/lang/StringBuilder") ∈ lw_all := lw_g (lw_at lw_m1 166 rfl) rfl
theorem q285 : (Jvm.Cond.methodLink "DanceNotation" (57 : Nat) ({ cls := "java/lang/StringBuilder", name := "<init>", desc := "()V" } : Jvm.MethodName)) ∈ lw_all := lw_g (lw_at lw_m1 168 rfl) rfl
theorem q315 : (Jvm.Cond.stringRef "DanceNotation" (62 : Nat) "") ∈ lw_tbl := lw_at lw_m1 198 rfl
theorem q316 : (Jvm.Cond.fieldLink "DanceNotation" (37 : Nat) "DanceNotation" "dance" "LDanceNotation$Dance;") ∈ lw_all := lw_g (lw_at lw_m1 199 rfl) rfl
theorem q317 : (Jvm.Cond.fieldLink "DanceNotation" (44 : Nat) "DanceNotation" "commands" "Ljava/util/LinkedList;") ∈ lw_all := lw_g (lw_at lw_m1 200 rfl) rfl
theorem q318 : (Jvm.Cond.fieldLink "DanceNotation" (51 : Nat) "DanceNotation" "undoSteps" "Ljava/util/ArrayDeque;") ∈ lw_all := lw_g (lw_at lw_m1 201 rfl) rfl
theorem q319 : (Jvm.Cond.fieldLink "DanceNotation" (389 : Nat) "DanceNotation" "savedDance" "LDanceNotation$Dance;") ∈ lw_all := lw_g (lw_at lw_m1 202 rfl) rfl
theorem q320 : (Jvm.Cond.fieldLink "DanceNotation" (395 : Nat) "DanceNotation" "savedCommands" "Ljava/util/LinkedList;") ∈ lw_all := lw_g (lw_at lw_m1 203 rfl) rfl
theorem q321 : (Jvm.Cond.fieldLink "DanceNotation" (58 : Nat) "DanceNotation" "input" "Ljava/lang/StringBuilder;") ∈ lw_all := lw_g (lw_at lw_m1 204 rfl) rfl
theorem q322 : (Jvm.Cond.fieldLink "DanceNotation" (64 : Nat) "DanceNotation" "output" "Ljava/lang/String;") ∈ lw_all := lw_g (lw_at lw_m1 205 rfl) rfl
theorem q323 : (Jvm.Cond.fieldLink "DanceNotation" (199 : Nat) "DanceNotation" "lastError" "LDanceNotation$SyntaxException;") ∈ lw_all := lw_g (lw_at lw_m1 206 rfl) rfl
theorem q324 : (Jvm.Cond.fieldLink "DanceNotation" (68 : Nat) "DanceNotation" "refusedDancer" "I") ∈ lw_all := lw_g (lw_at lw_m1 207 rfl) rfl
theorem q325 : (Jvm.Cond.fieldLink "DanceNotation" (16 : Nat) "DanceNotation" "reason" "I") ∈ lw_all := lw_g (lw_at lw_m1 208 rfl) rfl
theorem q326 : (Jvm.Cond.lays "DanceNotation" "DanceNotation" "dance" "LDanceNotation$Dance;") ∈ lw_all := lw_g (lw_at lw_m1 209 rfl) rfl
theorem q327 : (Jvm.Cond.soleField "DanceNotation" "dance") ∈ lw_all := lw_g (lw_at lw_m1 210 rfl) rfl
theorem q328 : (Jvm.Cond.lays "DanceNotation" "DanceNotation" "commands" "Ljava/util/LinkedList;") ∈ lw_all := lw_g (lw_at lw_m1 211 rfl) rfl
theorem q329 : (Jvm.Cond.soleField "DanceNotation" "commands") ∈ lw_all := lw_g (lw_at lw_m1 212 rfl) rfl
theorem q330 : (Jvm.Cond.laysFinal "DanceNotation" "DanceNotation" "undoSteps" "Ljava/util/ArrayDeque;") ∈ lw_all := lw_g (lw_at lw_m1 213 rfl) rfl
theorem q331 : (Jvm.Cond.soleField "DanceNotation" "undoSteps") ∈ lw_all := lw_g (lw_at lw_m1 214 rfl) rfl
theorem q332 : (Jvm.Cond.lays "DanceNotation" "DanceNotation" "savedDance" "LDanceNotation$Dance;") ∈ lw_all := lw_g (lw_at lw_m1 215 rfl) rfl
theorem q333 : (Jvm.Cond.soleField "DanceNotation" "savedDance") ∈ lw_all := lw_g (lw_at lw_m1 216 rfl) rfl
theorem q334 : (Jvm.Cond.lays "DanceNotation" "DanceNotation" "savedCommands" "Ljava/util/LinkedList;") ∈ lw_all := lw_g (lw_at lw_m1 217 rfl) rfl
theorem q335 : (Jvm.Cond.soleField "DanceNotation" "savedCommands") ∈ lw_all := lw_g (lw_at lw_m1 218 rfl) rfl
theorem q336 : (Jvm.Cond.lays "DanceNotation" "DanceNotation" "input" "Ljava/lang/StringBuilder;") ∈ lw_all := lw_g (lw_at lw_m1 219 rfl) rfl
theorem q337 : (Jvm.Cond.soleField "DanceNotation" "input") ∈ lw_all := lw_g (lw_at lw_m1 220 rfl) rfl
theorem q338 : (Jvm.Cond.lays "DanceNotation" "DanceNotation" "output" "Ljava/lang/String;") ∈ lw_all := lw_g (lw_at lw_m1 221 rfl) rfl
theorem q339 : (Jvm.Cond.soleField "DanceNotation" "output") ∈ lw_all := lw_g (lw_at lw_m1 222 rfl) rfl
theorem q340 : (Jvm.Cond.lays "DanceNotation" "DanceNotation" "lastError" "LDanceNotation$SyntaxException;") ∈ lw_all := lw_g (lw_at lw_m1 223 rfl) rfl
theorem q341 : (Jvm.Cond.soleField "DanceNotation" "lastError") ∈ lw_all := lw_g (lw_at lw_m1 224 rfl) rfl
theorem q342 : (Jvm.Cond.lays "DanceNotation" "DanceNotation" "refusedDancer" "I") ∈ lw_all := lw_g (lw_at lw_m1 225 rfl) rfl
theorem q343 : (Jvm.Cond.soleField "DanceNotation" "refusedDancer") ∈ lw_all := lw_g (lw_at lw_m1 226 rfl) rfl
theorem q344 : (Jvm.Cond.lays "DanceNotation" "DanceNotation" "reason" "I") ∈ lw_all := lw_g (lw_at lw_m1 227 rfl) rfl
theorem q345 : (Jvm.Cond.soleField "DanceNotation" "reason") ∈ lw_all := lw_g (lw_at lw_m1 228 rfl) rfl
theorem q346 : (Jvm.Cond.superclass "DanceNotation" "java/lang/Object") ∈ lw_all := lw_g (lw_at lw_m1 229 rfl) rfl
theorem q348 : (Jvm.Cond.instanceMethod ({ cls := "DanceNotation", name := "reason", desc := "()I" } : Jvm.MethodName)) ∈ lw_all := lw_g (lw_at lw_m1 231 rfl) rfl
theorem q349 : (Jvm.Cond.selects "DanceNotation" ({ cls := "DanceNotation", name := "reason", desc := "()I" } : Jvm.MethodName) ({ cls := "DanceNotation", name := "reason", desc := "()I" } : Jvm.MethodName)) ∈ lw_all := lw_g (lw_at lw_m1 232 rfl) rfl
theorem q350 : (Jvm.Cond.code ({ cls := "DanceNotation", name := "reason", desc := "()I" } : Jvm.MethodName) prog_1_method_46_code (1 : Nat) (Option.some Jvm.ClassFile.FieldType.int)) ∈ lw_all := lw_g (lw_at lw_m1 233 rfl) rfl
theorem q352 : (Jvm.Cond.instanceMethod ({ cls := "DanceNotation", name := "isReplayed", desc := "()Z" } : Jvm.MethodName)) ∈ lw_all := lw_g (lw_at lw_m1 235 rfl) rfl
theorem q353 : (Jvm.Cond.selects "DanceNotation" ({ cls := "DanceNotation", name := "isReplayed", desc := "()Z" } : Jvm.MethodName) ({ cls := "DanceNotation", name := "isReplayed", desc := "()Z" } : Jvm.MethodName)) ∈ lw_all := lw_g (lw_at lw_m1 236 rfl) rfl
theorem q354 : (Jvm.Cond.code ({ cls := "DanceNotation", name := "isReplayed", desc := "()Z" } : Jvm.MethodName) prog_1_method_48_code (5 : Nat) (Option.some Jvm.ClassFile.FieldType.boolean)) ∈ lw_all := lw_g (lw_at lw_m1 237 rfl) rfl
theorem q355 : (Jvm.Cond.methodLink "DanceNotation" (384 : Nat) ({ cls := "java/util/LinkedList", name := "iterator", desc := "()Ljava/util/Iterator;" } : Jvm.MethodName)) ∈ lw_all := lw_g (lw_at lw_m1 238 rfl) rfl
theorem q762 : (Jvm.Cond.interfaceEntry "DanceNotation" (256 : Nat)) ∈ lw_tbl := lw_at lw_m3 165 rfl
theorem q763 : (Jvm.Cond.methodLink "DanceNotation" (256 : Nat) ({ cls := "java/util/Iterator", name := "hasNext", desc := "()Z" } : Jvm.MethodName)) ∈ lw_all := lw_g (lw_at lw_m3 166 rfl) rfl
theorem q818 : (Jvm.Cond.interfaceEntry "DanceNotation" (262 : Nat)) ∈ lw_tbl := lw_at lw_m3 221 rfl
theorem q819 : (Jvm.Cond.methodLink "DanceNotation" (262 : Nat) ({ cls := "java/util/Iterator", name := "next", desc := "()Ljava/lang/Object;" } : Jvm.MethodName)) ∈ lw_all := lw_g (lw_at lw_m3 222 rfl) rfl
theorem q993 : (Jvm.Cond.selects "DanceNotation" ({ cls := "java/lang/Object", name := "getClass", desc := "()Ljava/lang/Class;" } : Jvm.MethodName) ({ cls := "java/lang/Object", name := "getClass", desc := "()Ljava/lang/Class;" } : Jvm.MethodName)) ∈ lw_all := lw_g (lw_at lw_m4 156 rfl) rfl
theorem q1088 : (Jvm.Cond.classLink "DanceNotation" (89 : Nat) "DanceNotation$Command") ∈ lw_all := lw_g (lw_at lw_m5 11 rfl) rfl
theorem q1089 : (Jvm.Cond.methodLink "DanceNotation" (88 : Nat) ({ cls := "DanceNotation$Command", name := "carryOut", desc := "(LDanceNotation$Dance;)I" } : Jvm.MethodName)) ∈ lw_all := lw_g (lw_at lw_m5 12 rfl) rfl
theorem q1151 : (Jvm.Cond.static ({ cls := "DanceNotation", name := "mirrored", desc := "(C)C" } : Jvm.MethodName)) ∈ lw_all := lw_g (lw_at lw_m5 74 rfl) rfl
theorem q1152 : (Jvm.Cond.code ({ cls := "DanceNotation", name := "mirrored", desc := "(C)C" } : Jvm.MethodName) prog_1_method_9_code (1 : Nat) (Option.some Jvm.ClassFile.FieldType.char)) ∈ lw_all := lw_g (lw_at lw_m5 75 rfl) rfl
theorem q1156 : (Jvm.Cond.static ({ cls := "DanceNotation", name := "opposite", desc := "(C)C" } : Jvm.MethodName)) ∈ lw_all := lw_g (lw_at lw_m5 79 rfl) rfl
theorem q1157 : (Jvm.Cond.code ({ cls := "DanceNotation", name := "opposite", desc := "(C)C" } : Jvm.MethodName) prog_1_method_10_code (1 : Nat) (Option.some Jvm.ClassFile.FieldType.char)) ∈ lw_all := lw_g (lw_at lw_m5 80 rfl) rfl
theorem q1158 : (Jvm.Cond.methodLink "DanceNotation" (25 : Nat) ({ cls := "DanceNotation", name := "mirrored", desc := "(C)C" } : Jvm.MethodName)) ∈ lw_all := lw_g (lw_at lw_m5 81 rfl) rfl
theorem q1166 : (Jvm.Cond.fieldLinkNest "DanceNotation" (284 : Nat) "DanceNotation$Score" "length" "I" "DanceNotation") ∈ lw_tbl := lw_at lw_m5 89 rfl
theorem q1171 : (Jvm.Cond.fieldLinkNest "DanceNotation" (291 : Nat) "DanceNotation$Score" "steps" "[[C" "DanceNotation") ∈ lw_tbl := lw_at lw_m5 94 rfl
theorem q1240 : (Jvm.Cond.methodLink "DanceNotation" (385 : Nat) ({ cls := "DanceNotation$Dance", name := "isLike", desc := "(LDanceNotation$Dance;)Z" } : Jvm.MethodName)) ∈ lw_all := lw_g (lw_at lw_m5 163 rfl) rfl
theorem q1332 : (Jvm.Cond.instanceMethod ({ cls := "DanceNotation", name := "snapshot", desc := "()I" } : Jvm.MethodName)) ∈ lw_all := lw_g (lw_at lw_m6 15 rfl) rfl
theorem q1333 : (Jvm.Cond.selects "DanceNotation" ({ cls := "DanceNotation", name := "snapshot", desc := "()I" } : Jvm.MethodName) ({ cls := "DanceNotation", name := "snapshot", desc := "()I" } : Jvm.MethodName)) ∈ lw_all := lw_g (lw_at lw_m6 16 rfl) rfl
theorem q1334 : (Jvm.Cond.code ({ cls := "DanceNotation", name := "snapshot", desc := "()I" } : Jvm.MethodName) prog_1_method_49_code (1 : Nat) (Option.some Jvm.ClassFile.FieldType.int)) ∈ lw_all := lw_g (lw_at lw_m6 17 rfl) rfl
theorem q1335 : (Jvm.Cond.methodLink "DanceNotation" (79 : Nat) ({ cls := "DanceNotation$Dance", name := "copy", desc := "()LDanceNotation$Dance;" } : Jvm.MethodName)) ∈ lw_all := lw_g (lw_at lw_m6 18 rfl) rfl
theorem q1342 : (Jvm.Cond.methodLink "DanceNotation" (392 : Nat) ({ cls := "java/util/LinkedList", name := "<init>", desc := "(Ljava/util/Collection;)V" } : Jvm.MethodName)) ∈ lw_all := lw_g (lw_at lw_m6 25 rfl) rfl
theorem q1395 : (Jvm.Cond.methodLink "DanceNotation" (398 : Nat) ({ cls := "DanceNotation$Dance", name := "participants", desc := "()I" } : Jvm.MethodName)) ∈ lw_all := lw_g (lw_at lw_m6 78 rfl) rfl
theorem q1404 : (Jvm.Cond.instanceMethod ({ cls := "DanceNotation", name := "stage", desc := "(II)I" } : Jvm.MethodName)) ∈ lw_all := lw_g (lw_at lw_m6 87 rfl) rfl
theorem q1405 : (Jvm.Cond.selects "DanceNotation" ({ cls := "DanceNotation", name := "stage", desc := "(II)I" } : Jvm.MethodName) ({ cls := "DanceNotation", name := "stage", desc := "(II)I" } : Jvm.MethodName)) ∈ lw_all := lw_g (lw_at lw_m6 88 rfl) rfl
theorem q1406 : (Jvm.Cond.code ({ cls := "DanceNotation", name := "stage", desc := "(II)I" } : Jvm.MethodName) prog_1_method_18_code (3 : Nat) (Option.some Jvm.ClassFile.FieldType.int)) ∈ lw_all := lw_g (lw_at lw_m6 89 rfl) rfl
theorem q1407 : (Jvm.Cond.constantLong "DanceNotation" (129 : Nat) (2 : Int64)) ∈ lw_all := lw_g (lw_at lw_m6 90 rfl) rfl
theorem q1408 : (Jvm.Cond.constantLong "DanceNotation" (131 : Nat) (9 : Int64)) ∈ lw_all := lw_g (lw_at lw_m6 91 rfl) rfl
theorem q1409 : (Jvm.Cond.methodLink "DanceNotation" (108 : Nat) ({ cls := "DanceNotation", name := "inRange", desc := "(JJJ)Z" } : Jvm.MethodName)) ∈ lw_all := lw_g (lw_at lw_m6 92 rfl) rfl
theorem q1410 : (Jvm.Cond.static ({ cls := "DanceNotation", name := "inRange", desc := "(JJJ)Z" } : Jvm.MethodName)) ∈ lw_all := lw_g (lw_at lw_m6 93 rfl) rfl
theorem q1411 : (Jvm.Cond.code ({ cls := "DanceNotation", name := "inRange", desc := "(JJJ)Z" } : Jvm.MethodName) prog_1_method_1_code (6 : Nat) (Option.some Jvm.ClassFile.FieldType.boolean)) ∈ lw_all := lw_g (lw_at lw_m6 94 rfl) rfl
theorem q1412 : (Jvm.Cond.methodLink "DanceNotation" (133 : Nat) ({ cls := "DanceNotation", name := "checkArgument", desc := "(Z)V" } : Jvm.MethodName)) ∈ lw_all := lw_g (lw_at lw_m6 95 rfl) rfl
theorem q1413 : (Jvm.Cond.static ({ cls := "DanceNotation", name := "checkArgument", desc := "(Z)V" } : Jvm.MethodName)) ∈ lw_all := lw_g (lw_at lw_m6 96 rfl) rfl
theorem q1414 : (Jvm.Cond.code ({ cls := "DanceNotation", name := "checkArgument", desc := "(Z)V" } : Jvm.MethodName) prog_1_method_2_code (1 : Nat) (Option.none : Option Jvm.ClassFile.FieldType)) ∈ lw_all := lw_g (lw_at lw_m6 97 rfl) rfl
theorem q1415 : (Jvm.Cond.classLink "DanceNotation" (1 : Nat) "java/lang/IllegalArgumentException") ∈ lw_all := lw_g (lw_at lw_m6 98 rfl) rfl
theorem q1416 : (Jvm.Cond.methodLink "DanceNotation" (3 : Nat) ({ cls := "java/lang/IllegalArgumentException", name := "<init>", desc := "()V" } : Jvm.MethodName)) ∈ lw_all := lw_g (lw_at lw_m6 99 rfl) rfl
theorem q1420 : (Jvm.Cond.methodLink "DanceNotation" (136 : Nat) ({ cls := "java/util/LinkedList", name := "clear", desc := "()V" } : Jvm.MethodName)) ∈ lw_all := lw_g (lw_at lw_m6 103 rfl) rfl
theorem q1424 : (Jvm.Cond.methodLink "DanceNotation" (139 : Nat) ({ cls := "java/util/ArrayDeque", name := "clear", desc := "()V" } : Jvm.MethodName)) ∈ lw_all := lw_g (lw_at lw_m6 107 rfl) rfl
theorem q1431 : (Jvm.Cond.methodLink "DanceNotation" (118 : Nat) ({ cls := "DanceNotation$Dance", name := "places", desc := "()I" } : Jvm.MethodName)) ∈ lw_all := lw_g (lw_at lw_m6 114 rfl) rfl
theorem q1455 : (Jvm.Cond.instanceMethod ({ cls := "DanceNotation", name := "place", desc := "(II)I" } : Jvm.MethodName)) ∈ lw_all := lw_g (lw_at lw_m6 138 rfl) rfl
theorem q1456 : (Jvm.Cond.selects "DanceNotation" ({ cls := "DanceNotation", name := "place", desc := "(II)I" } : Jvm.MethodName) ({ cls := "DanceNotation", name := "place", desc := "(II)I" } : Jvm.MethodName)) ∈ lw_all := lw_g (lw_at lw_m6 139 rfl) rfl
theorem q1457 : (Jvm.Cond.code ({ cls := "DanceNotation", name := "place", desc := "(II)I" } : Jvm.MethodName) prog_1_method_19_code (3 : Nat) (Option.some Jvm.ClassFile.FieldType.int)) ∈ lw_all := lw_g (lw_at lw_m6 140 rfl) rfl
theorem q1458 : (Jvm.Cond.methodLink "DanceNotation" (140 : Nat) ({ cls := "DanceNotation", name := "checkDancer", desc := "(I)V" } : Jvm.MethodName)) ∈ lw_all := lw_g (lw_at lw_m6 141 rfl) rfl
theorem q1459 : (Jvm.Cond.static ({ cls := "DanceNotation", name := "checkDancer", desc := "(I)V" } : Jvm.MethodName)) ∈ lw_all := lw_g (lw_at lw_m6 142 rfl) rfl
theorem q1460 : (Jvm.Cond.code ({ cls := "DanceNotation", name := "checkDancer", desc := "(I)V" } : Jvm.MethodName) prog_1_method_14_code (1 : Nat) (Option.none : Option Jvm.ClassFile.FieldType)) ∈ lw_all := lw_g (lw_at lw_m6 143 rfl) rfl
theorem q1461 : (Jvm.Cond.constantLong "DanceNotation" (106 : Nat) (7 : Int64)) ∈ lw_all := lw_g (lw_at lw_m6 144 rfl) rfl
theorem q1462 : (Jvm.Cond.methodLink "DanceNotation" (112 : Nat) ({ cls := "DanceNotation", name := "checkIndex", desc := "(Z)V" } : Jvm.MethodName)) ∈ lw_all := lw_g (lw_at lw_m6 145 rfl) rfl
theorem q1463 : (Jvm.Cond.static ({ cls := "DanceNotation", name := "checkIndex", desc := "(Z)V" } : Jvm.MethodName)) ∈ lw_all := lw_g (lw_at lw_m6 146 rfl) rfl
theorem q1464 : (Jvm.Cond.code ({ cls := "DanceNotation", name := "checkIndex", desc := "(Z)V" } : Jvm.MethodName) prog_1_method_3_code (1 : Nat) (Option.none : Option Jvm.ClassFile.FieldType)) ∈ lw_all := lw_g (lw_at lw_m6 147 rfl) rfl
theorem q1465 : (Jvm.Cond.classLink "DanceNotation" (7 : Nat) "java/lang/IndexOutOfBoundsException") ∈ lw_all := lw_g (lw_at lw_m6 148 rfl) rfl
theorem q1466 : (Jvm.Cond.methodLink "DanceNotation" (9 : Nat) ({ cls := "java/lang/IndexOutOfBoundsException", name := "<init>", desc := "()V" } : Jvm.MethodName)) ∈ lw_all := lw_g (lw_at lw_m6 149 rfl) rfl
theorem q1467 : (Jvm.Cond.methodLink "DanceNotation" (144 : Nat) ({ cls := "DanceNotation", name := "checkPlace", desc := "(I)V" } : Jvm.MethodName)) ∈ lw_all := lw_g (lw_at lw_m6 150 rfl) rfl
theorem q1468 : (Jvm.Cond.privateMethod ({ cls := "DanceNotation", name := "checkPlace", desc := "(I)V" } : Jvm.MethodName)) ∈ lw_tbl := lw_at lw_m6 151 rfl
theorem q1469 : (Jvm.Cond.instanceMethod ({ cls := "DanceNotation", name := "checkPlace", desc := "(I)V" } : Jvm.MethodName)) ∈ lw_all := lw_g (lw_at lw_m6 152 rfl) rfl
theorem q1470 : (Jvm.Cond.code ({ cls := "DanceNotation", name := "checkPlace", desc := "(I)V" } : Jvm.MethodName) prog_1_method_15_code (2 : Nat) (Option.none : Option Jvm.ClassFile.FieldType)) ∈ lw_all := lw_g (lw_at lw_m6 153 rfl) rfl
theorem q1471 : (Jvm.Cond.constantLong "DanceNotation" (116 : Nat) (-1 : Int64)) ∈ lw_all := lw_g (lw_at lw_m6 154 rfl) rfl
theorem q1472 : (Jvm.Cond.methodLink "DanceNotation" (151 : Nat) ({ cls := "DanceNotation", name := "isTaken", desc := "(II[I)Z" } : Jvm.MethodName)) ∈ lw_all := lw_g (lw_at lw_m6 155 rfl) rfl
theorem q1473 : (Jvm.Cond.static ({ cls := "DanceNotation", name := "isTaken", desc := "(II[I)Z" } : Jvm.MethodName)) ∈ lw_all := lw_g (lw_at lw_m6 156 rfl) rfl
theorem q1474 : (Jvm.Cond.code ({ cls := "DanceNotation", name := "isTaken", desc := "(II[I)Z" } : Jvm.MethodName) prog_1_method_17_code (5 : Nat) (Option.some Jvm.ClassFile.FieldType.boolean)) ∈ lw_all := lw_g (lw_at lw_m6 157 rfl) rfl
theorem q1476 : (Jvm.Cond.fieldLink "DanceNotation" (155 : Nat) "DanceNotation$Verb" "PLACE" "LDanceNotation$Verb;") ∈ lw_all := lw_g (lw_at lw_m6 159 rfl) rfl
theorem q1478 : (Jvm.Cond.methodLink "DanceNotation" (100 : Nat) ({ cls := "DanceNotation$Command", name := "<init>", desc := "(LDanceNotation$Verb;LDanceNotation$Node;[I)V" } : Jvm.MethodName)) ∈ lw_all := lw_g (lw_at lw_m6 161 rfl) rfl
theorem q1492 : (Jvm.Cond.methodLink "DanceNotation" (103 : Nat) ({ cls := "DanceNotation", name := "carryOut", desc := "(LDanceNotation$Command;)I" } : Jvm.MethodName)) ∈ lw_all := lw_g (lw_at lw_m6 175 rfl) rfl
theorem q1493 : (Jvm.Cond.privateMethod ({ cls := "DanceNotation", name := "carryOut", desc := "(LDanceNotation$Command;)I" } : Jvm.MethodName)) ∈ lw_tbl := lw_at lw_m6 176 rfl
theorem q1494 : (Jvm.Cond.instanceMethod ({ cls := "DanceNotation", name := "carryOut", desc := "(LDanceNotation$Command;)I" } : Jvm.MethodName)) ∈ lw_all := lw_g (lw_at lw_m6 177 rfl) rfl
theorem q1495 : (Jvm.Cond.code ({ cls := "DanceNotation", name := "carryOut", desc := "(LDanceNotation$Command;)I" } : Jvm.MethodName) prog_1_method_12_code (3 : Nat) (Option.some Jvm.ClassFile.FieldType.int)) ∈ lw_all := lw_g (lw_at lw_m6 178 rfl) rfl
theorem q1496 : (Jvm.Cond.methodLink "DanceNotation" (71 : Nat) ({ cls := "java/util/ArrayDeque", name := "size", desc := "()I" } : Jvm.MethodName)) ∈ lw_all := lw_g (lw_at lw_m6 179 rfl) rfl
theorem q1497 : (Jvm.Cond.methodLink "DanceNotation" (75 : Nat) ({ cls := "java/util/ArrayDeque", name := "removeFirst", desc := "()Ljava/lang/Object;" } : Jvm.MethodName)) ∈ lw_all := lw_g (lw_at lw_m6 180 rfl) rfl
theorem q1513 : (Jvm.Cond.methodLink "DanceNotation" (83 : Nat) ({ cls := "java/util/ArrayDeque", name := "addLast", desc := "(Ljava/lang/Object;)V" } : Jvm.MethodName)) ∈ lw_all := lw_g (lw_at lw_m6 196 rfl) rfl
theorem q1544 : (Jvm.Cond.methodLink "DanceNotation" (87 : Nat) ({ cls := "java/util/LinkedList", name := "addLast", desc := "(Ljava/lang/Object;)V" } : Jvm.MethodName)) ∈ lw_all := lw_g (lw_at lw_m6 227 rfl) rfl
theorem q1557 : (Jvm.Cond.instanceMethod ({ cls := "DanceNotation", name := "append", desc := "(C)I" } : Jvm.MethodName)) ∈ lw_all := lw_g (lw_at lw_m7 0 rfl) rfl
theorem q1558 : (Jvm.Cond.selects "DanceNotation" ({ cls := "DanceNotation", name := "append", desc := "(C)I" } : Jvm.MethodName) ({ cls := "DanceNotation", name := "append", desc := "(C)I" } : Jvm.MethodName)) ∈ lw_all := lw_g (lw_at lw_m7 1 rfl) rfl
theorem q1559 : (Jvm.Cond.code ({ cls := "DanceNotation", name := "append", desc := "(C)I" } : Jvm.MethodName) prog_1_method_20_code (2 : Nat) (Option.some Jvm.ClassFile.FieldType.int)) ∈ lw_all := lw_g (lw_at lw_m7 2 rfl) rfl
theorem q1560 : (Jvm.Cond.constantLong "DanceNotation" (158 : Nat) (32 : Int64)) ∈ lw_all := lw_g (lw_at lw_m7 3 rfl) rfl
theorem q1561 : (Jvm.Cond.constantLong "DanceNotation" (160 : Nat) (126 : Int64)) ∈ lw_all := lw_g (lw_at lw_m7 4 rfl) rfl
theorem q1562 : (Jvm.Cond.methodLink "DanceNotation" (162 : Nat) ({ cls := "java/lang/StringBuilder", name := "length", desc := "()I" } : Jvm.MethodName)) ∈ lw_all := lw_g (lw_at lw_m7 5 rfl) rfl
theorem q1563 : (Jvm.Cond.methodLink "DanceNotation" (165 : Nat) ({ cls := "DanceNotation", name := "checkAllowed", desc := "(Z)V" } : Jvm.MethodName)) ∈ lw_all := lw_g (lw_at lw_m7 6 rfl) rfl
theorem q1564 : (Jvm.Cond.static ({ cls := "DanceNotation", name := "checkAllowed", desc := "(Z)V" } : Jvm.MethodName)) ∈ lw_all := lw_g (lw_at lw_m7 7 rfl) rfl
theorem q1565 : (Jvm.Cond.code ({ cls := "DanceNotation", name := "checkAllowed", desc := "(Z)V" } : Jvm.MethodName) prog_1_method_5_code (1 : Nat) (Option.none : Option Jvm.ClassFile.FieldType)) ∈ lw_all := lw_g (lw_at lw_m7 8 rfl) rfl
theorem q1566 : (Jvm.Cond.classLink "DanceNotation" (13 : Nat) "java/lang/UnsupportedOperationException") ∈ lw_all := lw_g (lw_at lw_m7 9 rfl) rfl
theorem q1575 : (Jvm.Cond.methodLink "DanceNotation" (15 : Nat) ({ cls := "java/lang/UnsupportedOperationException", name := "<init>", desc := "()V" } : Jvm.MethodName)) ∈ lw_all := lw_g (lw_at lw_m7 18 rfl) rfl
theorem q1581 : (Jvm.Cond.methodLink "DanceNotation" (168 : Nat) ({ cls := "java/lang/StringBuilder", name := "append", desc := "(C)Ljava/lang/StringBuilder;" } : Jvm.MethodName)) ∈ lw_all := lw_g (lw_at lw_m7 24 rfl) rfl
theorem q1586 : (Jvm.Cond.instanceMethod ({ cls := "DanceNotation", name := "read", desc := "()I" } : Jvm.MethodName)) ∈ lw_all := lw_g (lw_at lw_m7 29 rfl) rfl
theorem q1587 : (Jvm.Cond.selects "DanceNotation" ({ cls := "DanceNotation", name := "read", desc := "()I" } : Jvm.MethodName) ({ cls := "DanceNotation", name := "read", desc := "()I" } : Jvm.MethodName)) ∈ lw_all := lw_g (lw_at lw_m7 30 rfl) rfl
theorem q1588 : (Jvm.Cond.codeWith ({ cls := "DanceNotation", name := "read", desc := "()I" } : Jvm.MethodName) prog_1_method_21_code (4 : Nat) (Option.some Jvm.ClassFile.FieldType.int) [((23 : Nat), (41 : Nat), (42 : Nat), (191 : Nat)), ((23 : Nat), (41 : Nat), (42 : Nat), (193 : Nat))]) ∈ lw_all := lw_g (lw_at lw_m7 31 rfl) rfl
theorem q1589 : (Jvm.Cond.classLink "DanceNotation" (191 : Nat) "DanceNotation$SyntaxException") ∈ lw_all := lw_g (lw_at lw_m7 32 rfl) rfl
theorem q1590 : (Jvm.Cond.classLink "DanceNotation" (193 : Nat) "DanceNotation$RefusedException") ∈ lw_all := lw_g (lw_at lw_m7 33 rfl) rfl
theorem q1591 : (Jvm.Cond.classLink "DanceNotation" (172 : Nat) "DanceNotation$Parser") ∈ lw_all := lw_g (lw_at lw_m7 34 rfl) rfl
theorem q1593 : (Jvm.Cond.methodLink "DanceNotation" (174 : Nat) ({ cls := "DanceNotation$Parser", name := "<init>", desc := "(Ljava/lang/CharSequence;)V" } : Jvm.MethodName)) ∈ lw_all := lw_g (lw_at lw_m7 36 rfl) rfl
theorem q1607 : (Jvm.Cond.methodLink "DanceNotation" (177 : Nat) ({ cls := "DanceNotation$Parser", name := "whole", desc := "()LDanceNotation$Node;" } : Jvm.MethodName)) ∈ lw_all := lw_g (lw_at lw_m7 50 rfl) rfl
theorem q1702 : (Jvm.Cond.fieldLinkNest "DanceNotation" (206 : Nat) "DanceNotation$SyntaxException" "position" "I" "DanceNotation") ∈ lw_tbl := lw_at lw_m7 145 rfl
theorem q1931 : (Jvm.Cond.fieldLink "DanceNotation" (231 : Nat) "DanceNotation$Mirrored" "part" "LDanceNotation$Node;") ∈ lw_all := lw_g (lw_at lw_m8 134 rfl) rfl
theorem q1932 : (Jvm.Cond.fieldLink "DanceNotation" (242 : Nat) "DanceNotation$Reversed" "part" "LDanceNotation$Node;") ∈ lw_all := lw_g (lw_at lw_m8 135 rfl) rfl
theorem q1968 : (Jvm.Cond.methodLink "DanceNotation" (181 : Nat) ({ cls := "DanceNotation$Node", name := "checkAll", desc := "()V" } : Jvm.MethodName)) ∈ lw_all := lw_g (lw_at lw_m8 171 rfl) rfl
theorem q2005 : (Jvm.Cond.fieldLinkNest "DanceNotation" (195 : Nat) "DanceNotation$RefusedException" "reason" "I" "DanceNotation") ∈ lw_tbl := lw_at lw_m8 208 rfl
theorem q2007 : (Jvm.Cond.fieldLinkNest "DanceNotation" (196 : Nat) "DanceNotation$RefusedException" "dancer" "I" "DanceNotation") ∈ lw_tbl := lw_at lw_m8 210 rfl
theorem q2090 : (Jvm.Cond.methodLink "DanceNotation" (186 : Nat) ({ cls := "DanceNotation", name := "setPiece", desc := "(LDanceNotation$Node;)V" } : Jvm.MethodName)) ∈ lw_all := lw_g (lw_at lw_m9 53 rfl) rfl
theorem q2091 : (Jvm.Cond.privateMethod ({ cls := "DanceNotation", name := "setPiece", desc := "(LDanceNotation$Node;)V" } : Jvm.MethodName)) ∈ lw_tbl := lw_at lw_m9 54 rfl
theorem q2092 : (Jvm.Cond.instanceMethod ({ cls := "DanceNotation", name := "setPiece", desc := "(LDanceNotation$Node;)V" } : Jvm.MethodName)) ∈ lw_all := lw_g (lw_at lw_m9 55 rfl) rfl
theorem q2093 : (Jvm.Cond.code ({ cls := "DanceNotation", name := "setPiece", desc := "(LDanceNotation$Node;)V" } : Jvm.MethodName) prog_1_method_13_code (3 : Nat) (Option.none : Option Jvm.ClassFile.FieldType)) ∈ lw_all := lw_g (lw_at lw_m9 56 rfl) rfl
theorem q2094 : (Jvm.Cond.fieldLink "DanceNotation" (94 : Nat) "DanceNotation$Verb" "PIECE" "LDanceNotation$Verb;") ∈ lw_all := lw_g (lw_at lw_m9 57 rfl) rfl
theorem q2096 : (Jvm.Cond.methodLink "DanceNotation" (190 : Nat) ({ cls := "DanceNotation$Node", name := "length", desc := "()I" } : Jvm.MethodName)) ∈ lw_all := lw_g (lw_at lw_m9 59 rfl) rfl
theorem q2102 : (Jvm.Cond.instanceMethod ({ cls := "DanceNotation", name := "errorPosition", desc := "()I" } : Jvm.MethodName)) ∈ lw_all := lw_g (lw_at lw_m9 65 rfl) rfl
theorem q2103 : (Jvm.Cond.selects "DanceNotation" ({ cls := "DanceNotation", name := "errorPosition", desc := "()I" } : Jvm.MethodName) ({ cls := "DanceNotation", name := "errorPosition", desc := "()I" } : Jvm.MethodName)) ∈ lw_all := lw_g (lw_at lw_m9 66 rfl) rfl
theorem q2104 : (Jvm.Cond.code ({ cls := "DanceNotation", name := "errorPosition", desc := "()I" } : Jvm.MethodName) prog_1_method_22_code (1 : Nat) (Option.some Jvm.ClassFile.FieldType.int)) ∈ lw_all := lw_g (lw_at lw_m9 67 rfl) rfl
theorem q2105 : (Jvm.Cond.methodLink "DanceNotation" (203 : Nat) ({ cls := "DanceNotation", name := "checkElement", desc := "(Z)V" } : Jvm.MethodName)) ∈ lw_all := lw_g (lw_at lw_m9 68 rfl) rfl
theorem q2106 : (Jvm.Cond.static ({ cls := "DanceNotation", name := "checkElement", desc := "(Z)V" } : Jvm.MethodName)) ∈ lw_all := lw_g (lw_at lw_m9 69 rfl) rfl
theorem q2107 : (Jvm.Cond.code ({ cls := "DanceNotation", name := "checkElement", desc := "(Z)V" } : Jvm.MethodName) prog_1_method_4_code (1 : Nat) (Option.none : Option Jvm.ClassFile.FieldType)) ∈ lw_all := lw_g (lw_at lw_m9 70 rfl) rfl
theorem q2108 : (Jvm.Cond.classLink "DanceNotation" (10 : Nat) "java/util/NoSuchElementException") ∈ lw_all := lw_g (lw_at lw_m9 71 rfl) rfl
theorem q2109 : (Jvm.Cond.methodLink "DanceNotation" (12 : Nat) ({ cls := "java/util/NoSuchElementException", name := "<init>", desc := "()V" } : Jvm.MethodName)) ∈ lw_all := lw_g (lw_at lw_m9 72 rfl) rfl
theorem q2114 : (Jvm.Cond.instanceMethod ({ cls := "DanceNotation", name := "refusedDancer", desc := "()I" } : Jvm.MethodName)) ∈ lw_all := lw_g (lw_at lw_m9 77 rfl) rfl
theorem q2115 : (Jvm.Cond.selects "DanceNotation" ({ cls := "DanceNotation", name := "refusedDancer", desc := "()I" } : Jvm.MethodName) ({ cls := "DanceNotation", name := "refusedDancer", desc := "()I" } : Jvm.MethodName)) ∈ lw_all := lw_g (lw_at lw_m9 78 rfl) rfl
theorem q2116 : (Jvm.Cond.code ({ cls := "DanceNotation", name := "refusedDancer", desc := "()I" } : Jvm.MethodName) prog_1_method_23_code (1 : Nat) (Option.some Jvm.ClassFile.FieldType.int)) ∈ lw_all := lw_g (lw_at lw_m9 79 rfl) rfl
theorem q2122 : (Jvm.Cond.instanceMethod ({ cls := "DanceNotation", name := "write", desc := "()I" } : Jvm.MethodName)) ∈ lw_all := lw_g (lw_at lw_m9 85 rfl) rfl
theorem q2123 : (Jvm.Cond.selects "DanceNotation" ({ cls := "DanceNotation", name := "write", desc := "()I" } : Jvm.MethodName) ({ cls := "DanceNotation", name := "write", desc := "()I" } : Jvm.MethodName)) ∈ lw_all := lw_g (lw_at lw_m9 86 rfl) rfl
theorem q2124 : (Jvm.Cond.code ({ cls := "DanceNotation", name := "write", desc := "()I" } : Jvm.MethodName) prog_1_method_24_code (1 : Nat) (Option.some Jvm.ClassFile.FieldType.int)) ∈ lw_all := lw_g (lw_at lw_m9 87 rfl) rfl
theorem q2125 : (Jvm.Cond.methodLink "DanceNotation" (209 : Nat) ({ cls := "DanceNotation", name := "checkPiece", desc := "()V" } : Jvm.MethodName)) ∈ lw_all := lw_g (lw_at lw_m9 88 rfl) rfl
theorem q2126 : (Jvm.Cond.privateMethod ({ cls := "DanceNotation", name := "checkPiece", desc := "()V" } : Jvm.MethodName)) ∈ lw_tbl := lw_at lw_m9 89 rfl
theorem q2127 : (Jvm.Cond.instanceMethod ({ cls := "DanceNotation", name := "checkPiece", desc := "()V" } : Jvm.MethodName)) ∈ lw_all := lw_g (lw_at lw_m9 90 rfl) rfl
theorem q2128 : (Jvm.Cond.code ({ cls := "DanceNotation", name := "checkPiece", desc := "()V" } : Jvm.MethodName) prog_1_method_16_code (1 : Nat) (Option.none : Option Jvm.ClassFile.FieldType)) ∈ lw_all := lw_g (lw_at lw_m9 91 rfl) rfl
theorem q2129 : (Jvm.Cond.methodLink "DanceNotation" (125 : Nat) ({ cls := "DanceNotation", name := "checkReason", desc := "(ZI)V" } : Jvm.MethodName)) ∈ lw_all := lw_g (lw_at lw_m9 92 rfl) rfl
theorem q2130 : (Jvm.Cond.privateMethod ({ cls := "DanceNotation", name := "checkReason", desc := "(ZI)V" } : Jvm.MethodName)) ∈ lw_tbl := lw_at lw_m9 93 rfl
theorem q2131 : (Jvm.Cond.instanceMethod ({ cls := "DanceNotation", name := "checkReason", desc := "(ZI)V" } : Jvm.MethodName)) ∈ lw_all := lw_g (lw_at lw_m9 94 rfl) rfl
theorem q2132 : (Jvm.Cond.code ({ cls := "DanceNotation", name := "checkReason", desc := "(ZI)V" } : Jvm.MethodName) prog_1_method_6_code (3 : Nat) (Option.none : Option Jvm.ClassFile.FieldType)) ∈ lw_all := lw_g (lw_at lw_m9 95 rfl) rfl
theorem q2133 : (Jvm.Cond.classLink "DanceNotation" (22 : Nat) "java/lang/IllegalStateException") ∈ lw_all := lw_g (lw_at lw_m9 96 rfl) rfl
theorem q2134 : (Jvm.Cond.methodLink "DanceNotation" (24 : Nat) ({ cls := "java/lang/IllegalStateException", name := "<init>", desc := "()V" } : Jvm.MethodName)) ∈ lw_all := lw_g (lw_at lw_m9 97 rfl) rfl
theorem q2138 : (Jvm.Cond.methodLink "DanceNotation" (212 : Nat) ({ cls := "DanceNotation$Dance", name := "text", desc := "()Ljava/lang/String;" } : Jvm.MethodName)) ∈ lw_all := lw_g (lw_at lw_m9 101 rfl) rfl
theorem q2139 : (Jvm.Cond.methodLink "DanceNotation" (216 : Nat) ({ cls := "java/lang/String", name := "length", desc := "()I" } : Jvm.MethodName)) ∈ lw_all := lw_g (lw_at lw_m9 102 rfl) rfl
theorem q2144 : (Jvm.Cond.instanceMethod ({ cls := "DanceNotation", name := "output", desc := "(I)C" } : Jvm.MethodName)) ∈ lw_all := lw_g (lw_at lw_m9 107 rfl) rfl
theorem q2145 : (Jvm.Cond.selects "DanceNotation" ({ cls := "DanceNotation", name := "output", desc := "(I)C" } : Jvm.MethodName) ({ cls := "DanceNotation", name := "output", desc := "(I)C" } : Jvm.MethodName)) ∈ lw_all := lw_g (lw_at lw_m9 108 rfl) rfl
theorem q2146 : (Jvm.Cond.code ({ cls := "DanceNotation", name := "output", desc := "(I)C" } : Jvm.MethodName) prog_1_method_25_code (2 : Nat) (Option.some Jvm.ClassFile.FieldType.char)) ∈ lw_all := lw_g (lw_at lw_m9 109 rfl) rfl
theorem q2147 : (Jvm.Cond.methodLink "DanceNotation" (219 : Nat) ({ cls := "java/lang/String", name := "charAt", desc := "(I)C" } : Jvm.MethodName)) ∈ lw_all := lw_g (lw_at lw_m9 110 rfl) rfl
theorem q2152 : (Jvm.Cond.instanceMethod ({ cls := "DanceNotation", name := "mirror", desc := "()I" } : Jvm.MethodName)) ∈ lw_all := lw_g (lw_at lw_m9 115 rfl) rfl
theorem q2153 : (Jvm.Cond.selects "DanceNotation" ({ cls := "DanceNotation", name := "mirror", desc := "()I" } : Jvm.MethodName) ({ cls := "DanceNotation", name := "mirror", desc := "()I" } : Jvm.MethodName)) ∈ lw_all := lw_g (lw_at lw_m9 116 rfl) rfl
theorem q2154 : (Jvm.Cond.code ({ cls := "DanceNotation", name := "mirror", desc := "()I" } : Jvm.MethodName) prog_1_method_27_code (3 : Nat) (Option.some Jvm.ClassFile.FieldType.int)) ∈ lw_all := lw_g (lw_at lw_m9 117 rfl) rfl
theorem q2155 : (Jvm.Cond.classLink "DanceNotation" (229 : Nat) "DanceNotation$Mirrored") ∈ lw_all := lw_g (lw_at lw_m9 118 rfl) rfl
theorem q2156 : (Jvm.Cond.methodLink "DanceNotation" (234 : Nat) ({ cls := "DanceNotation$Mirrored", name := "<init>", desc := "(LDanceNotation$Node;)V" } : Jvm.MethodName)) ∈ lw_all := lw_g (lw_at lw_m9 119 rfl) rfl
theorem q2157 : (Jvm.Cond.methodLink "DanceNotation" (236 : Nat) ({ cls := "DanceNotation", name := "replace", desc := "(LDanceNotation$Node;)I" } : Jvm.MethodName)) ∈ lw_all := lw_g (lw_at lw_m9 120 rfl) rfl
theorem q2158 : (Jvm.Cond.privateMethod ({ cls := "DanceNotation", name := "replace", desc := "(LDanceNotation$Node;)I" } : Jvm.MethodName)) ∈ lw_tbl := lw_at lw_m9 121 rfl
theorem q2159 : (Jvm.Cond.instanceMethod ({ cls := "DanceNotation", name := "replace", desc := "(LDanceNotation$Node;)I" } : Jvm.MethodName)) ∈ lw_all := lw_g (lw_at lw_m9 122 rfl) rfl
theorem q2160 : (Jvm.Cond.code ({ cls := "DanceNotation", name := "replace", desc := "(LDanceNotation$Node;)I" } : Jvm.MethodName) prog_1_method_26_code (2 : Nat) (Option.some Jvm.ClassFile.FieldType.int)) ∈ lw_all := lw_g (lw_at lw_m9 123 rfl) rfl
theorem q2186 : (Jvm.Cond.instanceMethod ({ cls := "DanceNotation", name := "reverse", desc := "()I" } : Jvm.MethodName)) ∈ lw_all := lw_g (lw_at lw_m9 149 rfl) rfl
theorem q2187 : (Jvm.Cond.selects "DanceNotation" ({ cls := "DanceNotation", name := "reverse", desc := "()I" } : Jvm.MethodName) ({ cls := "DanceNotation", name := "reverse", desc := "()I" } : Jvm.MethodName)) ∈ lw_all := lw_g (lw_at lw_m9 150 rfl) rfl
theorem q2188 : (Jvm.Cond.code ({ cls := "DanceNotation", name := "reverse", desc := "()I" } : Jvm.MethodName) prog_1_method_28_code (3 : Nat) (Option.some Jvm.ClassFile.FieldType.int)) ∈ lw_all := lw_g (lw_at lw_m9 151 rfl) rfl
theorem q2189 : (Jvm.Cond.classLink "DanceNotation" (240 : Nat) "DanceNotation$Reversed") ∈ lw_all := lw_g (lw_at lw_m9 152 rfl) rfl
theorem q2190 : (Jvm.Cond.methodLink "DanceNotation" (243 : Nat) ({ cls := "DanceNotation$Reversed", name := "<init>", desc := "(LDanceNotation$Node;)V" } : Jvm.MethodName)) ∈ lw_all := lw_g (lw_at lw_m9 153 rfl) rfl
theorem q2195 : (Jvm.Cond.instanceMethod ({ cls := "DanceNotation", name := "repeat", desc := "(I)I" } : Jvm.MethodName)) ∈ lw_all := lw_g (lw_at lw_m9 158 rfl) rfl
theorem q2196 : (Jvm.Cond.selects "DanceNotation" ({ cls := "DanceNotation", name := "repeat", desc := "(I)I" } : Jvm.MethodName) ({ cls := "DanceNotation", name := "repeat", desc := "(I)I" } : Jvm.MethodName)) ∈ lw_all := lw_g (lw_at lw_m9 159 rfl) rfl
theorem q2197 : (Jvm.Cond.code ({ cls := "DanceNotation", name := "repeat", desc := "(I)I" } : Jvm.MethodName) prog_1_method_29_code (4 : Nat) (Option.some Jvm.ClassFile.FieldType.int)) ∈ lw_all := lw_g (lw_at lw_m9 160 rfl) rfl
theorem q2198 : (Jvm.Cond.classLink "DanceNotation" (244 : Nat) "DanceNotation$Repeat") ∈ lw_all := lw_g (lw_at lw_m9 161 rfl) rfl
theorem q2199 : (Jvm.Cond.methodLink "DanceNotation" (246 : Nat) ({ cls := "DanceNotation$Repeat", name := "<init>", desc := "(ILDanceNotation$Node;)V" } : Jvm.MethodName)) ∈ lw_all := lw_g (lw_at lw_m9 162 rfl) rfl
theorem q2200 : (Jvm.Cond.methodLink "DanceNotation" (249 : Nat) ({ cls := "DanceNotation$Node", name := "cues", desc := "()I" } : Jvm.MethodName)) ∈ lw_all := lw_g (lw_at lw_m9 163 rfl) rfl
theorem q2205 : (Jvm.Cond.instanceMethod ({ cls := "DanceNotation", name := "exchange", desc := "(II)I" } : Jvm.MethodName)) ∈ lw_all := lw_g (lw_at lw_m9 168 rfl) rfl
theorem q2206 : (Jvm.Cond.selects "DanceNotation" ({ cls := "DanceNotation", name := "exchange", desc := "(II)I" } : Jvm.MethodName) ({ cls := "DanceNotation", name := "exchange", desc := "(II)I" } : Jvm.MethodName)) ∈ lw_all := lw_g (lw_at lw_m9 169 rfl) rfl
theorem q2207 : (Jvm.Cond.code ({ cls := "DanceNotation", name := "exchange", desc := "(II)I" } : Jvm.MethodName) prog_1_method_30_code (8 : Nat) (Option.some Jvm.ClassFile.FieldType.int)) ∈ lw_all := lw_g (lw_at lw_m9 170 rfl) rfl
theorem q2208 : (Jvm.Cond.methodLink "DanceNotation" (252 : Nat) ({ cls := "DanceNotation$Node", name := "leaves", desc := "()Ljava/util/Iterator;" } : Jvm.MethodName)) ∈ lw_all := lw_g (lw_at lw_m9 171 rfl) rfl
theorem q2234 : (Jvm.Cond.classLink "DanceNotation" (265 : Nat) "DanceNotation$Phrase") ∈ lw_all := lw_g (lw_at lw_m9 197 rfl) rfl
theorem q2235 : (Jvm.Cond.methodLink "DanceNotation" (267 : Nat) ({ cls := "DanceNotation$Phrase", name := "changedBy", desc := "([I)I" } : Jvm.MethodName)) ∈ lw_all := lw_g (lw_at lw_m9 198 rfl) rfl
theorem q2239 : (Jvm.Cond.methodLink "DanceNotation" (271 : Nat) ({ cls := "DanceNotation$Node", name := "renamed", desc := "([I)LDanceNotation$Node;" } : Jvm.MethodName)) ∈ lw_all := lw_g (lw_at lw_m9 202 rfl) rfl
theorem q2278 : (Jvm.Cond.instanceMethod ({ cls := "DanceNotation", name := "tree", desc := "(I)I" } : Jvm.MethodName)) ∈ lw_all := lw_g (lw_at lw_m10 1 rfl) rfl
theorem q2279 : (Jvm.Cond.selects "DanceNotation" ({ cls := "DanceNotation", name := "tree", desc := "(I)I" } : Jvm.MethodName) ({ cls := "DanceNotation", name := "tree", desc := "(I)I" } : Jvm.MethodName)) ∈ lw_all := lw_g (lw_at lw_m10 2 rfl) rfl
theorem q2280 : (Jvm.Cond.code ({ cls := "DanceNotation", name := "tree", desc := "(I)I" } : Jvm.MethodName) prog_1_method_32_code (2 : Nat) (Option.some Jvm.ClassFile.FieldType.int)) ∈ lw_all := lw_g (lw_at lw_m10 3 rfl) rfl
theorem q2281 : (Jvm.Cond.constantLong "DanceNotation" (275 : Nat) (4 : Int64)) ∈ lw_all := lw_g (lw_at lw_m10 4 rfl) rfl
theorem q2282 : (Jvm.Cond.methodLink "DanceNotation" (277 : Nat) ({ cls := "DanceNotation", name := "leafCount", desc := "()I" } : Jvm.MethodName)) ∈ lw_all := lw_g (lw_at lw_m10 5 rfl) rfl
theorem q2283 : (Jvm.Cond.privateMethod ({ cls := "DanceNotation", name := "leafCount", desc := "()I" } : Jvm.MethodName)) ∈ lw_tbl := lw_at lw_m10 6 rfl
theorem q2284 : (Jvm.Cond.instanceMethod ({ cls := "DanceNotation", name := "leafCount", desc := "()I" } : Jvm.MethodName)) ∈ lw_all := lw_g (lw_at lw_m10 7 rfl) rfl
theorem q2285 : (Jvm.Cond.code ({ cls := "DanceNotation", name := "leafCount", desc := "()I" } : Jvm.MethodName) prog_1_method_31_code (4 : Nat) (Option.some Jvm.ClassFile.FieldType.int)) ∈ lw_all := lw_g (lw_at lw_m10 8 rfl) rfl
theorem q2286 : (Jvm.Cond.classLink "DanceNotation" (182 : Nat) "DanceNotation$Node") ∈ lw_all := lw_g (lw_at lw_m10 9 rfl) rfl
theorem q2291 : (Jvm.Cond.instanceMethod ({ cls := "DanceNotation", name := "step", desc := "(II)C" } : Jvm.MethodName)) ∈ lw_all := lw_g (lw_at lw_m10 14 rfl) rfl
theorem q2292 : (Jvm.Cond.selects "DanceNotation" ({ cls := "DanceNotation", name := "step", desc := "(II)C" } : Jvm.MethodName) ({ cls := "DanceNotation", name := "step", desc := "(II)C" } : Jvm.MethodName)) ∈ lw_all := lw_g (lw_at lw_m10 15 rfl) rfl
theorem q2293 : (Jvm.Cond.code ({ cls := "DanceNotation", name := "step", desc := "(II)C" } : Jvm.MethodName) prog_1_method_33_code (3 : Nat) (Option.some Jvm.ClassFile.FieldType.char)) ∈ lw_all := lw_g (lw_at lw_m10 16 rfl) rfl
theorem q2298 : (Jvm.Cond.instanceMethod ({ cls := "DanceNotation", name := "position", desc := "(IIZ)I" } : Jvm.MethodName)) ∈ lw_all := lw_g (lw_at lw_m10 21 rfl) rfl
theorem q2299 : (Jvm.Cond.selects "DanceNotation" ({ cls := "DanceNotation", name := "position", desc := "(IIZ)I" } : Jvm.MethodName) ({ cls := "DanceNotation", name := "position", desc := "(IIZ)I" } : Jvm.MethodName)) ∈ lw_all := lw_g (lw_at lw_m10 22 rfl) rfl
theorem q2300 : (Jvm.Cond.code ({ cls := "DanceNotation", name := "position", desc := "(IIZ)I" } : Jvm.MethodName) prog_1_method_34_code (4 : Nat) (Option.some Jvm.ClassFile.FieldType.int)) ∈ lw_all := lw_g (lw_at lw_m10 23 rfl) rfl
theorem q2301 : (Jvm.Cond.methodLink "DanceNotation" (295 : Nat) ({ cls := "DanceNotation$Dance", name := "takesPart", desc := "(I)Z" } : Jvm.MethodName)) ∈ lw_all := lw_g (lw_at lw_m10 24 rfl) rfl
theorem q2305 : (Jvm.Cond.methodLink "DanceNotation" (299 : Nat) ({ cls := "DanceNotation$Dance", name := "position", desc := "(IIZ)I" } : Jvm.MethodName)) ∈ lw_all := lw_g (lw_at lw_m10 28 rfl) rfl
theorem q2310 : (Jvm.Cond.static ({ cls := "DanceNotation", name := "rowsOf", desc := "(C)I" } : Jvm.MethodName)) ∈ lw_all := lw_g (lw_at lw_m10 33 rfl) rfl
theorem q2311 : (Jvm.Cond.code ({ cls := "DanceNotation", name := "rowsOf", desc := "(C)I" } : Jvm.MethodName) prog_1_method_7_code (1 : Nat) (Option.some Jvm.ClassFile.FieldType.int)) ∈ lw_all := lw_g (lw_at lw_m10 34 rfl) rfl
theorem q2313 : (Jvm.Cond.static ({ cls := "DanceNotation", name := "columnsOf", desc := "(C)I" } : Jvm.MethodName)) ∈ lw_all := lw_g (lw_at lw_m10 36 rfl) rfl
theorem q2314 : (Jvm.Cond.code ({ cls := "DanceNotation", name := "columnsOf", desc := "(C)I" } : Jvm.MethodName) prog_1_method_8_code (1 : Nat) (Option.some Jvm.ClassFile.FieldType.int)) ∈ lw_all := lw_g (lw_at lw_m10 37 rfl) rfl
theorem q2319 : (Jvm.Cond.instanceMethod ({ cls := "DanceNotation", name := "problemCount", desc := "(I)I" } : Jvm.MethodName)) ∈ lw_all := lw_g (lw_at lw_m10 42 rfl) rfl
theorem q2320 : (Jvm.Cond.selects "DanceNotation" ({ cls := "DanceNotation", name := "problemCount", desc := "(I)I" } : Jvm.MethodName) ({ cls := "DanceNotation", name := "problemCount", desc := "(I)I" } : Jvm.MethodName)) ∈ lw_all := lw_g (lw_at lw_m10 43 rfl) rfl
theorem q2321 : (Jvm.Cond.code ({ cls := "DanceNotation", name := "problemCount", desc := "(I)I" } : Jvm.MethodName) prog_1_method_35_code (5 : Nat) (Option.some Jvm.ClassFile.FieldType.int)) ∈ lw_all := lw_g (lw_at lw_m10 44 rfl) rfl
theorem q2322 : (Jvm.Cond.methodLink "DanceNotation" (302 : Nat) ({ cls := "DanceNotation$Dance", name := "problems", desc := "()Ljava/util/ArrayList;" } : Jvm.MethodName)) ∈ lw_all := lw_g (lw_at lw_m10 45 rfl) rfl
theorem q2390 : (Jvm.Cond.methodLink "DanceNotation" (306 : Nat) ({ cls := "java/util/ArrayList", name := "iterator", desc := "()Ljava/util/Iterator;" } : Jvm.MethodName)) ∈ lw_all := lw_g (lw_at lw_m10 113 rfl) rfl
theorem q2402 : (Jvm.Cond.classLink "DanceNotation" (311 : Nat) "[I") ∈ lw_all := lw_g (lw_at lw_m10 125 rfl) rfl
theorem q2407 : (Jvm.Cond.instanceMethod ({ cls := "DanceNotation", name := "problem", desc := "(II)I" } : Jvm.MethodName)) ∈ lw_all := lw_g (lw_at lw_m10 130 rfl) rfl
theorem q2408 : (Jvm.Cond.selects "DanceNotation" ({ cls := "DanceNotation", name := "problem", desc := "(II)I" } : Jvm.MethodName) ({ cls := "DanceNotation", name := "problem", desc := "(II)I" } : Jvm.MethodName)) ∈ lw_all := lw_g (lw_at lw_m10 131 rfl) rfl
theorem q2409 : (Jvm.Cond.code ({ cls := "DanceNotation", name := "problem", desc := "(II)I" } : Jvm.MethodName) prog_1_method_36_code (4 : Nat) (Option.some Jvm.ClassFile.FieldType.int)) ∈ lw_all := lw_g (lw_at lw_m10 132 rfl) rfl
theorem q2410 : (Jvm.Cond.constantLong "DanceNotation" (312 : Nat) (3 : Int64)) ∈ lw_all := lw_g (lw_at lw_m10 133 rfl) rfl
theorem q2411 : (Jvm.Cond.methodLink "DanceNotation" (314 : Nat) ({ cls := "java/util/ArrayList", name := "size", desc := "()I" } : Jvm.MethodName)) ∈ lw_all := lw_g (lw_at lw_m10 134 rfl) rfl
theorem q2412 : (Jvm.Cond.methodLink "DanceNotation" (315 : Nat) ({ cls := "java/util/ArrayList", name := "get", desc := "(I)Ljava/lang/Object;" } : Jvm.MethodName)) ∈ lw_all := lw_g (lw_at lw_m10 135 rfl) rfl
theorem q2417 : (Jvm.Cond.instanceMethod ({ cls := "DanceNotation", name := "cue", desc := "(I)I" } : Jvm.MethodName)) ∈ lw_all := lw_g (lw_at lw_m10 140 rfl) rfl
theorem q2418 : (Jvm.Cond.selects "DanceNotation" ({ cls := "DanceNotation", name := "cue", desc := "(I)I" } : Jvm.MethodName) ({ cls := "DanceNotation", name := "cue", desc := "(I)I" } : Jvm.MethodName)) ∈ lw_all := lw_g (lw_at lw_m10 141 rfl) rfl
theorem q2419 : (Jvm.Cond.code ({ cls := "DanceNotation", name := "cue", desc := "(I)I" } : Jvm.MethodName) prog_1_method_37_code (3 : Nat) (Option.some Jvm.ClassFile.FieldType.int)) ∈ lw_all := lw_g (lw_at lw_m10 142 rfl) rfl
theorem q2420 : (Jvm.Cond.methodLink "DanceNotation" (319 : Nat) ({ cls := "DanceNotation$Score", name := "cueCount", desc := "()I" } : Jvm.MethodName)) ∈ lw_all := lw_g (lw_at lw_m10 143 rfl) rfl
theorem q2424 : (Jvm.Cond.methodLink "DanceNotation" (322 : Nat) ({ cls := "DanceNotation$Score", name := "cue", desc := "(I)I" } : Jvm.MethodName)) ∈ lw_all := lw_g (lw_at lw_m10 147 rfl) rfl
theorem q2432 : (Jvm.Cond.instanceMethod ({ cls := "DanceNotation", name := "displacement", desc := "(IZ)I" } : Jvm.MethodName)) ∈ lw_all := lw_g (lw_at lw_m10 155 rfl) rfl
theorem q2433 : (Jvm.Cond.selects "DanceNotation" ({ cls := "DanceNotation", name := "displacement", desc := "(IZ)I" } : Jvm.MethodName) ({ cls := "DanceNotation", name := "displacement", desc := "(IZ)I" } : Jvm.MethodName)) ∈ lw_all := lw_g (lw_at lw_m10 156 rfl) rfl
theorem q2434 : (Jvm.Cond.code ({ cls := "DanceNotation", name := "displacement", desc := "(IZ)I" } : Jvm.MethodName) prog_1_method_38_code (3 : Nat) (Option.some Jvm.ClassFile.FieldType.int)) ∈ lw_all := lw_g (lw_at lw_m10 157 rfl) rfl
theorem q2435 : (Jvm.Cond.methodLink "DanceNotation" (326 : Nat) ({ cls := "DanceNotation$Node", name := "displacement", desc := "(IZ)I" } : Jvm.MethodName)) ∈ lw_all := lw_g (lw_at lw_m10 158 rfl) rfl
theorem q2481 : (Jvm.Cond.instanceMethod ({ cls := "DanceNotation", name := "meanSteps", desc := "()D" } : Jvm.MethodName)) ∈ lw_all := lw_g (lw_at lw_m10 204 rfl) rfl
theorem q2482 : (Jvm.Cond.selects "DanceNotation" ({ cls := "DanceNotation", name := "meanSteps", desc := "()D" } : Jvm.MethodName) ({ cls := "DanceNotation", name := "meanSteps", desc := "()D" } : Jvm.MethodName)) ∈ lw_all := lw_g (lw_at lw_m10 205 rfl) rfl
theorem q2483 : (Jvm.Cond.code ({ cls := "DanceNotation", name := "meanSteps", desc := "()D" } : Jvm.MethodName) prog_1_method_40_code (4 : Nat) (Option.some Jvm.ClassFile.FieldType.double)) ∈ lw_all := lw_g (lw_at lw_m10 206 rfl) rfl
theorem q2484 : (Jvm.Cond.classLink "DanceNotation" (330 : Nat) "java/lang/ArithmeticException") ∈ lw_all := lw_g (lw_at lw_m10 207 rfl) rfl
theorem q2485 : (Jvm.Cond.methodLink "DanceNotation" (332 : Nat) ({ cls := "java/lang/ArithmeticException", name := "<init>", desc := "()V" } : Jvm.MethodName)) ∈ lw_all := lw_g (lw_at lw_m10 208 rfl) rfl
theorem q2489 : (Jvm.Cond.methodLink "DanceNotation" (333 : Nat) ({ cls := "DanceNotation", name := "moves", desc := "(I)I" } : Jvm.MethodName)) ∈ lw_all := lw_g (lw_at lw_m10 212 rfl) rfl
theorem q2490 : (Jvm.Cond.privateMethod ({ cls := "DanceNotation", name := "moves", desc := "(I)I" } : Jvm.MethodName)) ∈ lw_tbl := lw_at lw_m10 213 rfl
theorem q2491 : (Jvm.Cond.instanceMethod ({ cls := "DanceNotation", name := "moves", desc := "(I)I" } : Jvm.MethodName)) ∈ lw_all := lw_g (lw_at lw_m10 214 rfl) rfl
theorem q2492 : (Jvm.Cond.code ({ cls := "DanceNotation", name := "moves", desc := "(I)I" } : Jvm.MethodName) prog_1_method_39_code (7 : Nat) (Option.some Jvm.ClassFile.FieldType.int)) ∈ lw_all := lw_g (lw_at lw_m10 215 rfl) rfl
theorem q2493 : (Jvm.Cond.methodLink "DanceNotation" (336 : Nat) ({ cls := "java/lang/Integer", name := "bitCount", desc := "(I)I" } : Jvm.MethodName)) ∈ lw_all := lw_g (lw_at lw_m10 216 rfl) rfl
theorem q2503 : (Jvm.Cond.instanceMethod ({ cls := "DanceNotation", name := "movingShare", desc := "(I)F" } : Jvm.MethodName)) ∈ lw_all := lw_g (lw_at lw_m10 226 rfl) rfl
theorem q2504 : (Jvm.Cond.selects "DanceNotation" ({ cls := "DanceNotation", name := "movingShare", desc := "(I)F" } : Jvm.MethodName) ({ cls := "DanceNotation", name := "movingShare", desc := "(I)F" } : Jvm.MethodName)) ∈ lw_all := lw_g (lw_at lw_m10 227 rfl) rfl
theorem q2505 : (Jvm.Cond.code ({ cls := "DanceNotation", name := "movingShare", desc := "(I)F" } : Jvm.MethodName) prog_1_method_41_code (2 : Nat) (Option.some Jvm.ClassFile.FieldType.float)) ∈ lw_all := lw_g (lw_at lw_m10 228 rfl) rfl
theorem q2510 : (Jvm.Cond.instanceMethod ({ cls := "DanceNotation", name := "setFormation", desc := "(III)I" } : Jvm.MethodName)) ∈ lw_all := lw_g (lw_at lw_m10 233 rfl) rfl
theorem q2511 : (Jvm.Cond.selects "DanceNotation" ({ cls := "DanceNotation", name := "setFormation", desc := "(III)I" } : Jvm.MethodName) ({ cls := "DanceNotation", name := "setFormation", desc := "(III)I" } : Jvm.MethodName)) ∈ lw_all := lw_g (lw_at lw_m10 234 rfl) rfl
theorem q2512 : (Jvm.Cond.code ({ cls := "DanceNotation", name := "setFormation", desc := "(III)I" } : Jvm.MethodName) prog_1_method_43_code (4 : Nat) (Option.some Jvm.ClassFile.FieldType.int)) ∈ lw_all := lw_g (lw_at lw_m10 235 rfl) rfl
theorem q2513 : (Jvm.Cond.methodLink "DanceNotation" (341 : Nat) ({ cls := "DanceNotation", name := "checkFormation", desc := "(I)V" } : Jvm.MethodName)) ∈ lw_all := lw_g (lw_at lw_m10 236 rfl) rfl
theorem q2514 : (Jvm.Cond.static ({ cls := "DanceNotation", name := "checkFormation", desc := "(I)V" } : Jvm.MethodName)) ∈ lw_all := lw_g (lw_at lw_m10 237 rfl) rfl
theorem q2515 : (Jvm.Cond.code ({ cls := "DanceNotation", name := "checkFormation", desc := "(I)V" } : Jvm.MethodName) prog_1_method_42_code (1 : Nat) (Option.none : Option Jvm.ClassFile.FieldType)) ∈ lw_all := lw_g (lw_at lw_m10 238 rfl) rfl
theorem q2516 : (Jvm.Cond.fieldLink "DanceNotation" (348 : Nat) "DanceNotation$Verb" "FORMATION" "LDanceNotation$Verb;") ∈ lw_all := lw_g (lw_at lw_m10 239 rfl) rfl
theorem q2522 : (Jvm.Cond.instanceMethod ({ cls := "DanceNotation", name := "distance", desc := "(II)I" } : Jvm.MethodName)) ∈ lw_all := lw_g (lw_at lw_m11 5 rfl) rfl
theorem q2523 : (Jvm.Cond.selects "DanceNotation" ({ cls := "DanceNotation", name := "distance", desc := "(II)I" } : Jvm.MethodName) ({ cls := "DanceNotation", name := "distance", desc := "(II)I" } : Jvm.MethodName)) ∈ lw_all := lw_g (lw_at lw_m11 6 rfl) rfl
theorem q2524 : (Jvm.Cond.code ({ cls := "DanceNotation", name := "distance", desc := "(II)I" } : Jvm.MethodName) prog_1_method_44_code (6 : Nat) (Option.some Jvm.ClassFile.FieldType.int)) ∈ lw_all := lw_g (lw_at lw_m11 7 rfl) rfl
theorem q2525 : (Jvm.Cond.methodLink "DanceNotation" (354 : Nat) ({ cls := "java/lang/Math", name := "abs", desc := "(I)I" } : Jvm.MethodName)) ∈ lw_all := lw_g (lw_at lw_m11 8 rfl) rfl
theorem q2532 : (Jvm.Cond.instanceMethod ({ cls := "DanceNotation", name := "plan", desc := "(I)I" } : Jvm.MethodName)) ∈ lw_all := lw_g (lw_at lw_m11 15 rfl) rfl
theorem q2533 : (Jvm.Cond.selects "DanceNotation" ({ cls := "DanceNotation", name := "plan", desc := "(I)I" } : Jvm.MethodName) ({ cls := "DanceNotation", name := "plan", desc := "(I)I" } : Jvm.MethodName)) ∈ lw_all := lw_g (lw_at lw_m11 16 rfl) rfl
theorem q2534 : (Jvm.Cond.code ({ cls := "DanceNotation", name := "plan", desc := "(I)I" } : Jvm.MethodName) prog_1_method_45_code (6 : Nat) (Option.some Jvm.ClassFile.FieldType.int)) ∈ lw_all := lw_g (lw_at lw_m11 17 rfl) rfl
theorem q2535 : (Jvm.Cond.methodLink "DanceNotation" (359 : Nat) ({ cls := "java/util/ArrayList", name := "isEmpty", desc := "()Z" } : Jvm.MethodName)) ∈ lw_all := lw_g (lw_at lw_m11 18 rfl) rfl
theorem q2539 : (Jvm.Cond.methodLink "DanceNotation" (362 : Nat) ({ cls := "DanceNotation$Dance", name := "plan", desc := "(I)Ljava/util/ArrayList;" } : Jvm.MethodName)) ∈ lw_all := lw_g (lw_at lw_m11 22 rfl) rfl
theorem q2629 : (Jvm.Cond.methodLink "DanceNotation" (366 : Nat) ({ cls := "DanceNotation$Several", name := "of", desc := "(ZLjava/util/ArrayList;)LDanceNotation$Node;" } : Jvm.MethodName)) ∈ lw_all := lw_g (lw_at lw_m11 112 rfl) rfl
theorem q2630 : (Jvm.Cond.methodLink "DanceNotation" (372 : Nat) ({ cls := "DanceNotation$Dance", name := "with", desc := "(LDanceNotation$Node;)LDanceNotation$Node;" } : Jvm.MethodName)) ∈ lw_all := lw_g (lw_at lw_m11 113 rfl) rfl
theorem q2666 : (Jvm.Cond.instanceMethod ({ cls := "DanceNotation", name := "undo", desc := "()I" } : Jvm.MethodName)) ∈ lw_all := lw_g (lw_at lw_m11 149 rfl) rfl
theorem q2667 : (Jvm.Cond.selects "DanceNotation" ({ cls := "DanceNotation", name := "undo", desc := "()I" } : Jvm.MethodName) ({ cls := "DanceNotation", name := "undo", desc := "()I" } : Jvm.MethodName)) ∈ lw_all := lw_g (lw_at lw_m11 150 rfl) rfl
theorem q2668 : (Jvm.Cond.code ({ cls := "DanceNotation", name := "undo", desc := "()I" } : Jvm.MethodName) prog_1_method_47_code (2 : Nat) (Option.some Jvm.ClassFile.FieldType.int)) ∈ lw_all := lw_g (lw_at lw_m11 151 rfl) rfl
theorem q2669 : (Jvm.Cond.methodLink "DanceNotation" (376 : Nat) ({ cls := "java/util/ArrayDeque", name := "isEmpty", desc := "()Z" } : Jvm.MethodName)) ∈ lw_all := lw_g (lw_at lw_m11 152 rfl) rfl
theorem q2673 : (Jvm.Cond.methodLink "DanceNotation" (377 : Nat) ({ cls := "java/util/ArrayDeque", name := "removeLast", desc := "()Ljava/lang/Object;" } : Jvm.MethodName)) ∈ lw_all := lw_g (lw_at lw_m11 156 rfl) rfl
theorem q2684 : (Jvm.Cond.methodLink "DanceNotation" (380 : Nat) ({ cls := "java/util/LinkedList", name := "removeLast", desc := "()Ljava/lang/Object;" } : Jvm.MethodName)) ∈ lw_all := lw_g (lw_at lw_m11 167 rfl) rfl
theorem q2696 : (Jvm.Cond.instanceMethod ({ cls := "DanceNotation", name := "restore", desc := "()I" } : Jvm.MethodName)) ∈ lw_all := lw_g (lw_at lw_m11 179 rfl) rfl
theorem q2697 : (Jvm.Cond.selects "DanceNotation" ({ cls := "DanceNotation", name := "restore", desc := "()I" } : Jvm.MethodName) ({ cls := "DanceNotation", name := "restore", desc := "()I" } : Jvm.MethodName)) ∈ lw_all := lw_g (lw_at lw_m11 180 rfl) rfl
theorem q2698 : (Jvm.Cond.code ({ cls := "DanceNotation", name := "restore", desc := "()I" } : Jvm.MethodName) prog_1_method_50_code (1 : Nat) (Option.some Jvm.ClassFile.FieldType.int)) ∈ lw_all := lw_g (lw_at lw_m11 181 rfl) rfl
theorem q3313 : (Jvm.Cond.castable "DanceNotation" "java/lang/Object") ∈ lw_tbl := lw_at lw_m14 76 rfl
theorem in_X1 : ∀ w ∈ wsX10, w ∈ lw_all := lw_in wsX10 [326, 328, 330, 332, 334, 336, 338, 340, 342, 344] (by decide +kernel) (by decide +kernel)

/-! DanceNotation$Dance -/
set_option maxRecDepth 100000
def RX2 : String := "DanceNotation$Dance"
def TX2 : u_T := fun k => match k with
  | 0 => ("DanceNotation$Dance", "columns", "I", true)
  | 1 => ("DanceNotation$Dance", "rows", "I", true)
  | 2 => ("DanceNotation$Dance", "starts", "[I", true)
  | 3 => ("DanceNotation$Dance", "formations", "[[I", true)
  | 4 => ("DanceNotation$Dance", "piece", "LDanceNotation$Node;", false)
  | _ => ("DanceNotation$Dance", "score", "LDanceNotation$Score;", false)
def tyX2 : Nat → FieldType := fun k => match k with
  | 0 => .int
  | 1 => .int
  | 2 => .array .int
  | 3 => .array (.array .int)
  | 4 => .object "DanceNotation$Node"
  | _ => .object "DanceNotation$Score"
abbrev wsX20 : List Cond := u_ws RX2 TX2 6
theorem nmX2 : ∀ a, a < 6 → ∀ b, b < 6 → a ≠ b → (TX2 a).2.1 ≠ (TX2 b).2.1 := by decide +kernel
theorem tyX2_ok : ∀ k, k < 6 → parseFieldDescriptor (TX2 k).2.2.1 = some (tyX2 k) := by decide +kernel
abbrev cX2_init : ByteArray := prog_4_method_1_code
def yX2_init : MethodName := ⟨RX2, "<init>", "(II)V"⟩
def dkwX2_init_3 : List UInt8 := [21, 6, 50, 58, 7, 25, 7, 29, 2, 79, 132, 6, 1, 167, 255, 234, 132, 3, 1, 167, 255, 201, 177]
abbrev dktX2_init_3 : List UInt8 := dkwX2_init_3 ++ []
def dkwX2_init_2 : List UInt8 := [42, 180, 0, 17, 58, 4, 25, 4, 190, 54, 5, 3, 54, 6, 21, 6, 21, 5, 162, 0, 21, 25, 4]
abbrev dktX2_init_2 : List UInt8 := dkwX2_init_2 ++ dktX2_init_3
def dkwX2_init_1 : List UInt8 := [27, 181, 0, 20, 42, 28, 181, 0, 24, 3, 62, 29, 16, 8, 162, 0, 55, 42, 180, 0, 9, 29, 2, 79]
abbrev dktX2_init_1 : List UInt8 := dkwX2_init_1 ++ dktX2_init_2
def dkwX2_init_0 : List UInt8 := [42, 183, 0, 3, 42, 16, 8, 188, 10, 181, 0, 9, 42, 7, 16, 8, 197, 0, 15, 2, 181, 0, 17, 42]
abbrev dktX2_init_0 : List UInt8 := dkwX2_init_0 ++ dktX2_init_1
theorem dksX2_init_0 : cX2_init.data.toList.drop 0 = dktX2_init_0 := by decide +kernel
theorem dksX2_init_1 : cX2_init.data.toList.drop 24 = dktX2_init_1 := dk_seg dksX2_init_0 24 rfl rfl
theorem dksX2_init_2 : cX2_init.data.toList.drop 48 = dktX2_init_2 := dk_seg dksX2_init_1 24 rfl rfl
theorem dksX2_init_3 : cX2_init.data.toList.drop 71 = dktX2_init_3 := dk_seg dksX2_init_2 23 rfl rfl
theorem dX2_init_0 : decode cX2_init 0 = .ok (.aload_n 0, 1) := dk_42 (dk_at dksX2_init_0 0 rfl rfl)
theorem dX2_init_1 : decode cX2_init 1 = .ok (.invokespecial 3, 3) := dk_183 0 3 (dk_at dksX2_init_0 1 rfl rfl)
theorem dX2_init_4 : decode cX2_init 4 = .ok (.aload_n 0, 1) := dk_42 (dk_at dksX2_init_0 4 rfl rfl)
theorem dX2_init_5 : decode cX2_init 5 = .ok (.bipush 8, 2) := dk_16 8 (dk_at dksX2_init_0 5 rfl rfl)
theorem dX2_init_7 : decode cX2_init 7 = .ok (.newarray .int, 2) := dk_188_10 (dk_at dksX2_init_0 7 rfl rfl)
theorem dX2_init_9 : decode cX2_init 9 = .ok (.putfield 9, 3) := dk_181 0 9 (dk_at dksX2_init_0 9 rfl rfl)
theorem dX2_init_12 : decode cX2_init 12 = .ok (.aload_n 0, 1) := dk_42 (dk_at dksX2_init_0 12 rfl rfl)
theorem dX2_init_13 : decode cX2_init 13 = .ok (.iconst 4, 1) := dk_7 (dk_at dksX2_init_0 13 rfl rfl)
theorem dX2_init_14 : decode cX2_init 14 = .ok (.bipush 8, 2) := dk_16 8 (dk_at dksX2_init_0 14 rfl rfl)
theorem dX2_init_16 : decode cX2_init 16 = .ok (.multianewarray 15 2, 4) := by decide +kernel
theorem dX2_init_20 : decode cX2_init 20 = .ok (.putfield 17, 3) := dk_181 0 17 (dk_at dksX2_init_0 20 rfl rfl)
theorem dX2_init_23 : decode cX2_init 23 = .ok (.aload_n 0, 1) := dk_42 (dk_at dksX2_init_0 23 rfl rfl)
theorem dX2_init_24 : decode cX2_init 24 = .ok (.iload_n 1, 1) := dk_27 (dk_at dksX2_init_1 0 rfl rfl)
theorem dX2_init_25 : decode cX2_init 25 = .ok (.putfield 20, 3) := dk_181 0 20 (dk_at dksX2_init_1 1 rfl rfl)
theorem dX2_init_28 : decode cX2_init 28 = .ok (.aload_n 0, 1) := dk_42 (dk_at dksX2_init_1 4 rfl rfl)
theorem dX2_init_29 : decode cX2_init 29 = .ok (.iload_n 2, 1) := dk_28 (dk_at dksX2_init_1 5 rfl rfl)
theorem dX2_init_30 : decode cX2_init 30 = .ok (.putfield 24, 3) := dk_181 0 24 (dk_at dksX2_init_1 6 rfl rfl)
theorem dX2_init_33 : decode cX2_init 33 = .ok (.iconst 0, 1) := dk_3 (dk_at dksX2_init_1 9 rfl rfl)
theorem dX2_init_34 : decode cX2_init 34 = .ok (.istore_n 3, 1) := dk_62 (dk_at dksX2_init_1 10 rfl rfl)
theorem dX2_init_35 : decode cX2_init 35 = .ok (.iload_n 3, 1) := dk_29 (dk_at dksX2_init_1 11 rfl rfl)
theorem dX2_init_36 : decode cX2_init 36 = .ok (.bipush 8, 2) := dk_16 8 (dk_at dksX2_init_1 12 rfl rfl)
theorem dX2_init_38 : decode cX2_init 38 = .ok (.if_icmp .ge 55, 3) := dk_162 0 55 (dk_at dksX2_init_1 14 rfl rfl)
theorem dX2_init_41 : decode cX2_init 41 = .ok (.aload_n 0, 1) := dk_42 (dk_at dksX2_init_1 17 rfl rfl)
theorem dX2_init_42 : decode cX2_init 42 = .ok (.getfield 9, 3) := dk_180 0 9 (dk_at dksX2_init_1 18 rfl rfl)
theorem dX2_init_45 : decode cX2_init 45 = .ok (.iload_n 3, 1) := dk_29 (dk_at dksX2_init_1 21 rfl rfl)
theorem dX2_init_46 : decode cX2_init 46 = .ok (.iconst (-1), 1) := dk_2 (dk_at dksX2_init_1 22 rfl rfl)
theorem dX2_init_47 : decode cX2_init 47 = .ok (.iastore, 1) := dk_79 (dk_at dksX2_init_1 23 rfl rfl)
theorem dX2_init_48 : decode cX2_init 48 = .ok (.aload_n 0, 1) := dk_42 (dk_at dksX2_init_2 0 rfl rfl)
theorem dX2_init_49 : decode cX2_init 49 = .ok (.getfield 17, 3) := dk_180 0 17 (dk_at dksX2_init_2 1 rfl rfl)
theorem dX2_init_52 : decode cX2_init 52 = .ok (.astore 4, 2) := dk_58 4 (dk_at dksX2_init_2 4 rfl rfl)
theorem dX2_init_54 : decode cX2_init 54 = .ok (.aload 4, 2) := dk_25 4 (dk_at dksX2_init_2 6 rfl rfl)
theorem dX2_init_56 : decode cX2_init 56 = .ok (.arraylength, 1) := dk_190 (dk_at dksX2_init_2 8 rfl rfl)
theorem dX2_init_57 : decode cX2_init 57 = .ok (.istore 5, 2) := dk_54 5 (dk_at dksX2_init_2 9 rfl rfl)
theorem dX2_init_59 : decode cX2_init 59 = .ok (.iconst 0, 1) := dk_3 (dk_at dksX2_init_2 11 rfl rfl)
theorem dX2_init_60 : decode cX2_init 60 = .ok (.istore 6, 2) := dk_54 6 (dk_at dksX2_init_2 12 rfl rfl)
theorem dX2_init_62 : decode cX2_init 62 = .ok (.iload 6, 2) := dk_21 6 (dk_at dksX2_init_2 14 rfl rfl)
theorem dX2_init_64 : decode cX2_init 64 = .ok (.iload 5, 2) := dk_21 5 (dk_at dksX2_init_2 16 rfl rfl)
theorem dX2_init_66 : decode cX2_init 66 = .ok (.if_icmp .ge 21, 3) := dk_162 0 21 (dk_at dksX2_init_2 18 rfl rfl)
theorem dX2_init_69 : decode cX2_init 69 = .ok (.aload 4, 2) := dk_25 4 (dk_at dksX2_init_2 21 rfl rfl)
theorem dX2_init_71 : decode cX2_init 71 = .ok (.iload 6, 2) := dk_21 6 (dk_at dksX2_init_3 0 rfl rfl)
theorem dX2_init_73 : decode cX2_init 73 = .ok (.aaload, 1) := dk_50 (dk_at dksX2_init_3 2 rfl rfl)
theorem dX2_init_74 : decode cX2_init 74 = .ok (.astore 7, 2) := dk_58 7 (dk_at dksX2_init_3 3 rfl rfl)
theorem dX2_init_76 : decode cX2_init 76 = .ok (.aload 7, 2) := dk_25 7 (dk_at dksX2_init_3 5 rfl rfl)
theorem dX2_init_78 : decode cX2_init 78 = .ok (.iload_n 3, 1) := dk_29 (dk_at dksX2_init_3 7 rfl rfl)
theorem dX2_init_79 : decode cX2_init 79 = .ok (.iconst (-1), 1) := dk_2 (dk_at dksX2_init_3 8 rfl rfl)
theorem dX2_init_80 : decode cX2_init 80 = .ok (.iastore, 1) := dk_79 (dk_at dksX2_init_3 9 rfl rfl)
theorem dX2_init_81 : decode cX2_init 81 = .ok (.iinc 6 1, 3) := dk_132 6 1 (dk_at dksX2_init_3 10 rfl rfl)
theorem dX2_init_84 : decode cX2_init 84 = .ok (.goto (-22), 3) := dk_167 255 234 (dk_at dksX2_init_3 13 rfl rfl)
theorem dX2_init_87 : decode cX2_init 87 = .ok (.iinc 3 1, 3) := dk_132 3 1 (dk_at dksX2_init_3 16 rfl rfl)
theorem dX2_init_90 : decode cX2_init 90 = .ok (.goto (-55), 3) := dk_167 255 201 (dk_at dksX2_init_3 19 rfl rfl)
theorem dX2_init_93 : decode cX2_init 93 = .ok (.return_, 1) := dk_177 (dk_at dksX2_init_3 22 rfl rfl)
abbrev cX2_set : ByteArray := prog_4_method_6_code
def yX2_set : MethodName := ⟨RX2, "set", "(LDanceNotation$Node;)V"⟩
def dkwX2_set_0 : List UInt8 := [42, 43, 181, 0, 36, 42, 43, 182, 0, 66, 181, 0, 40, 177]
abbrev dktX2_set_0 : List UInt8 := dkwX2_set_0 ++ []
theorem dksX2_set_0 : cX2_set.data.toList.drop 0 = dktX2_set_0 := by decide +kernel
theorem dX2_set_0 : decode cX2_set 0 = .ok (.aload_n 0, 1) := dk_42 (dk_at dksX2_set_0 0 rfl rfl)
theorem dX2_set_1 : decode cX2_set 1 = .ok (.aload_n 1, 1) := dk_43 (dk_at dksX2_set_0 1 rfl rfl)
theorem dX2_set_2 : decode cX2_set 2 = .ok (.putfield 36, 3) := dk_181 0 36 (dk_at dksX2_set_0 2 rfl rfl)
theorem dX2_set_5 : decode cX2_set 5 = .ok (.aload_n 0, 1) := dk_42 (dk_at dksX2_set_0 5 rfl rfl)
theorem dX2_set_6 : decode cX2_set 6 = .ok (.aload_n 1, 1) := dk_43 (dk_at dksX2_set_0 6 rfl rfl)
theorem dX2_set_7 : decode cX2_set 7 = .ok (.invokevirtual 66, 3) := dk_182 0 66 (dk_at dksX2_set_0 7 rfl rfl)
theorem dX2_set_10 : decode cX2_set 10 = .ok (.putfield 40, 3) := dk_181 0 40 (dk_at dksX2_set_0 10 rfl rfl)
theorem dX2_set_13 : decode cX2_set 13 = .ok (.return_, 1) := dk_177 (dk_at dksX2_set_0 13 rfl rfl)
abbrev cX2_isLike : ByteArray := prog_4_method_4_code
def yX2_isLike : MethodName := ⟨RX2, "isLike", "(LDanceNotation$Dance;)Z"⟩
def dkwX2_isLike_4 : List UInt8 := [172]
abbrev dktX2_isLike_4 : List UInt8 := dkwX2_isLike_4 ++ []
def dkwX2_isLike_3 : List UInt8 := [46, 160, 0, 7, 4, 167, 0, 4, 3, 126, 61, 132, 4, 1, 167, 255, 218, 132, 3, 1, 167, 255, 180, 28]
abbrev dktX2_isLike_3 : List UInt8 := dkwX2_isLike_3 ++ dktX2_isLike_4
def dkwX2_isLike_2 : List UInt8 := [21, 4, 7, 162, 0, 38, 28, 42, 180, 0, 17, 21, 4, 50, 29, 46, 43, 180, 0, 17, 21, 4, 50, 29]
abbrev dktX2_isLike_2 : List UInt8 := dkwX2_isLike_2 ++ dktX2_isLike_3
def dkwX2_isLike_1 : List UInt8 := [180, 0, 9, 29, 46, 43, 180, 0, 9, 29, 46, 160, 0, 7, 4, 167, 0, 4, 3, 126, 61, 3, 54, 4]
abbrev dktX2_isLike_1 : List UInt8 := dkwX2_isLike_1 ++ dktX2_isLike_2
def dkwX2_isLike_0 : List UInt8 := [42, 182, 0, 57, 43, 182, 0, 57, 182, 0, 60, 61, 3, 62, 29, 16, 8, 162, 0, 76, 28, 42]
abbrev dktX2_isLike_0 : List UInt8 := dkwX2_isLike_0 ++ dktX2_isLike_1
theorem dksX2_isLike_0 : cX2_isLike.data.toList.drop 0 = dktX2_isLike_0 := by decide +kernel
theorem dksX2_isLike_1 : cX2_isLike.data.toList.drop 22 = dktX2_isLike_1 := dk_seg dksX2_isLike_0 22 rfl rfl
theorem dksX2_isLike_2 : cX2_isLike.data.toList.drop 46 = dktX2_isLike_2 := dk_seg dksX2_isLike_1 24 rfl rfl
theorem dksX2_isLike_3 : cX2_isLike.data.toList.drop 70 = dktX2_isLike_3 := dk_seg dksX2_isLike_2 24 rfl rfl
theorem dksX2_isLike_4 : cX2_isLike.data.toList.drop 94 = dktX2_isLike_4 := dk_seg dksX2_isLike_3 24 rfl rfl
theorem dX2_isLike_0 : decode cX2_isLike 0 = .ok (.aload_n 0, 1) := dk_42 (dk_at dksX2_isLike_0 0 rfl rfl)
theorem dX2_isLike_1 : decode cX2_isLike 1 = .ok (.invokevirtual 57, 3) := dk_182 0 57 (dk_at dksX2_isLike_0 1 rfl rfl)
theorem dX2_isLike_4 : decode cX2_isLike 4 = .ok (.aload_n 1, 1) := dk_43 (dk_at dksX2_isLike_0 4 rfl rfl)
theorem dX2_isLike_5 : decode cX2_isLike 5 = .ok (.invokevirtual 57, 3) := dk_182 0 57 (dk_at dksX2_isLike_0 5 rfl rfl)
theorem dX2_isLike_8 : decode cX2_isLike 8 = .ok (.invokevirtual 60, 3) := dk_182 0 60 (dk_at dksX2_isLike_0 8 rfl rfl)
theorem dX2_isLike_11 : decode cX2_isLike 11 = .ok (.istore_n 2, 1) := dk_61 (dk_at dksX2_isLike_0 11 rfl rfl)
theorem dX2_isLike_12 : decode cX2_isLike 12 = .ok (.iconst 0, 1) := dk_3 (dk_at dksX2_isLike_0 12 rfl rfl)
theorem dX2_isLike_13 : decode cX2_isLike 13 = .ok (.istore_n 3, 1) := dk_62 (dk_at dksX2_isLike_0 13 rfl rfl)
theorem dX2_isLike_14 : decode cX2_isLike 14 = .ok (.iload_n 3, 1) := dk_29 (dk_at dksX2_isLike_0 14 rfl rfl)
theorem dX2_isLike_15 : decode cX2_isLike 15 = .ok (.bipush 8, 2) := dk_16 8 (dk_at dksX2_isLike_0 15 rfl rfl)
theorem dX2_isLike_17 : decode cX2_isLike 17 = .ok (.if_icmp .ge 76, 3) := dk_162 0 76 (dk_at dksX2_isLike_0 17 rfl rfl)
theorem dX2_isLike_20 : decode cX2_isLike 20 = .ok (.iload_n 2, 1) := dk_28 (dk_at dksX2_isLike_0 20 rfl rfl)
theorem dX2_isLike_21 : decode cX2_isLike 21 = .ok (.aload_n 0, 1) := dk_42 (dk_at dksX2_isLike_0 21 rfl rfl)
theorem dX2_isLike_22 : decode cX2_isLike 22 = .ok (.getfield 9, 3) := dk_180 0 9 (dk_at dksX2_isLike_1 0 rfl rfl)
theorem dX2_isLike_25 : decode cX2_isLike 25 = .ok (.iload_n 3, 1) := dk_29 (dk_at dksX2_isLike_1 3 rfl rfl)
theorem dX2_isLike_26 : decode cX2_isLike 26 = .ok (.iaload, 1) := dk_46 (dk_at dksX2_isLike_1 4 rfl rfl)
theorem dX2_isLike_27 : decode cX2_isLike 27 = .ok (.aload_n 1, 1) := dk_43 (dk_at dksX2_isLike_1 5 rfl rfl)
theorem dX2_isLike_28 : decode cX2_isLike 28 = .ok (.getfield 9, 3) := dk_180 0 9 (dk_at dksX2_isLike_1 6 rfl rfl)
theorem dX2_isLike_31 : decode cX2_isLike 31 = .ok (.iload_n 3, 1) := dk_29 (dk_at dksX2_isLike_1 9 rfl rfl)
theorem dX2_isLike_32 : decode cX2_isLike 32 = .ok (.iaload, 1) := dk_46 (dk_at dksX2_isLike_1 10 rfl rfl)
theorem dX2_isLike_33 : decode cX2_isLike 33 = .ok (.if_icmp .ne 7, 3) := dk_160 0 7 (dk_at dksX2_isLike_1 11 rfl rfl)
theorem dX2_isLike_36 : decode cX2_isLike 36 = .ok (.iconst 1, 1) := dk_4 (dk_at dksX2_isLike_1 14 rfl rfl)
theorem dX2_isLike_37 : decode cX2_isLike 37 = .ok (.goto 4, 3) := dk_167 0 4 (dk_at dksX2_isLike_1 15 rfl rfl)
theorem dX2_isLike_40 : decode cX2_isLike 40 = .ok (.iconst 0, 1) := dk_3 (dk_at dksX2_isLike_1 18 rfl rfl)
theorem dX2_isLike_41 : decode cX2_isLike 41 = .ok (.iand, 1) := dk_126 (dk_at dksX2_isLike_1 19 rfl rfl)
theorem dX2_isLike_42 : decode cX2_isLike 42 = .ok (.istore_n 2, 1) := dk_61 (dk_at dksX2_isLike_1 20 rfl rfl)
theorem dX2_isLike_43 : decode cX2_isLike 43 = .ok (.iconst 0, 1) := dk_3 (dk_at dksX2_isLike_1 21 rfl rfl)
theorem dX2_isLike_44 : decode cX2_isLike 44 = .ok (.istore 4, 2) := dk_54 4 (dk_at dksX2_isLike_1 22 rfl rfl)
theorem dX2_isLike_46 : decode cX2_isLike 46 = .ok (.iload 4, 2) := dk_21 4 (dk_at dksX2_isLike_2 0 rfl rfl)
theorem dX2_isLike_48 : decode cX2_isLike 48 = .ok (.iconst 4, 1) := dk_7 (dk_at dksX2_isLike_2 2 rfl rfl)
theorem dX2_isLike_49 : decode cX2_isLike 49 = .ok (.if_icmp .ge 38, 3) := dk_162 0 38 (dk_at dksX2_isLike_2 3 rfl rfl)
theorem dX2_isLike_52 : decode cX2_isLike 52 = .ok (.iload_n 2, 1) := dk_28 (dk_at dksX2_isLike_2 6 rfl rfl)
theorem dX2_isLike_53 : decode cX2_isLike 53 = .ok (.aload_n 0, 1) := dk_42 (dk_at dksX2_isLike_2 7 rfl rfl)
theorem dX2_isLike_54 : decode cX2_isLike 54 = .ok (.getfield 17, 3) := dk_180 0 17 (dk_at dksX2_isLike_2 8 rfl rfl)
theorem dX2_isLike_57 : decode cX2_isLike 57 = .ok (.iload 4, 2) := dk_21 4 (dk_at dksX2_isLike_2 11 rfl rfl)
theorem dX2_isLike_59 : decode cX2_isLike 59 = .ok (.aaload, 1) := dk_50 (dk_at dksX2_isLike_2 13 rfl rfl)
theorem dX2_isLike_60 : decode cX2_isLike 60 = .ok (.iload_n 3, 1) := dk_29 (dk_at dksX2_isLike_2 14 rfl rfl)
theorem dX2_isLike_61 : decode cX2_isLike 61 = .ok (.iaload, 1) := dk_46 (dk_at dksX2_isLike_2 15 rfl rfl)
theorem dX2_isLike_62 : decode cX2_isLike 62 = .ok (.aload_n 1, 1) := dk_43 (dk_at dksX2_isLike_2 16 rfl rfl)
theorem dX2_isLike_63 : decode cX2_isLike 63 = .ok (.getfield 17, 3) := dk_180 0 17 (dk_at dksX2_isLike_2 17 rfl rfl)
theorem dX2_isLike_66 : decode cX2_isLike 66 = .ok (.iload 4, 2) := dk_21 4 (dk_at dksX2_isLike_2 20 rfl rfl)
theorem dX2_isLike_68 : decode cX2_isLike 68 = .ok (.aaload, 1) := dk_50 (dk_at dksX2_isLike_2 22 rfl rfl)
theorem dX2_isLike_69 : decode cX2_isLike 69 = .ok (.iload_n 3, 1) := dk_29 (dk_at dksX2_isLike_2 23 rfl rfl)
theorem dX2_isLike_70 : decode cX2_isLike 70 = .ok (.iaload, 1) := dk_46 (dk_at dksX2_isLike_3 0 rfl rfl)
theorem dX2_isLike_71 : decode cX2_isLike 71 = .ok (.if_icmp .ne 7, 3) := dk_160 0 7 (dk_at dksX2_isLike_3 1 rfl rfl)
theorem dX2_isLike_74 : decode cX2_isLike 74 = .ok (.iconst 1, 1) := dk_4 (dk_at dksX2_isLike_3 4 rfl rfl)
theorem dX2_isLike_75 : decode cX2_isLike 75 = .ok (.goto 4, 3) := dk_167 0 4 (dk_at dksX2_isLike_3 5 rfl rfl)
theorem dX2_isLike_78 : decode cX2_isLike 78 = .ok (.iconst 0, 1) := dk_3 (dk_at dksX2_isLike_3 8 rfl rfl)
theorem dX2_isLike_79 : decode cX2_isLike 79 = .ok (.iand, 1) := dk_126 (dk_at dksX2_isLike_3 9 rfl rfl)
theorem dX2_isLike_80 : decode cX2_isLike 80 = .ok (.istore_n 2, 1) := dk_61 (dk_at dksX2_isLike_3 10 rfl rfl)
theorem dX2_isLike_81 : decode cX2_isLike 81 = .ok (.iinc 4 1, 3) := dk_132 4 1 (dk_at dksX2_isLike_3 11 rfl rfl)
theorem dX2_isLike_84 : decode cX2_isLike 84 = .ok (.goto (-38), 3) := dk_167 255 218 (dk_at dksX2_isLike_3 14 rfl rfl)
theorem dX2_isLike_87 : decode cX2_isLike 87 = .ok (.iinc 3 1, 3) := dk_132 3 1 (dk_at dksX2_isLike_3 17 rfl rfl)
theorem dX2_isLike_90 : decode cX2_isLike 90 = .ok (.goto (-76), 3) := dk_167 255 180 (dk_at dksX2_isLike_3 20 rfl rfl)
theorem dX2_isLike_93 : decode cX2_isLike 93 = .ok (.iload_n 2, 1) := dk_28 (dk_at dksX2_isLike_3 23 rfl rfl)
theorem dX2_isLike_94 : decode cX2_isLike 94 = .ok (.ireturn, 1) := dk_172 (dk_at dksX2_isLike_4 0 rfl rfl)
abbrev cX2_text : ByteArray := prog_4_method_3_code
def yX2_text : MethodName := ⟨RX2, "text", "()Ljava/lang/String;"⟩
def dkwX2_text_1 : List UInt8 := [182, 0, 53, 176]
abbrev dktX2_text_1 : List UInt8 := dkwX2_text_1 ++ []
def dkwX2_text_0 : List UInt8 := [187, 0, 44, 89, 183, 0, 46, 76, 42, 180, 0, 36, 198, 0, 11, 42, 180, 0, 36, 43, 182, 0, 47, 43]
abbrev dktX2_text_0 : List UInt8 := dkwX2_text_0 ++ dktX2_text_1
theorem dksX2_text_0 : cX2_text.data.toList.drop 0 = dktX2_text_0 := by decide +kernel
theorem dksX2_text_1 : cX2_text.data.toList.drop 24 = dktX2_text_1 := dk_seg dksX2_text_0 24 rfl rfl
theorem dX2_text_0 : decode cX2_text 0 = .ok (.new 44, 3) := dk_187 0 44 (dk_at dksX2_text_0 0 rfl rfl)
theorem dX2_text_3 : decode cX2_text 3 = .ok (.dup, 1) := dk_89 (dk_at dksX2_text_0 3 rfl rfl)
theorem dX2_text_4 : decode cX2_text 4 = .ok (.invokespecial 46, 3) := dk_183 0 46 (dk_at dksX2_text_0 4 rfl rfl)
theorem dX2_text_7 : decode cX2_text 7 = .ok (.astore_n 1, 1) := dk_76 (dk_at dksX2_text_0 7 rfl rfl)
theorem dX2_text_8 : decode cX2_text 8 = .ok (.aload_n 0, 1) := dk_42 (dk_at dksX2_text_0 8 rfl rfl)
theorem dX2_text_9 : decode cX2_text 9 = .ok (.getfield 36, 3) := dk_180 0 36 (dk_at dksX2_text_0 9 rfl rfl)
theorem dX2_text_12 : decode cX2_text 12 = .ok (.ifnull 11, 3) := dk_198 0 11 (dk_at dksX2_text_0 12 rfl rfl)
theorem dX2_text_15 : decode cX2_text 15 = .ok (.aload_n 0, 1) := dk_42 (dk_at dksX2_text_0 15 rfl rfl)
theorem dX2_text_16 : decode cX2_text 16 = .ok (.getfield 36, 3) := dk_180 0 36 (dk_at dksX2_text_0 16 rfl rfl)
theorem dX2_text_19 : decode cX2_text 19 = .ok (.aload_n 1, 1) := dk_43 (dk_at dksX2_text_0 19 rfl rfl)
theorem dX2_text_20 : decode cX2_text 20 = .ok (.invokevirtual 47, 3) := dk_182 0 47 (dk_at dksX2_text_0 20 rfl rfl)
theorem dX2_text_23 : decode cX2_text 23 = .ok (.aload_n 1, 1) := dk_43 (dk_at dksX2_text_0 23 rfl rfl)
theorem dX2_text_24 : decode cX2_text 24 = .ok (.invokevirtual 53, 3) := dk_182 0 53 (dk_at dksX2_text_1 0 rfl rfl)
theorem dX2_text_27 : decode cX2_text 27 = .ok (.areturn, 1) := dk_176 (dk_at dksX2_text_1 3 rfl rfl)
abbrev cX2_copy : ByteArray := prog_4_method_2_code
def yX2_copy : MethodName := ⟨RX2, "copy", "()LDanceNotation$Dance;"⟩
def dkwX2_copy_3 : List UInt8 := [181, 0, 36, 43, 42, 180, 0, 40, 181, 0, 40, 43, 176]
abbrev dktX2_copy_3 : List UInt8 := dkwX2_copy_3 ++ []
def dkwX2_copy_2 : List UInt8 := [180, 0, 17, 28, 50, 3, 16, 8, 184, 0, 30, 132, 2, 1, 167, 255, 229, 43, 42, 180, 0, 36]
abbrev dktX2_copy_2 : List UInt8 := dkwX2_copy_2 ++ dktX2_copy_3
def dkwX2_copy_1 : List UInt8 := [180, 0, 9, 3, 16, 8, 184, 0, 30, 3, 61, 28, 7, 162, 0, 28, 42, 180, 0, 17, 28, 50, 3, 43]
abbrev dktX2_copy_1 : List UInt8 := dkwX2_copy_1 ++ dktX2_copy_2
def dkwX2_copy_0 : List UInt8 := [187, 0, 10, 89, 42, 180, 0, 20, 42, 180, 0, 24, 183, 0, 27, 76, 42, 180, 0, 9, 3, 43]
abbrev dktX2_copy_0 : List UInt8 := dkwX2_copy_0 ++ dktX2_copy_1
theorem dksX2_copy_0 : cX2_copy.data.toList.drop 0 = dktX2_copy_0 := by decide +kernel
theorem dksX2_copy_1 : cX2_copy.data.toList.drop 22 = dktX2_copy_1 := dk_seg dksX2_copy_0 22 rfl rfl
theorem dksX2_copy_2 : cX2_copy.data.toList.drop 46 = dktX2_copy_2 := dk_seg dksX2_copy_1 24 rfl rfl
theorem dksX2_copy_3 : cX2_copy.data.toList.drop 68 = dktX2_copy_3 := dk_seg dksX2_copy_2 22 rfl rfl
theorem dX2_copy_0 : decode cX2_copy 0 = .ok (.new 10, 3) := dk_187 0 10 (dk_at dksX2_copy_0 0 rfl rfl)
theorem dX2_copy_3 : decode cX2_copy 3 = .ok (.dup, 1) := dk_89 (dk_at dksX2_copy_0 3 rfl rfl)
theorem dX2_copy_4 : decode cX2_copy 4 = .ok (.aload_n 0, 1) := dk_42 (dk_at dksX2_copy_0 4 rfl rfl)
theorem dX2_copy_5 : decode cX2_copy 5 = .ok (.getfield 20, 3) := dk_180 0 20 (dk_at dksX2_copy_0 5 rfl rfl)
theorem dX2_copy_8 : decode cX2_copy 8 = .ok (.aload_n 0, 1) := dk_42 (dk_at dksX2_copy_0 8 rfl rfl)
theorem dX2_copy_9 : decode cX2_copy 9 = .ok (.getfield 24, 3) := dk_180 0 24 (dk_at dksX2_copy_0 9 rfl rfl)
theorem dX2_copy_12 : decode cX2_copy 12 = .ok (.invokespecial 27, 3) := dk_183 0 27 (dk_at dksX2_copy_0 12 rfl rfl)
theorem dX2_copy_15 : decode cX2_copy 15 = .ok (.astore_n 1, 1) := dk_76 (dk_at dksX2_copy_0 15 rfl rfl)
theorem dX2_copy_16 : decode cX2_copy 16 = .ok (.aload_n 0, 1) := dk_42 (dk_at dksX2_copy_0 16 rfl rfl)
theorem dX2_copy_17 : decode cX2_copy 17 = .ok (.getfield 9, 3) := dk_180 0 9 (dk_at dksX2_copy_0 17 rfl rfl)
theorem dX2_copy_20 : decode cX2_copy 20 = .ok (.iconst 0, 1) := dk_3 (dk_at dksX2_copy_0 20 rfl rfl)
theorem dX2_copy_21 : decode cX2_copy 21 = .ok (.aload_n 1, 1) := dk_43 (dk_at dksX2_copy_0 21 rfl rfl)
theorem dX2_copy_22 : decode cX2_copy 22 = .ok (.getfield 9, 3) := dk_180 0 9 (dk_at dksX2_copy_1 0 rfl rfl)
theorem dX2_copy_25 : decode cX2_copy 25 = .ok (.iconst 0, 1) := dk_3 (dk_at dksX2_copy_1 3 rfl rfl)
theorem dX2_copy_26 : decode cX2_copy 26 = .ok (.bipush 8, 2) := dk_16 8 (dk_at dksX2_copy_1 4 rfl rfl)
theorem dX2_copy_28 : decode cX2_copy 28 = .ok (.invokestatic 30, 3) := dk_184 0 30 (dk_at dksX2_copy_1 6 rfl rfl)
theorem dX2_copy_31 : decode cX2_copy 31 = .ok (.iconst 0, 1) := dk_3 (dk_at dksX2_copy_1 9 rfl rfl)
theorem dX2_copy_32 : decode cX2_copy 32 = .ok (.istore_n 2, 1) := dk_61 (dk_at dksX2_copy_1 10 rfl rfl)
theorem dX2_copy_33 : decode cX2_copy 33 = .ok (.iload_n 2, 1) := dk_28 (dk_at dksX2_copy_1 11 rfl rfl)
theorem dX2_copy_34 : decode cX2_copy 34 = .ok (.iconst 4, 1) := dk_7 (dk_at dksX2_copy_1 12 rfl rfl)
theorem dX2_copy_35 : decode cX2_copy 35 = .ok (.if_icmp .ge 28, 3) := dk_162 0 28 (dk_at dksX2_copy_1 13 rfl rfl)
theorem dX2_copy_38 : decode cX2_copy 38 = .ok (.aload_n 0, 1) := dk_42 (dk_at dksX2_copy_1 16 rfl rfl)
theorem dX2_copy_39 : decode cX2_copy 39 = .ok (.getfield 17, 3) := dk_180 0 17 (dk_at dksX2_copy_1 17 rfl rfl)
theorem dX2_copy_42 : decode cX2_copy 42 = .ok (.iload_n 2, 1) := dk_28 (dk_at dksX2_copy_1 20 rfl rfl)
theorem dX2_copy_43 : decode cX2_copy 43 = .ok (.aaload, 1) := dk_50 (dk_at dksX2_copy_1 21 rfl rfl)
theorem dX2_copy_44 : decode cX2_copy 44 = .ok (.iconst 0, 1) := dk_3 (dk_at dksX2_copy_1 22 rfl rfl)
theorem dX2_copy_45 : decode cX2_copy 45 = .ok (.aload_n 1, 1) := dk_43 (dk_at dksX2_copy_1 23 rfl rfl)
theorem dX2_copy_46 : decode cX2_copy 46 = .ok (.getfield 17, 3) := dk_180 0 17 (dk_at dksX2_copy_2 0 rfl rfl)
theorem dX2_copy_49 : decode cX2_copy 49 = .ok (.iload_n 2, 1) := dk_28 (dk_at dksX2_copy_2 3 rfl rfl)
theorem dX2_copy_50 : decode cX2_copy 50 = .ok (.aaload, 1) := dk_50 (dk_at dksX2_copy_2 4 rfl rfl)
theorem dX2_copy_51 : decode cX2_copy 51 = .ok (.iconst 0, 1) := dk_3 (dk_at dksX2_copy_2 5 rfl rfl)
theorem dX2_copy_52 : decode cX2_copy 52 = .ok (.bipush 8, 2) := dk_16 8 (dk_at dksX2_copy_2 6 rfl rfl)
theorem dX2_copy_54 : decode cX2_copy 54 = .ok (.invokestatic 30, 3) := dk_184 0 30 (dk_at dksX2_copy_2 8 rfl rfl)
theorem dX2_copy_57 : decode cX2_copy 57 = .ok (.iinc 2 1, 3) := dk_132 2 1 (dk_at dksX2_copy_2 11 rfl rfl)
theorem dX2_copy_60 : decode cX2_copy 60 = .ok (.goto (-27), 3) := dk_167 255 229 (dk_at dksX2_copy_2 14 rfl rfl)
theorem dX2_copy_63 : decode cX2_copy 63 = .ok (.aload_n 1, 1) := dk_43 (dk_at dksX2_copy_2 17 rfl rfl)
theorem dX2_copy_64 : decode cX2_copy 64 = .ok (.aload_n 0, 1) := dk_42 (dk_at dksX2_copy_2 18 rfl rfl)
theorem dX2_copy_65 : decode cX2_copy 65 = .ok (.getfield 36, 3) := dk_180 0 36 (dk_at dksX2_copy_2 19 rfl rfl)
theorem dX2_copy_68 : decode cX2_copy 68 = .ok (.putfield 36, 3) := dk_181 0 36 (dk_at dksX2_copy_3 0 rfl rfl)
theorem dX2_copy_71 : decode cX2_copy 71 = .ok (.aload_n 1, 1) := dk_43 (dk_at dksX2_copy_3 3 rfl rfl)
theorem dX2_copy_72 : decode cX2_copy 72 = .ok (.aload_n 0, 1) := dk_42 (dk_at dksX2_copy_3 4 rfl rfl)
theorem dX2_copy_73 : decode cX2_copy 73 = .ok (.getfield 40, 3) := dk_180 0 40 (dk_at dksX2_copy_3 5 rfl rfl)
theorem dX2_copy_76 : decode cX2_copy 76 = .ok (.putfield 40, 3) := dk_181 0 40 (dk_at dksX2_copy_3 8 rfl rfl)
theorem dX2_copy_79 : decode cX2_copy 79 = .ok (.aload_n 1, 1) := dk_43 (dk_at dksX2_copy_3 11 rfl rfl)
theorem dX2_copy_80 : decode cX2_copy 80 = .ok (.areturn, 1) := dk_176 (dk_at dksX2_copy_3 12 rfl rfl)
abbrev cX2_participants : ByteArray := prog_4_method_8_code
def yX2_participants : MethodName := ⟨RX2, "participants", "()I"⟩
def dkwX2_participants_1 : List UInt8 := [54, 5, 27, 21, 5, 2, 160, 0, 7, 3, 167, 0, 4, 4, 96, 60, 132, 4, 1, 167, 255, 227, 27, 172]
abbrev dktX2_participants_1 : List UInt8 := dkwX2_participants_1 ++ []
def dkwX2_participants_0 : List UInt8 := [3, 60, 42, 180, 0, 9, 77, 44, 190, 62, 3, 54, 4, 21, 4, 29, 162, 0, 29, 44, 21, 4, 46]
abbrev dktX2_participants_0 : List UInt8 := dkwX2_participants_0 ++ dktX2_participants_1
theorem dksX2_participants_0 : cX2_participants.data.toList.drop 0 = dktX2_participants_0 := by decide +kernel
theorem dksX2_participants_1 : cX2_participants.data.toList.drop 23 = dktX2_participants_1 := dk_seg dksX2_participants_0 23 rfl rfl
theorem dX2_participants_0 : decode cX2_participants 0 = .ok (.iconst 0, 1) := dk_3 (dk_at dksX2_participants_0 0 rfl rfl)
theorem dX2_participants_1 : decode cX2_participants 1 = .ok (.istore_n 1, 1) := dk_60 (dk_at dksX2_participants_0 1 rfl rfl)
theorem dX2_participants_2 : decode cX2_participants 2 = .ok (.aload_n 0, 1) := dk_42 (dk_at dksX2_participants_0 2 rfl rfl)
theorem dX2_participants_3 : decode cX2_participants 3 = .ok (.getfield 9, 3) := dk_180 0 9 (dk_at dksX2_participants_0 3 rfl rfl)
theorem dX2_participants_6 : decode cX2_participants 6 = .ok (.astore_n 2, 1) := dk_77 (dk_at dksX2_participants_0 6 rfl rfl)
theorem dX2_participants_7 : decode cX2_participants 7 = .ok (.aload_n 2, 1) := dk_44 (dk_at dksX2_participants_0 7 rfl rfl)
theorem dX2_participants_8 : decode cX2_participants 8 = .ok (.arraylength, 1) := dk_190 (dk_at dksX2_participants_0 8 rfl rfl)
theorem dX2_participants_9 : decode cX2_participants 9 = .ok (.istore_n 3, 1) := dk_62 (dk_at dksX2_participants_0 9 rfl rfl)
theorem dX2_participants_10 : decode cX2_participants 10 = .ok (.iconst 0, 1) := dk_3 (dk_at dksX2_participants_0 10 rfl rfl)
theorem dX2_participants_11 : decode cX2_participants 11 = .ok (.istore 4, 2) := dk_54 4 (dk_at dksX2_participants_0 11 rfl rfl)
theorem dX2_participants_13 : decode cX2_participants 13 = .ok (.iload 4, 2) := dk_21 4 (dk_at dksX2_participants_0 13 rfl rfl)
theorem dX2_participants_15 : decode cX2_participants 15 = .ok (.iload_n 3, 1) := dk_29 (dk_at dksX2_participants_0 15 rfl rfl)
theorem dX2_participants_16 : decode cX2_participants 16 = .ok (.if_icmp .ge 29, 3) := dk_162 0 29 (dk_at dksX2_participants_0 16 rfl rfl)
theorem dX2_participants_19 : decode cX2_participants 19 = .ok (.aload_n 2, 1) := dk_44 (dk_at dksX2_participants_0 19 rfl rfl)
theorem dX2_participants_20 : decode cX2_participants 20 = .ok (.iload 4, 2) := dk_21 4 (dk_at dksX2_participants_0 20 rfl rfl)
theorem dX2_participants_22 : decode cX2_participants 22 = .ok (.iaload, 1) := dk_46 (dk_at dksX2_participants_0 22 rfl rfl)
theorem dX2_participants_23 : decode cX2_participants 23 = .ok (.istore 5, 2) := dk_54 5 (dk_at dksX2_participants_1 0 rfl rfl)
theorem dX2_participants_25 : decode cX2_participants 25 = .ok (.iload_n 1, 1) := dk_27 (dk_at dksX2_participants_1 2 rfl rfl)
theorem dX2_participants_26 : decode cX2_participants 26 = .ok (.iload 5, 2) := dk_21 5 (dk_at dksX2_participants_1 3 rfl rfl)
theorem dX2_participants_28 : decode cX2_participants 28 = .ok (.iconst (-1), 1) := dk_2 (dk_at dksX2_participants_1 5 rfl rfl)
theorem dX2_participants_29 : decode cX2_participants 29 = .ok (.if_icmp .ne 7, 3) := dk_160 0 7 (dk_at dksX2_participants_1 6 rfl rfl)
theorem dX2_participants_32 : decode cX2_participants 32 = .ok (.iconst 0, 1) := dk_3 (dk_at dksX2_participants_1 9 rfl rfl)
theorem dX2_participants_33 : decode cX2_participants 33 = .ok (.goto 4, 3) := dk_167 0 4 (dk_at dksX2_participants_1 10 rfl rfl)
theorem dX2_participants_36 : decode cX2_participants 36 = .ok (.iconst 1, 1) := dk_4 (dk_at dksX2_participants_1 13 rfl rfl)
theorem dX2_participants_37 : decode cX2_participants 37 = .ok (.iadd, 1) := dk_96 (dk_at dksX2_participants_1 14 rfl rfl)
theorem dX2_participants_38 : decode cX2_participants 38 = .ok (.istore_n 1, 1) := dk_60 (dk_at dksX2_participants_1 15 rfl rfl)
theorem dX2_participants_39 : decode cX2_participants 39 = .ok (.iinc 4 1, 3) := dk_132 4 1 (dk_at dksX2_participants_1 16 rfl rfl)
theorem dX2_participants_42 : decode cX2_participants 42 = .ok (.goto (-29), 3) := dk_167 255 227 (dk_at dksX2_participants_1 19 rfl rfl)
theorem dX2_participants_45 : decode cX2_participants 45 = .ok (.iload_n 1, 1) := dk_27 (dk_at dksX2_participants_1 22 rfl rfl)
theorem dX2_participants_46 : decode cX2_participants 46 = .ok (.ireturn, 1) := dk_172 (dk_at dksX2_participants_1 23 rfl rfl)
abbrev cX2_places : ByteArray := prog_4_method_5_code
def yX2_places : MethodName := ⟨RX2, "places", "()I"⟩
def dkwX2_places_0 : List UInt8 := [42, 180, 0, 20, 42, 180, 0, 24, 104, 172]
abbrev dktX2_places_0 : List UInt8 := dkwX2_places_0 ++ []
theorem dksX2_places_0 : cX2_places.data.toList.drop 0 = dktX2_places_0 := by decide +kernel
theorem dX2_places_0 : decode cX2_places 0 = .ok (.aload_n 0, 1) := dk_42 (dk_at dksX2_places_0 0 rfl rfl)
theorem dX2_places_1 : decode cX2_places 1 = .ok (.getfield 20, 3) := dk_180 0 20 (dk_at dksX2_places_0 1 rfl rfl)
theorem dX2_places_4 : decode cX2_places 4 = .ok (.aload_n 0, 1) := dk_42 (dk_at dksX2_places_0 4 rfl rfl)
theorem dX2_places_5 : decode cX2_places 5 = .ok (.getfield 24, 3) := dk_180 0 24 (dk_at dksX2_places_0 5 rfl rfl)
theorem dX2_places_8 : decode cX2_places 8 = .ok (.imul, 1) := dk_104 (dk_at dksX2_places_0 8 rfl rfl)
theorem dX2_places_9 : decode cX2_places 9 = .ok (.ireturn, 1) := dk_172 (dk_at dksX2_places_0 9 rfl rfl)
abbrev cX2_takesPart : ByteArray := prog_4_method_7_code
def yX2_takesPart : MethodName := ⟨RX2, "takesPart", "(I)Z"⟩
def dkwX2_takesPart_0 : List UInt8 := [42, 180, 0, 9, 27, 46, 2, 159, 0, 7, 4, 167, 0, 4, 3, 172]
abbrev dktX2_takesPart_0 : List UInt8 := dkwX2_takesPart_0 ++ []
theorem dksX2_takesPart_0 : cX2_takesPart.data.toList.drop 0 = dktX2_takesPart_0 := by decide +kernel
theorem dX2_takesPart_0 : decode cX2_takesPart 0 = .ok (.aload_n 0, 1) := dk_42 (dk_at dksX2_takesPart_0 0 rfl rfl)
theorem dX2_takesPart_1 : decode cX2_takesPart 1 = .ok (.getfield 9, 3) := dk_180 0 9 (dk_at dksX2_takesPart_0 1 rfl rfl)
theorem dX2_takesPart_4 : decode cX2_takesPart 4 = .ok (.iload_n 1, 1) := dk_27 (dk_at dksX2_takesPart_0 4 rfl rfl)
theorem dX2_takesPart_5 : decode cX2_takesPart 5 = .ok (.iaload, 1) := dk_46 (dk_at dksX2_takesPart_0 5 rfl rfl)
theorem dX2_takesPart_6 : decode cX2_takesPart 6 = .ok (.iconst (-1), 1) := dk_2 (dk_at dksX2_takesPart_0 6 rfl rfl)
theorem dX2_takesPart_7 : decode cX2_takesPart 7 = .ok (.if_icmp .eq 7, 3) := dk_159 0 7 (dk_at dksX2_takesPart_0 7 rfl rfl)
theorem dX2_takesPart_10 : decode cX2_takesPart 10 = .ok (.iconst 1, 1) := dk_4 (dk_at dksX2_takesPart_0 10 rfl rfl)
theorem dX2_takesPart_11 : decode cX2_takesPart 11 = .ok (.goto 4, 3) := dk_167 0 4 (dk_at dksX2_takesPart_0 11 rfl rfl)
theorem dX2_takesPart_14 : decode cX2_takesPart 14 = .ok (.iconst 0, 1) := dk_3 (dk_at dksX2_takesPart_0 14 rfl rfl)
theorem dX2_takesPart_15 : decode cX2_takesPart 15 = .ok (.ireturn, 1) := dk_172 (dk_at dksX2_takesPart_0 15 rfl rfl)
abbrev cX2_position : ByteArray := prog_4_method_9_code
def yX2_position : MethodName := ⟨RX2, "position", "(IIZ)I"⟩
def dkwX2_position_3 : List UInt8 := [184, 0, 79, 96, 54, 4, 132, 5, 1, 167, 255, 211, 21, 4, 172]
abbrev dktX2_position_3 : List UInt8 := dkwX2_position_3 ++ []
def dkwX2_position_2 : List UInt8 := [50, 21, 5, 52, 54, 6, 21, 4, 29, 153, 0, 11, 21, 6, 184, 0, 75, 167, 0, 8, 21, 6]
abbrev dktX2_position_2 : List UInt8 := dkwX2_position_2 ++ dktX2_position_3
def dkwX2_position_1 : List UInt8 := [42, 180, 0, 20, 112, 54, 4, 3, 54, 5, 21, 5, 28, 162, 0, 45, 42, 180, 0, 40, 180, 0, 69, 27]
abbrev dktX2_position_1 : List UInt8 := dkwX2_position_1 ++ dktX2_position_2
def dkwX2_position_0 : List UInt8 := [29, 153, 0, 17, 42, 180, 0, 9, 27, 46, 42, 180, 0, 20, 108, 167, 0, 14, 42, 180, 0, 9, 27, 46]
abbrev dktX2_position_0 : List UInt8 := dkwX2_position_0 ++ dktX2_position_1
theorem dksX2_position_0 : cX2_position.data.toList.drop 0 = dktX2_position_0 := by decide +kernel
theorem dksX2_position_1 : cX2_position.data.toList.drop 24 = dktX2_position_1 := dk_seg dksX2_position_0 24 rfl rfl
theorem dksX2_position_2 : cX2_position.data.toList.drop 48 = dktX2_position_2 := dk_seg dksX2_position_1 24 rfl rfl
theorem dksX2_position_3 : cX2_position.data.toList.drop 70 = dktX2_position_3 := dk_seg dksX2_position_2 22 rfl rfl
theorem dX2_position_0 : decode cX2_position 0 = .ok (.iload_n 3, 1) := dk_29 (dk_at dksX2_position_0 0 rfl rfl)
theorem dX2_position_1 : decode cX2_position 1 = .ok (.ifCond .eq 17, 3) := dk_153 0 17 (dk_at dksX2_position_0 1 rfl rfl)
theorem dX2_position_4 : decode cX2_position 4 = .ok (.aload_n 0, 1) := dk_42 (dk_at dksX2_position_0 4 rfl rfl)
theorem dX2_position_5 : decode cX2_position 5 = .ok (.getfield 9, 3) := dk_180 0 9 (dk_at dksX2_position_0 5 rfl rfl)
theorem dX2_position_8 : decode cX2_position 8 = .ok (.iload_n 1, 1) := dk_27 (dk_at dksX2_position_0 8 rfl rfl)
theorem dX2_position_9 : decode cX2_position 9 = .ok (.iaload, 1) := dk_46 (dk_at dksX2_position_0 9 rfl rfl)
theorem dX2_position_10 : decode cX2_position 10 = .ok (.aload_n 0, 1) := dk_42 (dk_at dksX2_position_0 10 rfl rfl)
theorem dX2_position_11 : decode cX2_position 11 = .ok (.getfield 20, 3) := dk_180 0 20 (dk_at dksX2_position_0 11 rfl rfl)
theorem dX2_position_14 : decode cX2_position 14 = .ok (.idiv, 1) := dk_108 (dk_at dksX2_position_0 14 rfl rfl)
theorem dX2_position_15 : decode cX2_position 15 = .ok (.goto 14, 3) := dk_167 0 14 (dk_at dksX2_position_0 15 rfl rfl)
theorem dX2_position_18 : decode cX2_position 18 = .ok (.aload_n 0, 1) := dk_42 (dk_at dksX2_position_0 18 rfl rfl)
theorem dX2_position_19 : decode cX2_position 19 = .ok (.getfield 9, 3) := dk_180 0 9 (dk_at dksX2_position_0 19 rfl rfl)
theorem dX2_position_22 : decode cX2_position 22 = .ok (.iload_n 1, 1) := dk_27 (dk_at dksX2_position_0 22 rfl rfl)
theorem dX2_position_23 : decode cX2_position 23 = .ok (.iaload, 1) := dk_46 (dk_at dksX2_position_0 23 rfl rfl)
theorem dX2_position_24 : decode cX2_position 24 = .ok (.aload_n 0, 1) := dk_42 (dk_at dksX2_position_1 0 rfl rfl)
theorem dX2_position_25 : decode cX2_position 25 = .ok (.getfield 20, 3) := dk_180 0 20 (dk_at dksX2_position_1 1 rfl rfl)
theorem dX2_position_28 : decode cX2_position 28 = .ok (.irem, 1) := dk_112 (dk_at dksX2_position_1 4 rfl rfl)
theorem dX2_position_29 : decode cX2_position 29 = .ok (.istore 4, 2) := dk_54 4 (dk_at dksX2_position_1 5 rfl rfl)
theorem dX2_position_31 : decode cX2_position 31 = .ok (.iconst 0, 1) := dk_3 (dk_at dksX2_position_1 7 rfl rfl)
theorem dX2_position_32 : decode cX2_position 32 = .ok (.istore 5, 2) := dk_54 5 (dk_at dksX2_position_1 8 rfl rfl)
theorem dX2_position_34 : decode cX2_position 34 = .ok (.iload 5, 2) := dk_21 5 (dk_at dksX2_position_1 10 rfl rfl)
theorem dX2_position_36 : decode cX2_position 36 = .ok (.iload_n 2, 1) := dk_28 (dk_at dksX2_position_1 12 rfl rfl)
theorem dX2_position_37 : decode cX2_position 37 = .ok (.if_icmp .ge 45, 3) := dk_162 0 45 (dk_at dksX2_position_1 13 rfl rfl)
theorem dX2_position_40 : decode cX2_position 40 = .ok (.aload_n 0, 1) := dk_42 (dk_at dksX2_position_1 16 rfl rfl)
theorem dX2_position_41 : decode cX2_position 41 = .ok (.getfield 40, 3) := dk_180 0 40 (dk_at dksX2_position_1 17 rfl rfl)
theorem dX2_position_44 : decode cX2_position 44 = .ok (.getfield 69, 3) := dk_180 0 69 (dk_at dksX2_position_1 20 rfl rfl)
theorem dX2_position_47 : decode cX2_position 47 = .ok (.iload_n 1, 1) := dk_27 (dk_at dksX2_position_1 23 rfl rfl)
theorem dX2_position_48 : decode cX2_position 48 = .ok (.aaload, 1) := dk_50 (dk_at dksX2_position_2 0 rfl rfl)
theorem dX2_position_49 : decode cX2_position 49 = .ok (.iload 5, 2) := dk_21 5 (dk_at dksX2_position_2 1 rfl rfl)
theorem dX2_position_51 : decode cX2_position 51 = .ok (.caload, 1) := dk_52 (dk_at dksX2_position_2 3 rfl rfl)
theorem dX2_position_52 : decode cX2_position 52 = .ok (.istore 6, 2) := dk_54 6 (dk_at dksX2_position_2 4 rfl rfl)
theorem dX2_position_54 : decode cX2_position 54 = .ok (.iload 4, 2) := dk_21 4 (dk_at dksX2_position_2 6 rfl rfl)
theorem dX2_position_56 : decode cX2_position 56 = .ok (.iload_n 3, 1) := dk_29 (dk_at dksX2_position_2 8 rfl rfl)
theorem dX2_position_57 : decode cX2_position 57 = .ok (.ifCond .eq 11, 3) := dk_153 0 11 (dk_at dksX2_position_2 9 rfl rfl)
theorem dX2_position_60 : decode cX2_position 60 = .ok (.iload 6, 2) := dk_21 6 (dk_at dksX2_position_2 12 rfl rfl)
theorem dX2_position_62 : decode cX2_position 62 = .ok (.invokestatic 75, 3) := dk_184 0 75 (dk_at dksX2_position_2 14 rfl rfl)
theorem dX2_position_65 : decode cX2_position 65 = .ok (.goto 8, 3) := dk_167 0 8 (dk_at dksX2_position_2 17 rfl rfl)
theorem dX2_position_68 : decode cX2_position 68 = .ok (.iload 6, 2) := dk_21 6 (dk_at dksX2_position_2 20 rfl rfl)
theorem dX2_position_70 : decode cX2_position 70 = .ok (.invokestatic 79, 3) := dk_184 0 79 (dk_at dksX2_position_3 0 rfl rfl)
theorem dX2_position_73 : decode cX2_position 73 = .ok (.iadd, 1) := dk_96 (dk_at dksX2_position_3 3 rfl rfl)
theorem dX2_position_74 : decode cX2_position 74 = .ok (.istore 4, 2) := dk_54 4 (dk_at dksX2_position_3 4 rfl rfl)
theorem dX2_position_76 : decode cX2_position 76 = .ok (.iinc 5 1, 3) := dk_132 5 1 (dk_at dksX2_position_3 6 rfl rfl)
theorem dX2_position_79 : decode cX2_position 79 = .ok (.goto (-45), 3) := dk_167 255 211 (dk_at dksX2_position_3 9 rfl rfl)
theorem dX2_position_82 : decode cX2_position 82 = .ok (.iload 4, 2) := dk_21 4 (dk_at dksX2_position_3 12 rfl rfl)
theorem dX2_position_84 : decode cX2_position 84 = .ok (.ireturn, 1) := dk_172 (dk_at dksX2_position_3 14 rfl rfl)
abbrev cX2_problems : ByteArray := prog_4_method_10_code
def yX2_problems : MethodName := ⟨RX2, "problems", "()Ljava/util/ArrayList;"⟩
def dkwX2_problems_0 : List UInt8 := [187, 0, 82, 89, 42, 183, 0, 84, 182, 0, 87, 176]
abbrev dktX2_problems_0 : List UInt8 := dkwX2_problems_0 ++ []
theorem dksX2_problems_0 : cX2_problems.data.toList.drop 0 = dktX2_problems_0 := by decide +kernel
theorem dX2_problems_0 : decode cX2_problems 0 = .ok (.new 82, 3) := dk_187 0 82 (dk_at dksX2_problems_0 0 rfl rfl)
theorem dX2_problems_3 : decode cX2_problems 3 = .ok (.dup, 1) := dk_89 (dk_at dksX2_problems_0 3 rfl rfl)
theorem dX2_problems_4 : decode cX2_problems 4 = .ok (.aload_n 0, 1) := dk_42 (dk_at dksX2_problems_0 4 rfl rfl)
theorem dX2_problems_5 : decode cX2_problems 5 = .ok (.invokespecial 84, 3) := dk_183 0 84 (dk_at dksX2_problems_0 5 rfl rfl)
theorem dX2_problems_8 : decode cX2_problems 8 = .ok (.invokevirtual 87, 3) := dk_182 0 87 (dk_at dksX2_problems_0 8 rfl rfl)
theorem dX2_problems_11 : decode cX2_problems 11 = .ok (.areturn, 1) := dk_176 (dk_at dksX2_problems_0 11 rfl rfl)
abbrev cX2_plan : ByteArray := prog_4_method_11_code
def yX2_plan : MethodName := ⟨RX2, "plan", "(I)Ljava/util/ArrayList;"⟩
def dkwX2_plan_0 : List UInt8 := [187, 0, 91, 89, 42, 183, 0, 93, 42, 180, 0, 17, 27, 50, 182, 0, 94, 176]
abbrev dktX2_plan_0 : List UInt8 := dkwX2_plan_0 ++ []
theorem dksX2_plan_0 : cX2_plan.data.toList.drop 0 = dktX2_plan_0 := by decide +kernel
theorem dX2_plan_0 : decode cX2_plan 0 = .ok (.new 91, 3) := dk_187 0 91 (dk_at dksX2_plan_0 0 rfl rfl)
theorem dX2_plan_3 : decode cX2_plan 3 = .ok (.dup, 1) := dk_89 (dk_at dksX2_plan_0 3 rfl rfl)
theorem dX2_plan_4 : decode cX2_plan 4 = .ok (.aload_n 0, 1) := dk_42 (dk_at dksX2_plan_0 4 rfl rfl)
theorem dX2_plan_5 : decode cX2_plan 5 = .ok (.invokespecial 93, 3) := dk_183 0 93 (dk_at dksX2_plan_0 5 rfl rfl)
theorem dX2_plan_8 : decode cX2_plan 8 = .ok (.aload_n 0, 1) := dk_42 (dk_at dksX2_plan_0 8 rfl rfl)
theorem dX2_plan_9 : decode cX2_plan 9 = .ok (.getfield 17, 3) := dk_180 0 17 (dk_at dksX2_plan_0 9 rfl rfl)
theorem dX2_plan_12 : decode cX2_plan 12 = .ok (.iload_n 1, 1) := dk_27 (dk_at dksX2_plan_0 12 rfl rfl)
theorem dX2_plan_13 : decode cX2_plan 13 = .ok (.aaload, 1) := dk_50 (dk_at dksX2_plan_0 13 rfl rfl)
theorem dX2_plan_14 : decode cX2_plan 14 = .ok (.invokevirtual 94, 3) := dk_182 0 94 (dk_at dksX2_plan_0 14 rfl rfl)
theorem dX2_plan_17 : decode cX2_plan 17 = .ok (.areturn, 1) := dk_176 (dk_at dksX2_plan_0 17 rfl rfl)
abbrev cX2_with : ByteArray := prog_4_method_12_code
def yX2_with : MethodName := ⟨RX2, "with", "(LDanceNotation$Node;)LDanceNotation$Node;"⟩
def dkwX2_with_3 : List UInt8 := [183, 0, 114, 176]
abbrev dktX2_with_3 : List UInt8 := dkwX2_with_3 ++ []
def dkwX2_with_2 : List UInt8 := [153, 0, 15, 44, 43, 182, 0, 111, 153, 0, 7, 4, 167, 0, 4, 3, 62, 187, 0, 98, 89, 3, 44]
abbrev dktX2_with_2 : List UInt8 := dkwX2_with_2 ++ dktX2_with_3
def dkwX2_with_1 : List UInt8 := [44, 43, 182, 0, 104, 176, 187, 0, 108, 89, 183, 0, 110, 77, 44, 42, 180, 0, 36, 182, 0, 111]
abbrev dktX2_with_1 : List UInt8 := dkwX2_with_1 ++ dktX2_with_2
def dkwX2_with_0 : List UInt8 := [42, 180, 0, 36, 78, 45, 193, 0, 98, 153, 0, 21, 45, 192, 0, 98, 77, 44, 180, 0, 100, 154, 0, 9]
abbrev dktX2_with_0 : List UInt8 := dkwX2_with_0 ++ dktX2_with_1
theorem dksX2_with_0 : cX2_with.data.toList.drop 0 = dktX2_with_0 := by decide +kernel
theorem dksX2_with_1 : cX2_with.data.toList.drop 24 = dktX2_with_1 := dk_seg dksX2_with_0 24 rfl rfl
theorem dksX2_with_2 : cX2_with.data.toList.drop 46 = dktX2_with_2 := dk_seg dksX2_with_1 22 rfl rfl
theorem dksX2_with_3 : cX2_with.data.toList.drop 69 = dktX2_with_3 := dk_seg dksX2_with_2 23 rfl rfl
theorem dX2_with_0 : decode cX2_with 0 = .ok (.aload_n 0, 1) := dk_42 (dk_at dksX2_with_0 0 rfl rfl)
theorem dX2_with_1 : decode cX2_with 1 = .ok (.getfield 36, 3) := dk_180 0 36 (dk_at dksX2_with_0 1 rfl rfl)
theorem dX2_with_4 : decode cX2_with 4 = .ok (.astore_n 3, 1) := dk_78 (dk_at dksX2_with_0 4 rfl rfl)
theorem dX2_with_5 : decode cX2_with 5 = .ok (.aload_n 3, 1) := dk_45 (dk_at dksX2_with_0 5 rfl rfl)
theorem dX2_with_6 : decode cX2_with 6 = .ok (.instanceof 98, 3) := dk_193 0 98 (dk_at dksX2_with_0 6 rfl rfl)
theorem dX2_with_9 : decode cX2_with 9 = .ok (.ifCond .eq 21, 3) := dk_153 0 21 (dk_at dksX2_with_0 9 rfl rfl)
theorem dX2_with_12 : decode cX2_with 12 = .ok (.aload_n 3, 1) := dk_45 (dk_at dksX2_with_0 12 rfl rfl)
theorem dX2_with_13 : decode cX2_with 13 = .ok (.checkcast 98, 3) := dk_192 0 98 (dk_at dksX2_with_0 13 rfl rfl)
theorem dX2_with_16 : decode cX2_with 16 = .ok (.astore_n 2, 1) := dk_77 (dk_at dksX2_with_0 16 rfl rfl)
theorem dX2_with_17 : decode cX2_with 17 = .ok (.aload_n 2, 1) := dk_44 (dk_at dksX2_with_0 17 rfl rfl)
theorem dX2_with_18 : decode cX2_with 18 = .ok (.getfield 100, 3) := dk_180 0 100 (dk_at dksX2_with_0 18 rfl rfl)
theorem dX2_with_21 : decode cX2_with 21 = .ok (.ifCond .ne 9, 3) := dk_154 0 9 (dk_at dksX2_with_0 21 rfl rfl)
theorem dX2_with_24 : decode cX2_with 24 = .ok (.aload_n 2, 1) := dk_44 (dk_at dksX2_with_1 0 rfl rfl)
theorem dX2_with_25 : decode cX2_with 25 = .ok (.aload_n 1, 1) := dk_43 (dk_at dksX2_with_1 1 rfl rfl)
theorem dX2_with_26 : decode cX2_with 26 = .ok (.invokevirtual 104, 3) := dk_182 0 104 (dk_at dksX2_with_1 2 rfl rfl)
theorem dX2_with_29 : decode cX2_with 29 = .ok (.areturn, 1) := dk_176 (dk_at dksX2_with_1 5 rfl rfl)
theorem dX2_with_30 : decode cX2_with 30 = .ok (.new 108, 3) := dk_187 0 108 (dk_at dksX2_with_1 6 rfl rfl)
theorem dX2_with_33 : decode cX2_with 33 = .ok (.dup, 1) := dk_89 (dk_at dksX2_with_1 9 rfl rfl)
theorem dX2_with_34 : decode cX2_with 34 = .ok (.invokespecial 110, 3) := dk_183 0 110 (dk_at dksX2_with_1 10 rfl rfl)
theorem dX2_with_37 : decode cX2_with 37 = .ok (.astore_n 2, 1) := dk_77 (dk_at dksX2_with_1 13 rfl rfl)
theorem dX2_with_38 : decode cX2_with 38 = .ok (.aload_n 2, 1) := dk_44 (dk_at dksX2_with_1 14 rfl rfl)
theorem dX2_with_39 : decode cX2_with 39 = .ok (.aload_n 0, 1) := dk_42 (dk_at dksX2_with_1 15 rfl rfl)
theorem dX2_with_40 : decode cX2_with 40 = .ok (.getfield 36, 3) := dk_180 0 36 (dk_at dksX2_with_1 16 rfl rfl)
theorem dX2_with_43 : decode cX2_with 43 = .ok (.invokevirtual 111, 3) := dk_182 0 111 (dk_at dksX2_with_1 19 rfl rfl)
theorem dX2_with_46 : decode cX2_with 46 = .ok (.ifCond .eq 15, 3) := dk_153 0 15 (dk_at dksX2_with_2 0 rfl rfl)
theorem dX2_with_49 : decode cX2_with 49 = .ok (.aload_n 2, 1) := dk_44 (dk_at dksX2_with_2 3 rfl rfl)
theorem dX2_with_50 : decode cX2_with 50 = .ok (.aload_n 1, 1) := dk_43 (dk_at dksX2_with_2 4 rfl rfl)
theorem dX2_with_51 : decode cX2_with 51 = .ok (.invokevirtual 111, 3) := dk_182 0 111 (dk_at dksX2_with_2 5 rfl rfl)
theorem dX2_with_54 : decode cX2_with 54 = .ok (.ifCond .eq 7, 3) := dk_153 0 7 (dk_at dksX2_with_2 8 rfl rfl)
theorem dX2_with_57 : decode cX2_with 57 = .ok (.iconst 1, 1) := dk_4 (dk_at dksX2_with_2 11 rfl rfl)
theorem dX2_with_58 : decode cX2_with 58 = .ok (.goto 4, 3) := dk_167 0 4 (dk_at dksX2_with_2 12 rfl rfl)
theorem dX2_with_61 : decode cX2_with 61 = .ok (.iconst 0, 1) := dk_3 (dk_at dksX2_with_2 15 rfl rfl)
theorem dX2_with_62 : decode cX2_with 62 = .ok (.istore_n 3, 1) := dk_62 (dk_at dksX2_with_2 16 rfl rfl)
theorem dX2_with_63 : decode cX2_with 63 = .ok (.new 98, 3) := dk_187 0 98 (dk_at dksX2_with_2 17 rfl rfl)
theorem dX2_with_66 : decode cX2_with 66 = .ok (.dup, 1) := dk_89 (dk_at dksX2_with_2 20 rfl rfl)
theorem dX2_with_67 : decode cX2_with 67 = .ok (.iconst 0, 1) := dk_3 (dk_at dksX2_with_2 21 rfl rfl)
theorem dX2_with_68 : decode cX2_with 68 = .ok (.aload_n 2, 1) := dk_44 (dk_at dksX2_with_2 22 rfl rfl)
theorem dX2_with_69 : decode cX2_with 69 = .ok (.invokespecial 114, 3) := dk_183 0 114 (dk_at dksX2_with_3 0 rfl rfl)
theorem dX2_with_72 : decode cX2_with 72 = .ok (.areturn, 1) := dk_176 (dk_at dksX2_with_3 3 rfl rfl)
theorem q119 : (Jvm.Cond.initialized "DanceNotation$Dance") ∈ lw_all := lw_g (lw_at lw_m1 2 rfl) rfl
theorem q186 : (Jvm.Cond.instantiable "DanceNotation$Dance" (6 : Nat)) ∈ lw_all := lw_g (lw_at lw_m1 69 rfl) rfl
theorem q188 : (Jvm.Cond.instanceMethod ({ cls := "DanceNotation$Dance", name := "<init>", desc := "(II)V" } : Jvm.MethodName)) ∈ lw_all := lw_g (lw_at lw_m1 71 rfl) rfl
theorem q189 : (Jvm.Cond.code ({ cls := "DanceNotation$Dance", name := "<init>", desc := "(II)V" } : Jvm.MethodName) prog_4_method_1_code (8 : Nat) (Option.none : Option Jvm.ClassFile.FieldType)) ∈ lw_all := lw_g (lw_at lw_m1 72 rfl) rfl
theorem q190 : (Jvm.Cond.methodLink "DanceNotation$Dance" (3 : Nat) ({ cls := "java/lang/Object", name := "<init>", desc := "()V" } : Jvm.MethodName)) ∈ lw_all := lw_g (lw_at lw_m1 73 rfl) rfl
theorem q191 : (Jvm.Cond.classLink "DanceNotation$Dance" (15 : Nat) "[[I") ∈ lw_all := lw_g (lw_at lw_m1 74 rfl) rfl
theorem q193 : (Jvm.Cond.fieldLink "DanceNotation$Dance" (20 : Nat) "DanceNotation$Dance" "columns" "I") ∈ lw_all := lw_g (lw_at lw_m1 76 rfl) rfl
theorem q197 : (Jvm.Cond.fieldLink "DanceNotation$Dance" (24 : Nat) "DanceNotation$Dance" "rows" "I") ∈ lw_all := lw_g (lw_at lw_m1 80 rfl) rfl
theorem q201 : (Jvm.Cond.fieldLink "DanceNotation$Dance" (9 : Nat) "DanceNotation$Dance" "starts" "[I") ∈ lw_all := lw_g (lw_at lw_m1 84 rfl) rfl
theorem q205 : (Jvm.Cond.fieldLink "DanceNotation$Dance" (17 : Nat) "DanceNotation$Dance" "formations" "[[I") ∈ lw_all := lw_g (lw_at lw_m1 88 rfl) rfl
theorem q208 : (Jvm.Cond.fieldLink "DanceNotation$Dance" (36 : Nat) "DanceNotation$Dance" "piece" "LDanceNotation$Node;") ∈ lw_all := lw_g (lw_at lw_m1 91 rfl) rfl
theorem q212 : (Jvm.Cond.fieldLink "DanceNotation$Dance" (40 : Nat) "DanceNotation$Dance" "score" "LDanceNotation$Score;") ∈ lw_all := lw_g (lw_at lw_m1 95 rfl) rfl
theorem q215 : (Jvm.Cond.laysFinal "DanceNotation$Dance" "DanceNotation$Dance" "columns" "I") ∈ lw_all := lw_g (lw_at lw_m1 98 rfl) rfl
theorem q216 : (Jvm.Cond.soleField "DanceNotation$Dance" "columns") ∈ lw_all := lw_g (lw_at lw_m1 99 rfl) rfl
theorem q217 : (Jvm.Cond.laysFinal "DanceNotation$Dance" "DanceNotation$Dance" "rows" "I") ∈ lw_all := lw_g (lw_at lw_m1 100 rfl) rfl
theorem q218 : (Jvm.Cond.soleField "DanceNotation$Dance" "rows") ∈ lw_all := lw_g (lw_at lw_m1 101 rfl) rfl
theorem q219 : (Jvm.Cond.laysFinal "DanceNotation$Dance" "DanceNotation$Dance" "starts" "[I") ∈ lw_all := lw_g (lw_at lw_m1 102 rfl) rfl
theorem q220 : (Jvm.Cond.soleField "DanceNotation$Dance" "starts") ∈ lw_all := lw_g (lw_at lw_m1 103 rfl) rfl
theorem q221 : (Jvm.Cond.laysFinal "DanceNotation$Dance" "DanceNotation$Dance" "formations" "[[I") ∈ lw_all := lw_g (lw_at lw_m1 104 rfl) rfl
theorem q222 : (Jvm.Cond.soleField "DanceNotation$Dance" "formations") ∈ lw_all := lw_g (lw_at lw_m1 105 rfl) rfl
theorem q223 : (Jvm.Cond.lays "DanceNotation$Dance" "DanceNotation$Dance" "piece" "LDanceNotation$Node;") ∈ lw_all := lw_g (lw_at lw_m1 106 rfl) rfl
theorem q224 : (Jvm.Cond.soleField "DanceNotation$Dance" "piece") ∈ lw_all := lw_g (lw_at lw_m1 107 rfl) rfl
theorem q225 : (Jvm.Cond.lays "DanceNotation$Dance" "DanceNotation$Dance" "score" "LDanceNotation$Score;") ∈ lw_all := lw_g (lw_at lw_m1 108 rfl) rfl
theorem q226 : (Jvm.Cond.soleField "DanceNotation$Dance" "score") ∈ lw_all := lw_g (lw_at lw_m1 109 rfl) rfl
theorem q227 : (Jvm.Cond.superclass "DanceNotation$Dance" "java/lang/Object") ∈ lw_all := lw_g (lw_at lw_m1 110 rfl) rfl
theorem q996 : (Jvm.Cond.selects "DanceNotation$Dance" ({ cls := "java/lang/Object", name := "getClass", desc := "()Ljava/lang/Class;" } : Jvm.MethodName) ({ cls := "java/lang/Object", name := "getClass", desc := "()Ljava/lang/Class;" } : Jvm.MethodName)) ∈ lw_all := lw_g (lw_at lw_m4 159 rfl) rfl
theorem q1100 : (Jvm.Cond.instanceMethod ({ cls := "DanceNotation$Dance", name := "set", desc := "(LDanceNotation$Node;)V" } : Jvm.MethodName)) ∈ lw_all := lw_g (lw_at lw_m5 23 rfl) rfl
theorem q1101 : (Jvm.Cond.selects "DanceNotation$Dance" ({ cls := "DanceNotation$Dance", name := "set", desc := "(LDanceNotation$Node;)V" } : Jvm.MethodName) ({ cls := "DanceNotation$Dance", name := "set", desc := "(LDanceNotation$Node;)V" } : Jvm.MethodName)) ∈ lw_all := lw_g (lw_at lw_m5 24 rfl) rfl
theorem q1102 : (Jvm.Cond.code ({ cls := "DanceNotation$Dance", name := "set", desc := "(LDanceNotation$Node;)V" } : Jvm.MethodName) prog_4_method_6_code (2 : Nat) (Option.none : Option Jvm.ClassFile.FieldType)) ∈ lw_all := lw_g (lw_at lw_m5 25 rfl) rfl
theorem q1103 : (Jvm.Cond.methodLink "DanceNotation$Dance" (66 : Nat) ({ cls := "DanceNotation$Node", name := "score", desc := "()LDanceNotation$Score;" } : Jvm.MethodName)) ∈ lw_all := lw_g (lw_at lw_m5 26 rfl) rfl
theorem q1170 : (Jvm.Cond.fieldLinkNest "DanceNotation$Dance" (69 : Nat) "DanceNotation$Score" "steps" "[[C" "DanceNotation") ∈ lw_tbl := lw_at lw_m5 93 rfl
theorem q1241 : (Jvm.Cond.instanceMethod ({ cls := "DanceNotation$Dance", name := "isLike", desc := "(LDanceNotation$Dance;)Z" } : Jvm.MethodName)) ∈ lw_all := lw_g (lw_at lw_m5 164 rfl) rfl
theorem q1242 : (Jvm.Cond.selects "DanceNotation$Dance" ({ cls := "DanceNotation$Dance", name := "isLike", desc := "(LDanceNotation$Dance;)Z" } : Jvm.MethodName) ({ cls := "DanceNotation$Dance", name := "isLike", desc := "(LDanceNotation$Dance;)Z" } : Jvm.MethodName)) ∈ lw_all := lw_g (lw_at lw_m5 165 rfl) rfl
theorem q1243 : (Jvm.Cond.code ({ cls := "DanceNotation$Dance", name := "isLike", desc := "(LDanceNotation$Dance;)Z" } : Jvm.MethodName) prog_4_method_4_code (5 : Nat) (Option.some Jvm.ClassFile.FieldType.boolean)) ∈ lw_all := lw_g (lw_at lw_m5 166 rfl) rfl
theorem q1244 : (Jvm.Cond.methodLink "DanceNotation$Dance" (57 : Nat) ({ cls := "DanceNotation$Dance", name := "text", desc := "()Ljava/lang/String;" } : Jvm.MethodName)) ∈ lw_all := lw_g (lw_at lw_m5 167 rfl) rfl
theorem q1245 : (Jvm.Cond.instanceMethod ({ cls := "DanceNotation$Dance", name := "text", desc := "()Ljava/lang/String;" } : Jvm.MethodName)) ∈ lw_all := lw_g (lw_at lw_m5 168 rfl) rfl
theorem q1246 : (Jvm.Cond.selects "DanceNotation$Dance" ({ cls := "DanceNotation$Dance", name := "text", desc := "()Ljava/lang/String;" } : Jvm.MethodName) ({ cls := "DanceNotation$Dance", name := "text", desc := "()Ljava/lang/String;" } : Jvm.MethodName)) ∈ lw_all := lw_g (lw_at lw_m5 169 rfl) rfl
theorem q1247 : (Jvm.Cond.code ({ cls := "DanceNotation$Dance", name := "text", desc := "()Ljava/lang/String;" } : Jvm.MethodName) prog_4_method_3_code (2 : Nat) (Option.some (Jvm.ClassFile.FieldType.object "java/lang/String"))) ∈ lw_all := lw_g (lw_at lw_m5 170 rfl) rfl
theorem q1248 : (Jvm.Cond.classLink "DanceNotation$Dance" (44 : Nat) "java/lang/StringBuilder") ∈ lw_all := lw_g (lw_at lw_m5 171 rfl) rfl
theorem q1249 : (Jvm.Cond.methodLink "DanceNotation$Dance" (46 : Nat) ({ cls := "java/lang/StringBuilder", name := "<init>", desc := "()V" } : Jvm.MethodName)) ∈ lw_all := lw_g (lw_at lw_m5 172 rfl) rfl
theorem q1250 : (Jvm.Cond.methodLink "DanceNotation$Dance" (47 : Nat) ({ cls := "DanceNotation$Node", name := "write", desc := "(Ljava/lang/StringBuilder;)V" } : Jvm.MethodName)) ∈ lw_all := lw_g (lw_at lw_m5 173 rfl) rfl
theorem q1322 : (Jvm.Cond.methodLink "DanceNotation$Dance" (53 : Nat) ({ cls := "java/lang/StringBuilder", name := "toString", desc := "()Ljava/lang/String;" } : Jvm.MethodName)) ∈ lw_all := lw_g (lw_at lw_m6 5 rfl) rfl
theorem q1323 : (Jvm.Cond.methodLink "DanceNotation$Dance" (60 : Nat) ({ cls := "java/lang/String", name := "equals", desc := "(Ljava/lang/Object;)Z" } : Jvm.MethodName)) ∈ lw_all := lw_g (lw_at lw_m6 6 rfl) rfl
theorem q1336 : (Jvm.Cond.instanceMethod ({ cls := "DanceNotation$Dance", name := "copy", desc := "()LDanceNotation$Dance;" } : Jvm.MethodName)) ∈ lw_all := lw_g (lw_at lw_m6 19 rfl) rfl
theorem q1337 : (Jvm.Cond.selects "DanceNotation$Dance" ({ cls := "DanceNotation$Dance", name := "copy", desc := "()LDanceNotation$Dance;" } : Jvm.MethodName) ({ cls := "DanceNotation$Dance", name := "copy", desc := "()LDanceNotation$Dance;" } : Jvm.MethodName)) ∈ lw_all := lw_g (lw_at lw_m6 20 rfl) rfl
theorem q1338 : (Jvm.Cond.code ({ cls := "DanceNotation$Dance", name := "copy", desc := "()LDanceNotation$Dance;" } : Jvm.MethodName) prog_4_method_2_code (3 : Nat) (Option.some (Jvm.ClassFile.FieldType.object "DanceNotation$Dance"))) ∈ lw_all := lw_g (lw_at lw_m6 21 rfl) rfl
theorem q1339 : (Jvm.Cond.classLink "DanceNotation$Dance" (10 : Nat) "DanceNotation$Dance") ∈ lw_all := lw_g (lw_at lw_m6 22 rfl) rfl
theorem q1340 : (Jvm.Cond.methodLink "DanceNotation$Dance" (27 : Nat) ({ cls := "DanceNotation$Dance", name := "<init>", desc := "(II)V" } : Jvm.MethodName)) ∈ lw_all := lw_g (lw_at lw_m6 23 rfl) rfl
theorem q1341 : (Jvm.Cond.methodLink "DanceNotation$Dance" (30 : Nat) ({ cls := "java/lang/System", name := "arraycopy", desc := "(Ljava/lang/Object;ILjava/lang/Object;II)V" } : Jvm.MethodName)) ∈ lw_all := lw_g (lw_at lw_m6 24 rfl) rfl
theorem q1396 : (Jvm.Cond.instanceMethod ({ cls := "DanceNotation$Dance", name := "participants", desc := "()I" } : Jvm.MethodName)) ∈ lw_all := lw_g (lw_at lw_m6 79 rfl) rfl
theorem q1397 : (Jvm.Cond.selects "DanceNotation$Dance" ({ cls := "DanceNotation$Dance", name := "participants", desc := "()I" } : Jvm.MethodName) ({ cls := "DanceNotation$Dance", name := "participants", desc := "()I" } : Jvm.MethodName)) ∈ lw_all := lw_g (lw_at lw_m6 80 rfl) rfl
theorem q1398 : (Jvm.Cond.code ({ cls := "DanceNotation$Dance", name := "participants", desc := "()I" } : Jvm.MethodName) prog_4_method_8_code (6 : Nat) (Option.some Jvm.ClassFile.FieldType.int)) ∈ lw_all := lw_g (lw_at lw_m6 81 rfl) rfl
theorem q1432 : (Jvm.Cond.instanceMethod ({ cls := "DanceNotation$Dance", name := "places", desc := "()I" } : Jvm.MethodName)) ∈ lw_all := lw_g (lw_at lw_m6 115 rfl) rfl
theorem q1433 : (Jvm.Cond.selects "DanceNotation$Dance" ({ cls := "DanceNotation$Dance", name := "places", desc := "()I" } : Jvm.MethodName) ({ cls := "DanceNotation$Dance", name := "places", desc := "()I" } : Jvm.MethodName)) ∈ lw_all := lw_g (lw_at lw_m6 116 rfl) rfl
theorem q1434 : (Jvm.Cond.code ({ cls := "DanceNotation$Dance", name := "places", desc := "()I" } : Jvm.MethodName) prog_4_method_5_code (1 : Nat) (Option.some Jvm.ClassFile.FieldType.int)) ∈ lw_all := lw_g (lw_at lw_m6 117 rfl) rfl
theorem q1961 : (Jvm.Cond.fieldLinkNest "DanceNotation$Dance" (100 : Nat) "DanceNotation$Several" "isLayer" "Z" "DanceNotation") ∈ lw_tbl := lw_at lw_m8 164 rfl
theorem q2302 : (Jvm.Cond.instanceMethod ({ cls := "DanceNotation$Dance", name := "takesPart", desc := "(I)Z" } : Jvm.MethodName)) ∈ lw_all := lw_g (lw_at lw_m10 25 rfl) rfl
theorem q2303 : (Jvm.Cond.selects "DanceNotation$Dance" ({ cls := "DanceNotation$Dance", name := "takesPart", desc := "(I)Z" } : Jvm.MethodName) ({ cls := "DanceNotation$Dance", name := "takesPart", desc := "(I)Z" } : Jvm.MethodName)) ∈ lw_all := lw_g (lw_at lw_m10 26 rfl) rfl
theorem q2304 : (Jvm.Cond.code ({ cls := "DanceNotation$Dance", name := "takesPart", desc := "(I)Z" } : Jvm.MethodName) prog_4_method_7_code (2 : Nat) (Option.some Jvm.ClassFile.FieldType.boolean)) ∈ lw_all := lw_g (lw_at lw_m10 27 rfl) rfl
theorem q2306 : (Jvm.Cond.instanceMethod ({ cls := "DanceNotation$Dance", name := "position", desc := "(IIZ)I" } : Jvm.MethodName)) ∈ lw_all := lw_g (lw_at lw_m10 29 rfl) rfl
theorem q2307 : (Jvm.Cond.selects "DanceNotation$Dance" ({ cls := "DanceNotation$Dance", name := "position", desc := "(IIZ)I" } : Jvm.MethodName) ({ cls := "DanceNotation$Dance", name := "position", desc := "(IIZ)I" } : Jvm.MethodName)) ∈ lw_all := lw_g (lw_at lw_m10 30 rfl) rfl
theorem q2308 : (Jvm.Cond.code ({ cls := "DanceNotation$Dance", name := "position", desc := "(IIZ)I" } : Jvm.MethodName) prog_4_method_9_code (7 : Nat) (Option.some Jvm.ClassFile.FieldType.int)) ∈ lw_all := lw_g (lw_at lw_m10 31 rfl) rfl
theorem q2309 : (Jvm.Cond.methodLinkNest "DanceNotation$Dance" (75 : Nat) ({ cls := "DanceNotation", name := "rowsOf", desc := "(C)I" } : Jvm.MethodName) "DanceNotation") ∈ lw_tbl := lw_at lw_m10 32 rfl
theorem q2312 : (Jvm.Cond.methodLinkNest "DanceNotation$Dance" (79 : Nat) ({ cls := "DanceNotation", name := "columnsOf", desc := "(C)I" } : Jvm.MethodName) "DanceNotation") ∈ lw_tbl := lw_at lw_m10 35 rfl
theorem q2323 : (Jvm.Cond.instanceMethod ({ cls := "DanceNotation$Dance", name := "problems", desc := "()Ljava/util/ArrayList;" } : Jvm.MethodName)) ∈ lw_all := lw_g (lw_at lw_m10 46 rfl) rfl
theorem q2324 : (Jvm.Cond.selects "DanceNotation$Dance" ({ cls := "DanceNotation$Dance", name := "problems", desc := "()Ljava/util/ArrayList;" } : Jvm.MethodName) ({ cls := "DanceNotation$Dance", name := "problems", desc := "()Ljava/util/ArrayList;" } : Jvm.MethodName)) ∈ lw_all := lw_g (lw_at lw_m10 47 rfl) rfl
theorem q2325 : (Jvm.Cond.code ({ cls := "DanceNotation$Dance", name := "problems", desc := "()Ljava/util/ArrayList;" } : Jvm.MethodName) prog_4_method_10_code (1 : Nat) (Option.some (Jvm.ClassFile.FieldType.object "java/util/ArrayList"))) ∈ lw_all := lw_g (lw_at lw_m10 48 rfl) rfl
theorem q2326 : (Jvm.Cond.classLink "DanceNotation$Dance" (82 : Nat) "DanceNotation$Dance$Inspector") ∈ lw_all := lw_g (lw_at lw_m10 49 rfl) rfl
theorem q2328 : (Jvm.Cond.methodLinkNest "DanceNotation$Dance" (84 : Nat) ({ cls := "DanceNotation$Dance$Inspector", name := "<init>", desc := "(LDanceNotation$Dance;)V" } : Jvm.MethodName) "DanceNotation") ∈ lw_tbl := lw_at lw_m10 51 rfl
theorem q2353 : (Jvm.Cond.methodLink "DanceNotation$Dance" (87 : Nat) ({ cls := "DanceNotation$Dance$Inspector", name := "inspect", desc := "()Ljava/util/ArrayList;" } : Jvm.MethodName)) ∈ lw_all := lw_g (lw_at lw_m10 76 rfl) rfl
theorem q2540 : (Jvm.Cond.instanceMethod ({ cls := "DanceNotation$Dance", name := "plan", desc := "(I)Ljava/util/ArrayList;" } : Jvm.MethodName)) ∈ lw_all := lw_g (lw_at lw_m11 23 rfl) rfl
theorem q2541 : (Jvm.Cond.selects "DanceNotation$Dance" ({ cls := "DanceNotation$Dance", name := "plan", desc := "(I)Ljava/util/ArrayList;" } : Jvm.MethodName) ({ cls := "DanceNotation$Dance", name := "plan", desc := "(I)Ljava/util/ArrayList;" } : Jvm.MethodName)) ∈ lw_all := lw_g (lw_at lw_m11 24 rfl) rfl
theorem q2542 : (Jvm.Cond.code ({ cls := "DanceNotation$Dance", name := "plan", desc := "(I)Ljava/util/ArrayList;" } : Jvm.MethodName) prog_4_method_11_code (2 : Nat) (Option.some (Jvm.ClassFile.FieldType.object "java/util/ArrayList"))) ∈ lw_all := lw_g (lw_at lw_m11 25 rfl) rfl
theorem q2543 : (Jvm.Cond.classLink "DanceNotation$Dance" (91 : Nat) "DanceNotation$Dance$Planner") ∈ lw_all := lw_g (lw_at lw_m11 26 rfl) rfl
theorem q2545 : (Jvm.Cond.methodLinkNest "DanceNotation$Dance" (93 : Nat) ({ cls := "DanceNotation$Dance$Planner", name := "<init>", desc := "(LDanceNotation$Dance;)V" } : Jvm.MethodName) "DanceNotation") ∈ lw_tbl := lw_at lw_m11 28 rfl
theorem q2562 : (Jvm.Cond.methodLink "DanceNotation$Dance" (94 : Nat) ({ cls := "DanceNotation$Dance$Planner", name := "plan", desc := "([I)Ljava/util/ArrayList;" } : Jvm.MethodName)) ∈ lw_all := lw_g (lw_at lw_m11 45 rfl) rfl
theorem q2631 : (Jvm.Cond.instanceMethod ({ cls := "DanceNotation$Dance", name := "with", desc := "(LDanceNotation$Node;)LDanceNotation$Node;" } : Jvm.MethodName)) ∈ lw_all := lw_g (lw_at lw_m11 114 rfl) rfl
theorem q2632 : (Jvm.Cond.selects "DanceNotation$Dance" ({ cls := "DanceNotation$Dance", name := "with", desc := "(LDanceNotation$Node;)LDanceNotation$Node;" } : Jvm.MethodName) ({ cls := "DanceNotation$Dance", name := "with", desc := "(LDanceNotation$Node;)LDanceNotation$Node;" } : Jvm.MethodName)) ∈ lw_all := lw_g (lw_at lw_m11 115 rfl) rfl
theorem q2633 : (Jvm.Cond.code ({ cls := "DanceNotation$Dance", name := "with", desc := "(LDanceNotation$Node;)LDanceNotation$Node;" } : Jvm.MethodName) prog_4_method_12_code (4 : Nat) (Option.some (Jvm.ClassFile.FieldType.object "DanceNotation$Node"))) ∈ lw_all := lw_g (lw_at lw_m11 116 rfl) rfl
theorem q2634 : (Jvm.Cond.classLink "DanceNotation$Dance" (98 : Nat) "DanceNotation$Several") ∈ lw_all := lw_g (lw_at lw_m11 117 rfl) rfl
theorem q2635 : (Jvm.Cond.methodLink "DanceNotation$Dance" (104 : Nat) ({ cls := "DanceNotation$Several", name := "with", desc := "(LDanceNotation$Node;)LDanceNotation$Several;" } : Jvm.MethodName)) ∈ lw_all := lw_g (lw_at lw_m11 118 rfl) rfl
theorem q2657 : (Jvm.Cond.classLink "DanceNotation$Dance" (108 : Nat) "java/util/ArrayList") ∈ lw_all := lw_g (lw_at lw_m11 140 rfl) rfl
theorem q2658 : (Jvm.Cond.methodLink "DanceNotation$Dance" (110 : Nat) ({ cls := "java/util/ArrayList", name := "<init>", desc := "()V" } : Jvm.MethodName)) ∈ lw_all := lw_g (lw_at lw_m11 141 rfl) rfl
theorem q2659 : (Jvm.Cond.methodLink "DanceNotation$Dance" (111 : Nat) ({ cls := "java/util/ArrayList", name := "add", desc := "(Ljava/lang/Object;)Z" } : Jvm.MethodName)) ∈ lw_all := lw_g (lw_at lw_m11 142 rfl) rfl
theorem q2660 : (Jvm.Cond.methodLink "DanceNotation$Dance" (114 : Nat) ({ cls := "DanceNotation$Several", name := "<init>", desc := "(ZLjava/util/ArrayList;)V" } : Jvm.MethodName)) ∈ lw_all := lw_g (lw_at lw_m11 143 rfl) rfl
theorem q3314 : (Jvm.Cond.castable "DanceNotation$Dance" "java/lang/Object") ∈ lw_tbl := lw_at lw_m14 77 rfl
theorem in_X2 : ∀ w ∈ wsX20, w ∈ lw_all := lw_in wsX20 [215, 217, 219, 221, 223, 225] (by decide +kernel) (by decide +kernel)

/-! DanceNotation$Command -/
set_option maxRecDepth 100000
def RX4 : String := "DanceNotation$Command"
def TX4 : u_T := fun k => match k with
  | 0 => ("DanceNotation$Command", "verb", "LDanceNotation$Verb;", true)
  | 1 => ("DanceNotation$Command", "piece", "LDanceNotation$Node;", true)
  | _ => ("DanceNotation$Command", "numbers", "[I", true)
def tyX4 : Nat → FieldType := fun k => match k with
  | 0 => .object "DanceNotation$Verb"
  | 1 => .object "DanceNotation$Node"
  | _ => .array .int
abbrev wsX40 : List Cond := u_ws RX4 TX4 3
theorem nmX4 : ∀ a, a < 3 → ∀ b, b < 3 → a ≠ b → (TX4 a).2.1 ≠ (TX4 b).2.1 := by decide +kernel
theorem tyX4_ok : ∀ k, k < 3 → parseFieldDescriptor (TX4 k).2.2.1 = some (tyX4 k) := by decide +kernel
abbrev cX4_carryOut : ByteArray := prog_2_method_2_code
def yX4_carryOut : MethodName := ⟨RX4, "carryOut", "(LDanceNotation$Dance;)I"⟩
def dkwX4_carryOut_5 : List UInt8 := [180, 0, 19, 5, 46, 79, 167, 0, 11, 43, 42, 180, 0, 15, 182, 0, 38, 28, 172]
abbrev dktX4_carryOut_5 : List UInt8 := dkwX4_carryOut_5 ++ []
def dkwX4_carryOut_4 : List UInt8 := [4, 46, 46, 61, 43, 180, 0, 34, 42, 180, 0, 19, 3, 46, 50, 42, 180, 0, 19, 4, 46, 42]
abbrev dktX4_carryOut_4 : List UInt8 := dkwX4_carryOut_4 ++ dktX4_carryOut_5
def dkwX4_carryOut_3 : List UInt8 := [180, 0, 19, 4, 46, 79, 167, 0, 57, 43, 180, 0, 34, 42, 180, 0, 19, 3, 46, 50, 42, 180, 0, 19]
abbrev dktX4_carryOut_3 : List UInt8 := dkwX4_carryOut_3 ++ dktX4_carryOut_4
def dkwX4_carryOut_2 : List UInt8 := [43, 180, 0, 29, 42, 180, 0, 19, 3, 46, 46, 61, 43, 180, 0, 29, 42, 180, 0, 19, 3, 46, 42]
abbrev dktX4_carryOut_2 : List UInt8 := dkwX4_carryOut_2 ++ dktX4_carryOut_3
def dkwX4_carryOut_1 : List UInt8 := [171, 0, 0, 0, 0, 0, 105, 0, 0, 0, 2, 0, 0, 0, 0, 0, 0, 0, 27, 0, 0, 0, 2, 0, 0, 0, 59]
abbrev dktX4_carryOut_1 : List UInt8 := dkwX4_carryOut_1 ++ dktX4_carryOut_2
def dkwX4_carryOut_0 : List UInt8 := [2, 61, 42, 180, 0, 9, 182, 0, 23]
abbrev dktX4_carryOut_0 : List UInt8 := dkwX4_carryOut_0 ++ dktX4_carryOut_1
theorem dksX4_carryOut_0 : cX4_carryOut.data.toList.drop 0 = dktX4_carryOut_0 := by decide +kernel
theorem dksX4_carryOut_1 : cX4_carryOut.data.toList.drop 9 = dktX4_carryOut_1 := dk_seg dksX4_carryOut_0 9 rfl rfl
theorem dksX4_carryOut_2 : cX4_carryOut.data.toList.drop 36 = dktX4_carryOut_2 := dk_seg dksX4_carryOut_1 27 rfl rfl
theorem dksX4_carryOut_3 : cX4_carryOut.data.toList.drop 59 = dktX4_carryOut_3 := dk_seg dksX4_carryOut_2 23 rfl rfl
theorem dksX4_carryOut_4 : cX4_carryOut.data.toList.drop 83 = dktX4_carryOut_4 := dk_seg dksX4_carryOut_3 24 rfl rfl
theorem dksX4_carryOut_5 : cX4_carryOut.data.toList.drop 105 = dktX4_carryOut_5 := dk_seg dksX4_carryOut_4 22 rfl rfl
theorem dX4_carryOut_0 : decode cX4_carryOut 0 = .ok (.iconst (-1), 1) := dk_2 (dk_at dksX4_carryOut_0 0 rfl rfl)
theorem dX4_carryOut_1 : decode cX4_carryOut 1 = .ok (.istore_n 2, 1) := dk_61 (dk_at dksX4_carryOut_0 1 rfl rfl)
theorem dX4_carryOut_2 : decode cX4_carryOut 2 = .ok (.aload_n 0, 1) := dk_42 (dk_at dksX4_carryOut_0 2 rfl rfl)
theorem dX4_carryOut_3 : decode cX4_carryOut 3 = .ok (.getfield 9, 3) := dk_180 0 9 (dk_at dksX4_carryOut_0 3 rfl rfl)
theorem dX4_carryOut_6 : decode cX4_carryOut 6 = .ok (.invokevirtual 23, 3) := dk_182 0 23 (dk_at dksX4_carryOut_0 6 rfl rfl)
theorem dX4_carryOut_9 : decode cX4_carryOut 9 = .ok (.lookupswitch 105 #[(0, 27), (2, 59)], 27) := by decide +kernel
theorem dX4_carryOut_36 : decode cX4_carryOut 36 = .ok (.aload_n 1, 1) := dk_43 (dk_at dksX4_carryOut_2 0 rfl rfl)
theorem dX4_carryOut_37 : decode cX4_carryOut 37 = .ok (.getfield 29, 3) := dk_180 0 29 (dk_at dksX4_carryOut_2 1 rfl rfl)
theorem dX4_carryOut_40 : decode cX4_carryOut 40 = .ok (.aload_n 0, 1) := dk_42 (dk_at dksX4_carryOut_2 4 rfl rfl)
theorem dX4_carryOut_41 : decode cX4_carryOut 41 = .ok (.getfield 19, 3) := dk_180 0 19 (dk_at dksX4_carryOut_2 5 rfl rfl)
theorem dX4_carryOut_44 : decode cX4_carryOut 44 = .ok (.iconst 0, 1) := dk_3 (dk_at dksX4_carryOut_2 8 rfl rfl)
theorem dX4_carryOut_45 : decode cX4_carryOut 45 = .ok (.iaload, 1) := dk_46 (dk_at dksX4_carryOut_2 9 rfl rfl)
theorem dX4_carryOut_46 : decode cX4_carryOut 46 = .ok (.iaload, 1) := dk_46 (dk_at dksX4_carryOut_2 10 rfl rfl)
theorem dX4_carryOut_47 : decode cX4_carryOut 47 = .ok (.istore_n 2, 1) := dk_61 (dk_at dksX4_carryOut_2 11 rfl rfl)
theorem dX4_carryOut_48 : decode cX4_carryOut 48 = .ok (.aload_n 1, 1) := dk_43 (dk_at dksX4_carryOut_2 12 rfl rfl)
theorem dX4_carryOut_49 : decode cX4_carryOut 49 = .ok (.getfield 29, 3) := dk_180 0 29 (dk_at dksX4_carryOut_2 13 rfl rfl)
theorem dX4_carryOut_52 : decode cX4_carryOut 52 = .ok (.aload_n 0, 1) := dk_42 (dk_at dksX4_carryOut_2 16 rfl rfl)
theorem dX4_carryOut_53 : decode cX4_carryOut 53 = .ok (.getfield 19, 3) := dk_180 0 19 (dk_at dksX4_carryOut_2 17 rfl rfl)
theorem dX4_carryOut_56 : decode cX4_carryOut 56 = .ok (.iconst 0, 1) := dk_3 (dk_at dksX4_carryOut_2 20 rfl rfl)
theorem dX4_carryOut_57 : decode cX4_carryOut 57 = .ok (.iaload, 1) := dk_46 (dk_at dksX4_carryOut_2 21 rfl rfl)
theorem dX4_carryOut_58 : decode cX4_carryOut 58 = .ok (.aload_n 0, 1) := dk_42 (dk_at dksX4_carryOut_2 22 rfl rfl)
theorem dX4_carryOut_59 : decode cX4_carryOut 59 = .ok (.getfield 19, 3) := dk_180 0 19 (dk_at dksX4_carryOut_3 0 rfl rfl)
theorem dX4_carryOut_62 : decode cX4_carryOut 62 = .ok (.iconst 1, 1) := dk_4 (dk_at dksX4_carryOut_3 3 rfl rfl)
theorem dX4_carryOut_63 : decode cX4_carryOut 63 = .ok (.iaload, 1) := dk_46 (dk_at dksX4_carryOut_3 4 rfl rfl)
theorem dX4_carryOut_64 : decode cX4_carryOut 64 = .ok (.iastore, 1) := dk_79 (dk_at dksX4_carryOut_3 5 rfl rfl)
theorem dX4_carryOut_65 : decode cX4_carryOut 65 = .ok (.goto 57, 3) := dk_167 0 57 (dk_at dksX4_carryOut_3 6 rfl rfl)
theorem dX4_carryOut_68 : decode cX4_carryOut 68 = .ok (.aload_n 1, 1) := dk_43 (dk_at dksX4_carryOut_3 9 rfl rfl)
theorem dX4_carryOut_69 : decode cX4_carryOut 69 = .ok (.getfield 34, 3) := dk_180 0 34 (dk_at dksX4_carryOut_3 10 rfl rfl)
theorem dX4_carryOut_72 : decode cX4_carryOut 72 = .ok (.aload_n 0, 1) := dk_42 (dk_at dksX4_carryOut_3 13 rfl rfl)
theorem dX4_carryOut_73 : decode cX4_carryOut 73 = .ok (.getfield 19, 3) := dk_180 0 19 (dk_at dksX4_carryOut_3 14 rfl rfl)
theorem dX4_carryOut_76 : decode cX4_carryOut 76 = .ok (.iconst 0, 1) := dk_3 (dk_at dksX4_carryOut_3 17 rfl rfl)
theorem dX4_carryOut_77 : decode cX4_carryOut 77 = .ok (.iaload, 1) := dk_46 (dk_at dksX4_carryOut_3 18 rfl rfl)
theorem dX4_carryOut_78 : decode cX4_carryOut 78 = .ok (.aaload, 1) := dk_50 (dk_at dksX4_carryOut_3 19 rfl rfl)
theorem dX4_carryOut_79 : decode cX4_carryOut 79 = .ok (.aload_n 0, 1) := dk_42 (dk_at dksX4_carryOut_3 20 rfl rfl)
theorem dX4_carryOut_80 : decode cX4_carryOut 80 = .ok (.getfield 19, 3) := dk_180 0 19 (dk_at dksX4_carryOut_3 21 rfl rfl)
theorem dX4_carryOut_83 : decode cX4_carryOut 83 = .ok (.iconst 1, 1) := dk_4 (dk_at dksX4_carryOut_4 0 rfl rfl)
theorem dX4_carryOut_84 : decode cX4_carryOut 84 = .ok (.iaload, 1) := dk_46 (dk_at dksX4_carryOut_4 1 rfl rfl)
theorem dX4_carryOut_85 : decode cX4_carryOut 85 = .ok (.iaload, 1) := dk_46 (dk_at dksX4_carryOut_4 2 rfl rfl)
theorem dX4_carryOut_86 : decode cX4_carryOut 86 = .ok (.istore_n 2, 1) := dk_61 (dk_at dksX4_carryOut_4 3 rfl rfl)
theorem dX4_carryOut_87 : decode cX4_carryOut 87 = .ok (.aload_n 1, 1) := dk_43 (dk_at dksX4_carryOut_4 4 rfl rfl)
theorem dX4_carryOut_88 : decode cX4_carryOut 88 = .ok (.getfield 34, 3) := dk_180 0 34 (dk_at dksX4_carryOut_4 5 rfl rfl)
theorem dX4_carryOut_91 : decode cX4_carryOut 91 = .ok (.aload_n 0, 1) := dk_42 (dk_at dksX4_carryOut_4 8 rfl rfl)
theorem dX4_carryOut_92 : decode cX4_carryOut 92 = .ok (.getfield 19, 3) := dk_180 0 19 (dk_at dksX4_carryOut_4 9 rfl rfl)
theorem dX4_carryOut_95 : decode cX4_carryOut 95 = .ok (.iconst 0, 1) := dk_3 (dk_at dksX4_carryOut_4 12 rfl rfl)
theorem dX4_carryOut_96 : decode cX4_carryOut 96 = .ok (.iaload, 1) := dk_46 (dk_at dksX4_carryOut_4 13 rfl rfl)
theorem dX4_carryOut_97 : decode cX4_carryOut 97 = .ok (.aaload, 1) := dk_50 (dk_at dksX4_carryOut_4 14 rfl rfl)
theorem dX4_carryOut_98 : decode cX4_carryOut 98 = .ok (.aload_n 0, 1) := dk_42 (dk_at dksX4_carryOut_4 15 rfl rfl)
theorem dX4_carryOut_99 : decode cX4_carryOut 99 = .ok (.getfield 19, 3) := dk_180 0 19 (dk_at dksX4_carryOut_4 16 rfl rfl)
theorem dX4_carryOut_102 : decode cX4_carryOut 102 = .ok (.iconst 1, 1) := dk_4 (dk_at dksX4_carryOut_4 19 rfl rfl)
theorem dX4_carryOut_103 : decode cX4_carryOut 103 = .ok (.iaload, 1) := dk_46 (dk_at dksX4_carryOut_4 20 rfl rfl)
theorem dX4_carryOut_104 : decode cX4_carryOut 104 = .ok (.aload_n 0, 1) := dk_42 (dk_at dksX4_carryOut_4 21 rfl rfl)
theorem dX4_carryOut_105 : decode cX4_carryOut 105 = .ok (.getfield 19, 3) := dk_180 0 19 (dk_at dksX4_carryOut_5 0 rfl rfl)
theorem dX4_carryOut_108 : decode cX4_carryOut 108 = .ok (.iconst 2, 1) := dk_5 (dk_at dksX4_carryOut_5 3 rfl rfl)
theorem dX4_carryOut_109 : decode cX4_carryOut 109 = .ok (.iaload, 1) := dk_46 (dk_at dksX4_carryOut_5 4 rfl rfl)
theorem dX4_carryOut_110 : decode cX4_carryOut 110 = .ok (.iastore, 1) := dk_79 (dk_at dksX4_carryOut_5 5 rfl rfl)
theorem dX4_carryOut_111 : decode cX4_carryOut 111 = .ok (.goto 11, 3) := dk_167 0 11 (dk_at dksX4_carryOut_5 6 rfl rfl)
theorem dX4_carryOut_114 : decode cX4_carryOut 114 = .ok (.aload_n 1, 1) := dk_43 (dk_at dksX4_carryOut_5 9 rfl rfl)
theorem dX4_carryOut_115 : decode cX4_carryOut 115 = .ok (.aload_n 0, 1) := dk_42 (dk_at dksX4_carryOut_5 10 rfl rfl)
theorem dX4_carryOut_116 : decode cX4_carryOut 116 = .ok (.getfield 15, 3) := dk_180 0 15 (dk_at dksX4_carryOut_5 11 rfl rfl)
theorem dX4_carryOut_119 : decode cX4_carryOut 119 = .ok (.invokevirtual 38, 3) := dk_182 0 38 (dk_at dksX4_carryOut_5 14 rfl rfl)
theorem dX4_carryOut_122 : decode cX4_carryOut 122 = .ok (.iload_n 2, 1) := dk_28 (dk_at dksX4_carryOut_5 17 rfl rfl)
theorem dX4_carryOut_123 : decode cX4_carryOut 123 = .ok (.ireturn, 1) := dk_172 (dk_at dksX4_carryOut_5 18 rfl rfl)
abbrev cX4_init : ByteArray := prog_2_method_1_code
def yX4_init : MethodName := ⟨RX4, "<init>", "(LDanceNotation$Verb;LDanceNotation$Node;[I)V"⟩
def dkwX4_init_0 : List UInt8 := [42, 183, 0, 3, 42, 43, 181, 0, 9, 42, 44, 181, 0, 15, 42, 45, 181, 0, 19, 177]
abbrev dktX4_init_0 : List UInt8 := dkwX4_init_0 ++ []
theorem dksX4_init_0 : cX4_init.data.toList.drop 0 = dktX4_init_0 := by decide +kernel
theorem dX4_init_0 : decode cX4_init 0 = .ok (.aload_n 0, 1) := dk_42 (dk_at dksX4_init_0 0 rfl rfl)
theorem dX4_init_1 : decode cX4_init 1 = .ok (.invokespecial 3, 3) := dk_183 0 3 (dk_at dksX4_init_0 1 rfl rfl)
theorem dX4_init_4 : decode cX4_init 4 = .ok (.aload_n 0, 1) := dk_42 (dk_at dksX4_init_0 4 rfl rfl)
theorem dX4_init_5 : decode cX4_init 5 = .ok (.aload_n 1, 1) := dk_43 (dk_at dksX4_init_0 5 rfl rfl)
theorem dX4_init_6 : decode cX4_init 6 = .ok (.putfield 9, 3) := dk_181 0 9 (dk_at dksX4_init_0 6 rfl rfl)
theorem dX4_init_9 : decode cX4_init 9 = .ok (.aload_n 0, 1) := dk_42 (dk_at dksX4_init_0 9 rfl rfl)
theorem dX4_init_10 : decode cX4_init 10 = .ok (.aload_n 2, 1) := dk_44 (dk_at dksX4_init_0 10 rfl rfl)
theorem dX4_init_11 : decode cX4_init 11 = .ok (.putfield 15, 3) := dk_181 0 15 (dk_at dksX4_init_0 11 rfl rfl)
theorem dX4_init_14 : decode cX4_init 14 = .ok (.aload_n 0, 1) := dk_42 (dk_at dksX4_init_0 14 rfl rfl)
theorem dX4_init_15 : decode cX4_init 15 = .ok (.aload_n 3, 1) := dk_45 (dk_at dksX4_init_0 15 rfl rfl)
theorem dX4_init_16 : decode cX4_init 16 = .ok (.putfield 19, 3) := dk_181 0 19 (dk_at dksX4_init_0 16 rfl rfl)
theorem dX4_init_19 : decode cX4_init 19 = .ok (.return_, 1) := dk_177 (dk_at dksX4_init_0 19 rfl rfl)
theorem q136 : (Jvm.Cond.initialized "DanceNotation$Command") ∈ lw_all := lw_g (lw_at lw_m1 19 rfl) rfl
theorem q202 : (Jvm.Cond.fieldLinkNest "DanceNotation$Command" (29 : Nat) "DanceNotation$Dance" "starts" "[I" "DanceNotation") ∈ lw_tbl := lw_at lw_m1 85 rfl
theorem q206 : (Jvm.Cond.fieldLinkNest "DanceNotation$Command" (34 : Nat) "DanceNotation$Dance" "formations" "[[I" "DanceNotation") ∈ lw_tbl := lw_at lw_m1 89 rfl
theorem q994 : (Jvm.Cond.selects "DanceNotation$Command" ({ cls := "java/lang/Object", name := "getClass", desc := "()Ljava/lang/Class;" } : Jvm.MethodName) ({ cls := "java/lang/Object", name := "getClass", desc := "()Ljava/lang/Class;" } : Jvm.MethodName)) ∈ lw_all := lw_g (lw_at lw_m4 157 rfl) rfl
theorem q1090 : (Jvm.Cond.instanceMethod ({ cls := "DanceNotation$Command", name := "carryOut", desc := "(LDanceNotation$Dance;)I" } : Jvm.MethodName)) ∈ lw_all := lw_g (lw_at lw_m5 13 rfl) rfl
theorem q1091 : (Jvm.Cond.selects "DanceNotation$Command" ({ cls := "DanceNotation$Command", name := "carryOut", desc := "(LDanceNotation$Dance;)I" } : Jvm.MethodName) ({ cls := "DanceNotation$Command", name := "carryOut", desc := "(LDanceNotation$Dance;)I" } : Jvm.MethodName)) ∈ lw_all := lw_g (lw_at lw_m5 14 rfl) rfl
theorem q1092 : (Jvm.Cond.code ({ cls := "DanceNotation$Command", name := "carryOut", desc := "(LDanceNotation$Dance;)I" } : Jvm.MethodName) prog_2_method_2_code (3 : Nat) (Option.some Jvm.ClassFile.FieldType.int)) ∈ lw_all := lw_g (lw_at lw_m5 15 rfl) rfl
theorem q1093 : (Jvm.Cond.methodLink "DanceNotation$Command" (23 : Nat) ({ cls := "DanceNotation$Verb", name := "ordinal", desc := "()I" } : Jvm.MethodName)) ∈ lw_all := lw_g (lw_at lw_m5 16 rfl) rfl
theorem q1099 : (Jvm.Cond.methodLink "DanceNotation$Command" (38 : Nat) ({ cls := "DanceNotation$Dance", name := "set", desc := "(LDanceNotation$Node;)V" } : Jvm.MethodName)) ∈ lw_all := lw_g (lw_at lw_m5 22 rfl) rfl
theorem q1475 : (Jvm.Cond.instantiable "DanceNotation$Command" (3 : Nat)) ∈ lw_all := lw_g (lw_at lw_m6 158 rfl) rfl
theorem q1479 : (Jvm.Cond.instanceMethod ({ cls := "DanceNotation$Command", name := "<init>", desc := "(LDanceNotation$Verb;LDanceNotation$Node;[I)V" } : Jvm.MethodName)) ∈ lw_all := lw_g (lw_at lw_m6 162 rfl) rfl
theorem q1480 : (Jvm.Cond.code ({ cls := "DanceNotation$Command", name := "<init>", desc := "(LDanceNotation$Verb;LDanceNotation$Node;[I)V" } : Jvm.MethodName) prog_2_method_1_code (4 : Nat) (Option.none : Option Jvm.ClassFile.FieldType)) ∈ lw_all := lw_g (lw_at lw_m6 163 rfl) rfl
theorem q1481 : (Jvm.Cond.methodLink "DanceNotation$Command" (3 : Nat) ({ cls := "java/lang/Object", name := "<init>", desc := "()V" } : Jvm.MethodName)) ∈ lw_all := lw_g (lw_at lw_m6 164 rfl) rfl
theorem q1482 : (Jvm.Cond.fieldLink "DanceNotation$Command" (9 : Nat) "DanceNotation$Command" "verb" "LDanceNotation$Verb;") ∈ lw_all := lw_g (lw_at lw_m6 165 rfl) rfl
theorem q1483 : (Jvm.Cond.fieldLink "DanceNotation$Command" (15 : Nat) "DanceNotation$Command" "piece" "LDanceNotation$Node;") ∈ lw_all := lw_g (lw_at lw_m6 166 rfl) rfl
theorem q1484 : (Jvm.Cond.fieldLink "DanceNotation$Command" (19 : Nat) "DanceNotation$Command" "numbers" "[I") ∈ lw_all := lw_g (lw_at lw_m6 167 rfl) rfl
theorem q1485 : (Jvm.Cond.laysFinal "DanceNotation$Command" "DanceNotation$Command" "verb" "LDanceNotation$Verb;") ∈ lw_all := lw_g (lw_at lw_m6 168 rfl) rfl
theorem q1486 : (Jvm.Cond.soleField "DanceNotation$Command" "verb") ∈ lw_all := lw_g (lw_at lw_m6 169 rfl) rfl
theorem q1487 : (Jvm.Cond.laysFinal "DanceNotation$Command" "DanceNotation$Command" "piece" "LDanceNotation$Node;") ∈ lw_all := lw_g (lw_at lw_m6 170 rfl) rfl
theorem q1488 : (Jvm.Cond.soleField "DanceNotation$Command" "piece") ∈ lw_all := lw_g (lw_at lw_m6 171 rfl) rfl
theorem q1489 : (Jvm.Cond.laysFinal "DanceNotation$Command" "DanceNotation$Command" "numbers" "[I") ∈ lw_all := lw_g (lw_at lw_m6 172 rfl) rfl
theorem q1490 : (Jvm.Cond.soleField "DanceNotation$Command" "numbers") ∈ lw_all := lw_g (lw_at lw_m6 173 rfl) rfl
theorem q1491 : (Jvm.Cond.superclass "DanceNotation$Command" "java/lang/Object") ∈ lw_all := lw_g (lw_at lw_m6 174 rfl) rfl
theorem q3322 : (Jvm.Cond.castable "DanceNotation$Command" "java/lang/Object") ∈ lw_tbl := lw_at lw_m14 85 rfl
theorem in_X4 : ∀ w ∈ wsX40, w ∈ lw_all := lw_in wsX40 [1485, 1487, 1489] (by decide +kernel) (by decide +kernel)

/-! DanceNotation$Score -/
set_option maxRecDepth 100000
def RX5 : String := "DanceNotation$Score"
def TX5 : u_T := fun k => match k with
  | 0 => ("DanceNotation$Score", "length", "I", true)
  | 1 => ("DanceNotation$Score", "steps", "[[C", true)
  | 2 => ("DanceNotation$Score", "cues", "[I", true)
  | _ => ("DanceNotation$Score", "rules", "[LDanceNotation$StepRule;", true)
def tyX5 : Nat → FieldType := fun k => match k with
  | 0 => .int
  | 1 => .array (.array .char)
  | 2 => .array .int
  | _ => .array (.object "DanceNotation$StepRule")
abbrev wsX50 : List Cond := u_ws RX5 TX5 4
theorem nmX5 : ∀ a, a < 4 → ∀ b, b < 4 → a ≠ b → (TX5 a).2.1 ≠ (TX5 b).2.1 := by decide +kernel
theorem tyX5_ok : ∀ k, k < 4 → parseFieldDescriptor (TX5 k).2.2.1 = some (tyX5 k) := by decide +kernel
abbrev cX5_init : ByteArray := prog_17_method_1_code
def yX5_init : MethodName := ⟨RX5, "<init>", "(I)V"⟩
def dkwX5_init_5 : List UInt8 := [167, 255, 219, 177]
abbrev dktX5_init_5 : List UInt8 := dkwX5_init_5 ++ []
def dkwX5_init_4 : List UInt8 := [54, 6, 21, 6, 27, 162, 0, 16, 25, 5, 21, 6, 16, 46, 85, 132, 6, 1, 167, 255, 240, 132, 4, 1]
abbrev dktX5_init_4 : List UInt8 := dkwX5_init_4 ++ dktX5_init_5
def dkwX5_init_3 : List UInt8 := [180, 0, 30, 77, 44, 190, 62, 3, 54, 4, 21, 4, 29, 162, 0, 37, 44, 21, 4, 50, 58, 5, 3]
abbrev dktX5_init_3 : List UInt8 := dkwX5_init_3 ++ dktX5_init_4
def dkwX5_init_2 : List UInt8 := [181, 0, 24, 42, 16, 8, 27, 197, 0, 28, 2, 181, 0, 30, 42, 27, 4, 96, 188, 10, 181, 0, 33, 42]
abbrev dktX5_init_2 : List UInt8 := dkwX5_init_2 ++ dktX5_init_3
def dkwX5_init_1 : List UInt8 := [83, 89, 5, 186, 0, 16, 0, 0, 83, 89, 6, 186, 0, 17, 0, 0, 83, 181, 0, 18, 42, 27]
abbrev dktX5_init_1 : List UInt8 := dkwX5_init_1 ++ dktX5_init_2
def dkwX5_init_0 : List UInt8 := [42, 183, 0, 3, 42, 7, 189, 0, 9, 89, 3, 186, 0, 11, 0, 0, 83, 89, 4, 186, 0, 15, 0, 0]
abbrev dktX5_init_0 : List UInt8 := dkwX5_init_0 ++ dktX5_init_1
theorem dksX5_init_0 : cX5_init.data.toList.drop 0 = dktX5_init_0 := by decide +kernel
theorem dksX5_init_1 : cX5_init.data.toList.drop 24 = dktX5_init_1 := dk_seg dksX5_init_0 24 rfl rfl
theorem dksX5_init_2 : cX5_init.data.toList.drop 46 = dktX5_init_2 := dk_seg dksX5_init_1 22 rfl rfl
theorem dksX5_init_3 : cX5_init.data.toList.drop 70 = dktX5_init_3 := dk_seg dksX5_init_2 24 rfl rfl
theorem dksX5_init_4 : cX5_init.data.toList.drop 93 = dktX5_init_4 := dk_seg dksX5_init_3 23 rfl rfl
theorem dksX5_init_5 : cX5_init.data.toList.drop 117 = dktX5_init_5 := dk_seg dksX5_init_4 24 rfl rfl
theorem dX5_init_0 : decode cX5_init 0 = .ok (.aload_n 0, 1) := dk_42 (dk_at dksX5_init_0 0 rfl rfl)
theorem dX5_init_1 : decode cX5_init 1 = .ok (.invokespecial 3, 3) := dk_183 0 3 (dk_at dksX5_init_0 1 rfl rfl)
theorem dX5_init_4 : decode cX5_init 4 = .ok (.aload_n 0, 1) := dk_42 (dk_at dksX5_init_0 4 rfl rfl)
theorem dX5_init_5 : decode cX5_init 5 = .ok (.iconst 4, 1) := dk_7 (dk_at dksX5_init_0 5 rfl rfl)
theorem dX5_init_6 : decode cX5_init 6 = .ok (.anewarray 9, 3) := dk_189 0 9 (dk_at dksX5_init_0 6 rfl rfl)
theorem dX5_init_9 : decode cX5_init 9 = .ok (.dup, 1) := dk_89 (dk_at dksX5_init_0 9 rfl rfl)
theorem dX5_init_10 : decode cX5_init 10 = .ok (.iconst 0, 1) := dk_3 (dk_at dksX5_init_0 10 rfl rfl)
theorem dX5_init_11 : decode cX5_init 11 = .ok (.invokedynamic 11, 5) := by decide +kernel
theorem dX5_init_16 : decode cX5_init 16 = .ok (.aastore, 1) := dk_83 (dk_at dksX5_init_0 16 rfl rfl)
theorem dX5_init_17 : decode cX5_init 17 = .ok (.dup, 1) := dk_89 (dk_at dksX5_init_0 17 rfl rfl)
theorem dX5_init_18 : decode cX5_init 18 = .ok (.iconst 1, 1) := dk_4 (dk_at dksX5_init_0 18 rfl rfl)
theorem dX5_init_19 : decode cX5_init 19 = .ok (.invokedynamic 15, 5) := by decide +kernel
theorem dX5_init_24 : decode cX5_init 24 = .ok (.aastore, 1) := dk_83 (dk_at dksX5_init_1 0 rfl rfl)
theorem dX5_init_25 : decode cX5_init 25 = .ok (.dup, 1) := dk_89 (dk_at dksX5_init_1 1 rfl rfl)
theorem dX5_init_26 : decode cX5_init 26 = .ok (.iconst 2, 1) := dk_5 (dk_at dksX5_init_1 2 rfl rfl)
theorem dX5_init_27 : decode cX5_init 27 = .ok (.invokedynamic 16, 5) := by decide +kernel
theorem dX5_init_32 : decode cX5_init 32 = .ok (.aastore, 1) := dk_83 (dk_at dksX5_init_1 8 rfl rfl)
theorem dX5_init_33 : decode cX5_init 33 = .ok (.dup, 1) := dk_89 (dk_at dksX5_init_1 9 rfl rfl)
theorem dX5_init_34 : decode cX5_init 34 = .ok (.iconst 3, 1) := dk_6 (dk_at dksX5_init_1 10 rfl rfl)
theorem dX5_init_35 : decode cX5_init 35 = .ok (.invokedynamic 17, 5) := by decide +kernel
theorem dX5_init_40 : decode cX5_init 40 = .ok (.aastore, 1) := dk_83 (dk_at dksX5_init_1 16 rfl rfl)
theorem dX5_init_41 : decode cX5_init 41 = .ok (.putfield 18, 3) := dk_181 0 18 (dk_at dksX5_init_1 17 rfl rfl)
theorem dX5_init_44 : decode cX5_init 44 = .ok (.aload_n 0, 1) := dk_42 (dk_at dksX5_init_1 20 rfl rfl)
theorem dX5_init_45 : decode cX5_init 45 = .ok (.iload_n 1, 1) := dk_27 (dk_at dksX5_init_1 21 rfl rfl)
theorem dX5_init_46 : decode cX5_init 46 = .ok (.putfield 24, 3) := dk_181 0 24 (dk_at dksX5_init_2 0 rfl rfl)
theorem dX5_init_49 : decode cX5_init 49 = .ok (.aload_n 0, 1) := dk_42 (dk_at dksX5_init_2 3 rfl rfl)
theorem dX5_init_50 : decode cX5_init 50 = .ok (.bipush 8, 2) := dk_16 8 (dk_at dksX5_init_2 4 rfl rfl)
theorem dX5_init_52 : decode cX5_init 52 = .ok (.iload_n 1, 1) := dk_27 (dk_at dksX5_init_2 6 rfl rfl)
theorem dX5_init_53 : decode cX5_init 53 = .ok (.multianewarray 28 2, 4) := by decide +kernel
theorem dX5_init_57 : decode cX5_init 57 = .ok (.putfield 30, 3) := dk_181 0 30 (dk_at dksX5_init_2 11 rfl rfl)
theorem dX5_init_60 : decode cX5_init 60 = .ok (.aload_n 0, 1) := dk_42 (dk_at dksX5_init_2 14 rfl rfl)
theorem dX5_init_61 : decode cX5_init 61 = .ok (.iload_n 1, 1) := dk_27 (dk_at dksX5_init_2 15 rfl rfl)
theorem dX5_init_62 : decode cX5_init 62 = .ok (.iconst 1, 1) := dk_4 (dk_at dksX5_init_2 16 rfl rfl)
theorem dX5_init_63 : decode cX5_init 63 = .ok (.iadd, 1) := dk_96 (dk_at dksX5_init_2 17 rfl rfl)
theorem dX5_init_64 : decode cX5_init 64 = .ok (.newarray .int, 2) := dk_188_10 (dk_at dksX5_init_2 18 rfl rfl)
theorem dX5_init_66 : decode cX5_init 66 = .ok (.putfield 33, 3) := dk_181 0 33 (dk_at dksX5_init_2 20 rfl rfl)
theorem dX5_init_69 : decode cX5_init 69 = .ok (.aload_n 0, 1) := dk_42 (dk_at dksX5_init_2 23 rfl rfl)
theorem dX5_init_70 : decode cX5_init 70 = .ok (.getfield 30, 3) := dk_180 0 30 (dk_at dksX5_init_3 0 rfl rfl)
theorem dX5_init_73 : decode cX5_init 73 = .ok (.astore_n 2, 1) := dk_77 (dk_at dksX5_init_3 3 rfl rfl)
theorem dX5_init_74 : decode cX5_init 74 = .ok (.aload_n 2, 1) := dk_44 (dk_at dksX5_init_3 4 rfl rfl)
theorem dX5_init_75 : decode cX5_init 75 = .ok (.arraylength, 1) := dk_190 (dk_at dksX5_init_3 5 rfl rfl)
theorem dX5_init_76 : decode cX5_init 76 = .ok (.istore_n 3, 1) := dk_62 (dk_at dksX5_init_3 6 rfl rfl)
theorem dX5_init_77 : decode cX5_init 77 = .ok (.iconst 0, 1) := dk_3 (dk_at dksX5_init_3 7 rfl rfl)
theorem dX5_init_78 : decode cX5_init 78 = .ok (.istore 4, 2) := dk_54 4 (dk_at dksX5_init_3 8 rfl rfl)
theorem dX5_init_80 : decode cX5_init 80 = .ok (.iload 4, 2) := dk_21 4 (dk_at dksX5_init_3 10 rfl rfl)
theorem dX5_init_82 : decode cX5_init 82 = .ok (.iload_n 3, 1) := dk_29 (dk_at dksX5_init_3 12 rfl rfl)
theorem dX5_init_83 : decode cX5_init 83 = .ok (.if_icmp .ge 37, 3) := dk_162 0 37 (dk_at dksX5_init_3 13 rfl rfl)
theorem dX5_init_86 : decode cX5_init 86 = .ok (.aload_n 2, 1) := dk_44 (dk_at dksX5_init_3 16 rfl rfl)
theorem dX5_init_87 : decode cX5_init 87 = .ok (.iload 4, 2) := dk_21 4 (dk_at dksX5_init_3 17 rfl rfl)
theorem dX5_init_89 : decode cX5_init 89 = .ok (.aaload, 1) := dk_50 (dk_at dksX5_init_3 19 rfl rfl)
theorem dX5_init_90 : decode cX5_init 90 = .ok (.astore 5, 2) := dk_58 5 (dk_at dksX5_init_3 20 rfl rfl)
theorem dX5_init_92 : decode cX5_init 92 = .ok (.iconst 0, 1) := dk_3 (dk_at dksX5_init_3 22 rfl rfl)
theorem dX5_init_93 : decode cX5_init 93 = .ok (.istore 6, 2) := dk_54 6 (dk_at dksX5_init_4 0 rfl rfl)
theorem dX5_init_95 : decode cX5_init 95 = .ok (.iload 6, 2) := dk_21 6 (dk_at dksX5_init_4 2 rfl rfl)
theorem dX5_init_97 : decode cX5_init 97 = .ok (.iload_n 1, 1) := dk_27 (dk_at dksX5_init_4 4 rfl rfl)
theorem dX5_init_98 : decode cX5_init 98 = .ok (.if_icmp .ge 16, 3) := dk_162 0 16 (dk_at dksX5_init_4 5 rfl rfl)
theorem dX5_init_101 : decode cX5_init 101 = .ok (.aload 5, 2) := dk_25 5 (dk_at dksX5_init_4 8 rfl rfl)
theorem dX5_init_103 : decode cX5_init 103 = .ok (.iload 6, 2) := dk_21 6 (dk_at dksX5_init_4 10 rfl rfl)
theorem dX5_init_105 : decode cX5_init 105 = .ok (.bipush 46, 2) := dk_16 46 (dk_at dksX5_init_4 12 rfl rfl)
theorem dX5_init_107 : decode cX5_init 107 = .ok (.castore, 1) := dk_85 (dk_at dksX5_init_4 14 rfl rfl)
theorem dX5_init_108 : decode cX5_init 108 = .ok (.iinc 6 1, 3) := dk_132 6 1 (dk_at dksX5_init_4 15 rfl rfl)
theorem dX5_init_111 : decode cX5_init 111 = .ok (.goto (-16), 3) := dk_167 255 240 (dk_at dksX5_init_4 18 rfl rfl)
theorem dX5_init_114 : decode cX5_init 114 = .ok (.iinc 4 1, 3) := dk_132 4 1 (dk_at dksX5_init_4 21 rfl rfl)
theorem dX5_init_117 : decode cX5_init 117 = .ok (.goto (-37), 3) := dk_167 255 219 (dk_at dksX5_init_5 0 rfl rfl)
theorem dX5_init_120 : decode cX5_init 120 = .ok (.return_, 1) := dk_177 (dk_at dksX5_init_5 3 rfl rfl)
abbrev cX5_lambda_new_0 : ByteArray := prog_17_method_7_code
def yX5_lambda_new_0 : MethodName := ⟨RX5, "lambda$new$0", "(C)C"⟩
theorem dX5_lambda_new_0_0 : decode cX5_lambda_new_0 0 = .ok (.iload_n 0, 1) := by decide +kernel
theorem dX5_lambda_new_0_1 : decode cX5_lambda_new_0 1 = .ok (.ireturn, 1) := by decide +kernel
abbrev cX5_lambda_new_1 : ByteArray := prog_17_method_6_code
def yX5_lambda_new_1 : MethodName := ⟨RX5, "lambda$new$1", "(C)C"⟩
theorem dX5_lambda_new_1_0 : decode cX5_lambda_new_1 0 = .ok (.iload_n 0, 1) := by decide +kernel
theorem dX5_lambda_new_1_1 : decode cX5_lambda_new_1 1 = .ok (.invokestatic 41, 3) := by decide +kernel
theorem dX5_lambda_new_1_4 : decode cX5_lambda_new_1 4 = .ok (.ireturn, 1) := by decide +kernel
abbrev cX5_lambda_new_2 : ByteArray := prog_17_method_5_code
def yX5_lambda_new_2 : MethodName := ⟨RX5, "lambda$new$2", "(C)C"⟩
theorem dX5_lambda_new_2_0 : decode cX5_lambda_new_2 0 = .ok (.iload_n 0, 1) := by decide +kernel
theorem dX5_lambda_new_2_1 : decode cX5_lambda_new_2 1 = .ok (.invokestatic 37, 3) := by decide +kernel
theorem dX5_lambda_new_2_4 : decode cX5_lambda_new_2 4 = .ok (.ireturn, 1) := by decide +kernel
abbrev cX5_lambda_new_3 : ByteArray := prog_17_method_4_code
def yX5_lambda_new_3 : MethodName := ⟨RX5, "lambda$new$3", "(C)C"⟩
def dkwX5_lambda_new_3_0 : List UInt8 := [26, 184, 0, 37, 184, 0, 41, 172]
abbrev dktX5_lambda_new_3_0 : List UInt8 := dkwX5_lambda_new_3_0 ++ []
theorem dksX5_lambda_new_3_0 : cX5_lambda_new_3.data.toList.drop 0 = dktX5_lambda_new_3_0 := by decide +kernel
theorem dX5_lambda_new_3_0 : decode cX5_lambda_new_3 0 = .ok (.iload_n 0, 1) := dk_26 (dk_at dksX5_lambda_new_3_0 0 rfl rfl)
theorem dX5_lambda_new_3_1 : decode cX5_lambda_new_3 1 = .ok (.invokestatic 37, 3) := dk_184 0 37 (dk_at dksX5_lambda_new_3_0 1 rfl rfl)
theorem dX5_lambda_new_3_4 : decode cX5_lambda_new_3 4 = .ok (.invokestatic 41, 3) := dk_184 0 41 (dk_at dksX5_lambda_new_3_0 4 rfl rfl)
theorem dX5_lambda_new_3_7 : decode cX5_lambda_new_3 7 = .ok (.ireturn, 1) := dk_172 (dk_at dksX5_lambda_new_3_0 7 rfl rfl)
abbrev cX5_cueCount : ByteArray := prog_17_method_2_code
def yX5_cueCount : MethodName := ⟨RX5, "cueCount", "()I"⟩
def dkwX5_cueCount_1 : List UInt8 := [54, 5, 27, 21, 5, 96, 60, 132, 4, 1, 167, 255, 236, 27, 172]
abbrev dktX5_cueCount_1 : List UInt8 := dkwX5_cueCount_1 ++ []
def dkwX5_cueCount_0 : List UInt8 := [3, 60, 42, 180, 0, 33, 77, 44, 190, 62, 3, 54, 4, 21, 4, 29, 162, 0, 20, 44, 21, 4, 46]
abbrev dktX5_cueCount_0 : List UInt8 := dkwX5_cueCount_0 ++ dktX5_cueCount_1
theorem dksX5_cueCount_0 : cX5_cueCount.data.toList.drop 0 = dktX5_cueCount_0 := by decide +kernel
theorem dksX5_cueCount_1 : cX5_cueCount.data.toList.drop 23 = dktX5_cueCount_1 := dk_seg dksX5_cueCount_0 23 rfl rfl
theorem dX5_cueCount_0 : decode cX5_cueCount 0 = .ok (.iconst 0, 1) := dk_3 (dk_at dksX5_cueCount_0 0 rfl rfl)
theorem dX5_cueCount_1 : decode cX5_cueCount 1 = .ok (.istore_n 1, 1) := dk_60 (dk_at dksX5_cueCount_0 1 rfl rfl)
theorem dX5_cueCount_2 : decode cX5_cueCount 2 = .ok (.aload_n 0, 1) := dk_42 (dk_at dksX5_cueCount_0 2 rfl rfl)
theorem dX5_cueCount_3 : decode cX5_cueCount 3 = .ok (.getfield 33, 3) := dk_180 0 33 (dk_at dksX5_cueCount_0 3 rfl rfl)
theorem dX5_cueCount_6 : decode cX5_cueCount 6 = .ok (.astore_n 2, 1) := dk_77 (dk_at dksX5_cueCount_0 6 rfl rfl)
theorem dX5_cueCount_7 : decode cX5_cueCount 7 = .ok (.aload_n 2, 1) := dk_44 (dk_at dksX5_cueCount_0 7 rfl rfl)
theorem dX5_cueCount_8 : decode cX5_cueCount 8 = .ok (.arraylength, 1) := dk_190 (dk_at dksX5_cueCount_0 8 rfl rfl)
theorem dX5_cueCount_9 : decode cX5_cueCount 9 = .ok (.istore_n 3, 1) := dk_62 (dk_at dksX5_cueCount_0 9 rfl rfl)
theorem dX5_cueCount_10 : decode cX5_cueCount 10 = .ok (.iconst 0, 1) := dk_3 (dk_at dksX5_cueCount_0 10 rfl rfl)
theorem dX5_cueCount_11 : decode cX5_cueCount 11 = .ok (.istore 4, 2) := dk_54 4 (dk_at dksX5_cueCount_0 11 rfl rfl)
theorem dX5_cueCount_13 : decode cX5_cueCount 13 = .ok (.iload 4, 2) := dk_21 4 (dk_at dksX5_cueCount_0 13 rfl rfl)
theorem dX5_cueCount_15 : decode cX5_cueCount 15 = .ok (.iload_n 3, 1) := dk_29 (dk_at dksX5_cueCount_0 15 rfl rfl)
theorem dX5_cueCount_16 : decode cX5_cueCount 16 = .ok (.if_icmp .ge 20, 3) := dk_162 0 20 (dk_at dksX5_cueCount_0 16 rfl rfl)
theorem dX5_cueCount_19 : decode cX5_cueCount 19 = .ok (.aload_n 2, 1) := dk_44 (dk_at dksX5_cueCount_0 19 rfl rfl)
theorem dX5_cueCount_20 : decode cX5_cueCount 20 = .ok (.iload 4, 2) := dk_21 4 (dk_at dksX5_cueCount_0 20 rfl rfl)
theorem dX5_cueCount_22 : decode cX5_cueCount 22 = .ok (.iaload, 1) := dk_46 (dk_at dksX5_cueCount_0 22 rfl rfl)
theorem dX5_cueCount_23 : decode cX5_cueCount 23 = .ok (.istore 5, 2) := dk_54 5 (dk_at dksX5_cueCount_1 0 rfl rfl)
theorem dX5_cueCount_25 : decode cX5_cueCount 25 = .ok (.iload_n 1, 1) := dk_27 (dk_at dksX5_cueCount_1 2 rfl rfl)
theorem dX5_cueCount_26 : decode cX5_cueCount 26 = .ok (.iload 5, 2) := dk_21 5 (dk_at dksX5_cueCount_1 3 rfl rfl)
theorem dX5_cueCount_28 : decode cX5_cueCount 28 = .ok (.iadd, 1) := dk_96 (dk_at dksX5_cueCount_1 5 rfl rfl)
theorem dX5_cueCount_29 : decode cX5_cueCount 29 = .ok (.istore_n 1, 1) := dk_60 (dk_at dksX5_cueCount_1 6 rfl rfl)
theorem dX5_cueCount_30 : decode cX5_cueCount 30 = .ok (.iinc 4 1, 3) := dk_132 4 1 (dk_at dksX5_cueCount_1 7 rfl rfl)
theorem dX5_cueCount_33 : decode cX5_cueCount 33 = .ok (.goto (-20), 3) := dk_167 255 236 (dk_at dksX5_cueCount_1 10 rfl rfl)
theorem dX5_cueCount_36 : decode cX5_cueCount 36 = .ok (.iload_n 1, 1) := dk_27 (dk_at dksX5_cueCount_1 13 rfl rfl)
theorem dX5_cueCount_37 : decode cX5_cueCount 37 = .ok (.ireturn, 1) := dk_172 (dk_at dksX5_cueCount_1 14 rfl rfl)
abbrev cX5_cue : ByteArray := prog_17_method_3_code
def yX5_cue : MethodName := ⟨RX5, "cue", "(I)I"⟩
def dkwX5_cue_1 : List UInt8 := [132, 2, 1, 167, 255, 234, 28, 172]
abbrev dktX5_cue_1 : List UInt8 := dkwX5_cue_1 ++ []
def dkwX5_cue_0 : List UInt8 := [3, 61, 27, 62, 29, 42, 180, 0, 33, 28, 46, 161, 0, 18, 29, 42, 180, 0, 33, 28, 46, 100, 62]
abbrev dktX5_cue_0 : List UInt8 := dkwX5_cue_0 ++ dktX5_cue_1
theorem dksX5_cue_0 : cX5_cue.data.toList.drop 0 = dktX5_cue_0 := by decide +kernel
theorem dksX5_cue_1 : cX5_cue.data.toList.drop 23 = dktX5_cue_1 := dk_seg dksX5_cue_0 23 rfl rfl
theorem dX5_cue_0 : decode cX5_cue 0 = .ok (.iconst 0, 1) := dk_3 (dk_at dksX5_cue_0 0 rfl rfl)
theorem dX5_cue_1 : decode cX5_cue 1 = .ok (.istore_n 2, 1) := dk_61 (dk_at dksX5_cue_0 1 rfl rfl)
theorem dX5_cue_2 : decode cX5_cue 2 = .ok (.iload_n 1, 1) := dk_27 (dk_at dksX5_cue_0 2 rfl rfl)
theorem dX5_cue_3 : decode cX5_cue 3 = .ok (.istore_n 3, 1) := dk_62 (dk_at dksX5_cue_0 3 rfl rfl)
theorem dX5_cue_4 : decode cX5_cue 4 = .ok (.iload_n 3, 1) := dk_29 (dk_at dksX5_cue_0 4 rfl rfl)
theorem dX5_cue_5 : decode cX5_cue 5 = .ok (.aload_n 0, 1) := dk_42 (dk_at dksX5_cue_0 5 rfl rfl)
theorem dX5_cue_6 : decode cX5_cue 6 = .ok (.getfield 33, 3) := dk_180 0 33 (dk_at dksX5_cue_0 6 rfl rfl)
theorem dX5_cue_9 : decode cX5_cue 9 = .ok (.iload_n 2, 1) := dk_28 (dk_at dksX5_cue_0 9 rfl rfl)
theorem dX5_cue_10 : decode cX5_cue 10 = .ok (.iaload, 1) := dk_46 (dk_at dksX5_cue_0 10 rfl rfl)
theorem dX5_cue_11 : decode cX5_cue 11 = .ok (.if_icmp .lt 18, 3) := dk_161 0 18 (dk_at dksX5_cue_0 11 rfl rfl)
theorem dX5_cue_14 : decode cX5_cue 14 = .ok (.iload_n 3, 1) := dk_29 (dk_at dksX5_cue_0 14 rfl rfl)
theorem dX5_cue_15 : decode cX5_cue 15 = .ok (.aload_n 0, 1) := dk_42 (dk_at dksX5_cue_0 15 rfl rfl)
theorem dX5_cue_16 : decode cX5_cue 16 = .ok (.getfield 33, 3) := dk_180 0 33 (dk_at dksX5_cue_0 16 rfl rfl)
theorem dX5_cue_19 : decode cX5_cue 19 = .ok (.iload_n 2, 1) := dk_28 (dk_at dksX5_cue_0 19 rfl rfl)
theorem dX5_cue_20 : decode cX5_cue 20 = .ok (.iaload, 1) := dk_46 (dk_at dksX5_cue_0 20 rfl rfl)
theorem dX5_cue_21 : decode cX5_cue 21 = .ok (.isub, 1) := dk_100 (dk_at dksX5_cue_0 21 rfl rfl)
theorem dX5_cue_22 : decode cX5_cue 22 = .ok (.istore_n 3, 1) := dk_62 (dk_at dksX5_cue_0 22 rfl rfl)
theorem dX5_cue_23 : decode cX5_cue 23 = .ok (.iinc 2 1, 3) := dk_132 2 1 (dk_at dksX5_cue_1 0 rfl rfl)
theorem dX5_cue_26 : decode cX5_cue 26 = .ok (.goto (-22), 3) := dk_167 255 234 (dk_at dksX5_cue_1 3 rfl rfl)
theorem dX5_cue_29 : decode cX5_cue 29 = .ok (.iload_n 2, 1) := dk_28 (dk_at dksX5_cue_1 6 rfl rfl)
theorem dX5_cue_30 : decode cX5_cue 30 = .ok (.ireturn, 1) := dk_172 (dk_at dksX5_cue_1 7 rfl rfl)
theorem q145 : (Jvm.Cond.initialized "DanceNotation$Score") ∈ lw_all := lw_g (lw_at lw_m1 28 rfl) rfl
theorem q1006 : (Jvm.Cond.selects "DanceNotation$Score" ({ cls := "java/lang/Object", name := "getClass", desc := "()Ljava/lang/Class;" } : Jvm.MethodName) ({ cls := "java/lang/Object", name := "getClass", desc := "()Ljava/lang/Class;" } : Jvm.MethodName)) ∈ lw_all := lw_g (lw_at lw_m4 169 rfl) rfl
theorem q1114 : (Jvm.Cond.instantiable "DanceNotation$Score" (4 : Nat)) ∈ lw_all := lw_g (lw_at lw_m5 37 rfl) rfl
theorem q1141 : (Jvm.Cond.instanceMethod ({ cls := "DanceNotation$Score", name := "<init>", desc := "(I)V" } : Jvm.MethodName)) ∈ lw_all := lw_g (lw_at lw_m5 64 rfl) rfl
theorem q1142 : (Jvm.Cond.code ({ cls := "DanceNotation$Score", name := "<init>", desc := "(I)V" } : Jvm.MethodName) prog_17_method_1_code (7 : Nat) (Option.none : Option Jvm.ClassFile.FieldType)) ∈ lw_all := lw_g (lw_at lw_m5 65 rfl) rfl
theorem q1143 : (Jvm.Cond.methodLink "DanceNotation$Score" (3 : Nat) ({ cls := "java/lang/Object", name := "<init>", desc := "()V" } : Jvm.MethodName)) ∈ lw_all := lw_g (lw_at lw_m5 66 rfl) rfl
theorem q1144 : (Jvm.Cond.classLink "DanceNotation$Score" (9 : Nat) "DanceNotation$StepRule") ∈ lw_all := lw_g (lw_at lw_m5 67 rfl) rfl
theorem q1146 : (Jvm.Cond.static ({ cls := "DanceNotation$Score", name := "lambda$new$0", desc := "(C)C" } : Jvm.MethodName)) ∈ lw_all := lw_g (lw_at lw_m5 69 rfl) rfl
theorem q1147 : (Jvm.Cond.code ({ cls := "DanceNotation$Score", name := "lambda$new$0", desc := "(C)C" } : Jvm.MethodName) prog_17_method_7_code (1 : Nat) (Option.some Jvm.ClassFile.FieldType.char)) ∈ lw_all := lw_g (lw_at lw_m5 70 rfl) rfl
theorem q1148 : (Jvm.Cond.static ({ cls := "DanceNotation$Score", name := "lambda$new$1", desc := "(C)C" } : Jvm.MethodName)) ∈ lw_all := lw_g (lw_at lw_m5 71 rfl) rfl
theorem q1149 : (Jvm.Cond.code ({ cls := "DanceNotation$Score", name := "lambda$new$1", desc := "(C)C" } : Jvm.MethodName) prog_17_method_6_code (1 : Nat) (Option.some Jvm.ClassFile.FieldType.char)) ∈ lw_all := lw_g (lw_at lw_m5 72 rfl) rfl
theorem q1150 : (Jvm.Cond.methodLinkNest "DanceNotation$Score" (41 : Nat) ({ cls := "DanceNotation", name := "mirrored", desc := "(C)C" } : Jvm.MethodName) "DanceNotation") ∈ lw_tbl := lw_at lw_m5 73 rfl
theorem q1153 : (Jvm.Cond.static ({ cls := "DanceNotation$Score", name := "lambda$new$2", desc := "(C)C" } : Jvm.MethodName)) ∈ lw_all := lw_g (lw_at lw_m5 76 rfl) rfl
theorem q1154 : (Jvm.Cond.code ({ cls := "DanceNotation$Score", name := "lambda$new$2", desc := "(C)C" } : Jvm.MethodName) prog_17_method_5_code (1 : Nat) (Option.some Jvm.ClassFile.FieldType.char)) ∈ lw_all := lw_g (lw_at lw_m5 77 rfl) rfl
theorem q1155 : (Jvm.Cond.methodLinkNest "DanceNotation$Score" (37 : Nat) ({ cls := "DanceNotation", name := "opposite", desc := "(C)C" } : Jvm.MethodName) "DanceNotation") ∈ lw_tbl := lw_at lw_m5 78 rfl
theorem q1159 : (Jvm.Cond.static ({ cls := "DanceNotation$Score", name := "lambda$new$3", desc := "(C)C" } : Jvm.MethodName)) ∈ lw_all := lw_g (lw_at lw_m5 82 rfl) rfl
theorem q1160 : (Jvm.Cond.code ({ cls := "DanceNotation$Score", name := "lambda$new$3", desc := "(C)C" } : Jvm.MethodName) prog_17_method_4_code (1 : Nat) (Option.some Jvm.ClassFile.FieldType.char)) ∈ lw_all := lw_g (lw_at lw_m5 83 rfl) rfl
theorem q1161 : (Jvm.Cond.classLink "DanceNotation$Score" (28 : Nat) "[[C") ∈ lw_all := lw_g (lw_at lw_m5 84 rfl) rfl
theorem q1163 : (Jvm.Cond.fieldLink "DanceNotation$Score" (24 : Nat) "DanceNotation$Score" "length" "I") ∈ lw_all := lw_g (lw_at lw_m5 86 rfl) rfl
theorem q1167 : (Jvm.Cond.fieldLink "DanceNotation$Score" (30 : Nat) "DanceNotation$Score" "steps" "[[C") ∈ lw_all := lw_g (lw_at lw_m5 90 rfl) rfl
theorem q1172 : (Jvm.Cond.fieldLink "DanceNotation$Score" (33 : Nat) "DanceNotation$Score" "cues" "[I") ∈ lw_all := lw_g (lw_at lw_m5 95 rfl) rfl
theorem q1174 : (Jvm.Cond.fieldLink "DanceNotation$Score" (18 : Nat) "DanceNotation$Score" "rules" "[LDanceNotation$StepRule;") ∈ lw_all := lw_g (lw_at lw_m5 97 rfl) rfl
theorem q1176 : (Jvm.Cond.laysFinal "DanceNotation$Score" "DanceNotation$Score" "length" "I") ∈ lw_all := lw_g (lw_at lw_m5 99 rfl) rfl
theorem q1177 : (Jvm.Cond.soleField "DanceNotation$Score" "length") ∈ lw_all := lw_g (lw_at lw_m5 100 rfl) rfl
theorem q1178 : (Jvm.Cond.laysFinal "DanceNotation$Score" "DanceNotation$Score" "steps" "[[C") ∈ lw_all := lw_g (lw_at lw_m5 101 rfl) rfl
theorem q1179 : (Jvm.Cond.soleField "DanceNotation$Score" "steps") ∈ lw_all := lw_g (lw_at lw_m5 102 rfl) rfl
theorem q1180 : (Jvm.Cond.laysFinal "DanceNotation$Score" "DanceNotation$Score" "cues" "[I") ∈ lw_all := lw_g (lw_at lw_m5 103 rfl) rfl
theorem q1181 : (Jvm.Cond.soleField "DanceNotation$Score" "cues") ∈ lw_all := lw_g (lw_at lw_m5 104 rfl) rfl
theorem q1182 : (Jvm.Cond.laysFinal "DanceNotation$Score" "DanceNotation$Score" "rules" "[LDanceNotation$StepRule;") ∈ lw_all := lw_g (lw_at lw_m5 105 rfl) rfl
theorem q1183 : (Jvm.Cond.soleField "DanceNotation$Score" "rules") ∈ lw_all := lw_g (lw_at lw_m5 106 rfl) rfl
theorem q1184 : (Jvm.Cond.superclass "DanceNotation$Score" "java/lang/Object") ∈ lw_all := lw_g (lw_at lw_m5 107 rfl) rfl
theorem q2421 : (Jvm.Cond.instanceMethod ({ cls := "DanceNotation$Score", name := "cueCount", desc := "()I" } : Jvm.MethodName)) ∈ lw_all := lw_g (lw_at lw_m10 144 rfl) rfl
theorem q2422 : (Jvm.Cond.selects "DanceNotation$Score" ({ cls := "DanceNotation$Score", name := "cueCount", desc := "()I" } : Jvm.MethodName) ({ cls := "DanceNotation$Score", name := "cueCount", desc := "()I" } : Jvm.MethodName)) ∈ lw_all := lw_g (lw_at lw_m10 145 rfl) rfl
theorem q2423 : (Jvm.Cond.code ({ cls := "DanceNotation$Score", name := "cueCount", desc := "()I" } : Jvm.MethodName) prog_17_method_2_code (6 : Nat) (Option.some Jvm.ClassFile.FieldType.int)) ∈ lw_all := lw_g (lw_at lw_m10 146 rfl) rfl
theorem q2425 : (Jvm.Cond.instanceMethod ({ cls := "DanceNotation$Score", name := "cue", desc := "(I)I" } : Jvm.MethodName)) ∈ lw_all := lw_g (lw_at lw_m10 148 rfl) rfl
theorem q2426 : (Jvm.Cond.selects "DanceNotation$Score" ({ cls := "DanceNotation$Score", name := "cue", desc := "(I)I" } : Jvm.MethodName) ({ cls := "DanceNotation$Score", name := "cue", desc := "(I)I" } : Jvm.MethodName)) ∈ lw_all := lw_g (lw_at lw_m10 149 rfl) rfl
theorem q2427 : (Jvm.Cond.code ({ cls := "DanceNotation$Score", name := "cue", desc := "(I)I" } : Jvm.MethodName) prog_17_method_3_code (4 : Nat) (Option.some Jvm.ClassFile.FieldType.int)) ∈ lw_all := lw_g (lw_at lw_m10 150 rfl) rfl
theorem q3327 : (Jvm.Cond.castable "DanceNotation$Score" "java/lang/Object") ∈ lw_tbl := lw_at lw_m14 90 rfl
theorem in_X5 : ∀ w ∈ wsX50, w ∈ lw_all := lw_in wsX50 [1176, 1178, 1180, 1182] (by decide +kernel) (by decide +kernel)

/-! DanceNotation$Parser -/
set_option maxRecDepth 100000
def RX6 : String := "DanceNotation$Parser"
def TX6 : u_T := fun k => match k with
  | 0 => ("DanceNotation$Parser", "text", "Ljava/lang/CharSequence;", true)
  | 1 => ("DanceNotation$Parser", "position", "I", false)
  | _ => ("DanceNotation$Parser", "nested", "I", false)
def tyX6 : Nat → FieldType := fun k => match k with
  | 0 => .object "java/lang/CharSequence"
  | 1 => .int
  | _ => .int
abbrev wsX60 : List Cond := u_ws RX6 TX6 3
theorem nmX6 : ∀ a, a < 3 → ∀ b, b < 3 → a ≠ b → (TX6 a).2.1 ≠ (TX6 b).2.1 := by decide +kernel
theorem tyX6_ok : ∀ k, k < 3 → parseFieldDescriptor (TX6 k).2.2.1 = some (tyX6 k) := by decide +kernel
abbrev cX6_init : ByteArray := prog_11_method_1_code
def yX6_init : MethodName := ⟨RX6, "<init>", "(Ljava/lang/CharSequence;)V"⟩
def dkwX6_init_0 : List UInt8 := [42, 183, 0, 3, 42, 43, 181, 0, 9, 177]
abbrev dktX6_init_0 : List UInt8 := dkwX6_init_0 ++ []
theorem dksX6_init_0 : cX6_init.data.toList.drop 0 = dktX6_init_0 := by decide +kernel
theorem dX6_init_0 : decode cX6_init 0 = .ok (.aload_n 0, 1) := dk_42 (dk_at dksX6_init_0 0 rfl rfl)
theorem dX6_init_1 : decode cX6_init 1 = .ok (.invokespecial 3, 3) := dk_183 0 3 (dk_at dksX6_init_0 1 rfl rfl)
theorem dX6_init_4 : decode cX6_init 4 = .ok (.aload_n 0, 1) := dk_42 (dk_at dksX6_init_0 4 rfl rfl)
theorem dX6_init_5 : decode cX6_init 5 = .ok (.aload_n 1, 1) := dk_43 (dk_at dksX6_init_0 5 rfl rfl)
theorem dX6_init_6 : decode cX6_init 6 = .ok (.putfield 9, 3) := dk_181 0 9 (dk_at dksX6_init_0 6 rfl rfl)
theorem dX6_init_9 : decode cX6_init 9 = .ok (.return_, 1) := dk_177 (dk_at dksX6_init_0 9 rfl rfl)
abbrev cX6_whole : ByteArray := prog_11_method_13_code
def yX6_whole : MethodName := ⟨RX6, "whole", "()LDanceNotation$Node;"⟩
def dkwX6_whole_1 : List UInt8 := [182, 0, 42, 191, 43, 176]
abbrev dktX6_whole_1 : List UInt8 := dkwX6_whole_1 ++ []
def dkwX6_whole_0 : List UInt8 := [42, 182, 0, 87, 76, 42, 180, 0, 15, 42, 180, 0, 9, 185, 0, 19, 1, 0, 162, 0, 8, 42]
abbrev dktX6_whole_0 : List UInt8 := dkwX6_whole_0 ++ dktX6_whole_1
theorem dksX6_whole_0 : cX6_whole.data.toList.drop 0 = dktX6_whole_0 := by decide +kernel
theorem dksX6_whole_1 : cX6_whole.data.toList.drop 22 = dktX6_whole_1 := dk_seg dksX6_whole_0 22 rfl rfl
theorem dX6_whole_0 : decode cX6_whole 0 = .ok (.aload_n 0, 1) := dk_42 (dk_at dksX6_whole_0 0 rfl rfl)
theorem dX6_whole_1 : decode cX6_whole 1 = .ok (.invokevirtual 87, 3) := dk_182 0 87 (dk_at dksX6_whole_0 1 rfl rfl)
theorem dX6_whole_4 : decode cX6_whole 4 = .ok (.astore_n 1, 1) := dk_76 (dk_at dksX6_whole_0 4 rfl rfl)
theorem dX6_whole_5 : decode cX6_whole 5 = .ok (.aload_n 0, 1) := dk_42 (dk_at dksX6_whole_0 5 rfl rfl)
theorem dX6_whole_6 : decode cX6_whole 6 = .ok (.getfield 15, 3) := dk_180 0 15 (dk_at dksX6_whole_0 6 rfl rfl)
theorem dX6_whole_9 : decode cX6_whole 9 = .ok (.aload_n 0, 1) := dk_42 (dk_at dksX6_whole_0 9 rfl rfl)
theorem dX6_whole_10 : decode cX6_whole 10 = .ok (.getfield 9, 3) := dk_180 0 9 (dk_at dksX6_whole_0 10 rfl rfl)
theorem dX6_whole_13 : decode cX6_whole 13 = .ok (.invokeinterface 19 1, 5) := by decide +kernel
theorem dX6_whole_18 : decode cX6_whole 18 = .ok (.if_icmp .ge 8, 3) := dk_162 0 8 (dk_at dksX6_whole_0 18 rfl rfl)
theorem dX6_whole_21 : decode cX6_whole 21 = .ok (.aload_n 0, 1) := dk_42 (dk_at dksX6_whole_0 21 rfl rfl)
theorem dX6_whole_22 : decode cX6_whole 22 = .ok (.invokevirtual 42, 3) := dk_182 0 42 (dk_at dksX6_whole_1 0 rfl rfl)
theorem dX6_whole_25 : decode cX6_whole 25 = .ok (.athrow, 1) := dk_191 (dk_at dksX6_whole_1 3 rfl rfl)
theorem dX6_whole_26 : decode cX6_whole 26 = .ok (.aload_n 1, 1) := dk_43 (dk_at dksX6_whole_1 4 rfl rfl)
theorem dX6_whole_27 : decode cX6_whole 27 = .ok (.areturn, 1) := dk_176 (dk_at dksX6_whole_1 5 rfl rfl)
abbrev cX6_series : ByteArray := prog_11_method_7_code
def yX6_series : MethodName := ⟨RX6, "series", "()LDanceNotation$Node;"⟩
def dkwX6_series_1 : List UInt8 := [153, 0, 15, 43, 42, 182, 0, 52, 182, 0, 56, 61, 167, 255, 238, 3, 43, 184, 0, 63, 176]
abbrev dktX6_series_1 : List UInt8 := dkwX6_series_1 ++ []
def dkwX6_series_0 : List UInt8 := [187, 0, 49, 89, 183, 0, 51, 76, 43, 42, 182, 0, 52, 182, 0, 56, 61, 42, 16, 59, 182, 0, 60]
abbrev dktX6_series_0 : List UInt8 := dkwX6_series_0 ++ dktX6_series_1
theorem dksX6_series_0 : cX6_series.data.toList.drop 0 = dktX6_series_0 := by decide +kernel
theorem dksX6_series_1 : cX6_series.data.toList.drop 23 = dktX6_series_1 := dk_seg dksX6_series_0 23 rfl rfl
theorem dX6_series_0 : decode cX6_series 0 = .ok (.new 49, 3) := dk_187 0 49 (dk_at dksX6_series_0 0 rfl rfl)
theorem dX6_series_3 : decode cX6_series 3 = .ok (.dup, 1) := dk_89 (dk_at dksX6_series_0 3 rfl rfl)
theorem dX6_series_4 : decode cX6_series 4 = .ok (.invokespecial 51, 3) := dk_183 0 51 (dk_at dksX6_series_0 4 rfl rfl)
theorem dX6_series_7 : decode cX6_series 7 = .ok (.astore_n 1, 1) := dk_76 (dk_at dksX6_series_0 7 rfl rfl)
theorem dX6_series_8 : decode cX6_series 8 = .ok (.aload_n 1, 1) := dk_43 (dk_at dksX6_series_0 8 rfl rfl)
theorem dX6_series_9 : decode cX6_series 9 = .ok (.aload_n 0, 1) := dk_42 (dk_at dksX6_series_0 9 rfl rfl)
theorem dX6_series_10 : decode cX6_series 10 = .ok (.invokevirtual 52, 3) := dk_182 0 52 (dk_at dksX6_series_0 10 rfl rfl)
theorem dX6_series_13 : decode cX6_series 13 = .ok (.invokevirtual 56, 3) := dk_182 0 56 (dk_at dksX6_series_0 13 rfl rfl)
theorem dX6_series_16 : decode cX6_series 16 = .ok (.istore_n 2, 1) := dk_61 (dk_at dksX6_series_0 16 rfl rfl)
theorem dX6_series_17 : decode cX6_series 17 = .ok (.aload_n 0, 1) := dk_42 (dk_at dksX6_series_0 17 rfl rfl)
theorem dX6_series_18 : decode cX6_series 18 = .ok (.bipush 59, 2) := dk_16 59 (dk_at dksX6_series_0 18 rfl rfl)
theorem dX6_series_20 : decode cX6_series 20 = .ok (.invokevirtual 60, 3) := dk_182 0 60 (dk_at dksX6_series_0 20 rfl rfl)
theorem dX6_series_23 : decode cX6_series 23 = .ok (.ifCond .eq 15, 3) := dk_153 0 15 (dk_at dksX6_series_1 0 rfl rfl)
theorem dX6_series_26 : decode cX6_series 26 = .ok (.aload_n 1, 1) := dk_43 (dk_at dksX6_series_1 3 rfl rfl)
theorem dX6_series_27 : decode cX6_series 27 = .ok (.aload_n 0, 1) := dk_42 (dk_at dksX6_series_1 4 rfl rfl)
theorem dX6_series_28 : decode cX6_series 28 = .ok (.invokevirtual 52, 3) := dk_182 0 52 (dk_at dksX6_series_1 5 rfl rfl)
theorem dX6_series_31 : decode cX6_series 31 = .ok (.invokevirtual 56, 3) := dk_182 0 56 (dk_at dksX6_series_1 8 rfl rfl)
theorem dX6_series_34 : decode cX6_series 34 = .ok (.istore_n 2, 1) := dk_61 (dk_at dksX6_series_1 11 rfl rfl)
theorem dX6_series_35 : decode cX6_series 35 = .ok (.goto (-18), 3) := dk_167 255 238 (dk_at dksX6_series_1 12 rfl rfl)
theorem dX6_series_38 : decode cX6_series 38 = .ok (.iconst 0, 1) := dk_3 (dk_at dksX6_series_1 15 rfl rfl)
theorem dX6_series_39 : decode cX6_series 39 = .ok (.aload_n 1, 1) := dk_43 (dk_at dksX6_series_1 16 rfl rfl)
theorem dX6_series_40 : decode cX6_series 40 = .ok (.invokestatic 63, 3) := dk_184 0 63 (dk_at dksX6_series_1 17 rfl rfl)
theorem dX6_series_43 : decode cX6_series 43 = .ok (.areturn, 1) := dk_176 (dk_at dksX6_series_1 20 rfl rfl)
abbrev cX6_layer : ByteArray := prog_11_method_8_code
def yX6_layer : MethodName := ⟨RX6, "layer", "()LDanceNotation$Node;"⟩
def dkwX6_layer_1 : List UInt8 := [153, 0, 15, 43, 42, 182, 0, 69, 182, 0, 56, 61, 167, 255, 238, 4, 43, 184, 0, 63, 176]
abbrev dktX6_layer_1 : List UInt8 := dkwX6_layer_1 ++ []
def dkwX6_layer_0 : List UInt8 := [187, 0, 49, 89, 183, 0, 51, 76, 43, 42, 182, 0, 69, 182, 0, 56, 61, 42, 16, 124, 182, 0, 60]
abbrev dktX6_layer_0 : List UInt8 := dkwX6_layer_0 ++ dktX6_layer_1
theorem dksX6_layer_0 : cX6_layer.data.toList.drop 0 = dktX6_layer_0 := by decide +kernel
theorem dksX6_layer_1 : cX6_layer.data.toList.drop 23 = dktX6_layer_1 := dk_seg dksX6_layer_0 23 rfl rfl
theorem dX6_layer_0 : decode cX6_layer 0 = .ok (.new 49, 3) := dk_187 0 49 (dk_at dksX6_layer_0 0 rfl rfl)
theorem dX6_layer_3 : decode cX6_layer 3 = .ok (.dup, 1) := dk_89 (dk_at dksX6_layer_0 3 rfl rfl)
theorem dX6_layer_4 : decode cX6_layer 4 = .ok (.invokespecial 51, 3) := dk_183 0 51 (dk_at dksX6_layer_0 4 rfl rfl)
theorem dX6_layer_7 : decode cX6_layer 7 = .ok (.astore_n 1, 1) := dk_76 (dk_at dksX6_layer_0 7 rfl rfl)
theorem dX6_layer_8 : decode cX6_layer 8 = .ok (.aload_n 1, 1) := dk_43 (dk_at dksX6_layer_0 8 rfl rfl)
theorem dX6_layer_9 : decode cX6_layer 9 = .ok (.aload_n 0, 1) := dk_42 (dk_at dksX6_layer_0 9 rfl rfl)
theorem dX6_layer_10 : decode cX6_layer 10 = .ok (.invokevirtual 69, 3) := dk_182 0 69 (dk_at dksX6_layer_0 10 rfl rfl)
theorem dX6_layer_13 : decode cX6_layer 13 = .ok (.invokevirtual 56, 3) := dk_182 0 56 (dk_at dksX6_layer_0 13 rfl rfl)
theorem dX6_layer_16 : decode cX6_layer 16 = .ok (.istore_n 2, 1) := dk_61 (dk_at dksX6_layer_0 16 rfl rfl)
theorem dX6_layer_17 : decode cX6_layer 17 = .ok (.aload_n 0, 1) := dk_42 (dk_at dksX6_layer_0 17 rfl rfl)
theorem dX6_layer_18 : decode cX6_layer 18 = .ok (.bipush 124, 2) := dk_16 124 (dk_at dksX6_layer_0 18 rfl rfl)
theorem dX6_layer_20 : decode cX6_layer 20 = .ok (.invokevirtual 60, 3) := dk_182 0 60 (dk_at dksX6_layer_0 20 rfl rfl)
theorem dX6_layer_23 : decode cX6_layer 23 = .ok (.ifCond .eq 15, 3) := dk_153 0 15 (dk_at dksX6_layer_1 0 rfl rfl)
theorem dX6_layer_26 : decode cX6_layer 26 = .ok (.aload_n 1, 1) := dk_43 (dk_at dksX6_layer_1 3 rfl rfl)
theorem dX6_layer_27 : decode cX6_layer 27 = .ok (.aload_n 0, 1) := dk_42 (dk_at dksX6_layer_1 4 rfl rfl)
theorem dX6_layer_28 : decode cX6_layer 28 = .ok (.invokevirtual 69, 3) := dk_182 0 69 (dk_at dksX6_layer_1 5 rfl rfl)
theorem dX6_layer_31 : decode cX6_layer 31 = .ok (.invokevirtual 56, 3) := dk_182 0 56 (dk_at dksX6_layer_1 8 rfl rfl)
theorem dX6_layer_34 : decode cX6_layer 34 = .ok (.istore_n 2, 1) := dk_61 (dk_at dksX6_layer_1 11 rfl rfl)
theorem dX6_layer_35 : decode cX6_layer 35 = .ok (.goto (-18), 3) := dk_167 255 238 (dk_at dksX6_layer_1 12 rfl rfl)
theorem dX6_layer_38 : decode cX6_layer 38 = .ok (.iconst 1, 1) := dk_4 (dk_at dksX6_layer_1 15 rfl rfl)
theorem dX6_layer_39 : decode cX6_layer 39 = .ok (.aload_n 1, 1) := dk_43 (dk_at dksX6_layer_1 16 rfl rfl)
theorem dX6_layer_40 : decode cX6_layer 40 = .ok (.invokestatic 63, 3) := dk_184 0 63 (dk_at dksX6_layer_1 17 rfl rfl)
theorem dX6_layer_43 : decode cX6_layer 43 = .ok (.areturn, 1) := dk_176 (dk_at dksX6_layer_1 20 rfl rfl)
abbrev cX6_repeated : ByteArray := prog_11_method_9_code
def yX6_repeated : MethodName := ⟨RX6, "repeated", "()LDanceNotation$Node;"⟩
def dkwX6_repeated_1 : List UInt8 := [187, 0, 76, 89, 27, 42, 182, 0, 78, 183, 0, 81, 176, 42, 182, 0, 78, 176]
abbrev dktX6_repeated_1 : List UInt8 := dkwX6_repeated_1 ++ []
def dkwX6_repeated_0 : List UInt8 := [42, 16, 50, 16, 57, 182, 0, 33, 153, 0, 28, 42, 16, 50, 16, 57, 182, 0, 72, 16, 48, 100, 60]
abbrev dktX6_repeated_0 : List UInt8 := dkwX6_repeated_0 ++ dktX6_repeated_1
theorem dksX6_repeated_0 : cX6_repeated.data.toList.drop 0 = dktX6_repeated_0 := by decide +kernel
theorem dksX6_repeated_1 : cX6_repeated.data.toList.drop 23 = dktX6_repeated_1 := dk_seg dksX6_repeated_0 23 rfl rfl
theorem dX6_repeated_0 : decode cX6_repeated 0 = .ok (.aload_n 0, 1) := dk_42 (dk_at dksX6_repeated_0 0 rfl rfl)
theorem dX6_repeated_1 : decode cX6_repeated 1 = .ok (.bipush 50, 2) := dk_16 50 (dk_at dksX6_repeated_0 1 rfl rfl)
theorem dX6_repeated_3 : decode cX6_repeated 3 = .ok (.bipush 57, 2) := dk_16 57 (dk_at dksX6_repeated_0 3 rfl rfl)
theorem dX6_repeated_5 : decode cX6_repeated 5 = .ok (.invokevirtual 33, 3) := dk_182 0 33 (dk_at dksX6_repeated_0 5 rfl rfl)
theorem dX6_repeated_8 : decode cX6_repeated 8 = .ok (.ifCond .eq 28, 3) := dk_153 0 28 (dk_at dksX6_repeated_0 8 rfl rfl)
theorem dX6_repeated_11 : decode cX6_repeated 11 = .ok (.aload_n 0, 1) := dk_42 (dk_at dksX6_repeated_0 11 rfl rfl)
theorem dX6_repeated_12 : decode cX6_repeated 12 = .ok (.bipush 50, 2) := dk_16 50 (dk_at dksX6_repeated_0 12 rfl rfl)
theorem dX6_repeated_14 : decode cX6_repeated 14 = .ok (.bipush 57, 2) := dk_16 57 (dk_at dksX6_repeated_0 14 rfl rfl)
theorem dX6_repeated_16 : decode cX6_repeated 16 = .ok (.invokevirtual 72, 3) := dk_182 0 72 (dk_at dksX6_repeated_0 16 rfl rfl)
theorem dX6_repeated_19 : decode cX6_repeated 19 = .ok (.bipush 48, 2) := dk_16 48 (dk_at dksX6_repeated_0 19 rfl rfl)
theorem dX6_repeated_21 : decode cX6_repeated 21 = .ok (.isub, 1) := dk_100 (dk_at dksX6_repeated_0 21 rfl rfl)
theorem dX6_repeated_22 : decode cX6_repeated 22 = .ok (.istore_n 1, 1) := dk_60 (dk_at dksX6_repeated_0 22 rfl rfl)
theorem dX6_repeated_23 : decode cX6_repeated 23 = .ok (.new 76, 3) := dk_187 0 76 (dk_at dksX6_repeated_1 0 rfl rfl)
theorem dX6_repeated_26 : decode cX6_repeated 26 = .ok (.dup, 1) := dk_89 (dk_at dksX6_repeated_1 3 rfl rfl)
theorem dX6_repeated_27 : decode cX6_repeated 27 = .ok (.iload_n 1, 1) := dk_27 (dk_at dksX6_repeated_1 4 rfl rfl)
theorem dX6_repeated_28 : decode cX6_repeated 28 = .ok (.aload_n 0, 1) := dk_42 (dk_at dksX6_repeated_1 5 rfl rfl)
theorem dX6_repeated_29 : decode cX6_repeated 29 = .ok (.invokevirtual 78, 3) := dk_182 0 78 (dk_at dksX6_repeated_1 6 rfl rfl)
theorem dX6_repeated_32 : decode cX6_repeated 32 = .ok (.invokespecial 81, 3) := dk_183 0 81 (dk_at dksX6_repeated_1 9 rfl rfl)
theorem dX6_repeated_35 : decode cX6_repeated 35 = .ok (.areturn, 1) := dk_176 (dk_at dksX6_repeated_1 12 rfl rfl)
theorem dX6_repeated_36 : decode cX6_repeated 36 = .ok (.aload_n 0, 1) := dk_42 (dk_at dksX6_repeated_1 13 rfl rfl)
theorem dX6_repeated_37 : decode cX6_repeated 37 = .ok (.invokevirtual 78, 3) := dk_182 0 78 (dk_at dksX6_repeated_1 14 rfl rfl)
theorem dX6_repeated_40 : decode cX6_repeated 40 = .ok (.areturn, 1) := dk_176 (dk_at dksX6_repeated_1 17 rfl rfl)
abbrev cX6_isNext : ByteArray := prog_11_method_2_code
def yX6_isNext : MethodName := ⟨RX6, "isNext", "(II)Z"⟩
def dkwX6_isNext_1 : List UInt8 := [185, 0, 25, 2, 0, 133, 27, 133, 28, 133, 184, 0, 29, 153, 0, 7, 4, 167, 0, 4, 3, 172]
abbrev dktX6_isNext_1 : List UInt8 := dkwX6_isNext_1 ++ []
def dkwX6_isNext_0 : List UInt8 := [42, 180, 0, 15, 42, 180, 0, 9, 185, 0, 19, 1, 0, 162, 0, 31, 42, 180, 0, 9, 42, 180, 0, 15]
abbrev dktX6_isNext_0 : List UInt8 := dkwX6_isNext_0 ++ dktX6_isNext_1
theorem dksX6_isNext_0 : cX6_isNext.data.toList.drop 0 = dktX6_isNext_0 := by decide +kernel
theorem dksX6_isNext_1 : cX6_isNext.data.toList.drop 24 = dktX6_isNext_1 := dk_seg dksX6_isNext_0 24 rfl rfl
theorem dX6_isNext_0 : decode cX6_isNext 0 = .ok (.aload_n 0, 1) := dk_42 (dk_at dksX6_isNext_0 0 rfl rfl)
theorem dX6_isNext_1 : decode cX6_isNext 1 = .ok (.getfield 15, 3) := dk_180 0 15 (dk_at dksX6_isNext_0 1 rfl rfl)
theorem dX6_isNext_4 : decode cX6_isNext 4 = .ok (.aload_n 0, 1) := dk_42 (dk_at dksX6_isNext_0 4 rfl rfl)
theorem dX6_isNext_5 : decode cX6_isNext 5 = .ok (.getfield 9, 3) := dk_180 0 9 (dk_at dksX6_isNext_0 5 rfl rfl)
theorem dX6_isNext_8 : decode cX6_isNext 8 = .ok (.invokeinterface 19 1, 5) := by decide +kernel
theorem dX6_isNext_13 : decode cX6_isNext 13 = .ok (.if_icmp .ge 31, 3) := dk_162 0 31 (dk_at dksX6_isNext_0 13 rfl rfl)
theorem dX6_isNext_16 : decode cX6_isNext 16 = .ok (.aload_n 0, 1) := dk_42 (dk_at dksX6_isNext_0 16 rfl rfl)
theorem dX6_isNext_17 : decode cX6_isNext 17 = .ok (.getfield 9, 3) := dk_180 0 9 (dk_at dksX6_isNext_0 17 rfl rfl)
theorem dX6_isNext_20 : decode cX6_isNext 20 = .ok (.aload_n 0, 1) := dk_42 (dk_at dksX6_isNext_0 20 rfl rfl)
theorem dX6_isNext_21 : decode cX6_isNext 21 = .ok (.getfield 15, 3) := dk_180 0 15 (dk_at dksX6_isNext_0 21 rfl rfl)
theorem dX6_isNext_24 : decode cX6_isNext 24 = .ok (.invokeinterface 25 2, 5) := by decide +kernel
theorem dX6_isNext_29 : decode cX6_isNext 29 = .ok (.i2l, 1) := dk_133 (dk_at dksX6_isNext_1 5 rfl rfl)
theorem dX6_isNext_30 : decode cX6_isNext 30 = .ok (.iload_n 1, 1) := dk_27 (dk_at dksX6_isNext_1 6 rfl rfl)
theorem dX6_isNext_31 : decode cX6_isNext 31 = .ok (.i2l, 1) := dk_133 (dk_at dksX6_isNext_1 7 rfl rfl)
theorem dX6_isNext_32 : decode cX6_isNext 32 = .ok (.iload_n 2, 1) := dk_28 (dk_at dksX6_isNext_1 8 rfl rfl)
theorem dX6_isNext_33 : decode cX6_isNext 33 = .ok (.i2l, 1) := dk_133 (dk_at dksX6_isNext_1 9 rfl rfl)
theorem dX6_isNext_34 : decode cX6_isNext 34 = .ok (.invokestatic 29, 3) := dk_184 0 29 (dk_at dksX6_isNext_1 10 rfl rfl)
theorem dX6_isNext_37 : decode cX6_isNext 37 = .ok (.ifCond .eq 7, 3) := dk_153 0 7 (dk_at dksX6_isNext_1 13 rfl rfl)
theorem dX6_isNext_40 : decode cX6_isNext 40 = .ok (.iconst 1, 1) := dk_4 (dk_at dksX6_isNext_1 16 rfl rfl)
theorem dX6_isNext_41 : decode cX6_isNext 41 = .ok (.goto 4, 3) := dk_167 0 4 (dk_at dksX6_isNext_1 17 rfl rfl)
theorem dX6_isNext_44 : decode cX6_isNext 44 = .ok (.iconst 0, 1) := dk_3 (dk_at dksX6_isNext_1 20 rfl rfl)
theorem dX6_isNext_45 : decode cX6_isNext 45 = .ok (.ireturn, 1) := dk_172 (dk_at dksX6_isNext_1 21 rfl rfl)
abbrev cX6_take : ByteArray := prog_11_method_5_code
def yX6_take : MethodName := ⟨RX6, "take", "(II)C"⟩
def dkwX6_take_1 : List UInt8 := [42, 180, 0, 9, 42, 180, 0, 15, 4, 100, 185, 0, 25, 2, 0, 172]
abbrev dktX6_take_1 : List UInt8 := dkwX6_take_1 ++ []
def dkwX6_take_0 : List UInt8 := [42, 27, 28, 182, 0, 33, 154, 0, 8, 42, 182, 0, 42, 191, 42, 89, 180, 0, 15, 4, 96, 181, 0, 15]
abbrev dktX6_take_0 : List UInt8 := dkwX6_take_0 ++ dktX6_take_1
theorem dksX6_take_0 : cX6_take.data.toList.drop 0 = dktX6_take_0 := by decide +kernel
theorem dksX6_take_1 : cX6_take.data.toList.drop 24 = dktX6_take_1 := dk_seg dksX6_take_0 24 rfl rfl
theorem dX6_take_0 : decode cX6_take 0 = .ok (.aload_n 0, 1) := dk_42 (dk_at dksX6_take_0 0 rfl rfl)
theorem dX6_take_1 : decode cX6_take 1 = .ok (.iload_n 1, 1) := dk_27 (dk_at dksX6_take_0 1 rfl rfl)
theorem dX6_take_2 : decode cX6_take 2 = .ok (.iload_n 2, 1) := dk_28 (dk_at dksX6_take_0 2 rfl rfl)
theorem dX6_take_3 : decode cX6_take 3 = .ok (.invokevirtual 33, 3) := dk_182 0 33 (dk_at dksX6_take_0 3 rfl rfl)
theorem dX6_take_6 : decode cX6_take 6 = .ok (.ifCond .ne 8, 3) := dk_154 0 8 (dk_at dksX6_take_0 6 rfl rfl)
theorem dX6_take_9 : decode cX6_take 9 = .ok (.aload_n 0, 1) := dk_42 (dk_at dksX6_take_0 9 rfl rfl)
theorem dX6_take_10 : decode cX6_take 10 = .ok (.invokevirtual 42, 3) := dk_182 0 42 (dk_at dksX6_take_0 10 rfl rfl)
theorem dX6_take_13 : decode cX6_take 13 = .ok (.athrow, 1) := dk_191 (dk_at dksX6_take_0 13 rfl rfl)
theorem dX6_take_14 : decode cX6_take 14 = .ok (.aload_n 0, 1) := dk_42 (dk_at dksX6_take_0 14 rfl rfl)
theorem dX6_take_15 : decode cX6_take 15 = .ok (.dup, 1) := dk_89 (dk_at dksX6_take_0 15 rfl rfl)
theorem dX6_take_16 : decode cX6_take 16 = .ok (.getfield 15, 3) := dk_180 0 15 (dk_at dksX6_take_0 16 rfl rfl)
theorem dX6_take_19 : decode cX6_take 19 = .ok (.iconst 1, 1) := dk_4 (dk_at dksX6_take_0 19 rfl rfl)
theorem dX6_take_20 : decode cX6_take 20 = .ok (.iadd, 1) := dk_96 (dk_at dksX6_take_0 20 rfl rfl)
theorem dX6_take_21 : decode cX6_take 21 = .ok (.putfield 15, 3) := dk_181 0 15 (dk_at dksX6_take_0 21 rfl rfl)
theorem dX6_take_24 : decode cX6_take 24 = .ok (.aload_n 0, 1) := dk_42 (dk_at dksX6_take_1 0 rfl rfl)
theorem dX6_take_25 : decode cX6_take 25 = .ok (.getfield 9, 3) := dk_180 0 9 (dk_at dksX6_take_1 1 rfl rfl)
theorem dX6_take_28 : decode cX6_take 28 = .ok (.aload_n 0, 1) := dk_42 (dk_at dksX6_take_1 4 rfl rfl)
theorem dX6_take_29 : decode cX6_take 29 = .ok (.getfield 15, 3) := dk_180 0 15 (dk_at dksX6_take_1 5 rfl rfl)
theorem dX6_take_32 : decode cX6_take 32 = .ok (.iconst 1, 1) := dk_4 (dk_at dksX6_take_1 8 rfl rfl)
theorem dX6_take_33 : decode cX6_take 33 = .ok (.isub, 1) := dk_100 (dk_at dksX6_take_1 9 rfl rfl)
theorem dX6_take_34 : decode cX6_take 34 = .ok (.invokeinterface 25 2, 5) := by decide +kernel
theorem dX6_take_39 : decode cX6_take 39 = .ok (.ireturn, 1) := dk_172 (dk_at dksX6_take_1 15 rfl rfl)
abbrev cX6_fault : ByteArray := prog_11_method_4_code
def yX6_fault : MethodName := ⟨RX6, "fault", "()LDanceNotation$SyntaxException;"⟩
def dkwX6_fault_0 : List UInt8 := [187, 0, 37, 89, 42, 180, 0, 15, 183, 0, 39, 176]
abbrev dktX6_fault_0 : List UInt8 := dkwX6_fault_0 ++ []
theorem dksX6_fault_0 : cX6_fault.data.toList.drop 0 = dktX6_fault_0 := by decide +kernel
theorem dX6_fault_0 : decode cX6_fault 0 = .ok (.new 37, 3) := dk_187 0 37 (dk_at dksX6_fault_0 0 rfl rfl)
theorem dX6_fault_3 : decode cX6_fault 3 = .ok (.dup, 1) := dk_89 (dk_at dksX6_fault_0 3 rfl rfl)
theorem dX6_fault_4 : decode cX6_fault 4 = .ok (.aload_n 0, 1) := dk_42 (dk_at dksX6_fault_0 4 rfl rfl)
theorem dX6_fault_5 : decode cX6_fault 5 = .ok (.getfield 15, 3) := dk_180 0 15 (dk_at dksX6_fault_0 5 rfl rfl)
theorem dX6_fault_8 : decode cX6_fault 8 = .ok (.invokespecial 39, 3) := dk_183 0 39 (dk_at dksX6_fault_0 8 rfl rfl)
theorem dX6_fault_11 : decode cX6_fault 11 = .ok (.areturn, 1) := dk_176 (dk_at dksX6_fault_0 11 rfl rfl)
abbrev cX6_unit : ByteArray := prog_11_method_11_code
def yX6_unit : MethodName := ⟨RX6, "unit", "()LDanceNotation$Node;"⟩
def dkwX6_unit_5 : List UInt8 := [42, 182, 0, 99, 167, 0, 8, 42, 3, 182, 0, 93, 176]
abbrev dktX6_unit_5 : List UInt8 := dkwX6_unit_5 ++ []
def dkwX6_unit_4 : List UInt8 := [153, 0, 15, 187, 0, 105, 89, 42, 182, 0, 99, 183, 0, 107, 176, 42, 16, 40, 182, 0, 46, 153, 0, 10]
abbrev dktX6_unit_4 : List UInt8 := dkwX6_unit_4 ++ dktX6_unit_5
def dkwX6_unit_3 : List UInt8 := [187, 0, 97, 89, 42, 182, 0, 99, 183, 0, 102, 176, 27, 153, 0, 24, 42, 16, 114, 182, 0, 60]
abbrev dktX6_unit_3 : List UInt8 := dkwX6_unit_3 ++ dktX6_unit_4
def dkwX6_unit_2 : List UInt8 := [16, 10, 162, 0, 7, 4, 167, 0, 4, 3, 60, 27, 153, 0, 24, 42, 16, 109, 182, 0, 60, 153, 0, 15]
abbrev dktX6_unit_2 : List UInt8 := dkwX6_unit_2 ++ dktX6_unit_3
def dkwX6_unit_1 : List UInt8 := [153, 0, 19, 42, 42, 16, 49, 16, 57, 182, 0, 72, 16, 48, 100, 182, 0, 93, 176, 42, 180, 0, 84]
abbrev dktX6_unit_1 : List UInt8 := dkwX6_unit_1 ++ dktX6_unit_2
def dkwX6_unit_0 : List UInt8 := [42, 16, 33, 182, 0, 60, 153, 0, 11, 187, 0, 90, 89, 183, 0, 92, 176, 42, 16, 99, 182, 0, 60]
abbrev dktX6_unit_0 : List UInt8 := dkwX6_unit_0 ++ dktX6_unit_1
theorem dksX6_unit_0 : cX6_unit.data.toList.drop 0 = dktX6_unit_0 := by decide +kernel
theorem dksX6_unit_1 : cX6_unit.data.toList.drop 23 = dktX6_unit_1 := dk_seg dksX6_unit_0 23 rfl rfl
theorem dksX6_unit_2 : cX6_unit.data.toList.drop 46 = dktX6_unit_2 := dk_seg dksX6_unit_1 23 rfl rfl
theorem dksX6_unit_3 : cX6_unit.data.toList.drop 70 = dktX6_unit_3 := dk_seg dksX6_unit_2 24 rfl rfl
theorem dksX6_unit_4 : cX6_unit.data.toList.drop 92 = dktX6_unit_4 := dk_seg dksX6_unit_3 22 rfl rfl
theorem dksX6_unit_5 : cX6_unit.data.toList.drop 116 = dktX6_unit_5 := dk_seg dksX6_unit_4 24 rfl rfl
theorem dX6_unit_0 : decode cX6_unit 0 = .ok (.aload_n 0, 1) := dk_42 (dk_at dksX6_unit_0 0 rfl rfl)
theorem dX6_unit_1 : decode cX6_unit 1 = .ok (.bipush 33, 2) := dk_16 33 (dk_at dksX6_unit_0 1 rfl rfl)
theorem dX6_unit_3 : decode cX6_unit 3 = .ok (.invokevirtual 60, 3) := dk_182 0 60 (dk_at dksX6_unit_0 3 rfl rfl)
theorem dX6_unit_6 : decode cX6_unit 6 = .ok (.ifCond .eq 11, 3) := dk_153 0 11 (dk_at dksX6_unit_0 6 rfl rfl)
theorem dX6_unit_9 : decode cX6_unit 9 = .ok (.new 90, 3) := dk_187 0 90 (dk_at dksX6_unit_0 9 rfl rfl)
theorem dX6_unit_12 : decode cX6_unit 12 = .ok (.dup, 1) := dk_89 (dk_at dksX6_unit_0 12 rfl rfl)
theorem dX6_unit_13 : decode cX6_unit 13 = .ok (.invokespecial 92, 3) := dk_183 0 92 (dk_at dksX6_unit_0 13 rfl rfl)
theorem dX6_unit_16 : decode cX6_unit 16 = .ok (.areturn, 1) := dk_176 (dk_at dksX6_unit_0 16 rfl rfl)
theorem dX6_unit_17 : decode cX6_unit 17 = .ok (.aload_n 0, 1) := dk_42 (dk_at dksX6_unit_0 17 rfl rfl)
theorem dX6_unit_18 : decode cX6_unit 18 = .ok (.bipush 99, 2) := dk_16 99 (dk_at dksX6_unit_0 18 rfl rfl)
theorem dX6_unit_20 : decode cX6_unit 20 = .ok (.invokevirtual 60, 3) := dk_182 0 60 (dk_at dksX6_unit_0 20 rfl rfl)
theorem dX6_unit_23 : decode cX6_unit 23 = .ok (.ifCond .eq 19, 3) := dk_153 0 19 (dk_at dksX6_unit_1 0 rfl rfl)
theorem dX6_unit_26 : decode cX6_unit 26 = .ok (.aload_n 0, 1) := dk_42 (dk_at dksX6_unit_1 3 rfl rfl)
theorem dX6_unit_27 : decode cX6_unit 27 = .ok (.aload_n 0, 1) := dk_42 (dk_at dksX6_unit_1 4 rfl rfl)
theorem dX6_unit_28 : decode cX6_unit 28 = .ok (.bipush 49, 2) := dk_16 49 (dk_at dksX6_unit_1 5 rfl rfl)
theorem dX6_unit_30 : decode cX6_unit 30 = .ok (.bipush 57, 2) := dk_16 57 (dk_at dksX6_unit_1 7 rfl rfl)
theorem dX6_unit_32 : decode cX6_unit 32 = .ok (.invokevirtual 72, 3) := dk_182 0 72 (dk_at dksX6_unit_1 9 rfl rfl)
theorem dX6_unit_35 : decode cX6_unit 35 = .ok (.bipush 48, 2) := dk_16 48 (dk_at dksX6_unit_1 12 rfl rfl)
theorem dX6_unit_37 : decode cX6_unit 37 = .ok (.isub, 1) := dk_100 (dk_at dksX6_unit_1 14 rfl rfl)
theorem dX6_unit_38 : decode cX6_unit 38 = .ok (.invokevirtual 93, 3) := dk_182 0 93 (dk_at dksX6_unit_1 15 rfl rfl)
theorem dX6_unit_41 : decode cX6_unit 41 = .ok (.areturn, 1) := dk_176 (dk_at dksX6_unit_1 18 rfl rfl)
theorem dX6_unit_42 : decode cX6_unit 42 = .ok (.aload_n 0, 1) := dk_42 (dk_at dksX6_unit_1 19 rfl rfl)
theorem dX6_unit_43 : decode cX6_unit 43 = .ok (.getfield 84, 3) := dk_180 0 84 (dk_at dksX6_unit_1 20 rfl rfl)
theorem dX6_unit_46 : decode cX6_unit 46 = .ok (.bipush 10, 2) := dk_16 10 (dk_at dksX6_unit_2 0 rfl rfl)
theorem dX6_unit_48 : decode cX6_unit 48 = .ok (.if_icmp .ge 7, 3) := dk_162 0 7 (dk_at dksX6_unit_2 2 rfl rfl)
theorem dX6_unit_51 : decode cX6_unit 51 = .ok (.iconst 1, 1) := dk_4 (dk_at dksX6_unit_2 5 rfl rfl)
theorem dX6_unit_52 : decode cX6_unit 52 = .ok (.goto 4, 3) := dk_167 0 4 (dk_at dksX6_unit_2 6 rfl rfl)
theorem dX6_unit_55 : decode cX6_unit 55 = .ok (.iconst 0, 1) := dk_3 (dk_at dksX6_unit_2 9 rfl rfl)
theorem dX6_unit_56 : decode cX6_unit 56 = .ok (.istore_n 1, 1) := dk_60 (dk_at dksX6_unit_2 10 rfl rfl)
theorem dX6_unit_57 : decode cX6_unit 57 = .ok (.iload_n 1, 1) := dk_27 (dk_at dksX6_unit_2 11 rfl rfl)
theorem dX6_unit_58 : decode cX6_unit 58 = .ok (.ifCond .eq 24, 3) := dk_153 0 24 (dk_at dksX6_unit_2 12 rfl rfl)
theorem dX6_unit_61 : decode cX6_unit 61 = .ok (.aload_n 0, 1) := dk_42 (dk_at dksX6_unit_2 15 rfl rfl)
theorem dX6_unit_62 : decode cX6_unit 62 = .ok (.bipush 109, 2) := dk_16 109 (dk_at dksX6_unit_2 16 rfl rfl)
theorem dX6_unit_64 : decode cX6_unit 64 = .ok (.invokevirtual 60, 3) := dk_182 0 60 (dk_at dksX6_unit_2 18 rfl rfl)
theorem dX6_unit_67 : decode cX6_unit 67 = .ok (.ifCond .eq 15, 3) := dk_153 0 15 (dk_at dksX6_unit_2 21 rfl rfl)
theorem dX6_unit_70 : decode cX6_unit 70 = .ok (.new 97, 3) := dk_187 0 97 (dk_at dksX6_unit_3 0 rfl rfl)
theorem dX6_unit_73 : decode cX6_unit 73 = .ok (.dup, 1) := dk_89 (dk_at dksX6_unit_3 3 rfl rfl)
theorem dX6_unit_74 : decode cX6_unit 74 = .ok (.aload_n 0, 1) := dk_42 (dk_at dksX6_unit_3 4 rfl rfl)
theorem dX6_unit_75 : decode cX6_unit 75 = .ok (.invokevirtual 99, 3) := dk_182 0 99 (dk_at dksX6_unit_3 5 rfl rfl)
theorem dX6_unit_78 : decode cX6_unit 78 = .ok (.invokespecial 102, 3) := dk_183 0 102 (dk_at dksX6_unit_3 8 rfl rfl)
theorem dX6_unit_81 : decode cX6_unit 81 = .ok (.areturn, 1) := dk_176 (dk_at dksX6_unit_3 11 rfl rfl)
theorem dX6_unit_82 : decode cX6_unit 82 = .ok (.iload_n 1, 1) := dk_27 (dk_at dksX6_unit_3 12 rfl rfl)
theorem dX6_unit_83 : decode cX6_unit 83 = .ok (.ifCond .eq 24, 3) := dk_153 0 24 (dk_at dksX6_unit_3 13 rfl rfl)
theorem dX6_unit_86 : decode cX6_unit 86 = .ok (.aload_n 0, 1) := dk_42 (dk_at dksX6_unit_3 16 rfl rfl)
theorem dX6_unit_87 : decode cX6_unit 87 = .ok (.bipush 114, 2) := dk_16 114 (dk_at dksX6_unit_3 17 rfl rfl)
theorem dX6_unit_89 : decode cX6_unit 89 = .ok (.invokevirtual 60, 3) := dk_182 0 60 (dk_at dksX6_unit_3 19 rfl rfl)
theorem dX6_unit_92 : decode cX6_unit 92 = .ok (.ifCond .eq 15, 3) := dk_153 0 15 (dk_at dksX6_unit_4 0 rfl rfl)
theorem dX6_unit_95 : decode cX6_unit 95 = .ok (.new 105, 3) := dk_187 0 105 (dk_at dksX6_unit_4 3 rfl rfl)
theorem dX6_unit_98 : decode cX6_unit 98 = .ok (.dup, 1) := dk_89 (dk_at dksX6_unit_4 6 rfl rfl)
theorem dX6_unit_99 : decode cX6_unit 99 = .ok (.aload_n 0, 1) := dk_42 (dk_at dksX6_unit_4 7 rfl rfl)
theorem dX6_unit_100 : decode cX6_unit 100 = .ok (.invokevirtual 99, 3) := dk_182 0 99 (dk_at dksX6_unit_4 8 rfl rfl)
theorem dX6_unit_103 : decode cX6_unit 103 = .ok (.invokespecial 107, 3) := dk_183 0 107 (dk_at dksX6_unit_4 11 rfl rfl)
theorem dX6_unit_106 : decode cX6_unit 106 = .ok (.areturn, 1) := dk_176 (dk_at dksX6_unit_4 14 rfl rfl)
theorem dX6_unit_107 : decode cX6_unit 107 = .ok (.aload_n 0, 1) := dk_42 (dk_at dksX6_unit_4 15 rfl rfl)
theorem dX6_unit_108 : decode cX6_unit 108 = .ok (.bipush 40, 2) := dk_16 40 (dk_at dksX6_unit_4 16 rfl rfl)
theorem dX6_unit_110 : decode cX6_unit 110 = .ok (.invokevirtual 46, 3) := dk_182 0 46 (dk_at dksX6_unit_4 18 rfl rfl)
theorem dX6_unit_113 : decode cX6_unit 113 = .ok (.ifCond .eq 10, 3) := dk_153 0 10 (dk_at dksX6_unit_4 21 rfl rfl)
theorem dX6_unit_116 : decode cX6_unit 116 = .ok (.aload_n 0, 1) := dk_42 (dk_at dksX6_unit_5 0 rfl rfl)
theorem dX6_unit_117 : decode cX6_unit 117 = .ok (.invokevirtual 99, 3) := dk_182 0 99 (dk_at dksX6_unit_5 1 rfl rfl)
theorem dX6_unit_120 : decode cX6_unit 120 = .ok (.goto 8, 3) := dk_167 0 8 (dk_at dksX6_unit_5 4 rfl rfl)
theorem dX6_unit_123 : decode cX6_unit 123 = .ok (.aload_n 0, 1) := dk_42 (dk_at dksX6_unit_5 7 rfl rfl)
theorem dX6_unit_124 : decode cX6_unit 124 = .ok (.iconst 0, 1) := dk_3 (dk_at dksX6_unit_5 8 rfl rfl)
theorem dX6_unit_125 : decode cX6_unit 125 = .ok (.invokevirtual 93, 3) := dk_182 0 93 (dk_at dksX6_unit_5 9 rfl rfl)
theorem dX6_unit_128 : decode cX6_unit 128 = .ok (.areturn, 1) := dk_176 (dk_at dksX6_unit_5 12 rfl rfl)
abbrev cX6_takes : ByteArray := prog_11_method_6_code
def yX6_takes : MethodName := ⟨RX6, "takes", "(C)Z"⟩
def dkwX6_takes_1 : List UInt8 := [28, 172]
abbrev dktX6_takes_1 : List UInt8 := dkwX6_takes_1 ++ []
def dkwX6_takes_0 : List UInt8 := [42, 27, 182, 0, 46, 61, 42, 89, 180, 0, 15, 28, 153, 0, 7, 4, 167, 0, 4, 3, 96, 181, 0, 15]
abbrev dktX6_takes_0 : List UInt8 := dkwX6_takes_0 ++ dktX6_takes_1
theorem dksX6_takes_0 : cX6_takes.data.toList.drop 0 = dktX6_takes_0 := by decide +kernel
theorem dksX6_takes_1 : cX6_takes.data.toList.drop 24 = dktX6_takes_1 := dk_seg dksX6_takes_0 24 rfl rfl
theorem dX6_takes_0 : decode cX6_takes 0 = .ok (.aload_n 0, 1) := dk_42 (dk_at dksX6_takes_0 0 rfl rfl)
theorem dX6_takes_1 : decode cX6_takes 1 = .ok (.iload_n 1, 1) := dk_27 (dk_at dksX6_takes_0 1 rfl rfl)
theorem dX6_takes_2 : decode cX6_takes 2 = .ok (.invokevirtual 46, 3) := dk_182 0 46 (dk_at dksX6_takes_0 2 rfl rfl)
theorem dX6_takes_5 : decode cX6_takes 5 = .ok (.istore_n 2, 1) := dk_61 (dk_at dksX6_takes_0 5 rfl rfl)
theorem dX6_takes_6 : decode cX6_takes 6 = .ok (.aload_n 0, 1) := dk_42 (dk_at dksX6_takes_0 6 rfl rfl)
theorem dX6_takes_7 : decode cX6_takes 7 = .ok (.dup, 1) := dk_89 (dk_at dksX6_takes_0 7 rfl rfl)
theorem dX6_takes_8 : decode cX6_takes 8 = .ok (.getfield 15, 3) := dk_180 0 15 (dk_at dksX6_takes_0 8 rfl rfl)
theorem dX6_takes_11 : decode cX6_takes 11 = .ok (.iload_n 2, 1) := dk_28 (dk_at dksX6_takes_0 11 rfl rfl)
theorem dX6_takes_12 : decode cX6_takes 12 = .ok (.ifCond .eq 7, 3) := dk_153 0 7 (dk_at dksX6_takes_0 12 rfl rfl)
theorem dX6_takes_15 : decode cX6_takes 15 = .ok (.iconst 1, 1) := dk_4 (dk_at dksX6_takes_0 15 rfl rfl)
theorem dX6_takes_16 : decode cX6_takes 16 = .ok (.goto 4, 3) := dk_167 0 4 (dk_at dksX6_takes_0 16 rfl rfl)
theorem dX6_takes_19 : decode cX6_takes 19 = .ok (.iconst 0, 1) := dk_3 (dk_at dksX6_takes_0 19 rfl rfl)
theorem dX6_takes_20 : decode cX6_takes 20 = .ok (.iadd, 1) := dk_96 (dk_at dksX6_takes_0 20 rfl rfl)
theorem dX6_takes_21 : decode cX6_takes 21 = .ok (.putfield 15, 3) := dk_181 0 15 (dk_at dksX6_takes_0 21 rfl rfl)
theorem dX6_takes_24 : decode cX6_takes 24 = .ok (.iload_n 2, 1) := dk_28 (dk_at dksX6_takes_1 0 rfl rfl)
theorem dX6_takes_25 : decode cX6_takes 25 = .ok (.ireturn, 1) := dk_172 (dk_at dksX6_takes_1 1 rfl rfl)
abbrev cX6_isNext_2 : ByteArray := prog_11_method_3_code
def yX6_isNext_2 : MethodName := ⟨RX6, "isNext", "(C)Z"⟩
def dkwX6_isNext_2_0 : List UInt8 := [42, 27, 27, 182, 0, 33, 172]
abbrev dktX6_isNext_2_0 : List UInt8 := dkwX6_isNext_2_0 ++ []
theorem dksX6_isNext_2_0 : cX6_isNext_2.data.toList.drop 0 = dktX6_isNext_2_0 := by decide +kernel
theorem dX6_isNext_2_0 : decode cX6_isNext_2 0 = .ok (.aload_n 0, 1) := dk_42 (dk_at dksX6_isNext_2_0 0 rfl rfl)
theorem dX6_isNext_2_1 : decode cX6_isNext_2 1 = .ok (.iload_n 1, 1) := dk_27 (dk_at dksX6_isNext_2_0 1 rfl rfl)
theorem dX6_isNext_2_2 : decode cX6_isNext_2 2 = .ok (.iload_n 1, 1) := dk_27 (dk_at dksX6_isNext_2_0 2 rfl rfl)
theorem dX6_isNext_2_3 : decode cX6_isNext_2 3 = .ok (.invokevirtual 33, 3) := dk_182 0 33 (dk_at dksX6_isNext_2_0 3 rfl rfl)
theorem dX6_isNext_2_6 : decode cX6_isNext_2 6 = .ok (.ireturn, 1) := dk_172 (dk_at dksX6_isNext_2_0 6 rfl rfl)
abbrev cX6_phrase : ByteArray := prog_11_method_12_code
def yX6_phrase : MethodName := ⟨RX6, "phrase", "(I)LDanceNotation$Node;"⟩
def dkwX6_phrase_10 : List UInt8 := [176]
abbrev dktX6_phrase_10 : List UInt8 := dkwX6_phrase_10 ++ []
def dkwX6_phrase_9 : List UInt8 := [180, 0, 9, 21, 5, 42, 180, 0, 15, 185, 0, 134, 3, 0, 185, 0, 138, 1, 0, 25, 6, 183, 0, 142]
abbrev dktX6_phrase_9 : List UInt8 := dkwX6_phrase_9 ++ dktX6_phrase_10
def dkwX6_phrase_8 : List UInt8 := [21, 7, 182, 0, 125, 192, 0, 109, 182, 0, 129, 79, 132, 7, 1, 167, 255, 228, 187, 0, 132, 89, 27, 42]
abbrev dktX6_phrase_8 : List UInt8 := dkwX6_phrase_8 ++ dktX6_phrase_9
def dkwX6_phrase_7 : List UInt8 := [44, 182, 0, 122, 188, 10, 58, 6, 3, 54, 7, 21, 7, 25, 6, 190, 162, 0, 26, 25, 6, 21, 7, 44]
abbrev dktX6_phrase_7 : List UInt8 := dkwX6_phrase_7 ++ dktX6_phrase_8
def dkwX6_phrase_6 : List UInt8 := [162, 0, 24, 18, 114, 42, 180, 0, 9, 42, 180, 0, 15, 185, 0, 25, 2, 0, 182, 0, 116, 156, 255, 170]
abbrev dktX6_phrase_6 : List UInt8 := dkwX6_phrase_6 ++ dktX6_phrase_7
def dkwX6_phrase_5 : List UInt8 := [89, 180, 0, 15, 4, 96, 181, 0, 15, 42, 180, 0, 15, 42, 180, 0, 9, 185, 0, 19, 1, 0]
abbrev dktX6_phrase_5 : List UInt8 := dkwX6_phrase_5 ++ dktX6_phrase_6
def dkwX6_phrase_4 : List UInt8 := [180, 0, 9, 42, 180, 0, 15, 185, 0, 25, 2, 0, 182, 0, 116, 156, 0, 8, 42, 182, 0, 42, 191, 42]
abbrev dktX6_phrase_4 : List UInt8 := dkwX6_phrase_4 ++ dktX6_phrase_5
def dkwX6_phrase_3 : List UInt8 := [180, 0, 15, 54, 5, 42, 180, 0, 15, 42, 180, 0, 9, 185, 0, 19, 1, 0, 159, 0, 24, 18, 114, 42]
abbrev dktX6_phrase_3 : List UInt8 := dkwX6_phrase_3 ++ dktX6_phrase_4
def dkwX6_phrase_2 : List UInt8 := [16, 65, 100, 184, 0, 108, 182, 0, 56, 62, 167, 255, 226, 42, 16, 58, 16, 58, 182, 0, 72, 54, 4, 42]
abbrev dktX6_phrase_2 : List UInt8 := dkwX6_phrase_2 ++ dktX6_phrase_3
def dkwX6_phrase_1 : List UInt8 := [182, 0, 56, 62, 42, 16, 65, 16, 72, 182, 0, 33, 153, 0, 25, 44, 42, 16, 65, 16, 72, 182, 0, 72]
abbrev dktX6_phrase_1 : List UInt8 := dkwX6_phrase_1 ++ dktX6_phrase_2
def dkwX6_phrase_0 : List UInt8 := [187, 0, 49, 89, 183, 0, 51, 77, 44, 42, 16, 65, 16, 72, 182, 0, 72, 16, 65, 100, 184, 0, 108]
abbrev dktX6_phrase_0 : List UInt8 := dkwX6_phrase_0 ++ dktX6_phrase_1
theorem dksX6_phrase_0 : cX6_phrase.data.toList.drop 0 = dktX6_phrase_0 := by decide +kernel
theorem dksX6_phrase_1 : cX6_phrase.data.toList.drop 23 = dktX6_phrase_1 := dk_seg dksX6_phrase_0 23 rfl rfl
theorem dksX6_phrase_2 : cX6_phrase.data.toList.drop 47 = dktX6_phrase_2 := dk_seg dksX6_phrase_1 24 rfl rfl
theorem dksX6_phrase_3 : cX6_phrase.data.toList.drop 71 = dktX6_phrase_3 := dk_seg dksX6_phrase_2 24 rfl rfl
theorem dksX6_phrase_4 : cX6_phrase.data.toList.drop 95 = dktX6_phrase_4 := dk_seg dksX6_phrase_3 24 rfl rfl
theorem dksX6_phrase_5 : cX6_phrase.data.toList.drop 119 = dktX6_phrase_5 := dk_seg dksX6_phrase_4 24 rfl rfl
theorem dksX6_phrase_6 : cX6_phrase.data.toList.drop 141 = dktX6_phrase_6 := dk_seg dksX6_phrase_5 22 rfl rfl
theorem dksX6_phrase_7 : cX6_phrase.data.toList.drop 165 = dktX6_phrase_7 := dk_seg dksX6_phrase_6 24 rfl rfl
theorem dksX6_phrase_8 : cX6_phrase.data.toList.drop 189 = dktX6_phrase_8 := dk_seg dksX6_phrase_7 24 rfl rfl
theorem dksX6_phrase_9 : cX6_phrase.data.toList.drop 213 = dktX6_phrase_9 := dk_seg dksX6_phrase_8 24 rfl rfl
theorem dksX6_phrase_10 : cX6_phrase.data.toList.drop 237 = dktX6_phrase_10 := dk_seg dksX6_phrase_9 24 rfl rfl
theorem dX6_phrase_0 : decode cX6_phrase 0 = .ok (.new 49, 3) := dk_187 0 49 (dk_at dksX6_phrase_0 0 rfl rfl)
theorem dX6_phrase_3 : decode cX6_phrase 3 = .ok (.dup, 1) := dk_89 (dk_at dksX6_phrase_0 3 rfl rfl)
theorem dX6_phrase_4 : decode cX6_phrase 4 = .ok (.invokespecial 51, 3) := dk_183 0 51 (dk_at dksX6_phrase_0 4 rfl rfl)
theorem dX6_phrase_7 : decode cX6_phrase 7 = .ok (.astore_n 2, 1) := dk_77 (dk_at dksX6_phrase_0 7 rfl rfl)
theorem dX6_phrase_8 : decode cX6_phrase 8 = .ok (.aload_n 2, 1) := dk_44 (dk_at dksX6_phrase_0 8 rfl rfl)
theorem dX6_phrase_9 : decode cX6_phrase 9 = .ok (.aload_n 0, 1) := dk_42 (dk_at dksX6_phrase_0 9 rfl rfl)
theorem dX6_phrase_10 : decode cX6_phrase 10 = .ok (.bipush 65, 2) := dk_16 65 (dk_at dksX6_phrase_0 10 rfl rfl)
theorem dX6_phrase_12 : decode cX6_phrase 12 = .ok (.bipush 72, 2) := dk_16 72 (dk_at dksX6_phrase_0 12 rfl rfl)
theorem dX6_phrase_14 : decode cX6_phrase 14 = .ok (.invokevirtual 72, 3) := dk_182 0 72 (dk_at dksX6_phrase_0 14 rfl rfl)
theorem dX6_phrase_17 : decode cX6_phrase 17 = .ok (.bipush 65, 2) := dk_16 65 (dk_at dksX6_phrase_0 17 rfl rfl)
theorem dX6_phrase_19 : decode cX6_phrase 19 = .ok (.isub, 1) := dk_100 (dk_at dksX6_phrase_0 19 rfl rfl)
theorem dX6_phrase_20 : decode cX6_phrase 20 = .ok (.invokestatic 108, 3) := dk_184 0 108 (dk_at dksX6_phrase_0 20 rfl rfl)
theorem dX6_phrase_23 : decode cX6_phrase 23 = .ok (.invokevirtual 56, 3) := dk_182 0 56 (dk_at dksX6_phrase_1 0 rfl rfl)
theorem dX6_phrase_26 : decode cX6_phrase 26 = .ok (.istore_n 3, 1) := dk_62 (dk_at dksX6_phrase_1 3 rfl rfl)
theorem dX6_phrase_27 : decode cX6_phrase 27 = .ok (.aload_n 0, 1) := dk_42 (dk_at dksX6_phrase_1 4 rfl rfl)
theorem dX6_phrase_28 : decode cX6_phrase 28 = .ok (.bipush 65, 2) := dk_16 65 (dk_at dksX6_phrase_1 5 rfl rfl)
theorem dX6_phrase_30 : decode cX6_phrase 30 = .ok (.bipush 72, 2) := dk_16 72 (dk_at dksX6_phrase_1 7 rfl rfl)
theorem dX6_phrase_32 : decode cX6_phrase 32 = .ok (.invokevirtual 33, 3) := dk_182 0 33 (dk_at dksX6_phrase_1 9 rfl rfl)
theorem dX6_phrase_35 : decode cX6_phrase 35 = .ok (.ifCond .eq 25, 3) := dk_153 0 25 (dk_at dksX6_phrase_1 12 rfl rfl)
theorem dX6_phrase_38 : decode cX6_phrase 38 = .ok (.aload_n 2, 1) := dk_44 (dk_at dksX6_phrase_1 15 rfl rfl)
theorem dX6_phrase_39 : decode cX6_phrase 39 = .ok (.aload_n 0, 1) := dk_42 (dk_at dksX6_phrase_1 16 rfl rfl)
theorem dX6_phrase_40 : decode cX6_phrase 40 = .ok (.bipush 65, 2) := dk_16 65 (dk_at dksX6_phrase_1 17 rfl rfl)
theorem dX6_phrase_42 : decode cX6_phrase 42 = .ok (.bipush 72, 2) := dk_16 72 (dk_at dksX6_phrase_1 19 rfl rfl)
theorem dX6_phrase_44 : decode cX6_phrase 44 = .ok (.invokevirtual 72, 3) := dk_182 0 72 (dk_at dksX6_phrase_1 21 rfl rfl)
theorem dX6_phrase_47 : decode cX6_phrase 47 = .ok (.bipush 65, 2) := dk_16 65 (dk_at dksX6_phrase_2 0 rfl rfl)
theorem dX6_phrase_49 : decode cX6_phrase 49 = .ok (.isub, 1) := dk_100 (dk_at dksX6_phrase_2 2 rfl rfl)
theorem dX6_phrase_50 : decode cX6_phrase 50 = .ok (.invokestatic 108, 3) := dk_184 0 108 (dk_at dksX6_phrase_2 3 rfl rfl)
theorem dX6_phrase_53 : decode cX6_phrase 53 = .ok (.invokevirtual 56, 3) := dk_182 0 56 (dk_at dksX6_phrase_2 6 rfl rfl)
theorem dX6_phrase_56 : decode cX6_phrase 56 = .ok (.istore_n 3, 1) := dk_62 (dk_at dksX6_phrase_2 9 rfl rfl)
theorem dX6_phrase_57 : decode cX6_phrase 57 = .ok (.goto (-30), 3) := dk_167 255 226 (dk_at dksX6_phrase_2 10 rfl rfl)
theorem dX6_phrase_60 : decode cX6_phrase 60 = .ok (.aload_n 0, 1) := dk_42 (dk_at dksX6_phrase_2 13 rfl rfl)
theorem dX6_phrase_61 : decode cX6_phrase 61 = .ok (.bipush 58, 2) := dk_16 58 (dk_at dksX6_phrase_2 14 rfl rfl)
theorem dX6_phrase_63 : decode cX6_phrase 63 = .ok (.bipush 58, 2) := dk_16 58 (dk_at dksX6_phrase_2 16 rfl rfl)
theorem dX6_phrase_65 : decode cX6_phrase 65 = .ok (.invokevirtual 72, 3) := dk_182 0 72 (dk_at dksX6_phrase_2 18 rfl rfl)
theorem dX6_phrase_68 : decode cX6_phrase 68 = .ok (.istore 4, 2) := dk_54 4 (dk_at dksX6_phrase_2 21 rfl rfl)
theorem dX6_phrase_70 : decode cX6_phrase 70 = .ok (.aload_n 0, 1) := dk_42 (dk_at dksX6_phrase_2 23 rfl rfl)
theorem dX6_phrase_71 : decode cX6_phrase 71 = .ok (.getfield 15, 3) := dk_180 0 15 (dk_at dksX6_phrase_3 0 rfl rfl)
theorem dX6_phrase_74 : decode cX6_phrase 74 = .ok (.istore 5, 2) := dk_54 5 (dk_at dksX6_phrase_3 3 rfl rfl)
theorem dX6_phrase_76 : decode cX6_phrase 76 = .ok (.aload_n 0, 1) := dk_42 (dk_at dksX6_phrase_3 5 rfl rfl)
theorem dX6_phrase_77 : decode cX6_phrase 77 = .ok (.getfield 15, 3) := dk_180 0 15 (dk_at dksX6_phrase_3 6 rfl rfl)
theorem dX6_phrase_80 : decode cX6_phrase 80 = .ok (.aload_n 0, 1) := dk_42 (dk_at dksX6_phrase_3 9 rfl rfl)
theorem dX6_phrase_81 : decode cX6_phrase 81 = .ok (.getfield 9, 3) := dk_180 0 9 (dk_at dksX6_phrase_3 10 rfl rfl)
theorem dX6_phrase_84 : decode cX6_phrase 84 = .ok (.invokeinterface 19 1, 5) := by decide +kernel
theorem dX6_phrase_89 : decode cX6_phrase 89 = .ok (.if_icmp .eq 24, 3) := dk_159 0 24 (dk_at dksX6_phrase_3 18 rfl rfl)
theorem dX6_phrase_92 : decode cX6_phrase 92 = .ok (.ldc 114, 2) := dk_18 114 (dk_at dksX6_phrase_3 21 rfl rfl)
theorem dX6_phrase_94 : decode cX6_phrase 94 = .ok (.aload_n 0, 1) := dk_42 (dk_at dksX6_phrase_3 23 rfl rfl)
theorem dX6_phrase_95 : decode cX6_phrase 95 = .ok (.getfield 9, 3) := dk_180 0 9 (dk_at dksX6_phrase_4 0 rfl rfl)
theorem dX6_phrase_98 : decode cX6_phrase 98 = .ok (.aload_n 0, 1) := dk_42 (dk_at dksX6_phrase_4 3 rfl rfl)
theorem dX6_phrase_99 : decode cX6_phrase 99 = .ok (.getfield 15, 3) := dk_180 0 15 (dk_at dksX6_phrase_4 4 rfl rfl)
theorem dX6_phrase_102 : decode cX6_phrase 102 = .ok (.invokeinterface 25 2, 5) := by decide +kernel
theorem dX6_phrase_107 : decode cX6_phrase 107 = .ok (.invokevirtual 116, 3) := dk_182 0 116 (dk_at dksX6_phrase_4 12 rfl rfl)
theorem dX6_phrase_110 : decode cX6_phrase 110 = .ok (.ifCond .ge 8, 3) := dk_156 0 8 (dk_at dksX6_phrase_4 15 rfl rfl)
theorem dX6_phrase_113 : decode cX6_phrase 113 = .ok (.aload_n 0, 1) := dk_42 (dk_at dksX6_phrase_4 18 rfl rfl)
theorem dX6_phrase_114 : decode cX6_phrase 114 = .ok (.invokevirtual 42, 3) := dk_182 0 42 (dk_at dksX6_phrase_4 19 rfl rfl)
theorem dX6_phrase_117 : decode cX6_phrase 117 = .ok (.athrow, 1) := dk_191 (dk_at dksX6_phrase_4 22 rfl rfl)
theorem dX6_phrase_118 : decode cX6_phrase 118 = .ok (.aload_n 0, 1) := dk_42 (dk_at dksX6_phrase_4 23 rfl rfl)
theorem dX6_phrase_119 : decode cX6_phrase 119 = .ok (.dup, 1) := dk_89 (dk_at dksX6_phrase_5 0 rfl rfl)
theorem dX6_phrase_120 : decode cX6_phrase 120 = .ok (.getfield 15, 3) := dk_180 0 15 (dk_at dksX6_phrase_5 1 rfl rfl)
theorem dX6_phrase_123 : decode cX6_phrase 123 = .ok (.iconst 1, 1) := dk_4 (dk_at dksX6_phrase_5 4 rfl rfl)
theorem dX6_phrase_124 : decode cX6_phrase 124 = .ok (.iadd, 1) := dk_96 (dk_at dksX6_phrase_5 5 rfl rfl)
theorem dX6_phrase_125 : decode cX6_phrase 125 = .ok (.putfield 15, 3) := dk_181 0 15 (dk_at dksX6_phrase_5 6 rfl rfl)
theorem dX6_phrase_128 : decode cX6_phrase 128 = .ok (.aload_n 0, 1) := dk_42 (dk_at dksX6_phrase_5 9 rfl rfl)
theorem dX6_phrase_129 : decode cX6_phrase 129 = .ok (.getfield 15, 3) := dk_180 0 15 (dk_at dksX6_phrase_5 10 rfl rfl)
theorem dX6_phrase_132 : decode cX6_phrase 132 = .ok (.aload_n 0, 1) := dk_42 (dk_at dksX6_phrase_5 13 rfl rfl)
theorem dX6_phrase_133 : decode cX6_phrase 133 = .ok (.getfield 9, 3) := dk_180 0 9 (dk_at dksX6_phrase_5 14 rfl rfl)
theorem dX6_phrase_136 : decode cX6_phrase 136 = .ok (.invokeinterface 19 1, 5) := by decide +kernel
theorem dX6_phrase_141 : decode cX6_phrase 141 = .ok (.if_icmp .ge 24, 3) := dk_162 0 24 (dk_at dksX6_phrase_6 0 rfl rfl)
theorem dX6_phrase_144 : decode cX6_phrase 144 = .ok (.ldc 114, 2) := dk_18 114 (dk_at dksX6_phrase_6 3 rfl rfl)
theorem dX6_phrase_146 : decode cX6_phrase 146 = .ok (.aload_n 0, 1) := dk_42 (dk_at dksX6_phrase_6 5 rfl rfl)
theorem dX6_phrase_147 : decode cX6_phrase 147 = .ok (.getfield 9, 3) := dk_180 0 9 (dk_at dksX6_phrase_6 6 rfl rfl)
theorem dX6_phrase_150 : decode cX6_phrase 150 = .ok (.aload_n 0, 1) := dk_42 (dk_at dksX6_phrase_6 9 rfl rfl)
theorem dX6_phrase_151 : decode cX6_phrase 151 = .ok (.getfield 15, 3) := dk_180 0 15 (dk_at dksX6_phrase_6 10 rfl rfl)
theorem dX6_phrase_154 : decode cX6_phrase 154 = .ok (.invokeinterface 25 2, 5) := by decide +kernel
theorem dX6_phrase_159 : decode cX6_phrase 159 = .ok (.invokevirtual 116, 3) := dk_182 0 116 (dk_at dksX6_phrase_6 18 rfl rfl)
theorem dX6_phrase_162 : decode cX6_phrase 162 = .ok (.ifCond .ge (-86), 3) := dk_156 255 170 (dk_at dksX6_phrase_6 21 rfl rfl)
theorem dX6_phrase_165 : decode cX6_phrase 165 = .ok (.aload_n 2, 1) := dk_44 (dk_at dksX6_phrase_7 0 rfl rfl)
theorem dX6_phrase_166 : decode cX6_phrase 166 = .ok (.invokevirtual 122, 3) := dk_182 0 122 (dk_at dksX6_phrase_7 1 rfl rfl)
theorem dX6_phrase_169 : decode cX6_phrase 169 = .ok (.newarray .int, 2) := dk_188_10 (dk_at dksX6_phrase_7 4 rfl rfl)
theorem dX6_phrase_171 : decode cX6_phrase 171 = .ok (.astore 6, 2) := dk_58 6 (dk_at dksX6_phrase_7 6 rfl rfl)
theorem dX6_phrase_173 : decode cX6_phrase 173 = .ok (.iconst 0, 1) := dk_3 (dk_at dksX6_phrase_7 8 rfl rfl)
theorem dX6_phrase_174 : decode cX6_phrase 174 = .ok (.istore 7, 2) := dk_54 7 (dk_at dksX6_phrase_7 9 rfl rfl)
theorem dX6_phrase_176 : decode cX6_phrase 176 = .ok (.iload 7, 2) := dk_21 7 (dk_at dksX6_phrase_7 11 rfl rfl)
theorem dX6_phrase_178 : decode cX6_phrase 178 = .ok (.aload 6, 2) := dk_25 6 (dk_at dksX6_phrase_7 13 rfl rfl)
theorem dX6_phrase_180 : decode cX6_phrase 180 = .ok (.arraylength, 1) := dk_190 (dk_at dksX6_phrase_7 15 rfl rfl)
theorem dX6_phrase_181 : decode cX6_phrase 181 = .ok (.if_icmp .ge 26, 3) := dk_162 0 26 (dk_at dksX6_phrase_7 16 rfl rfl)
theorem dX6_phrase_184 : decode cX6_phrase 184 = .ok (.aload 6, 2) := dk_25 6 (dk_at dksX6_phrase_7 19 rfl rfl)
theorem dX6_phrase_186 : decode cX6_phrase 186 = .ok (.iload 7, 2) := dk_21 7 (dk_at dksX6_phrase_7 21 rfl rfl)
theorem dX6_phrase_188 : decode cX6_phrase 188 = .ok (.aload_n 2, 1) := dk_44 (dk_at dksX6_phrase_7 23 rfl rfl)
theorem dX6_phrase_189 : decode cX6_phrase 189 = .ok (.iload 7, 2) := dk_21 7 (dk_at dksX6_phrase_8 0 rfl rfl)
theorem dX6_phrase_191 : decode cX6_phrase 191 = .ok (.invokevirtual 125, 3) := dk_182 0 125 (dk_at dksX6_phrase_8 2 rfl rfl)
theorem dX6_phrase_194 : decode cX6_phrase 194 = .ok (.checkcast 109, 3) := dk_192 0 109 (dk_at dksX6_phrase_8 5 rfl rfl)
theorem dX6_phrase_197 : decode cX6_phrase 197 = .ok (.invokevirtual 129, 3) := dk_182 0 129 (dk_at dksX6_phrase_8 8 rfl rfl)
theorem dX6_phrase_200 : decode cX6_phrase 200 = .ok (.iastore, 1) := dk_79 (dk_at dksX6_phrase_8 11 rfl rfl)
theorem dX6_phrase_201 : decode cX6_phrase 201 = .ok (.iinc 7 1, 3) := dk_132 7 1 (dk_at dksX6_phrase_8 12 rfl rfl)
theorem dX6_phrase_204 : decode cX6_phrase 204 = .ok (.goto (-28), 3) := dk_167 255 228 (dk_at dksX6_phrase_8 15 rfl rfl)
theorem dX6_phrase_207 : decode cX6_phrase 207 = .ok (.new 132, 3) := dk_187 0 132 (dk_at dksX6_phrase_8 18 rfl rfl)
theorem dX6_phrase_210 : decode cX6_phrase 210 = .ok (.dup, 1) := dk_89 (dk_at dksX6_phrase_8 21 rfl rfl)
theorem dX6_phrase_211 : decode cX6_phrase 211 = .ok (.iload_n 1, 1) := dk_27 (dk_at dksX6_phrase_8 22 rfl rfl)
theorem dX6_phrase_212 : decode cX6_phrase 212 = .ok (.aload_n 0, 1) := dk_42 (dk_at dksX6_phrase_8 23 rfl rfl)
theorem dX6_phrase_213 : decode cX6_phrase 213 = .ok (.getfield 9, 3) := dk_180 0 9 (dk_at dksX6_phrase_9 0 rfl rfl)
theorem dX6_phrase_216 : decode cX6_phrase 216 = .ok (.iload 5, 2) := dk_21 5 (dk_at dksX6_phrase_9 3 rfl rfl)
theorem dX6_phrase_218 : decode cX6_phrase 218 = .ok (.aload_n 0, 1) := dk_42 (dk_at dksX6_phrase_9 5 rfl rfl)
theorem dX6_phrase_219 : decode cX6_phrase 219 = .ok (.getfield 15, 3) := dk_180 0 15 (dk_at dksX6_phrase_9 6 rfl rfl)
theorem dX6_phrase_222 : decode cX6_phrase 222 = .ok (.invokeinterface 134 3, 5) := by decide +kernel
theorem dX6_phrase_227 : decode cX6_phrase 227 = .ok (.invokeinterface 138 1, 5) := by decide +kernel
theorem dX6_phrase_232 : decode cX6_phrase 232 = .ok (.aload 6, 2) := dk_25 6 (dk_at dksX6_phrase_9 19 rfl rfl)
theorem dX6_phrase_234 : decode cX6_phrase 234 = .ok (.invokespecial 142, 3) := dk_183 0 142 (dk_at dksX6_phrase_9 21 rfl rfl)
theorem dX6_phrase_237 : decode cX6_phrase 237 = .ok (.areturn, 1) := dk_176 (dk_at dksX6_phrase_10 0 rfl rfl)
abbrev cX6_enclosed : ByteArray := prog_11_method_10_code
def yX6_enclosed : MethodName := ⟨RX6, "enclosed", "()LDanceNotation$Node;"⟩
def dkwX6_enclosed_3 : List UInt8 := [181, 0, 84, 25, 5, 191]
abbrev dktX6_enclosed_3 : List UInt8 := dkwX6_enclosed_3 ++ []
def dkwX6_enclosed_2 : List UInt8 := [58, 4, 42, 89, 180, 0, 84, 4, 100, 181, 0, 84, 25, 4, 176, 58, 5, 42, 89, 180, 0, 84, 4, 100]
abbrev dktX6_enclosed_2 : List UInt8 := dkwX6_enclosed_2 ++ dktX6_enclosed_3
def dkwX6_enclosed_1 : List UInt8 := [89, 180, 0, 84, 4, 96, 181, 0, 84, 42, 182, 0, 87, 77, 42, 16, 41, 16, 41, 182, 0, 72, 62, 44]
abbrev dktX6_enclosed_1 : List UInt8 := dkwX6_enclosed_1 ++ dktX6_enclosed_2
def dkwX6_enclosed_0 : List UInt8 := [42, 180, 0, 84, 16, 10, 160, 0, 8, 42, 182, 0, 42, 191, 42, 16, 40, 16, 40, 182, 0, 72, 60, 42]
abbrev dktX6_enclosed_0 : List UInt8 := dkwX6_enclosed_0 ++ dktX6_enclosed_1
theorem dksX6_enclosed_0 : cX6_enclosed.data.toList.drop 0 = dktX6_enclosed_0 := by decide +kernel
theorem dksX6_enclosed_1 : cX6_enclosed.data.toList.drop 24 = dktX6_enclosed_1 := dk_seg dksX6_enclosed_0 24 rfl rfl
theorem dksX6_enclosed_2 : cX6_enclosed.data.toList.drop 48 = dktX6_enclosed_2 := dk_seg dksX6_enclosed_1 24 rfl rfl
theorem dksX6_enclosed_3 : cX6_enclosed.data.toList.drop 72 = dktX6_enclosed_3 := dk_seg dksX6_enclosed_2 24 rfl rfl
theorem dX6_enclosed_0 : decode cX6_enclosed 0 = .ok (.aload_n 0, 1) := dk_42 (dk_at dksX6_enclosed_0 0 rfl rfl)
theorem dX6_enclosed_1 : decode cX6_enclosed 1 = .ok (.getfield 84, 3) := dk_180 0 84 (dk_at dksX6_enclosed_0 1 rfl rfl)
theorem dX6_enclosed_4 : decode cX6_enclosed 4 = .ok (.bipush 10, 2) := dk_16 10 (dk_at dksX6_enclosed_0 4 rfl rfl)
theorem dX6_enclosed_6 : decode cX6_enclosed 6 = .ok (.if_icmp .ne 8, 3) := dk_160 0 8 (dk_at dksX6_enclosed_0 6 rfl rfl)
theorem dX6_enclosed_9 : decode cX6_enclosed 9 = .ok (.aload_n 0, 1) := dk_42 (dk_at dksX6_enclosed_0 9 rfl rfl)
theorem dX6_enclosed_10 : decode cX6_enclosed 10 = .ok (.invokevirtual 42, 3) := dk_182 0 42 (dk_at dksX6_enclosed_0 10 rfl rfl)
theorem dX6_enclosed_13 : decode cX6_enclosed 13 = .ok (.athrow, 1) := dk_191 (dk_at dksX6_enclosed_0 13 rfl rfl)
theorem dX6_enclosed_14 : decode cX6_enclosed 14 = .ok (.aload_n 0, 1) := dk_42 (dk_at dksX6_enclosed_0 14 rfl rfl)
theorem dX6_enclosed_15 : decode cX6_enclosed 15 = .ok (.bipush 40, 2) := dk_16 40 (dk_at dksX6_enclosed_0 15 rfl rfl)
theorem dX6_enclosed_17 : decode cX6_enclosed 17 = .ok (.bipush 40, 2) := dk_16 40 (dk_at dksX6_enclosed_0 17 rfl rfl)
theorem dX6_enclosed_19 : decode cX6_enclosed 19 = .ok (.invokevirtual 72, 3) := dk_182 0 72 (dk_at dksX6_enclosed_0 19 rfl rfl)
theorem dX6_enclosed_22 : decode cX6_enclosed 22 = .ok (.istore_n 1, 1) := dk_60 (dk_at dksX6_enclosed_0 22 rfl rfl)
theorem dX6_enclosed_23 : decode cX6_enclosed 23 = .ok (.aload_n 0, 1) := dk_42 (dk_at dksX6_enclosed_0 23 rfl rfl)
theorem dX6_enclosed_24 : decode cX6_enclosed 24 = .ok (.dup, 1) := dk_89 (dk_at dksX6_enclosed_1 0 rfl rfl)
theorem dX6_enclosed_25 : decode cX6_enclosed 25 = .ok (.getfield 84, 3) := dk_180 0 84 (dk_at dksX6_enclosed_1 1 rfl rfl)
theorem dX6_enclosed_28 : decode cX6_enclosed 28 = .ok (.iconst 1, 1) := dk_4 (dk_at dksX6_enclosed_1 4 rfl rfl)
theorem dX6_enclosed_29 : decode cX6_enclosed 29 = .ok (.iadd, 1) := dk_96 (dk_at dksX6_enclosed_1 5 rfl rfl)
theorem dX6_enclosed_30 : decode cX6_enclosed 30 = .ok (.putfield 84, 3) := dk_181 0 84 (dk_at dksX6_enclosed_1 6 rfl rfl)
theorem dX6_enclosed_33 : decode cX6_enclosed 33 = .ok (.aload_n 0, 1) := dk_42 (dk_at dksX6_enclosed_1 9 rfl rfl)
theorem dX6_enclosed_34 : decode cX6_enclosed 34 = .ok (.invokevirtual 87, 3) := dk_182 0 87 (dk_at dksX6_enclosed_1 10 rfl rfl)
theorem dX6_enclosed_37 : decode cX6_enclosed 37 = .ok (.astore_n 2, 1) := dk_77 (dk_at dksX6_enclosed_1 13 rfl rfl)
theorem dX6_enclosed_38 : decode cX6_enclosed 38 = .ok (.aload_n 0, 1) := dk_42 (dk_at dksX6_enclosed_1 14 rfl rfl)
theorem dX6_enclosed_39 : decode cX6_enclosed 39 = .ok (.bipush 41, 2) := dk_16 41 (dk_at dksX6_enclosed_1 15 rfl rfl)
theorem dX6_enclosed_41 : decode cX6_enclosed 41 = .ok (.bipush 41, 2) := dk_16 41 (dk_at dksX6_enclosed_1 17 rfl rfl)
theorem dX6_enclosed_43 : decode cX6_enclosed 43 = .ok (.invokevirtual 72, 3) := dk_182 0 72 (dk_at dksX6_enclosed_1 19 rfl rfl)
theorem dX6_enclosed_46 : decode cX6_enclosed 46 = .ok (.istore_n 3, 1) := dk_62 (dk_at dksX6_enclosed_1 22 rfl rfl)
theorem dX6_enclosed_47 : decode cX6_enclosed 47 = .ok (.aload_n 2, 1) := dk_44 (dk_at dksX6_enclosed_1 23 rfl rfl)
theorem dX6_enclosed_48 : decode cX6_enclosed 48 = .ok (.astore 4, 2) := dk_58 4 (dk_at dksX6_enclosed_2 0 rfl rfl)
theorem dX6_enclosed_50 : decode cX6_enclosed 50 = .ok (.aload_n 0, 1) := dk_42 (dk_at dksX6_enclosed_2 2 rfl rfl)
theorem dX6_enclosed_51 : decode cX6_enclosed 51 = .ok (.dup, 1) := dk_89 (dk_at dksX6_enclosed_2 3 rfl rfl)
theorem dX6_enclosed_52 : decode cX6_enclosed 52 = .ok (.getfield 84, 3) := dk_180 0 84 (dk_at dksX6_enclosed_2 4 rfl rfl)
theorem dX6_enclosed_55 : decode cX6_enclosed 55 = .ok (.iconst 1, 1) := dk_4 (dk_at dksX6_enclosed_2 7 rfl rfl)
theorem dX6_enclosed_56 : decode cX6_enclosed 56 = .ok (.isub, 1) := dk_100 (dk_at dksX6_enclosed_2 8 rfl rfl)
theorem dX6_enclosed_57 : decode cX6_enclosed 57 = .ok (.putfield 84, 3) := dk_181 0 84 (dk_at dksX6_enclosed_2 9 rfl rfl)
theorem dX6_enclosed_60 : decode cX6_enclosed 60 = .ok (.aload 4, 2) := dk_25 4 (dk_at dksX6_enclosed_2 12 rfl rfl)
theorem dX6_enclosed_62 : decode cX6_enclosed 62 = .ok (.areturn, 1) := dk_176 (dk_at dksX6_enclosed_2 14 rfl rfl)
theorem dX6_enclosed_63 : decode cX6_enclosed 63 = .ok (.astore 5, 2) := dk_58 5 (dk_at dksX6_enclosed_2 15 rfl rfl)
theorem dX6_enclosed_65 : decode cX6_enclosed 65 = .ok (.aload_n 0, 1) := dk_42 (dk_at dksX6_enclosed_2 17 rfl rfl)
theorem dX6_enclosed_66 : decode cX6_enclosed 66 = .ok (.dup, 1) := dk_89 (dk_at dksX6_enclosed_2 18 rfl rfl)
theorem dX6_enclosed_67 : decode cX6_enclosed 67 = .ok (.getfield 84, 3) := dk_180 0 84 (dk_at dksX6_enclosed_2 19 rfl rfl)
theorem dX6_enclosed_70 : decode cX6_enclosed 70 = .ok (.iconst 1, 1) := dk_4 (dk_at dksX6_enclosed_2 22 rfl rfl)
theorem dX6_enclosed_71 : decode cX6_enclosed 71 = .ok (.isub, 1) := dk_100 (dk_at dksX6_enclosed_2 23 rfl rfl)
theorem dX6_enclosed_72 : decode cX6_enclosed 72 = .ok (.putfield 84, 3) := dk_181 0 84 (dk_at dksX6_enclosed_3 0 rfl rfl)
theorem dX6_enclosed_75 : decode cX6_enclosed 75 = .ok (.aload 5, 2) := dk_25 5 (dk_at dksX6_enclosed_3 3 rfl rfl)
theorem dX6_enclosed_77 : decode cX6_enclosed 77 = .ok (.athrow, 1) := dk_191 (dk_at dksX6_enclosed_3 5 rfl rfl)
theorem q151 : (Jvm.Cond.initialized "DanceNotation$Parser") ∈ lw_all := lw_g (lw_at lw_m1 34 rfl) rfl
theorem q1001 : (Jvm.Cond.selects "DanceNotation$Parser" ({ cls := "java/lang/Object", name := "getClass", desc := "()Ljava/lang/Class;" } : Jvm.MethodName) ({ cls := "java/lang/Object", name := "getClass", desc := "()Ljava/lang/Class;" } : Jvm.MethodName)) ∈ lw_all := lw_g (lw_at lw_m4 164 rfl) rfl
theorem q1592 : (Jvm.Cond.instantiable "DanceNotation$Parser" (3 : Nat)) ∈ lw_all := lw_g (lw_at lw_m7 35 rfl) rfl
theorem q1594 : (Jvm.Cond.instanceMethod ({ cls := "DanceNotation$Parser", name := "<init>", desc := "(Ljava/lang/CharSequence;)V" } : Jvm.MethodName)) ∈ lw_all := lw_g (lw_at lw_m7 37 rfl) rfl
theorem q1595 : (Jvm.Cond.code ({ cls := "DanceNotation$Parser", name := "<init>", desc := "(Ljava/lang/CharSequence;)V" } : Jvm.MethodName) prog_11_method_1_code (2 : Nat) (Option.none : Option Jvm.ClassFile.FieldType)) ∈ lw_all := lw_g (lw_at lw_m7 38 rfl) rfl
theorem q1596 : (Jvm.Cond.methodLink "DanceNotation$Parser" (3 : Nat) ({ cls := "java/lang/Object", name := "<init>", desc := "()V" } : Jvm.MethodName)) ∈ lw_all := lw_g (lw_at lw_m7 39 rfl) rfl
theorem q1597 : (Jvm.Cond.fieldLink "DanceNotation$Parser" (9 : Nat) "DanceNotation$Parser" "text" "Ljava/lang/CharSequence;") ∈ lw_all := lw_g (lw_at lw_m7 40 rfl) rfl
theorem q1598 : (Jvm.Cond.fieldLink "DanceNotation$Parser" (15 : Nat) "DanceNotation$Parser" "position" "I") ∈ lw_all := lw_g (lw_at lw_m7 41 rfl) rfl
theorem q1599 : (Jvm.Cond.fieldLink "DanceNotation$Parser" (84 : Nat) "DanceNotation$Parser" "nested" "I") ∈ lw_all := lw_g (lw_at lw_m7 42 rfl) rfl
theorem q1600 : (Jvm.Cond.laysFinal "DanceNotation$Parser" "DanceNotation$Parser" "text" "Ljava/lang/CharSequence;") ∈ lw_all := lw_g (lw_at lw_m7 43 rfl) rfl
theorem q1601 : (Jvm.Cond.soleField "DanceNotation$Parser" "text") ∈ lw_all := lw_g (lw_at lw_m7 44 rfl) rfl
theorem q1602 : (Jvm.Cond.lays "DanceNotation$Parser" "DanceNotation$Parser" "position" "I") ∈ lw_all := lw_g (lw_at lw_m7 45 rfl) rfl
theorem q1603 : (Jvm.Cond.soleField "DanceNotation$Parser" "position") ∈ lw_all := lw_g (lw_at lw_m7 46 rfl) rfl
theorem q1604 : (Jvm.Cond.lays "DanceNotation$Parser" "DanceNotation$Parser" "nested" "I") ∈ lw_all := lw_g (lw_at lw_m7 47 rfl) rfl
theorem q1605 : (Jvm.Cond.soleField "DanceNotation$Parser" "nested") ∈ lw_all := lw_g (lw_at lw_m7 48 rfl) rfl
theorem q1606 : (Jvm.Cond.superclass "DanceNotation$Parser" "java/lang/Object") ∈ lw_all := lw_g (lw_at lw_m7 49 rfl) rfl
theorem q1608 : (Jvm.Cond.instanceMethod ({ cls := "DanceNotation$Parser", name := "whole", desc := "()LDanceNotation$Node;" } : Jvm.MethodName)) ∈ lw_all := lw_g (lw_at lw_m7 51 rfl) rfl
theorem q1609 : (Jvm.Cond.selects "DanceNotation$Parser" ({ cls := "DanceNotation$Parser", name := "whole", desc := "()LDanceNotation$Node;" } : Jvm.MethodName) ({ cls := "DanceNotation$Parser", name := "whole", desc := "()LDanceNotation$Node;" } : Jvm.MethodName)) ∈ lw_all := lw_g (lw_at lw_m7 52 rfl) rfl
theorem q1610 : (Jvm.Cond.code ({ cls := "DanceNotation$Parser", name := "whole", desc := "()LDanceNotation$Node;" } : Jvm.MethodName) prog_11_method_13_code (2 : Nat) (Option.some (Jvm.ClassFile.FieldType.object "DanceNotation$Node"))) ∈ lw_all := lw_g (lw_at lw_m7 53 rfl) rfl
theorem q1611 : (Jvm.Cond.methodLink "DanceNotation$Parser" (87 : Nat) ({ cls := "DanceNotation$Parser", name := "series", desc := "()LDanceNotation$Node;" } : Jvm.MethodName)) ∈ lw_all := lw_g (lw_at lw_m7 54 rfl) rfl
theorem q1612 : (Jvm.Cond.instanceMethod ({ cls := "DanceNotation$Parser", name := "series", desc := "()LDanceNotation$Node;" } : Jvm.MethodName)) ∈ lw_all := lw_g (lw_at lw_m7 55 rfl) rfl
theorem q1613 : (Jvm.Cond.selects "DanceNotation$Parser" ({ cls := "DanceNotation$Parser", name := "series", desc := "()LDanceNotation$Node;" } : Jvm.MethodName) ({ cls := "DanceNotation$Parser", name := "series", desc := "()LDanceNotation$Node;" } : Jvm.MethodName)) ∈ lw_all := lw_g (lw_at lw_m7 56 rfl) rfl
theorem q1614 : (Jvm.Cond.code ({ cls := "DanceNotation$Parser", name := "series", desc := "()LDanceNotation$Node;" } : Jvm.MethodName) prog_11_method_7_code (3 : Nat) (Option.some (Jvm.ClassFile.FieldType.object "DanceNotation$Node"))) ∈ lw_all := lw_g (lw_at lw_m7 57 rfl) rfl
theorem q1615 : (Jvm.Cond.classLink "DanceNotation$Parser" (49 : Nat) "java/util/ArrayList") ∈ lw_all := lw_g (lw_at lw_m7 58 rfl) rfl
theorem q1616 : (Jvm.Cond.methodLink "DanceNotation$Parser" (51 : Nat) ({ cls := "java/util/ArrayList", name := "<init>", desc := "()V" } : Jvm.MethodName)) ∈ lw_all := lw_g (lw_at lw_m7 59 rfl) rfl
theorem q1632 : (Jvm.Cond.methodLink "DanceNotation$Parser" (52 : Nat) ({ cls := "DanceNotation$Parser", name := "layer", desc := "()LDanceNotation$Node;" } : Jvm.MethodName)) ∈ lw_all := lw_g (lw_at lw_m7 75 rfl) rfl
theorem q1633 : (Jvm.Cond.privateMethod ({ cls := "DanceNotation$Parser", name := "layer", desc := "()LDanceNotation$Node;" } : Jvm.MethodName)) ∈ lw_tbl := lw_at lw_m7 76 rfl
theorem q1634 : (Jvm.Cond.instanceMethod ({ cls := "DanceNotation$Parser", name := "layer", desc := "()LDanceNotation$Node;" } : Jvm.MethodName)) ∈ lw_all := lw_g (lw_at lw_m7 77 rfl) rfl
theorem q1635 : (Jvm.Cond.code ({ cls := "DanceNotation$Parser", name := "layer", desc := "()LDanceNotation$Node;" } : Jvm.MethodName) prog_11_method_8_code (3 : Nat) (Option.some (Jvm.ClassFile.FieldType.object "DanceNotation$Node"))) ∈ lw_all := lw_g (lw_at lw_m7 78 rfl) rfl
theorem q1636 : (Jvm.Cond.methodLink "DanceNotation$Parser" (69 : Nat) ({ cls := "DanceNotation$Parser", name := "repeated", desc := "()LDanceNotation$Node;" } : Jvm.MethodName)) ∈ lw_all := lw_g (lw_at lw_m7 79 rfl) rfl
theorem q1637 : (Jvm.Cond.privateMethod ({ cls := "DanceNotation$Parser", name := "repeated", desc := "()LDanceNotation$Node;" } : Jvm.MethodName)) ∈ lw_tbl := lw_at lw_m7 80 rfl
theorem q1638 : (Jvm.Cond.instanceMethod ({ cls := "DanceNotation$Parser", name := "repeated", desc := "()LDanceNotation$Node;" } : Jvm.MethodName)) ∈ lw_all := lw_g (lw_at lw_m7 81 rfl) rfl
theorem q1639 : (Jvm.Cond.code ({ cls := "DanceNotation$Parser", name := "repeated", desc := "()LDanceNotation$Node;" } : Jvm.MethodName) prog_11_method_9_code (2 : Nat) (Option.some (Jvm.ClassFile.FieldType.object "DanceNotation$Node"))) ∈ lw_all := lw_g (lw_at lw_m7 82 rfl) rfl
theorem q1640 : (Jvm.Cond.methodLink "DanceNotation$Parser" (33 : Nat) ({ cls := "DanceNotation$Parser", name := "isNext", desc := "(II)Z" } : Jvm.MethodName)) ∈ lw_all := lw_g (lw_at lw_m7 83 rfl) rfl
theorem q1641 : (Jvm.Cond.privateMethod ({ cls := "DanceNotation$Parser", name := "isNext", desc := "(II)Z" } : Jvm.MethodName)) ∈ lw_tbl := lw_at lw_m7 84 rfl
theorem q1642 : (Jvm.Cond.instanceMethod ({ cls := "DanceNotation$Parser", name := "isNext", desc := "(II)Z" } : Jvm.MethodName)) ∈ lw_all := lw_g (lw_at lw_m7 85 rfl) rfl
theorem q1643 : (Jvm.Cond.code ({ cls := "DanceNotation$Parser", name := "isNext", desc := "(II)Z" } : Jvm.MethodName) prog_11_method_2_code (3 : Nat) (Option.some Jvm.ClassFile.FieldType.boolean)) ∈ lw_all := lw_g (lw_at lw_m7 86 rfl) rfl
theorem q1644 : (Jvm.Cond.interfaceEntry "DanceNotation$Parser" (19 : Nat)) ∈ lw_tbl := lw_at lw_m7 87 rfl
theorem q1645 : (Jvm.Cond.methodLink "DanceNotation$Parser" (19 : Nat) ({ cls := "java/lang/CharSequence", name := "length", desc := "()I" } : Jvm.MethodName)) ∈ lw_all := lw_g (lw_at lw_m7 88 rfl) rfl
theorem q1656 : (Jvm.Cond.interfaceEntry "DanceNotation$Parser" (25 : Nat)) ∈ lw_tbl := lw_at lw_m7 99 rfl
theorem q1657 : (Jvm.Cond.methodLink "DanceNotation$Parser" (25 : Nat) ({ cls := "java/lang/CharSequence", name := "charAt", desc := "(I)C" } : Jvm.MethodName)) ∈ lw_all := lw_g (lw_at lw_m7 100 rfl) rfl
theorem q1674 : (Jvm.Cond.methodLinkNest "DanceNotation$Parser" (29 : Nat) ({ cls := "DanceNotation", name := "inRange", desc := "(JJJ)Z" } : Jvm.MethodName) "DanceNotation") ∈ lw_tbl := lw_at lw_m7 117 rfl
theorem q1675 : (Jvm.Cond.methodLink "DanceNotation$Parser" (72 : Nat) ({ cls := "DanceNotation$Parser", name := "take", desc := "(II)C" } : Jvm.MethodName)) ∈ lw_all := lw_g (lw_at lw_m7 118 rfl) rfl
theorem q1676 : (Jvm.Cond.privateMethod ({ cls := "DanceNotation$Parser", name := "take", desc := "(II)C" } : Jvm.MethodName)) ∈ lw_tbl := lw_at lw_m7 119 rfl
theorem q1677 : (Jvm.Cond.instanceMethod ({ cls := "DanceNotation$Parser", name := "take", desc := "(II)C" } : Jvm.MethodName)) ∈ lw_all := lw_g (lw_at lw_m7 120 rfl) rfl
theorem q1678 : (Jvm.Cond.code ({ cls := "DanceNotation$Parser", name := "take", desc := "(II)C" } : Jvm.MethodName) prog_11_method_5_code (3 : Nat) (Option.some Jvm.ClassFile.FieldType.char)) ∈ lw_all := lw_g (lw_at lw_m7 121 rfl) rfl
theorem q1679 : (Jvm.Cond.methodLink "DanceNotation$Parser" (42 : Nat) ({ cls := "DanceNotation$Parser", name := "fault", desc := "()LDanceNotation$SyntaxException;" } : Jvm.MethodName)) ∈ lw_all := lw_g (lw_at lw_m7 122 rfl) rfl
theorem q1680 : (Jvm.Cond.privateMethod ({ cls := "DanceNotation$Parser", name := "fault", desc := "()LDanceNotation$SyntaxException;" } : Jvm.MethodName)) ∈ lw_tbl := lw_at lw_m7 123 rfl
theorem q1681 : (Jvm.Cond.instanceMethod ({ cls := "DanceNotation$Parser", name := "fault", desc := "()LDanceNotation$SyntaxException;" } : Jvm.MethodName)) ∈ lw_all := lw_g (lw_at lw_m7 124 rfl) rfl
theorem q1682 : (Jvm.Cond.code ({ cls := "DanceNotation$Parser", name := "fault", desc := "()LDanceNotation$SyntaxException;" } : Jvm.MethodName) prog_11_method_4_code (1 : Nat) (Option.some (Jvm.ClassFile.FieldType.object "DanceNotation$SyntaxException"))) ∈ lw_all := lw_g (lw_at lw_m7 125 rfl) rfl
theorem q1683 : (Jvm.Cond.classLink "DanceNotation$Parser" (37 : Nat) "DanceNotation$SyntaxException") ∈ lw_all := lw_g (lw_at lw_m7 126 rfl) rfl
theorem q1692 : (Jvm.Cond.methodLink "DanceNotation$Parser" (39 : Nat) ({ cls := "DanceNotation$SyntaxException", name := "<init>", desc := "(I)V" } : Jvm.MethodName)) ∈ lw_all := lw_g (lw_at lw_m7 135 rfl) rfl
theorem q1707 : (Jvm.Cond.classLink "DanceNotation$Parser" (76 : Nat) "DanceNotation$Repeat") ∈ lw_all := lw_g (lw_at lw_m7 150 rfl) rfl
theorem q1709 : (Jvm.Cond.methodLink "DanceNotation$Parser" (78 : Nat) ({ cls := "DanceNotation$Parser", name := "unit", desc := "()LDanceNotation$Node;" } : Jvm.MethodName)) ∈ lw_all := lw_g (lw_at lw_m7 152 rfl) rfl
theorem q1710 : (Jvm.Cond.privateMethod ({ cls := "DanceNotation$Parser", name := "unit", desc := "()LDanceNotation$Node;" } : Jvm.MethodName)) ∈ lw_tbl := lw_at lw_m7 153 rfl
theorem q1711 : (Jvm.Cond.instanceMethod ({ cls := "DanceNotation$Parser", name := "unit", desc := "()LDanceNotation$Node;" } : Jvm.MethodName)) ∈ lw_all := lw_g (lw_at lw_m7 154 rfl) rfl
theorem q1712 : (Jvm.Cond.code ({ cls := "DanceNotation$Parser", name := "unit", desc := "()LDanceNotation$Node;" } : Jvm.MethodName) prog_11_method_11_code (2 : Nat) (Option.some (Jvm.ClassFile.FieldType.object "DanceNotation$Node"))) ∈ lw_all := lw_g (lw_at lw_m7 155 rfl) rfl
theorem q1713 : (Jvm.Cond.methodLink "DanceNotation$Parser" (60 : Nat) ({ cls := "DanceNotation$Parser", name := "takes", desc := "(C)Z" } : Jvm.MethodName)) ∈ lw_all := lw_g (lw_at lw_m7 156 rfl) rfl
theorem q1714 : (Jvm.Cond.privateMethod ({ cls := "DanceNotation$Parser", name := "takes", desc := "(C)Z" } : Jvm.MethodName)) ∈ lw_tbl := lw_at lw_m7 157 rfl
theorem q1715 : (Jvm.Cond.instanceMethod ({ cls := "DanceNotation$Parser", name := "takes", desc := "(C)Z" } : Jvm.MethodName)) ∈ lw_all := lw_g (lw_at lw_m7 158 rfl) rfl
theorem q1716 : (Jvm.Cond.code ({ cls := "DanceNotation$Parser", name := "takes", desc := "(C)Z" } : Jvm.MethodName) prog_11_method_6_code (3 : Nat) (Option.some Jvm.ClassFile.FieldType.boolean)) ∈ lw_all := lw_g (lw_at lw_m7 159 rfl) rfl
theorem q1717 : (Jvm.Cond.methodLink "DanceNotation$Parser" (46 : Nat) ({ cls := "DanceNotation$Parser", name := "isNext", desc := "(C)Z" } : Jvm.MethodName)) ∈ lw_all := lw_g (lw_at lw_m7 160 rfl) rfl
theorem q1718 : (Jvm.Cond.privateMethod ({ cls := "DanceNotation$Parser", name := "isNext", desc := "(C)Z" } : Jvm.MethodName)) ∈ lw_tbl := lw_at lw_m7 161 rfl
theorem q1719 : (Jvm.Cond.instanceMethod ({ cls := "DanceNotation$Parser", name := "isNext", desc := "(C)Z" } : Jvm.MethodName)) ∈ lw_all := lw_g (lw_at lw_m7 162 rfl) rfl
theorem q1720 : (Jvm.Cond.code ({ cls := "DanceNotation$Parser", name := "isNext", desc := "(C)Z" } : Jvm.MethodName) prog_11_method_3_code (2 : Nat) (Option.some Jvm.ClassFile.FieldType.boolean)) ∈ lw_all := lw_g (lw_at lw_m7 163 rfl) rfl
theorem q1721 : (Jvm.Cond.classLink "DanceNotation$Parser" (90 : Nat) "DanceNotation$Cue") ∈ lw_all := lw_g (lw_at lw_m7 164 rfl) rfl
theorem q1723 : (Jvm.Cond.methodLinkNest "DanceNotation$Parser" (92 : Nat) ({ cls := "DanceNotation$Cue", name := "<init>", desc := "()V" } : Jvm.MethodName) "DanceNotation") ∈ lw_tbl := lw_at lw_m7 166 rfl
theorem q1734 : (Jvm.Cond.methodLink "DanceNotation$Parser" (93 : Nat) ({ cls := "DanceNotation$Parser", name := "phrase", desc := "(I)LDanceNotation$Node;" } : Jvm.MethodName)) ∈ lw_all := lw_g (lw_at lw_m7 177 rfl) rfl
theorem q1735 : (Jvm.Cond.privateMethod ({ cls := "DanceNotation$Parser", name := "phrase", desc := "(I)LDanceNotation$Node;" } : Jvm.MethodName)) ∈ lw_tbl := lw_at lw_m7 178 rfl
theorem q1736 : (Jvm.Cond.instanceMethod ({ cls := "DanceNotation$Parser", name := "phrase", desc := "(I)LDanceNotation$Node;" } : Jvm.MethodName)) ∈ lw_all := lw_g (lw_at lw_m7 179 rfl) rfl
theorem q1737 : (Jvm.Cond.code ({ cls := "DanceNotation$Parser", name := "phrase", desc := "(I)LDanceNotation$Node;" } : Jvm.MethodName) prog_11_method_12_code (8 : Nat) (Option.some (Jvm.ClassFile.FieldType.object "DanceNotation$Node"))) ∈ lw_all := lw_g (lw_at lw_m7 180 rfl) rfl
theorem q1738 : (Jvm.Cond.methodLink "DanceNotation$Parser" (108 : Nat) ({ cls := "java/lang/Integer", name := "valueOf", desc := "(I)Ljava/lang/Integer;" } : Jvm.MethodName)) ∈ lw_all := lw_g (lw_at lw_m7 181 rfl) rfl
theorem q1758 : (Jvm.Cond.methodLink "DanceNotation$Parser" (56 : Nat) ({ cls := "java/util/ArrayList", name := "add", desc := "(Ljava/lang/Object;)Z" } : Jvm.MethodName)) ∈ lw_all := lw_g (lw_at lw_m7 201 rfl) rfl
theorem q1777 : (Jvm.Cond.stringRef "DanceNotation$Parser" (114 : Nat) "nesw.") ∈ lw_tbl := lw_at lw_m7 220 rfl
theorem q1778 : (Jvm.Cond.methodLink "DanceNotation$Parser" (116 : Nat) ({ cls := "java/lang/String", name := "indexOf", desc := "(I)I" } : Jvm.MethodName)) ∈ lw_all := lw_g (lw_at lw_m7 221 rfl) rfl
theorem q1824 : (Jvm.Cond.methodLink "DanceNotation$Parser" (122 : Nat) ({ cls := "java/util/ArrayList", name := "size", desc := "()I" } : Jvm.MethodName)) ∈ lw_all := lw_g (lw_at lw_m8 27 rfl) rfl
theorem q1825 : (Jvm.Cond.methodLink "DanceNotation$Parser" (125 : Nat) ({ cls := "java/util/ArrayList", name := "get", desc := "(I)Ljava/lang/Object;" } : Jvm.MethodName)) ∈ lw_all := lw_g (lw_at lw_m8 28 rfl) rfl
theorem q1826 : (Jvm.Cond.classLink "DanceNotation$Parser" (109 : Nat) "java/lang/Integer") ∈ lw_all := lw_g (lw_at lw_m8 29 rfl) rfl
theorem q1827 : (Jvm.Cond.methodLink "DanceNotation$Parser" (129 : Nat) ({ cls := "java/lang/Integer", name := "intValue", desc := "()I" } : Jvm.MethodName)) ∈ lw_all := lw_g (lw_at lw_m8 30 rfl) rfl
theorem q1831 : (Jvm.Cond.classLink "DanceNotation$Parser" (132 : Nat) "DanceNotation$Phrase") ∈ lw_all := lw_g (lw_at lw_m8 34 rfl) rfl
theorem q1833 : (Jvm.Cond.interfaceEntry "DanceNotation$Parser" (134 : Nat)) ∈ lw_tbl := lw_at lw_m8 36 rfl
theorem q1834 : (Jvm.Cond.methodLink "DanceNotation$Parser" (134 : Nat) ({ cls := "java/lang/CharSequence", name := "subSequence", desc := "(II)Ljava/lang/CharSequence;" } : Jvm.MethodName)) ∈ lw_all := lw_g (lw_at lw_m8 37 rfl) rfl
theorem q1885 : (Jvm.Cond.interfaceEntry "DanceNotation$Parser" (138 : Nat)) ∈ lw_tbl := lw_at lw_m8 88 rfl
theorem q1886 : (Jvm.Cond.methodLink "DanceNotation$Parser" (138 : Nat) ({ cls := "java/lang/CharSequence", name := "toString", desc := "()Ljava/lang/String;" } : Jvm.MethodName)) ∈ lw_all := lw_g (lw_at lw_m8 89 rfl) rfl
theorem q1897 : (Jvm.Cond.methodLink "DanceNotation$Parser" (142 : Nat) ({ cls := "DanceNotation$Phrase", name := "<init>", desc := "(ILjava/lang/String;[I)V" } : Jvm.MethodName)) ∈ lw_all := lw_g (lw_at lw_m8 100 rfl) rfl
theorem q1911 : (Jvm.Cond.classLink "DanceNotation$Parser" (97 : Nat) "DanceNotation$Mirrored") ∈ lw_all := lw_g (lw_at lw_m8 114 rfl) rfl
theorem q1913 : (Jvm.Cond.methodLink "DanceNotation$Parser" (99 : Nat) ({ cls := "DanceNotation$Parser", name := "enclosed", desc := "()LDanceNotation$Node;" } : Jvm.MethodName)) ∈ lw_all := lw_g (lw_at lw_m8 116 rfl) rfl
theorem q1914 : (Jvm.Cond.privateMethod ({ cls := "DanceNotation$Parser", name := "enclosed", desc := "()LDanceNotation$Node;" } : Jvm.MethodName)) ∈ lw_tbl := lw_at lw_m8 117 rfl
theorem q1915 : (Jvm.Cond.instanceMethod ({ cls := "DanceNotation$Parser", name := "enclosed", desc := "()LDanceNotation$Node;" } : Jvm.MethodName)) ∈ lw_all := lw_g (lw_at lw_m8 118 rfl) rfl
theorem q1916 : (Jvm.Cond.codeWith ({ cls := "DanceNotation$Parser", name := "enclosed", desc := "()LDanceNotation$Node;" } : Jvm.MethodName) prog_11_method_10_code (6 : Nat) (Option.some (Jvm.ClassFile.FieldType.object "DanceNotation$Node")) [((33 : Nat), (50 : Nat), (63 : Nat), (0 : Nat)), ((63 : Nat), (65 : Nat), (63 : Nat), (0 : Nat))]) ∈ lw_all := lw_g (lw_at lw_m8 119 rfl) rfl
theorem q1917 : (Jvm.Cond.methodLink "DanceNotation$Parser" (102 : Nat) ({ cls := "DanceNotation$Mirrored", name := "<init>", desc := "(LDanceNotation$Node;)V" } : Jvm.MethodName)) ∈ lw_all := lw_g (lw_at lw_m8 120 rfl) rfl
theorem q1936 : (Jvm.Cond.classLink "DanceNotation$Parser" (105 : Nat) "DanceNotation$Reversed") ∈ lw_all := lw_g (lw_at lw_m8 139 rfl) rfl
theorem q1938 : (Jvm.Cond.methodLink "DanceNotation$Parser" (107 : Nat) ({ cls := "DanceNotation$Reversed", name := "<init>", desc := "(LDanceNotation$Node;)V" } : Jvm.MethodName)) ∈ lw_all := lw_g (lw_at lw_m8 141 rfl) rfl
theorem q1944 : (Jvm.Cond.methodLink "DanceNotation$Parser" (81 : Nat) ({ cls := "DanceNotation$Repeat", name := "<init>", desc := "(ILDanceNotation$Node;)V" } : Jvm.MethodName)) ∈ lw_all := lw_g (lw_at lw_m8 147 rfl) rfl
theorem q1952 : (Jvm.Cond.methodLink "DanceNotation$Parser" (63 : Nat) ({ cls := "DanceNotation$Several", name := "of", desc := "(ZLjava/util/ArrayList;)LDanceNotation$Node;" } : Jvm.MethodName)) ∈ lw_all := lw_g (lw_at lw_m8 155 rfl) rfl
theorem q3329 : (Jvm.Cond.castable "DanceNotation$Parser" "java/lang/Object") ∈ lw_tbl := lw_at lw_m14 92 rfl
theorem in_X6 : ∀ w ∈ wsX60, w ∈ lw_all := lw_in wsX60 [1600, 1602, 1604] (by decide +kernel) (by decide +kernel)

/-! DanceNotation$SyntaxException -/
set_option maxRecDepth 100000
def RX7 : String := "DanceNotation$SyntaxException"
def TX7 : u_T := fun k => match k with
  | 0 => ("java/lang/Throwable", "cause", "Ljava/lang/Throwable;", false)
  | 1 => ("java/lang/Throwable", "stackTrace", "[Ljava/lang/StackTraceElement;", false)
  | 2 => ("java/lang/Throwable", "suppressedExceptions", "Ljava/util/List;", false)
  | 3 => ("java/lang/Throwable", "detailMessage", "Ljava/lang/String;", false)
  | 4 => ("java/lang/Throwable", "backtrace", "Ljava/lang/Object;", false)
  | 5 => ("java/lang/Throwable", "depth", "I", false)
  | _ => ("DanceNotation$SyntaxException", "position", "I", true)
def tyX7 : Nat → FieldType := fun k => match k with
  | 0 => .object "java/lang/Throwable"
  | 1 => .array (.object "java/lang/StackTraceElement")
  | 2 => .object "java/util/List"
  | 3 => .object "java/lang/String"
  | 4 => .object "java/lang/Object"
  | 5 => .int
  | _ => .int
abbrev wsX70 : List Cond := u_ws RX7 TX7 7
theorem nmX7 : ∀ a, a < 7 → ∀ b, b < 7 → a ≠ b → (TX7 a).2.1 ≠ (TX7 b).2.1 := by decide +kernel
theorem tyX7_ok : ∀ k, k < 7 → parseFieldDescriptor (TX7 k).2.2.1 = some (tyX7 k) := by decide +kernel
abbrev cX7_init : ByteArray := prog_21_method_1_code
def yX7_init : MethodName := ⟨RX7, "<init>", "(I)V"⟩
def dkwX7_init_0 : List UInt8 := [42, 1, 1, 3, 3, 183, 0, 1, 42, 27, 181, 0, 7, 177]
abbrev dktX7_init_0 : List UInt8 := dkwX7_init_0 ++ []
theorem dksX7_init_0 : cX7_init.data.toList.drop 0 = dktX7_init_0 := by decide +kernel
theorem dX7_init_0 : decode cX7_init 0 = .ok (.aload_n 0, 1) := dk_42 (dk_at dksX7_init_0 0 rfl rfl)
theorem dX7_init_1 : decode cX7_init 1 = .ok (.aconst_null, 1) := dk_1 (dk_at dksX7_init_0 1 rfl rfl)
theorem dX7_init_2 : decode cX7_init 2 = .ok (.aconst_null, 1) := dk_1 (dk_at dksX7_init_0 2 rfl rfl)
theorem dX7_init_3 : decode cX7_init 3 = .ok (.iconst 0, 1) := dk_3 (dk_at dksX7_init_0 3 rfl rfl)
theorem dX7_init_4 : decode cX7_init 4 = .ok (.iconst 0, 1) := dk_3 (dk_at dksX7_init_0 4 rfl rfl)
theorem dX7_init_5 : decode cX7_init 5 = .ok (.invokespecial 1, 3) := dk_183 0 1 (dk_at dksX7_init_0 5 rfl rfl)
theorem dX7_init_8 : decode cX7_init 8 = .ok (.aload_n 0, 1) := dk_42 (dk_at dksX7_init_0 8 rfl rfl)
theorem dX7_init_9 : decode cX7_init 9 = .ok (.iload_n 1, 1) := dk_27 (dk_at dksX7_init_0 9 rfl rfl)
theorem dX7_init_10 : decode cX7_init 10 = .ok (.putfield 7, 3) := dk_181 0 7 (dk_at dksX7_init_0 10 rfl rfl)
theorem dX7_init_13 : decode cX7_init 13 = .ok (.return_, 1) := dk_177 (dk_at dksX7_init_0 13 rfl rfl)
theorem q153 : (Jvm.Cond.initialized "DanceNotation$SyntaxException") ∈ lw_all := lw_g (lw_at lw_m1 36 rfl) rfl
theorem q412 : (Jvm.Cond.selects "DanceNotation$SyntaxException" ({ cls := "java/lang/Throwable", name := "fillInStackTrace", desc := "()Ljava/lang/Throwable;" } : Jvm.MethodName) ({ cls := "java/lang/Throwable", name := "fillInStackTrace", desc := "()Ljava/lang/Throwable;" } : Jvm.MethodName)) ∈ lw_all := lw_g (lw_at lw_m2 55 rfl) rfl
theorem q981 : (Jvm.Cond.selects "DanceNotation$SyntaxException" ({ cls := "java/lang/Throwable", name := "toString", desc := "()Ljava/lang/String;" } : Jvm.MethodName) ({ cls := "java/lang/Throwable", name := "toString", desc := "()Ljava/lang/String;" } : Jvm.MethodName)) ∈ lw_all := lw_g (lw_at lw_m4 144 rfl) rfl
theorem q1008 : (Jvm.Cond.selects "DanceNotation$SyntaxException" ({ cls := "java/lang/Object", name := "getClass", desc := "()Ljava/lang/Class;" } : Jvm.MethodName) ({ cls := "java/lang/Object", name := "getClass", desc := "()Ljava/lang/Class;" } : Jvm.MethodName)) ∈ lw_all := lw_g (lw_at lw_m4 171 rfl) rfl
theorem q1034 : (Jvm.Cond.selects "DanceNotation$SyntaxException" ({ cls := "java/lang/Throwable", name := "getLocalizedMessage", desc := "()Ljava/lang/String;" } : Jvm.MethodName) ({ cls := "java/lang/Throwable", name := "getLocalizedMessage", desc := "()Ljava/lang/String;" } : Jvm.MethodName)) ∈ lw_all := lw_g (lw_at lw_m4 197 rfl) rfl
theorem q1047 : (Jvm.Cond.selects "DanceNotation$SyntaxException" ({ cls := "java/lang/Throwable", name := "getMessage", desc := "()Ljava/lang/String;" } : Jvm.MethodName) ({ cls := "java/lang/Throwable", name := "getMessage", desc := "()Ljava/lang/String;" } : Jvm.MethodName)) ∈ lw_all := lw_g (lw_at lw_m4 210 rfl) rfl
theorem q1684 : (Jvm.Cond.instantiable "DanceNotation$SyntaxException" (7 : Nat)) ∈ lw_all := lw_g (lw_at lw_m7 127 rfl) rfl
theorem q1685 : (Jvm.Cond.castable "DanceNotation$SyntaxException" "DanceNotation$SyntaxException") ∈ lw_tbl := lw_at lw_m7 128 rfl
theorem q1686 : (Jvm.Cond.selects "DanceNotation$SyntaxException" ({ cls := "java/lang/Throwable", name := "fillInStackTrace", desc := "(I)Ljava/lang/Throwable;" } : Jvm.MethodName) ({ cls := "java/lang/Throwable", name := "fillInStackTrace", desc := "(I)Ljava/lang/Throwable;" } : Jvm.MethodName)) ∈ lw_all := lw_g (lw_at lw_m7 129 rfl) rfl
theorem q1687 : (Jvm.Cond.lays "DanceNotation$SyntaxException" "java/lang/Throwable" "cause" "Ljava/lang/Throwable;") ∈ lw_all := lw_g (lw_at lw_m7 130 rfl) rfl
theorem q1688 : (Jvm.Cond.lays "DanceNotation$SyntaxException" "java/lang/Throwable" "stackTrace" "[Ljava/lang/StackTraceElement;") ∈ lw_all := lw_g (lw_at lw_m7 131 rfl) rfl
theorem q1689 : (Jvm.Cond.lays "DanceNotation$SyntaxException" "java/lang/Throwable" "suppressedExceptions" "Ljava/util/List;") ∈ lw_all := lw_g (lw_at lw_m7 132 rfl) rfl
theorem q1690 : (Jvm.Cond.lays "DanceNotation$SyntaxException" "java/lang/Throwable" "detailMessage" "Ljava/lang/String;") ∈ lw_all := lw_g (lw_at lw_m7 133 rfl) rfl
theorem q1691 : (Jvm.Cond.lays "DanceNotation$SyntaxException" "java/lang/Throwable" "backtrace" "Ljava/lang/Object;") ∈ lw_all := lw_g (lw_at lw_m7 134 rfl) rfl
theorem q1693 : (Jvm.Cond.instanceMethod ({ cls := "DanceNotation$SyntaxException", name := "<init>", desc := "(I)V" } : Jvm.MethodName)) ∈ lw_all := lw_g (lw_at lw_m7 136 rfl) rfl
theorem q1694 : (Jvm.Cond.code ({ cls := "DanceNotation$SyntaxException", name := "<init>", desc := "(I)V" } : Jvm.MethodName) prog_21_method_1_code (2 : Nat) (Option.none : Option Jvm.ClassFile.FieldType)) ∈ lw_all := lw_g (lw_at lw_m7 137 rfl) rfl
theorem q1695 : (Jvm.Cond.methodLink "DanceNotation$SyntaxException" (1 : Nat) ({ cls := "java/lang/Exception", name := "<init>", desc := "(Ljava/lang/String;Ljava/lang/Throwable;ZZ)V" } : Jvm.MethodName)) ∈ lw_all := lw_g (lw_at lw_m7 138 rfl) rfl
theorem q1701 : (Jvm.Cond.fieldLink "DanceNotation$SyntaxException" (7 : Nat) "DanceNotation$SyntaxException" "position" "I") ∈ lw_all := lw_g (lw_at lw_m7 144 rfl) rfl
theorem q1703 : (Jvm.Cond.laysFinal "DanceNotation$SyntaxException" "DanceNotation$SyntaxException" "position" "I") ∈ lw_all := lw_g (lw_at lw_m7 146 rfl) rfl
theorem q1704 : (Jvm.Cond.soleField "DanceNotation$SyntaxException" "position") ∈ lw_all := lw_g (lw_at lw_m7 147 rfl) rfl
theorem q1705 : (Jvm.Cond.lays "DanceNotation$SyntaxException" "java/lang/Throwable" "depth" "I") ∈ lw_all := lw_g (lw_at lw_m7 148 rfl) rfl
theorem q1706 : (Jvm.Cond.superclass "DanceNotation$SyntaxException" "java/lang/Exception") ∈ lw_all := lw_g (lw_at lw_m7 149 rfl) rfl
theorem q3331 : (Jvm.Cond.castable "DanceNotation$SyntaxException" "java/lang/Object") ∈ lw_tbl := lw_at lw_m14 94 rfl
theorem in_X7 : ∀ w ∈ wsX70, w ∈ lw_all := lw_in wsX70 [1687, 1688, 1689, 1690, 1691, 1705, 1703] (by decide +kernel) (by decide +kernel)

/-! DanceNotation$Node -/
set_option maxRecDepth 100000
def RX8 : String := "DanceNotation$Node"
abbrev cX8_score : ByteArray := prog_9_method_5_code
def yX8_score : MethodName := ⟨RX8, "score", "()LDanceNotation$Score;"⟩
def dkwX8_score_0 : List UInt8 := [187, 0, 22, 89, 42, 182, 0, 24, 183, 0, 27, 76, 42, 43, 3, 3, 3, 182, 0, 30, 43, 176]
abbrev dktX8_score_0 : List UInt8 := dkwX8_score_0 ++ []
theorem dksX8_score_0 : cX8_score.data.toList.drop 0 = dktX8_score_0 := by decide +kernel
theorem dX8_score_0 : decode cX8_score 0 = .ok (.new 22, 3) := dk_187 0 22 (dk_at dksX8_score_0 0 rfl rfl)
theorem dX8_score_3 : decode cX8_score 3 = .ok (.dup, 1) := dk_89 (dk_at dksX8_score_0 3 rfl rfl)
theorem dX8_score_4 : decode cX8_score 4 = .ok (.aload_n 0, 1) := dk_42 (dk_at dksX8_score_0 4 rfl rfl)
theorem dX8_score_5 : decode cX8_score 5 = .ok (.invokevirtual 24, 3) := dk_182 0 24 (dk_at dksX8_score_0 5 rfl rfl)
theorem dX8_score_8 : decode cX8_score 8 = .ok (.invokespecial 27, 3) := dk_183 0 27 (dk_at dksX8_score_0 8 rfl rfl)
theorem dX8_score_11 : decode cX8_score 11 = .ok (.astore_n 1, 1) := dk_76 (dk_at dksX8_score_0 11 rfl rfl)
theorem dX8_score_12 : decode cX8_score 12 = .ok (.aload_n 0, 1) := dk_42 (dk_at dksX8_score_0 12 rfl rfl)
theorem dX8_score_13 : decode cX8_score 13 = .ok (.aload_n 1, 1) := dk_43 (dk_at dksX8_score_0 13 rfl rfl)
theorem dX8_score_14 : decode cX8_score 14 = .ok (.iconst 0, 1) := dk_3 (dk_at dksX8_score_0 14 rfl rfl)
theorem dX8_score_15 : decode cX8_score 15 = .ok (.iconst 0, 1) := dk_3 (dk_at dksX8_score_0 15 rfl rfl)
theorem dX8_score_16 : decode cX8_score 16 = .ok (.iconst 0, 1) := dk_3 (dk_at dksX8_score_0 16 rfl rfl)
theorem dX8_score_17 : decode cX8_score 17 = .ok (.invokevirtual 30, 3) := dk_182 0 30 (dk_at dksX8_score_0 17 rfl rfl)
theorem dX8_score_20 : decode cX8_score 20 = .ok (.aload_n 1, 1) := dk_43 (dk_at dksX8_score_0 20 rfl rfl)
theorem dX8_score_21 : decode cX8_score 21 = .ok (.areturn, 1) := dk_176 (dk_at dksX8_score_0 21 rfl rfl)
abbrev cX8_writePart : ByteArray := prog_9_method_11_code
def yX8_writePart : MethodName := ⟨RX8, "writePart", "(Ljava/lang/StringBuilder;LDanceNotation$Node;Z)V"⟩
def dkwX8_writePart_1 : List UInt8 := [153, 0, 8, 18, 59, 167, 0, 5, 18, 47, 182, 0, 49, 87, 177]
abbrev dktX8_writePart_1 : List UInt8 := dkwX8_writePart_1 ++ []
def dkwX8_writePart_0 : List UInt8 := [43, 29, 153, 0, 8, 18, 45, 167, 0, 5, 18, 47, 182, 0, 49, 87, 44, 43, 182, 0, 55, 43, 29]
abbrev dktX8_writePart_0 : List UInt8 := dkwX8_writePart_0 ++ dktX8_writePart_1
theorem dksX8_writePart_0 : cX8_writePart.data.toList.drop 0 = dktX8_writePart_0 := by decide +kernel
theorem dksX8_writePart_1 : cX8_writePart.data.toList.drop 23 = dktX8_writePart_1 := dk_seg dksX8_writePart_0 23 rfl rfl
theorem dX8_writePart_0 : decode cX8_writePart 0 = .ok (.aload_n 1, 1) := dk_43 (dk_at dksX8_writePart_0 0 rfl rfl)
theorem dX8_writePart_1 : decode cX8_writePart 1 = .ok (.iload_n 3, 1) := dk_29 (dk_at dksX8_writePart_0 1 rfl rfl)
theorem dX8_writePart_2 : decode cX8_writePart 2 = .ok (.ifCond .eq 8, 3) := dk_153 0 8 (dk_at dksX8_writePart_0 2 rfl rfl)
theorem dX8_writePart_5 : decode cX8_writePart 5 = .ok (.ldc 45, 2) := dk_18 45 (dk_at dksX8_writePart_0 5 rfl rfl)
theorem dX8_writePart_7 : decode cX8_writePart 7 = .ok (.goto 5, 3) := dk_167 0 5 (dk_at dksX8_writePart_0 7 rfl rfl)
theorem dX8_writePart_10 : decode cX8_writePart 10 = .ok (.ldc 47, 2) := dk_18 47 (dk_at dksX8_writePart_0 10 rfl rfl)
theorem dX8_writePart_12 : decode cX8_writePart 12 = .ok (.invokevirtual 49, 3) := dk_182 0 49 (dk_at dksX8_writePart_0 12 rfl rfl)
theorem dX8_writePart_15 : decode cX8_writePart 15 = .ok (.pop, 1) := dk_87 (dk_at dksX8_writePart_0 15 rfl rfl)
theorem dX8_writePart_16 : decode cX8_writePart 16 = .ok (.aload_n 2, 1) := dk_44 (dk_at dksX8_writePart_0 16 rfl rfl)
theorem dX8_writePart_17 : decode cX8_writePart 17 = .ok (.aload_n 1, 1) := dk_43 (dk_at dksX8_writePart_0 17 rfl rfl)
theorem dX8_writePart_18 : decode cX8_writePart 18 = .ok (.invokevirtual 55, 3) := dk_182 0 55 (dk_at dksX8_writePart_0 18 rfl rfl)
theorem dX8_writePart_21 : decode cX8_writePart 21 = .ok (.aload_n 1, 1) := dk_43 (dk_at dksX8_writePart_0 21 rfl rfl)
theorem dX8_writePart_22 : decode cX8_writePart 22 = .ok (.iload_n 3, 1) := dk_29 (dk_at dksX8_writePart_0 22 rfl rfl)
theorem dX8_writePart_23 : decode cX8_writePart 23 = .ok (.ifCond .eq 8, 3) := dk_153 0 8 (dk_at dksX8_writePart_1 0 rfl rfl)
theorem dX8_writePart_26 : decode cX8_writePart 26 = .ok (.ldc 59, 2) := dk_18 59 (dk_at dksX8_writePart_1 3 rfl rfl)
theorem dX8_writePart_28 : decode cX8_writePart 28 = .ok (.goto 5, 3) := dk_167 0 5 (dk_at dksX8_writePart_1 5 rfl rfl)
theorem dX8_writePart_31 : decode cX8_writePart 31 = .ok (.ldc 47, 2) := dk_18 47 (dk_at dksX8_writePart_1 8 rfl rfl)
theorem dX8_writePart_33 : decode cX8_writePart 33 = .ok (.invokevirtual 49, 3) := dk_182 0 49 (dk_at dksX8_writePart_1 10 rfl rfl)
theorem dX8_writePart_36 : decode cX8_writePart 36 = .ok (.pop, 1) := dk_87 (dk_at dksX8_writePart_1 13 rfl rfl)
theorem dX8_writePart_37 : decode cX8_writePart 37 = .ok (.return_, 1) := dk_177 (dk_at dksX8_writePart_1 14 rfl rfl)
abbrev cX8_init : ByteArray := prog_9_method_1_code
def yX8_init : MethodName := ⟨RX8, "<init>", "()V"⟩
theorem dX8_init_0 : decode cX8_init 0 = .ok (.aload_n 0, 1) := by decide +kernel
theorem dX8_init_1 : decode cX8_init 1 = .ok (.invokespecial 3, 3) := by decide +kernel
theorem dX8_init_4 : decode cX8_init 4 = .ok (.return_, 1) := by decide +kernel
abbrev cX8_checkAll : ByteArray := prog_9_method_10_code
def yX8_checkAll : MethodName := ⟨RX8, "checkAll", "()V"⟩
def dkwX8_checkAll_1 : List UInt8 := [42, 182, 0, 42, 177]
abbrev dktX8_checkAll_1 : List UInt8 := dkwX8_checkAll_1 ++ []
def dkwX8_checkAll_0 : List UInt8 := [3, 60, 27, 42, 182, 0, 9, 162, 0, 17, 42, 27, 182, 0, 15, 182, 0, 39, 132, 1, 1, 167, 255, 237]
abbrev dktX8_checkAll_0 : List UInt8 := dkwX8_checkAll_0 ++ dktX8_checkAll_1
theorem dksX8_checkAll_0 : cX8_checkAll.data.toList.drop 0 = dktX8_checkAll_0 := by decide +kernel
theorem dksX8_checkAll_1 : cX8_checkAll.data.toList.drop 24 = dktX8_checkAll_1 := dk_seg dksX8_checkAll_0 24 rfl rfl
theorem dX8_checkAll_0 : decode cX8_checkAll 0 = .ok (.iconst 0, 1) := dk_3 (dk_at dksX8_checkAll_0 0 rfl rfl)
theorem dX8_checkAll_1 : decode cX8_checkAll 1 = .ok (.istore_n 1, 1) := dk_60 (dk_at dksX8_checkAll_0 1 rfl rfl)
theorem dX8_checkAll_2 : decode cX8_checkAll 2 = .ok (.iload_n 1, 1) := dk_27 (dk_at dksX8_checkAll_0 2 rfl rfl)
theorem dX8_checkAll_3 : decode cX8_checkAll 3 = .ok (.aload_n 0, 1) := dk_42 (dk_at dksX8_checkAll_0 3 rfl rfl)
theorem dX8_checkAll_4 : decode cX8_checkAll 4 = .ok (.invokevirtual 9, 3) := dk_182 0 9 (dk_at dksX8_checkAll_0 4 rfl rfl)
theorem dX8_checkAll_7 : decode cX8_checkAll 7 = .ok (.if_icmp .ge 17, 3) := dk_162 0 17 (dk_at dksX8_checkAll_0 7 rfl rfl)
theorem dX8_checkAll_10 : decode cX8_checkAll 10 = .ok (.aload_n 0, 1) := dk_42 (dk_at dksX8_checkAll_0 10 rfl rfl)
theorem dX8_checkAll_11 : decode cX8_checkAll 11 = .ok (.iload_n 1, 1) := dk_27 (dk_at dksX8_checkAll_0 11 rfl rfl)
theorem dX8_checkAll_12 : decode cX8_checkAll 12 = .ok (.invokevirtual 15, 3) := dk_182 0 15 (dk_at dksX8_checkAll_0 12 rfl rfl)
theorem dX8_checkAll_15 : decode cX8_checkAll 15 = .ok (.invokevirtual 39, 3) := dk_182 0 39 (dk_at dksX8_checkAll_0 15 rfl rfl)
theorem dX8_checkAll_18 : decode cX8_checkAll 18 = .ok (.iinc 1 1, 3) := dk_132 1 1 (dk_at dksX8_checkAll_0 18 rfl rfl)
theorem dX8_checkAll_21 : decode cX8_checkAll 21 = .ok (.goto (-19), 3) := dk_167 255 237 (dk_at dksX8_checkAll_0 21 rfl rfl)
theorem dX8_checkAll_24 : decode cX8_checkAll 24 = .ok (.aload_n 0, 1) := dk_42 (dk_at dksX8_checkAll_1 0 rfl rfl)
theorem dX8_checkAll_25 : decode cX8_checkAll 25 = .ok (.invokevirtual 42, 3) := dk_182 0 42 (dk_at dksX8_checkAll_1 1 rfl rfl)
theorem dX8_checkAll_28 : decode cX8_checkAll 28 = .ok (.return_, 1) := dk_177 (dk_at dksX8_checkAll_1 4 rfl rfl)
abbrev cX8_check : ByteArray := prog_9_method_9_code
def yX8_check : MethodName := ⟨RX8, "check", "()V"⟩
def dkwX8_check_1 : List UInt8 := [2, 183, 0, 36, 191, 177]
abbrev dktX8_check_1 : List UInt8 := dkwX8_check_1 ++ []
def dkwX8_check_0 : List UInt8 := [42, 182, 0, 24, 16, 99, 163, 0, 13, 42, 182, 0, 19, 17, 3, 231, 164, 0, 13, 187, 0, 34, 89, 5]
abbrev dktX8_check_0 : List UInt8 := dkwX8_check_0 ++ dktX8_check_1
theorem dksX8_check_0 : cX8_check.data.toList.drop 0 = dktX8_check_0 := by decide +kernel
theorem dksX8_check_1 : cX8_check.data.toList.drop 24 = dktX8_check_1 := dk_seg dksX8_check_0 24 rfl rfl
theorem dX8_check_0 : decode cX8_check 0 = .ok (.aload_n 0, 1) := dk_42 (dk_at dksX8_check_0 0 rfl rfl)
theorem dX8_check_1 : decode cX8_check 1 = .ok (.invokevirtual 24, 3) := dk_182 0 24 (dk_at dksX8_check_0 1 rfl rfl)
theorem dX8_check_4 : decode cX8_check 4 = .ok (.bipush 99, 2) := dk_16 99 (dk_at dksX8_check_0 4 rfl rfl)
theorem dX8_check_6 : decode cX8_check 6 = .ok (.if_icmp .gt 13, 3) := dk_163 0 13 (dk_at dksX8_check_0 6 rfl rfl)
theorem dX8_check_9 : decode cX8_check 9 = .ok (.aload_n 0, 1) := dk_42 (dk_at dksX8_check_0 9 rfl rfl)
theorem dX8_check_10 : decode cX8_check 10 = .ok (.invokevirtual 19, 3) := dk_182 0 19 (dk_at dksX8_check_0 10 rfl rfl)
theorem dX8_check_13 : decode cX8_check 13 = .ok (.sipush 999, 3) := dk_17 3 231 (dk_at dksX8_check_0 13 rfl rfl)
theorem dX8_check_16 : decode cX8_check 16 = .ok (.if_icmp .le 13, 3) := dk_164 0 13 (dk_at dksX8_check_0 16 rfl rfl)
theorem dX8_check_19 : decode cX8_check 19 = .ok (.new 34, 3) := dk_187 0 34 (dk_at dksX8_check_0 19 rfl rfl)
theorem dX8_check_22 : decode cX8_check 22 = .ok (.dup, 1) := dk_89 (dk_at dksX8_check_0 22 rfl rfl)
theorem dX8_check_23 : decode cX8_check 23 = .ok (.iconst 2, 1) := dk_5 (dk_at dksX8_check_0 23 rfl rfl)
theorem dX8_check_24 : decode cX8_check 24 = .ok (.iconst (-1), 1) := dk_2 (dk_at dksX8_check_1 0 rfl rfl)
theorem dX8_check_25 : decode cX8_check 25 = .ok (.invokespecial 36, 3) := dk_183 0 36 (dk_at dksX8_check_1 1 rfl rfl)
theorem dX8_check_28 : decode cX8_check 28 = .ok (.athrow, 1) := dk_191 (dk_at dksX8_check_1 4 rfl rfl)
theorem dX8_check_29 : decode cX8_check 29 = .ok (.return_, 1) := dk_177 (dk_at dksX8_check_1 5 rfl rfl)
abbrev cX8_cues : ByteArray := prog_9_method_3_code
def yX8_cues : MethodName := ⟨RX8, "cues", "()I"⟩
def dkwX8_cues_1 : List UInt8 := [132, 2, 1, 167, 255, 234, 27, 172]
abbrev dktX8_cues_1 : List UInt8 := dkwX8_cues_1 ++ []
def dkwX8_cues_0 : List UInt8 := [3, 60, 3, 61, 28, 42, 182, 0, 9, 162, 0, 20, 27, 42, 28, 182, 0, 15, 182, 0, 19, 96, 60]
abbrev dktX8_cues_0 : List UInt8 := dkwX8_cues_0 ++ dktX8_cues_1
theorem dksX8_cues_0 : cX8_cues.data.toList.drop 0 = dktX8_cues_0 := by decide +kernel
theorem dksX8_cues_1 : cX8_cues.data.toList.drop 23 = dktX8_cues_1 := dk_seg dksX8_cues_0 23 rfl rfl
theorem dX8_cues_0 : decode cX8_cues 0 = .ok (.iconst 0, 1) := dk_3 (dk_at dksX8_cues_0 0 rfl rfl)
theorem dX8_cues_1 : decode cX8_cues 1 = .ok (.istore_n 1, 1) := dk_60 (dk_at dksX8_cues_0 1 rfl rfl)
theorem dX8_cues_2 : decode cX8_cues 2 = .ok (.iconst 0, 1) := dk_3 (dk_at dksX8_cues_0 2 rfl rfl)
theorem dX8_cues_3 : decode cX8_cues 3 = .ok (.istore_n 2, 1) := dk_61 (dk_at dksX8_cues_0 3 rfl rfl)
theorem dX8_cues_4 : decode cX8_cues 4 = .ok (.iload_n 2, 1) := dk_28 (dk_at dksX8_cues_0 4 rfl rfl)
theorem dX8_cues_5 : decode cX8_cues 5 = .ok (.aload_n 0, 1) := dk_42 (dk_at dksX8_cues_0 5 rfl rfl)
theorem dX8_cues_6 : decode cX8_cues 6 = .ok (.invokevirtual 9, 3) := dk_182 0 9 (dk_at dksX8_cues_0 6 rfl rfl)
theorem dX8_cues_9 : decode cX8_cues 9 = .ok (.if_icmp .ge 20, 3) := dk_162 0 20 (dk_at dksX8_cues_0 9 rfl rfl)
theorem dX8_cues_12 : decode cX8_cues 12 = .ok (.iload_n 1, 1) := dk_27 (dk_at dksX8_cues_0 12 rfl rfl)
theorem dX8_cues_13 : decode cX8_cues 13 = .ok (.aload_n 0, 1) := dk_42 (dk_at dksX8_cues_0 13 rfl rfl)
theorem dX8_cues_14 : decode cX8_cues 14 = .ok (.iload_n 2, 1) := dk_28 (dk_at dksX8_cues_0 14 rfl rfl)
theorem dX8_cues_15 : decode cX8_cues 15 = .ok (.invokevirtual 15, 3) := dk_182 0 15 (dk_at dksX8_cues_0 15 rfl rfl)
theorem dX8_cues_18 : decode cX8_cues 18 = .ok (.invokevirtual 19, 3) := dk_182 0 19 (dk_at dksX8_cues_0 18 rfl rfl)
theorem dX8_cues_21 : decode cX8_cues 21 = .ok (.iadd, 1) := dk_96 (dk_at dksX8_cues_0 21 rfl rfl)
theorem dX8_cues_22 : decode cX8_cues 22 = .ok (.istore_n 1, 1) := dk_60 (dk_at dksX8_cues_0 22 rfl rfl)
theorem dX8_cues_23 : decode cX8_cues 23 = .ok (.iinc 2 1, 3) := dk_132 2 1 (dk_at dksX8_cues_1 0 rfl rfl)
theorem dX8_cues_26 : decode cX8_cues 26 = .ok (.goto (-22), 3) := dk_167 255 234 (dk_at dksX8_cues_1 3 rfl rfl)
theorem dX8_cues_29 : decode cX8_cues 29 = .ok (.iload_n 1, 1) := dk_27 (dk_at dksX8_cues_1 6 rfl rfl)
theorem dX8_cues_30 : decode cX8_cues 30 = .ok (.ireturn, 1) := dk_172 (dk_at dksX8_cues_1 7 rfl rfl)
abbrev cX8_leaves : ByteArray := prog_9_method_12_code
def yX8_leaves : MethodName := ⟨RX8, "leaves", "()Ljava/util/Iterator;"⟩
def dkwX8_leaves_0 : List UInt8 := [187, 0, 61, 89, 183, 0, 63, 76, 43, 42, 182, 0, 64, 187, 0, 68, 89, 42, 43, 183, 0, 70, 176]
abbrev dktX8_leaves_0 : List UInt8 := dkwX8_leaves_0 ++ []
theorem dksX8_leaves_0 : cX8_leaves.data.toList.drop 0 = dktX8_leaves_0 := by decide +kernel
theorem dX8_leaves_0 : decode cX8_leaves 0 = .ok (.new 61, 3) := dk_187 0 61 (dk_at dksX8_leaves_0 0 rfl rfl)
theorem dX8_leaves_3 : decode cX8_leaves 3 = .ok (.dup, 1) := dk_89 (dk_at dksX8_leaves_0 3 rfl rfl)
theorem dX8_leaves_4 : decode cX8_leaves 4 = .ok (.invokespecial 63, 3) := dk_183 0 63 (dk_at dksX8_leaves_0 4 rfl rfl)
theorem dX8_leaves_7 : decode cX8_leaves 7 = .ok (.astore_n 1, 1) := dk_76 (dk_at dksX8_leaves_0 7 rfl rfl)
theorem dX8_leaves_8 : decode cX8_leaves 8 = .ok (.aload_n 1, 1) := dk_43 (dk_at dksX8_leaves_0 8 rfl rfl)
theorem dX8_leaves_9 : decode cX8_leaves 9 = .ok (.aload_n 0, 1) := dk_42 (dk_at dksX8_leaves_0 9 rfl rfl)
theorem dX8_leaves_10 : decode cX8_leaves 10 = .ok (.invokevirtual 64, 3) := dk_182 0 64 (dk_at dksX8_leaves_0 10 rfl rfl)
theorem dX8_leaves_13 : decode cX8_leaves 13 = .ok (.new 68, 3) := dk_187 0 68 (dk_at dksX8_leaves_0 13 rfl rfl)
theorem dX8_leaves_16 : decode cX8_leaves 16 = .ok (.dup, 1) := dk_89 (dk_at dksX8_leaves_0 16 rfl rfl)
theorem dX8_leaves_17 : decode cX8_leaves 17 = .ok (.aload_n 0, 1) := dk_42 (dk_at dksX8_leaves_0 17 rfl rfl)
theorem dX8_leaves_18 : decode cX8_leaves 18 = .ok (.aload_n 1, 1) := dk_43 (dk_at dksX8_leaves_0 18 rfl rfl)
theorem dX8_leaves_19 : decode cX8_leaves 19 = .ok (.invokespecial 70, 3) := dk_183 0 70 (dk_at dksX8_leaves_0 19 rfl rfl)
theorem dX8_leaves_22 : decode cX8_leaves 22 = .ok (.areturn, 1) := dk_176 (dk_at dksX8_leaves_0 22 rfl rfl)
theorem q154 : (Jvm.Cond.initialized "DanceNotation$Node") ∈ lw_all := lw_g (lw_at lw_m1 37 rfl) rfl
theorem q861 : (Jvm.Cond.superclass "DanceNotation$Node" "java/lang/Object") ∈ lw_all := lw_g (lw_at lw_m4 24 rfl) rfl
theorem q1104 : (Jvm.Cond.instanceMethod ({ cls := "DanceNotation$Node", name := "score", desc := "()LDanceNotation$Score;" } : Jvm.MethodName)) ∈ lw_all := lw_g (lw_at lw_m5 27 rfl) rfl
theorem q1105 : (Jvm.Cond.sameMethod "DanceNotation$Node" "DanceNotation$Node" "score" "()LDanceNotation$Score;") ∈ lw_all := lw_g (lw_at lw_m5 28 rfl) rfl
theorem q1112 : (Jvm.Cond.code ({ cls := "DanceNotation$Node", name := "score", desc := "()LDanceNotation$Score;" } : Jvm.MethodName) prog_9_method_5_code (2 : Nat) (Option.some (Jvm.ClassFile.FieldType.object "DanceNotation$Score"))) ∈ lw_all := lw_g (lw_at lw_m5 35 rfl) rfl
theorem q1113 : (Jvm.Cond.classLink "DanceNotation$Node" (22 : Nat) "DanceNotation$Score") ∈ lw_all := lw_g (lw_at lw_m5 36 rfl) rfl
theorem q1115 : (Jvm.Cond.methodLink "DanceNotation$Node" (24 : Nat) ({ cls := "DanceNotation$Node", name := "length", desc := "()I" } : Jvm.MethodName)) ∈ lw_all := lw_g (lw_at lw_m5 38 rfl) rfl
theorem q1116 : (Jvm.Cond.declares ({ cls := "DanceNotation$Node", name := "length", desc := "()I" } : Jvm.MethodName)) ∈ lw_tbl := lw_at lw_m5 39 rfl
theorem q1117 : (Jvm.Cond.sameMethod "DanceNotation$Node" "DanceNotation$Node" "length" "()I") ∈ lw_all := lw_g (lw_at lw_m5 40 rfl) rfl
theorem q1140 : (Jvm.Cond.methodLink "DanceNotation$Node" (27 : Nat) ({ cls := "DanceNotation$Score", name := "<init>", desc := "(I)V" } : Jvm.MethodName)) ∈ lw_all := lw_g (lw_at lw_m5 63 rfl) rfl
theorem q1186 : (Jvm.Cond.methodLink "DanceNotation$Node" (30 : Nat) ({ cls := "DanceNotation$Node", name := "perform", desc := "(LDanceNotation$Score;IIZ)V" } : Jvm.MethodName)) ∈ lw_all := lw_g (lw_at lw_m5 109 rfl) rfl
theorem q1187 : (Jvm.Cond.declares ({ cls := "DanceNotation$Node", name := "perform", desc := "(LDanceNotation$Score;IIZ)V" } : Jvm.MethodName)) ∈ lw_tbl := lw_at lw_m5 110 rfl
theorem q1188 : (Jvm.Cond.sameMethod "DanceNotation$Node" "DanceNotation$Node" "perform" "(LDanceNotation$Score;IIZ)V") ∈ lw_all := lw_g (lw_at lw_m5 111 rfl) rfl
theorem q1251 : (Jvm.Cond.declares ({ cls := "DanceNotation$Node", name := "write", desc := "(Ljava/lang/StringBuilder;)V" } : Jvm.MethodName)) ∈ lw_tbl := lw_at lw_m5 174 rfl
theorem q1252 : (Jvm.Cond.sameMethod "DanceNotation$Node" "DanceNotation$Node" "write" "(Ljava/lang/StringBuilder;)V") ∈ lw_all := lw_g (lw_at lw_m5 175 rfl) rfl
theorem q1265 : (Jvm.Cond.declares ({ cls := "DanceNotation$Node", name := "writePart", desc := "(Ljava/lang/StringBuilder;LDanceNotation$Node;Z)V" } : Jvm.MethodName)) ∈ lw_tbl := lw_at lw_m5 188 rfl
theorem q1267 : (Jvm.Cond.instanceMethod ({ cls := "DanceNotation$Node", name := "writePart", desc := "(Ljava/lang/StringBuilder;LDanceNotation$Node;Z)V" } : Jvm.MethodName)) ∈ lw_all := lw_g (lw_at lw_m5 190 rfl) rfl
theorem q1268 : (Jvm.Cond.code ({ cls := "DanceNotation$Node", name := "writePart", desc := "(Ljava/lang/StringBuilder;LDanceNotation$Node;Z)V" } : Jvm.MethodName) prog_9_method_11_code (4 : Nat) (Option.none : Option Jvm.ClassFile.FieldType)) ∈ lw_all := lw_g (lw_at lw_m5 191 rfl) rfl
theorem q1269 : (Jvm.Cond.stringRef "DanceNotation$Node" (45 : Nat) "(") ∈ lw_tbl := lw_at lw_m5 192 rfl
theorem q1270 : (Jvm.Cond.stringRef "DanceNotation$Node" (47 : Nat) "") ∈ lw_tbl := lw_at lw_m5 193 rfl
theorem q1271 : (Jvm.Cond.methodLink "DanceNotation$Node" (49 : Nat) ({ cls := "java/lang/StringBuilder", name := "append", desc := "(Ljava/lang/String;)Ljava/lang/StringBuilder;" } : Jvm.MethodName)) ∈ lw_all := lw_g (lw_at lw_m5 194 rfl) rfl
theorem q1272 : (Jvm.Cond.methodLink "DanceNotation$Node" (55 : Nat) ({ cls := "DanceNotation$Node", name := "write", desc := "(Ljava/lang/StringBuilder;)V" } : Jvm.MethodName)) ∈ lw_all := lw_g (lw_at lw_m5 195 rfl) rfl
theorem q1317 : (Jvm.Cond.stringRef "DanceNotation$Node" (59 : Nat) ")") ∈ lw_tbl := lw_at lw_m6 0 rfl
theorem q1730 : (Jvm.Cond.instanceMethod ({ cls := "DanceNotation$Node", name := "<init>", desc := "()V" } : Jvm.MethodName)) ∈ lw_all := lw_g (lw_at lw_m7 173 rfl) rfl
theorem q1731 : (Jvm.Cond.code ({ cls := "DanceNotation$Node", name := "<init>", desc := "()V" } : Jvm.MethodName) prog_9_method_1_code (1 : Nat) (Option.none : Option Jvm.ClassFile.FieldType)) ∈ lw_all := lw_g (lw_at lw_m7 174 rfl) rfl
theorem q1732 : (Jvm.Cond.methodLink "DanceNotation$Node" (3 : Nat) ({ cls := "java/lang/Object", name := "<init>", desc := "()V" } : Jvm.MethodName)) ∈ lw_all := lw_g (lw_at lw_m7 175 rfl) rfl
theorem q1969 : (Jvm.Cond.instanceMethod ({ cls := "DanceNotation$Node", name := "checkAll", desc := "()V" } : Jvm.MethodName)) ∈ lw_all := lw_g (lw_at lw_m8 172 rfl) rfl
theorem q1970 : (Jvm.Cond.sameMethod "DanceNotation$Node" "DanceNotation$Node" "checkAll" "()V") ∈ lw_all := lw_g (lw_at lw_m8 173 rfl) rfl
theorem q1977 : (Jvm.Cond.code ({ cls := "DanceNotation$Node", name := "checkAll", desc := "()V" } : Jvm.MethodName) prog_9_method_10_code (2 : Nat) (Option.none : Option Jvm.ClassFile.FieldType)) ∈ lw_all := lw_g (lw_at lw_m8 180 rfl) rfl
theorem q1978 : (Jvm.Cond.methodLink "DanceNotation$Node" (39 : Nat) ({ cls := "DanceNotation$Node", name := "checkAll", desc := "()V" } : Jvm.MethodName)) ∈ lw_all := lw_g (lw_at lw_m8 181 rfl) rfl
theorem q1979 : (Jvm.Cond.methodLink "DanceNotation$Node" (42 : Nat) ({ cls := "DanceNotation$Node", name := "check", desc := "()V" } : Jvm.MethodName)) ∈ lw_all := lw_g (lw_at lw_m8 182 rfl) rfl
theorem q1980 : (Jvm.Cond.instanceMethod ({ cls := "DanceNotation$Node", name := "check", desc := "()V" } : Jvm.MethodName)) ∈ lw_all := lw_g (lw_at lw_m8 183 rfl) rfl
theorem q1981 : (Jvm.Cond.sameMethod "DanceNotation$Node" "DanceNotation$Node" "check" "()V") ∈ lw_all := lw_g (lw_at lw_m8 184 rfl) rfl
theorem q2016 : (Jvm.Cond.declares ({ cls := "DanceNotation$Node", name := "check", desc := "()V" } : Jvm.MethodName)) ∈ lw_tbl := lw_at lw_m8 219 rfl
theorem q2018 : (Jvm.Cond.code ({ cls := "DanceNotation$Node", name := "check", desc := "()V" } : Jvm.MethodName) prog_9_method_9_code (1 : Nat) (Option.none : Option Jvm.ClassFile.FieldType)) ∈ lw_all := lw_g (lw_at lw_m8 221 rfl) rfl
theorem q2019 : (Jvm.Cond.methodLink "DanceNotation$Node" (19 : Nat) ({ cls := "DanceNotation$Node", name := "cues", desc := "()I" } : Jvm.MethodName)) ∈ lw_all := lw_g (lw_at lw_m8 222 rfl) rfl
theorem q2020 : (Jvm.Cond.instanceMethod ({ cls := "DanceNotation$Node", name := "cues", desc := "()I" } : Jvm.MethodName)) ∈ lw_all := lw_g (lw_at lw_m8 223 rfl) rfl
theorem q2021 : (Jvm.Cond.sameMethod "DanceNotation$Node" "DanceNotation$Node" "cues" "()I") ∈ lw_all := lw_g (lw_at lw_m8 224 rfl) rfl
theorem q2032 : (Jvm.Cond.declares ({ cls := "DanceNotation$Node", name := "cues", desc := "()I" } : Jvm.MethodName)) ∈ lw_tbl := lw_at lw_m8 235 rfl
theorem q2034 : (Jvm.Cond.code ({ cls := "DanceNotation$Node", name := "cues", desc := "()I" } : Jvm.MethodName) prog_9_method_3_code (3 : Nat) (Option.some Jvm.ClassFile.FieldType.int)) ∈ lw_all := lw_g (lw_at lw_m8 237 rfl) rfl
theorem q2037 : (Jvm.Cond.classLink "DanceNotation$Node" (34 : Nat) "DanceNotation$RefusedException") ∈ lw_all := lw_g (lw_at lw_m9 0 rfl) rfl
theorem q2038 : (Jvm.Cond.methodLink "DanceNotation$Node" (36 : Nat) ({ cls := "DanceNotation$RefusedException", name := "<init>", desc := "(II)V" } : Jvm.MethodName)) ∈ lw_all := lw_g (lw_at lw_m9 1 rfl) rfl
theorem q2209 : (Jvm.Cond.instanceMethod ({ cls := "DanceNotation$Node", name := "leaves", desc := "()Ljava/util/Iterator;" } : Jvm.MethodName)) ∈ lw_all := lw_g (lw_at lw_m9 172 rfl) rfl
theorem q2210 : (Jvm.Cond.sameMethod "DanceNotation$Node" "DanceNotation$Node" "leaves" "()Ljava/util/Iterator;") ∈ lw_all := lw_g (lw_at lw_m9 173 rfl) rfl
theorem q2217 : (Jvm.Cond.code ({ cls := "DanceNotation$Node", name := "leaves", desc := "()Ljava/util/Iterator;" } : Jvm.MethodName) prog_9_method_12_code (2 : Nat) (Option.some (Jvm.ClassFile.FieldType.object "java/util/Iterator"))) ∈ lw_all := lw_g (lw_at lw_m9 180 rfl) rfl
theorem q2218 : (Jvm.Cond.classLink "DanceNotation$Node" (61 : Nat) "java/util/LinkedList") ∈ lw_all := lw_g (lw_at lw_m9 181 rfl) rfl
theorem q2219 : (Jvm.Cond.methodLink "DanceNotation$Node" (63 : Nat) ({ cls := "java/util/LinkedList", name := "<init>", desc := "()V" } : Jvm.MethodName)) ∈ lw_all := lw_g (lw_at lw_m9 182 rfl) rfl
theorem q2220 : (Jvm.Cond.methodLink "DanceNotation$Node" (64 : Nat) ({ cls := "java/util/LinkedList", name := "addFirst", desc := "(Ljava/lang/Object;)V" } : Jvm.MethodName)) ∈ lw_all := lw_g (lw_at lw_m9 183 rfl) rfl
theorem q2221 : (Jvm.Cond.classLink "DanceNotation$Node" (68 : Nat) "DanceNotation$Node$1") ∈ lw_all := lw_g (lw_at lw_m9 184 rfl) rfl
theorem q2223 : (Jvm.Cond.methodLink "DanceNotation$Node" (70 : Nat) ({ cls := "DanceNotation$Node$1", name := "<init>", desc := "(LDanceNotation$Node;Ljava/util/LinkedList;)V" } : Jvm.MethodName)) ∈ lw_all := lw_g (lw_at lw_m9 186 rfl) rfl
theorem q2240 : (Jvm.Cond.declares ({ cls := "DanceNotation$Node", name := "renamed", desc := "([I)LDanceNotation$Node;" } : Jvm.MethodName)) ∈ lw_tbl := lw_at lw_m9 203 rfl
theorem q2241 : (Jvm.Cond.sameMethod "DanceNotation$Node" "DanceNotation$Node" "renamed" "([I)LDanceNotation$Node;") ∈ lw_all := lw_g (lw_at lw_m9 204 rfl) rfl
theorem q2436 : (Jvm.Cond.declares ({ cls := "DanceNotation$Node", name := "displacement", desc := "(IZ)I" } : Jvm.MethodName)) ∈ lw_tbl := lw_at lw_m10 159 rfl
theorem q2437 : (Jvm.Cond.sameMethod "DanceNotation$Node" "DanceNotation$Node" "displacement" "(IZ)I") ∈ lw_all := lw_g (lw_at lw_m10 160 rfl) rfl

/-! DanceNotation$Single -/
set_option maxRecDepth 100000
def RX9 : String := "DanceNotation$Single"
abbrev cX9_partCount : ByteArray := prog_19_method_2_code
def yX9_partCount : MethodName := ⟨RX9, "partCount", "()I"⟩
theorem dX9_partCount_0 : decode cX9_partCount 0 = .ok (.iconst 1, 1) := by decide +kernel
theorem dX9_partCount_1 : decode cX9_partCount 1 = .ok (.ireturn, 1) := by decide +kernel
abbrev cX9_part : ByteArray := prog_19_method_3_code
def yX9_part : MethodName := ⟨RX9, "part", "(I)LDanceNotation$Node;"⟩
theorem dX9_part_0 : decode cX9_part 0 = .ok (.aload_n 0, 1) := by decide +kernel
theorem dX9_part_1 : decode cX9_part 1 = .ok (.getfield 7, 3) := by decide +kernel
theorem dX9_part_4 : decode cX9_part 4 = .ok (.areturn, 1) := by decide +kernel
abbrev cX9_length : ByteArray := prog_19_method_4_code
def yX9_length : MethodName := ⟨RX9, "length", "()I"⟩
def dkwX9_length_0 : List UInt8 := [42, 180, 0, 7, 182, 0, 13, 172]
abbrev dktX9_length_0 : List UInt8 := dkwX9_length_0 ++ []
theorem dksX9_length_0 : cX9_length.data.toList.drop 0 = dktX9_length_0 := by decide +kernel
theorem dX9_length_0 : decode cX9_length 0 = .ok (.aload_n 0, 1) := dk_42 (dk_at dksX9_length_0 0 rfl rfl)
theorem dX9_length_1 : decode cX9_length 1 = .ok (.getfield 7, 3) := dk_180 0 7 (dk_at dksX9_length_0 1 rfl rfl)
theorem dX9_length_4 : decode cX9_length 4 = .ok (.invokevirtual 13, 3) := dk_182 0 13 (dk_at dksX9_length_0 4 rfl rfl)
theorem dX9_length_7 : decode cX9_length 7 = .ok (.ireturn, 1) := dk_172 (dk_at dksX9_length_0 7 rfl rfl)
abbrev cX9_init : ByteArray := prog_19_method_1_code
def yX9_init : MethodName := ⟨RX9, "<init>", "(LDanceNotation$Node;)V"⟩
def dkwX9_init_0 : List UInt8 := [42, 183, 0, 1, 42, 43, 181, 0, 7, 177]
abbrev dktX9_init_0 : List UInt8 := dkwX9_init_0 ++ []
theorem dksX9_init_0 : cX9_init.data.toList.drop 0 = dktX9_init_0 := by decide +kernel
theorem dX9_init_0 : decode cX9_init 0 = .ok (.aload_n 0, 1) := dk_42 (dk_at dksX9_init_0 0 rfl rfl)
theorem dX9_init_1 : decode cX9_init 1 = .ok (.invokespecial 1, 3) := dk_183 0 1 (dk_at dksX9_init_0 1 rfl rfl)
theorem dX9_init_4 : decode cX9_init 4 = .ok (.aload_n 0, 1) := dk_42 (dk_at dksX9_init_0 4 rfl rfl)
theorem dX9_init_5 : decode cX9_init 5 = .ok (.aload_n 1, 1) := dk_43 (dk_at dksX9_init_0 5 rfl rfl)
theorem dX9_init_6 : decode cX9_init 6 = .ok (.putfield 7, 3) := dk_181 0 7 (dk_at dksX9_init_0 6 rfl rfl)
theorem dX9_init_9 : decode cX9_init 9 = .ok (.return_, 1) := dk_177 (dk_at dksX9_init_0 9 rfl rfl)
theorem q155 : (Jvm.Cond.initialized "DanceNotation$Single") ∈ lw_all := lw_g (lw_at lw_m1 38 rfl) rfl
theorem q867 : (Jvm.Cond.instanceMethod ({ cls := "DanceNotation$Single", name := "partCount", desc := "()I" } : Jvm.MethodName)) ∈ lw_all := lw_g (lw_at lw_m4 30 rfl) rfl
theorem q868 : (Jvm.Cond.code ({ cls := "DanceNotation$Single", name := "partCount", desc := "()I" } : Jvm.MethodName) prog_19_method_2_code (1 : Nat) (Option.some Jvm.ClassFile.FieldType.int)) ∈ lw_all := lw_g (lw_at lw_m4 31 rfl) rfl
theorem q886 : (Jvm.Cond.instanceMethod ({ cls := "DanceNotation$Single", name := "part", desc := "(I)LDanceNotation$Node;" } : Jvm.MethodName)) ∈ lw_all := lw_g (lw_at lw_m4 49 rfl) rfl
theorem q887 : (Jvm.Cond.code ({ cls := "DanceNotation$Single", name := "part", desc := "(I)LDanceNotation$Node;" } : Jvm.MethodName) prog_19_method_3_code (2 : Nat) (Option.some (Jvm.ClassFile.FieldType.object "DanceNotation$Node"))) ∈ lw_all := lw_g (lw_at lw_m4 50 rfl) rfl
theorem q1122 : (Jvm.Cond.instanceMethod ({ cls := "DanceNotation$Single", name := "length", desc := "()I" } : Jvm.MethodName)) ∈ lw_all := lw_g (lw_at lw_m5 45 rfl) rfl
theorem q1123 : (Jvm.Cond.code ({ cls := "DanceNotation$Single", name := "length", desc := "()I" } : Jvm.MethodName) prog_19_method_4_code (1 : Nat) (Option.some Jvm.ClassFile.FieldType.int)) ∈ lw_all := lw_g (lw_at lw_m5 46 rfl) rfl
theorem q1124 : (Jvm.Cond.methodLink "DanceNotation$Single" (13 : Nat) ({ cls := "DanceNotation$Node", name := "length", desc := "()I" } : Jvm.MethodName)) ∈ lw_all := lw_g (lw_at lw_m5 47 rfl) rfl
theorem q1921 : (Jvm.Cond.instanceMethod ({ cls := "DanceNotation$Single", name := "<init>", desc := "(LDanceNotation$Node;)V" } : Jvm.MethodName)) ∈ lw_all := lw_g (lw_at lw_m8 124 rfl) rfl
theorem q1922 : (Jvm.Cond.code ({ cls := "DanceNotation$Single", name := "<init>", desc := "(LDanceNotation$Node;)V" } : Jvm.MethodName) prog_19_method_1_code (2 : Nat) (Option.none : Option Jvm.ClassFile.FieldType)) ∈ lw_all := lw_g (lw_at lw_m8 125 rfl) rfl
theorem q1923 : (Jvm.Cond.methodLinkNest "DanceNotation$Single" (1 : Nat) ({ cls := "DanceNotation$Node", name := "<init>", desc := "()V" } : Jvm.MethodName) "DanceNotation") ∈ lw_tbl := lw_at lw_m8 126 rfl
theorem q1924 : (Jvm.Cond.fieldLink "DanceNotation$Single" (7 : Nat) "DanceNotation$Single" "part" "LDanceNotation$Node;") ∈ lw_all := lw_g (lw_at lw_m8 127 rfl) rfl
theorem q1934 : (Jvm.Cond.soleField "DanceNotation$Single" "part") ∈ lw_all := lw_g (lw_at lw_m8 137 rfl) rfl
theorem q2031 : (Jvm.Cond.sameMethod "DanceNotation$Single" "DanceNotation$Node" "cues" "()I") ∈ lw_all := lw_g (lw_at lw_m8 234 rfl) rfl
theorem q2033 : (Jvm.Cond.superclass "DanceNotation$Single" "DanceNotation$Node") ∈ lw_all := lw_g (lw_at lw_m8 236 rfl) rfl
theorem q2060 : (Jvm.Cond.publicMethod ({ cls := "DanceNotation$Single", name := "partCount", desc := "()I" } : Jvm.MethodName)) ∈ lw_tbl := lw_at lw_m9 23 rfl
theorem q2076 : (Jvm.Cond.publicMethod ({ cls := "DanceNotation$Single", name := "part", desc := "(I)LDanceNotation$Node;" } : Jvm.MethodName)) ∈ lw_tbl := lw_at lw_m9 39 rfl
theorem q3294 : (Jvm.Cond.sameMethod "DanceNotation$Single" "DanceNotation$Single" "length" "()I") ∈ lw_all := lw_g (lw_at lw_m14 57 rfl) rfl

/-! DanceNotation$Repeat -/
set_option maxRecDepth 100000
def RX10 : String := "DanceNotation$Repeat"
def TX10 : u_T := fun k => match k with
  | 0 => ("DanceNotation$Single", "part", "LDanceNotation$Node;", true)
  | _ => ("DanceNotation$Repeat", "number", "I", true)
def tyX10 : Nat → FieldType := fun k => match k with
  | 0 => .object "DanceNotation$Node"
  | _ => .int
abbrev wsX100 : List Cond := u_ws RX10 TX10 2
theorem nmX10 : ∀ a, a < 2 → ∀ b, b < 2 → a ≠ b → (TX10 a).2.1 ≠ (TX10 b).2.1 := by decide +kernel
theorem tyX10_ok : ∀ k, k < 2 → parseFieldDescriptor (TX10 k).2.2.1 = some (tyX10 k) := by decide +kernel
abbrev cX10_length : ByteArray := prog_15_method_2_code
def yX10_length : MethodName := ⟨RX10, "length", "()I"⟩
def dkwX10_length_0 : List UInt8 := [42, 180, 0, 7, 42, 183, 0, 13, 104, 172]
abbrev dktX10_length_0 : List UInt8 := dkwX10_length_0 ++ []
theorem dksX10_length_0 : cX10_length.data.toList.drop 0 = dktX10_length_0 := by decide +kernel
theorem dX10_length_0 : decode cX10_length 0 = .ok (.aload_n 0, 1) := dk_42 (dk_at dksX10_length_0 0 rfl rfl)
theorem dX10_length_1 : decode cX10_length 1 = .ok (.getfield 7, 3) := dk_180 0 7 (dk_at dksX10_length_0 1 rfl rfl)
theorem dX10_length_4 : decode cX10_length 4 = .ok (.aload_n 0, 1) := dk_42 (dk_at dksX10_length_0 4 rfl rfl)
theorem dX10_length_5 : decode cX10_length 5 = .ok (.invokespecial 13, 3) := dk_183 0 13 (dk_at dksX10_length_0 5 rfl rfl)
theorem dX10_length_8 : decode cX10_length 8 = .ok (.imul, 1) := dk_104 (dk_at dksX10_length_0 8 rfl rfl)
theorem dX10_length_9 : decode cX10_length 9 = .ok (.ireturn, 1) := dk_172 (dk_at dksX10_length_0 9 rfl rfl)
abbrev cX10_perform : ByteArray := prog_15_method_4_code
def yX10_perform : MethodName := ⟨RX10, "perform", "(LDanceNotation$Score;IIZ)V"⟩
def dkwX10_perform_1 : List UInt8 := [180, 0, 20, 43, 28, 21, 6, 21, 5, 104, 96, 29, 21, 4, 182, 0, 27, 132, 6, 1, 167, 255, 226, 177]
abbrev dktX10_perform_1 : List UInt8 := dkwX10_perform_1 ++ []
def dkwX10_perform_0 : List UInt8 := [42, 180, 0, 20, 182, 0, 24, 54, 5, 3, 54, 6, 21, 6, 42, 180, 0, 7, 162, 0, 27, 42]
abbrev dktX10_perform_0 : List UInt8 := dkwX10_perform_0 ++ dktX10_perform_1
theorem dksX10_perform_0 : cX10_perform.data.toList.drop 0 = dktX10_perform_0 := by decide +kernel
theorem dksX10_perform_1 : cX10_perform.data.toList.drop 22 = dktX10_perform_1 := dk_seg dksX10_perform_0 22 rfl rfl
theorem dX10_perform_0 : decode cX10_perform 0 = .ok (.aload_n 0, 1) := dk_42 (dk_at dksX10_perform_0 0 rfl rfl)
theorem dX10_perform_1 : decode cX10_perform 1 = .ok (.getfield 20, 3) := dk_180 0 20 (dk_at dksX10_perform_0 1 rfl rfl)
theorem dX10_perform_4 : decode cX10_perform 4 = .ok (.invokevirtual 24, 3) := dk_182 0 24 (dk_at dksX10_perform_0 4 rfl rfl)
theorem dX10_perform_7 : decode cX10_perform 7 = .ok (.istore 5, 2) := dk_54 5 (dk_at dksX10_perform_0 7 rfl rfl)
theorem dX10_perform_9 : decode cX10_perform 9 = .ok (.iconst 0, 1) := dk_3 (dk_at dksX10_perform_0 9 rfl rfl)
theorem dX10_perform_10 : decode cX10_perform 10 = .ok (.istore 6, 2) := dk_54 6 (dk_at dksX10_perform_0 10 rfl rfl)
theorem dX10_perform_12 : decode cX10_perform 12 = .ok (.iload 6, 2) := dk_21 6 (dk_at dksX10_perform_0 12 rfl rfl)
theorem dX10_perform_14 : decode cX10_perform 14 = .ok (.aload_n 0, 1) := dk_42 (dk_at dksX10_perform_0 14 rfl rfl)
theorem dX10_perform_15 : decode cX10_perform 15 = .ok (.getfield 7, 3) := dk_180 0 7 (dk_at dksX10_perform_0 15 rfl rfl)
theorem dX10_perform_18 : decode cX10_perform 18 = .ok (.if_icmp .ge 27, 3) := dk_162 0 27 (dk_at dksX10_perform_0 18 rfl rfl)
theorem dX10_perform_21 : decode cX10_perform 21 = .ok (.aload_n 0, 1) := dk_42 (dk_at dksX10_perform_0 21 rfl rfl)
theorem dX10_perform_22 : decode cX10_perform 22 = .ok (.getfield 20, 3) := dk_180 0 20 (dk_at dksX10_perform_1 0 rfl rfl)
theorem dX10_perform_25 : decode cX10_perform 25 = .ok (.aload_n 1, 1) := dk_43 (dk_at dksX10_perform_1 3 rfl rfl)
theorem dX10_perform_26 : decode cX10_perform 26 = .ok (.iload_n 2, 1) := dk_28 (dk_at dksX10_perform_1 4 rfl rfl)
theorem dX10_perform_27 : decode cX10_perform 27 = .ok (.iload 6, 2) := dk_21 6 (dk_at dksX10_perform_1 5 rfl rfl)
theorem dX10_perform_29 : decode cX10_perform 29 = .ok (.iload 5, 2) := dk_21 5 (dk_at dksX10_perform_1 7 rfl rfl)
theorem dX10_perform_31 : decode cX10_perform 31 = .ok (.imul, 1) := dk_104 (dk_at dksX10_perform_1 9 rfl rfl)
theorem dX10_perform_32 : decode cX10_perform 32 = .ok (.iadd, 1) := dk_96 (dk_at dksX10_perform_1 10 rfl rfl)
theorem dX10_perform_33 : decode cX10_perform 33 = .ok (.iload_n 3, 1) := dk_29 (dk_at dksX10_perform_1 11 rfl rfl)
theorem dX10_perform_34 : decode cX10_perform 34 = .ok (.iload 4, 2) := dk_21 4 (dk_at dksX10_perform_1 12 rfl rfl)
theorem dX10_perform_36 : decode cX10_perform 36 = .ok (.invokevirtual 27, 3) := dk_182 0 27 (dk_at dksX10_perform_1 14 rfl rfl)
theorem dX10_perform_39 : decode cX10_perform 39 = .ok (.iinc 6 1, 3) := dk_132 6 1 (dk_at dksX10_perform_1 17 rfl rfl)
theorem dX10_perform_42 : decode cX10_perform 42 = .ok (.goto (-30), 3) := dk_167 255 226 (dk_at dksX10_perform_1 20 rfl rfl)
theorem dX10_perform_45 : decode cX10_perform 45 = .ok (.return_, 1) := dk_177 (dk_at dksX10_perform_1 23 rfl rfl)
abbrev cX10_write : ByteArray := prog_15_method_7_code
def yX10_write : MethodName := ⟨RX10, "write", "(Ljava/lang/StringBuilder;)V"⟩
def dkwX10_write_1 : List UInt8 := [154, 0, 13, 42, 180, 0, 20, 193, 0, 8, 153, 0, 7, 4, 167, 0, 4, 3, 182, 0, 50, 177]
abbrev dktX10_write_1 : List UInt8 := dkwX10_write_1 ++ []
def dkwX10_write_0 : List UInt8 := [43, 42, 180, 0, 7, 182, 0, 42, 87, 42, 43, 42, 180, 0, 20, 42, 180, 0, 20, 193, 0, 48]
abbrev dktX10_write_0 : List UInt8 := dkwX10_write_0 ++ dktX10_write_1
theorem dksX10_write_0 : cX10_write.data.toList.drop 0 = dktX10_write_0 := by decide +kernel
theorem dksX10_write_1 : cX10_write.data.toList.drop 22 = dktX10_write_1 := dk_seg dksX10_write_0 22 rfl rfl
theorem dX10_write_0 : decode cX10_write 0 = .ok (.aload_n 1, 1) := dk_43 (dk_at dksX10_write_0 0 rfl rfl)
theorem dX10_write_1 : decode cX10_write 1 = .ok (.aload_n 0, 1) := dk_42 (dk_at dksX10_write_0 1 rfl rfl)
theorem dX10_write_2 : decode cX10_write 2 = .ok (.getfield 7, 3) := dk_180 0 7 (dk_at dksX10_write_0 2 rfl rfl)
theorem dX10_write_5 : decode cX10_write 5 = .ok (.invokevirtual 42, 3) := dk_182 0 42 (dk_at dksX10_write_0 5 rfl rfl)
theorem dX10_write_8 : decode cX10_write 8 = .ok (.pop, 1) := dk_87 (dk_at dksX10_write_0 8 rfl rfl)
theorem dX10_write_9 : decode cX10_write 9 = .ok (.aload_n 0, 1) := dk_42 (dk_at dksX10_write_0 9 rfl rfl)
theorem dX10_write_10 : decode cX10_write 10 = .ok (.aload_n 1, 1) := dk_43 (dk_at dksX10_write_0 10 rfl rfl)
theorem dX10_write_11 : decode cX10_write 11 = .ok (.aload_n 0, 1) := dk_42 (dk_at dksX10_write_0 11 rfl rfl)
theorem dX10_write_12 : decode cX10_write 12 = .ok (.getfield 20, 3) := dk_180 0 20 (dk_at dksX10_write_0 12 rfl rfl)
theorem dX10_write_15 : decode cX10_write 15 = .ok (.aload_n 0, 1) := dk_42 (dk_at dksX10_write_0 15 rfl rfl)
theorem dX10_write_16 : decode cX10_write 16 = .ok (.getfield 20, 3) := dk_180 0 20 (dk_at dksX10_write_0 16 rfl rfl)
theorem dX10_write_19 : decode cX10_write 19 = .ok (.instanceof 48, 3) := dk_193 0 48 (dk_at dksX10_write_0 19 rfl rfl)
theorem dX10_write_22 : decode cX10_write 22 = .ok (.ifCond .ne 13, 3) := dk_154 0 13 (dk_at dksX10_write_1 0 rfl rfl)
theorem dX10_write_25 : decode cX10_write 25 = .ok (.aload_n 0, 1) := dk_42 (dk_at dksX10_write_1 3 rfl rfl)
theorem dX10_write_26 : decode cX10_write 26 = .ok (.getfield 20, 3) := dk_180 0 20 (dk_at dksX10_write_1 4 rfl rfl)
theorem dX10_write_29 : decode cX10_write 29 = .ok (.instanceof 8, 3) := dk_193 0 8 (dk_at dksX10_write_1 7 rfl rfl)
theorem dX10_write_32 : decode cX10_write 32 = .ok (.ifCond .eq 7, 3) := dk_153 0 7 (dk_at dksX10_write_1 10 rfl rfl)
theorem dX10_write_35 : decode cX10_write 35 = .ok (.iconst 1, 1) := dk_4 (dk_at dksX10_write_1 13 rfl rfl)
theorem dX10_write_36 : decode cX10_write 36 = .ok (.goto 4, 3) := dk_167 0 4 (dk_at dksX10_write_1 14 rfl rfl)
theorem dX10_write_39 : decode cX10_write 39 = .ok (.iconst 0, 1) := dk_3 (dk_at dksX10_write_1 17 rfl rfl)
theorem dX10_write_40 : decode cX10_write 40 = .ok (.invokevirtual 50, 3) := dk_182 0 50 (dk_at dksX10_write_1 18 rfl rfl)
theorem dX10_write_43 : decode cX10_write 43 = .ok (.return_, 1) := dk_177 (dk_at dksX10_write_1 21 rfl rfl)
abbrev cX10_init : ByteArray := prog_15_method_1_code
def yX10_init : MethodName := ⟨RX10, "<init>", "(ILDanceNotation$Node;)V"⟩
def dkwX10_init_0 : List UInt8 := [42, 44, 183, 0, 1, 42, 27, 181, 0, 7, 177]
abbrev dktX10_init_0 : List UInt8 := dkwX10_init_0 ++ []
theorem dksX10_init_0 : cX10_init.data.toList.drop 0 = dktX10_init_0 := by decide +kernel
theorem dX10_init_0 : decode cX10_init 0 = .ok (.aload_n 0, 1) := dk_42 (dk_at dksX10_init_0 0 rfl rfl)
theorem dX10_init_1 : decode cX10_init 1 = .ok (.aload_n 2, 1) := dk_44 (dk_at dksX10_init_0 1 rfl rfl)
theorem dX10_init_2 : decode cX10_init 2 = .ok (.invokespecial 1, 3) := dk_183 0 1 (dk_at dksX10_init_0 2 rfl rfl)
theorem dX10_init_5 : decode cX10_init 5 = .ok (.aload_n 0, 1) := dk_42 (dk_at dksX10_init_0 5 rfl rfl)
theorem dX10_init_6 : decode cX10_init 6 = .ok (.iload_n 1, 1) := dk_27 (dk_at dksX10_init_0 6 rfl rfl)
theorem dX10_init_7 : decode cX10_init 7 = .ok (.putfield 7, 3) := dk_181 0 7 (dk_at dksX10_init_0 7 rfl rfl)
theorem dX10_init_10 : decode cX10_init 10 = .ok (.return_, 1) := dk_177 (dk_at dksX10_init_0 10 rfl rfl)
abbrev cX10_cues : ByteArray := prog_15_method_3_code
def yX10_cues : MethodName := ⟨RX10, "cues", "()I"⟩
def dkwX10_cues_0 : List UInt8 := [42, 180, 0, 7, 42, 183, 0, 17, 104, 172]
abbrev dktX10_cues_0 : List UInt8 := dkwX10_cues_0 ++ []
theorem dksX10_cues_0 : cX10_cues.data.toList.drop 0 = dktX10_cues_0 := by decide +kernel
theorem dX10_cues_0 : decode cX10_cues 0 = .ok (.aload_n 0, 1) := dk_42 (dk_at dksX10_cues_0 0 rfl rfl)
theorem dX10_cues_1 : decode cX10_cues 1 = .ok (.getfield 7, 3) := dk_180 0 7 (dk_at dksX10_cues_0 1 rfl rfl)
theorem dX10_cues_4 : decode cX10_cues 4 = .ok (.aload_n 0, 1) := dk_42 (dk_at dksX10_cues_0 4 rfl rfl)
theorem dX10_cues_5 : decode cX10_cues 5 = .ok (.invokespecial 17, 3) := dk_183 0 17 (dk_at dksX10_cues_0 5 rfl rfl)
theorem dX10_cues_8 : decode cX10_cues 8 = .ok (.imul, 1) := dk_104 (dk_at dksX10_cues_0 8 rfl rfl)
theorem dX10_cues_9 : decode cX10_cues 9 = .ok (.ireturn, 1) := dk_172 (dk_at dksX10_cues_0 9 rfl rfl)
abbrev cX10_renamed : ByteArray := prog_15_method_6_code
def yX10_renamed : MethodName := ⟨RX10, "renamed", "([I)LDanceNotation$Node;"⟩
def dkwX10_renamed_0 : List UInt8 := [187, 0, 8, 89, 42, 180, 0, 7, 42, 180, 0, 20, 43, 182, 0, 35, 183, 0, 39, 176]
abbrev dktX10_renamed_0 : List UInt8 := dkwX10_renamed_0 ++ []
theorem dksX10_renamed_0 : cX10_renamed.data.toList.drop 0 = dktX10_renamed_0 := by decide +kernel
theorem dX10_renamed_0 : decode cX10_renamed 0 = .ok (.new 8, 3) := dk_187 0 8 (dk_at dksX10_renamed_0 0 rfl rfl)
theorem dX10_renamed_3 : decode cX10_renamed 3 = .ok (.dup, 1) := dk_89 (dk_at dksX10_renamed_0 3 rfl rfl)
theorem dX10_renamed_4 : decode cX10_renamed 4 = .ok (.aload_n 0, 1) := dk_42 (dk_at dksX10_renamed_0 4 rfl rfl)
theorem dX10_renamed_5 : decode cX10_renamed 5 = .ok (.getfield 7, 3) := dk_180 0 7 (dk_at dksX10_renamed_0 5 rfl rfl)
theorem dX10_renamed_8 : decode cX10_renamed 8 = .ok (.aload_n 0, 1) := dk_42 (dk_at dksX10_renamed_0 8 rfl rfl)
theorem dX10_renamed_9 : decode cX10_renamed 9 = .ok (.getfield 20, 3) := dk_180 0 20 (dk_at dksX10_renamed_0 9 rfl rfl)
theorem dX10_renamed_12 : decode cX10_renamed 12 = .ok (.aload_n 1, 1) := dk_43 (dk_at dksX10_renamed_0 12 rfl rfl)
theorem dX10_renamed_13 : decode cX10_renamed 13 = .ok (.invokevirtual 35, 3) := dk_182 0 35 (dk_at dksX10_renamed_0 13 rfl rfl)
theorem dX10_renamed_16 : decode cX10_renamed 16 = .ok (.invokespecial 39, 3) := dk_183 0 39 (dk_at dksX10_renamed_0 16 rfl rfl)
theorem dX10_renamed_19 : decode cX10_renamed 19 = .ok (.areturn, 1) := dk_176 (dk_at dksX10_renamed_0 19 rfl rfl)
abbrev cX10_displacement : ByteArray := prog_15_method_5_code
def yX10_displacement : MethodName := ⟨RX10, "displacement", "(IZ)I"⟩
def dkwX10_displacement_0 : List UInt8 := [42, 180, 0, 7, 42, 180, 0, 20, 27, 28, 182, 0, 31, 104, 172]
abbrev dktX10_displacement_0 : List UInt8 := dkwX10_displacement_0 ++ []
theorem dksX10_displacement_0 : cX10_displacement.data.toList.drop 0 = dktX10_displacement_0 := by decide +kernel
theorem dX10_displacement_0 : decode cX10_displacement 0 = .ok (.aload_n 0, 1) := dk_42 (dk_at dksX10_displacement_0 0 rfl rfl)
theorem dX10_displacement_1 : decode cX10_displacement 1 = .ok (.getfield 7, 3) := dk_180 0 7 (dk_at dksX10_displacement_0 1 rfl rfl)
theorem dX10_displacement_4 : decode cX10_displacement 4 = .ok (.aload_n 0, 1) := dk_42 (dk_at dksX10_displacement_0 4 rfl rfl)
theorem dX10_displacement_5 : decode cX10_displacement 5 = .ok (.getfield 20, 3) := dk_180 0 20 (dk_at dksX10_displacement_0 5 rfl rfl)
theorem dX10_displacement_8 : decode cX10_displacement 8 = .ok (.iload_n 1, 1) := dk_27 (dk_at dksX10_displacement_0 8 rfl rfl)
theorem dX10_displacement_9 : decode cX10_displacement 9 = .ok (.iload_n 2, 1) := dk_28 (dk_at dksX10_displacement_0 9 rfl rfl)
theorem dX10_displacement_10 : decode cX10_displacement 10 = .ok (.invokevirtual 31, 3) := dk_182 0 31 (dk_at dksX10_displacement_0 10 rfl rfl)
theorem dX10_displacement_13 : decode cX10_displacement 13 = .ok (.imul, 1) := dk_104 (dk_at dksX10_displacement_0 13 rfl rfl)
theorem dX10_displacement_14 : decode cX10_displacement 14 = .ok (.ireturn, 1) := dk_172 (dk_at dksX10_displacement_0 14 rfl rfl)
theorem q156 : (Jvm.Cond.initialized "DanceNotation$Repeat") ∈ lw_all := lw_g (lw_at lw_m1 39 rfl) rfl
theorem q870 : (Jvm.Cond.selects "DanceNotation$Repeat" ({ cls := "DanceNotation$Parts", name := "partCount", desc := "()I" } : Jvm.MethodName) ({ cls := "DanceNotation$Single", name := "partCount", desc := "()I" } : Jvm.MethodName)) ∈ lw_all := lw_g (lw_at lw_m4 33 rfl) rfl
theorem q889 : (Jvm.Cond.selects "DanceNotation$Repeat" ({ cls := "DanceNotation$Parts", name := "part", desc := "(I)LDanceNotation$Node;" } : Jvm.MethodName) ({ cls := "DanceNotation$Single", name := "part", desc := "(I)LDanceNotation$Node;" } : Jvm.MethodName)) ∈ lw_all := lw_g (lw_at lw_m4 52 rfl) rfl
theorem q1004 : (Jvm.Cond.selects "DanceNotation$Repeat" ({ cls := "java/lang/Object", name := "getClass", desc := "()Ljava/lang/Class;" } : Jvm.MethodName) ({ cls := "java/lang/Object", name := "getClass", desc := "()Ljava/lang/Class;" } : Jvm.MethodName)) ∈ lw_all := lw_g (lw_at lw_m4 167 rfl) rfl
theorem q1109 : (Jvm.Cond.selects "DanceNotation$Repeat" ({ cls := "DanceNotation$Node", name := "score", desc := "()LDanceNotation$Score;" } : Jvm.MethodName) ({ cls := "DanceNotation$Node", name := "score", desc := "()LDanceNotation$Score;" } : Jvm.MethodName)) ∈ lw_all := lw_g (lw_at lw_m5 32 rfl) rfl
theorem q1128 : (Jvm.Cond.instanceMethod ({ cls := "DanceNotation$Repeat", name := "length", desc := "()I" } : Jvm.MethodName)) ∈ lw_all := lw_g (lw_at lw_m5 51 rfl) rfl
theorem q1129 : (Jvm.Cond.code ({ cls := "DanceNotation$Repeat", name := "length", desc := "()I" } : Jvm.MethodName) prog_15_method_2_code (1 : Nat) (Option.some Jvm.ClassFile.FieldType.int)) ∈ lw_all := lw_g (lw_at lw_m5 52 rfl) rfl
theorem q1130 : (Jvm.Cond.methodLink "DanceNotation$Repeat" (13 : Nat) ({ cls := "DanceNotation$Single", name := "length", desc := "()I" } : Jvm.MethodName)) ∈ lw_all := lw_g (lw_at lw_m5 53 rfl) rfl
theorem q1131 : (Jvm.Cond.superclass "DanceNotation$Repeat" "DanceNotation$Single") ∈ lw_all := lw_g (lw_at lw_m5 54 rfl) rfl
theorem q1137 : (Jvm.Cond.selects "DanceNotation$Repeat" ({ cls := "DanceNotation$Node", name := "length", desc := "()I" } : Jvm.MethodName) ({ cls := "DanceNotation$Repeat", name := "length", desc := "()I" } : Jvm.MethodName)) ∈ lw_all := lw_g (lw_at lw_m5 60 rfl) rfl
theorem q1225 : (Jvm.Cond.instanceMethod ({ cls := "DanceNotation$Repeat", name := "perform", desc := "(LDanceNotation$Score;IIZ)V" } : Jvm.MethodName)) ∈ lw_all := lw_g (lw_at lw_m5 148 rfl) rfl
theorem q1226 : (Jvm.Cond.code ({ cls := "DanceNotation$Repeat", name := "perform", desc := "(LDanceNotation$Score;IIZ)V" } : Jvm.MethodName) prog_15_method_4_code (7 : Nat) (Option.none : Option Jvm.ClassFile.FieldType)) ∈ lw_all := lw_g (lw_at lw_m5 149 rfl) rfl
theorem q1227 : (Jvm.Cond.methodLink "DanceNotation$Repeat" (24 : Nat) ({ cls := "DanceNotation$Node", name := "length", desc := "()I" } : Jvm.MethodName)) ∈ lw_all := lw_g (lw_at lw_m5 150 rfl) rfl
theorem q1228 : (Jvm.Cond.methodLink "DanceNotation$Repeat" (27 : Nat) ({ cls := "DanceNotation$Node", name := "perform", desc := "(LDanceNotation$Score;IIZ)V" } : Jvm.MethodName)) ∈ lw_all := lw_g (lw_at lw_m5 151 rfl) rfl
theorem q1237 : (Jvm.Cond.selects "DanceNotation$Repeat" ({ cls := "DanceNotation$Node", name := "perform", desc := "(LDanceNotation$Score;IIZ)V" } : Jvm.MethodName) ({ cls := "DanceNotation$Repeat", name := "perform", desc := "(LDanceNotation$Score;IIZ)V" } : Jvm.MethodName)) ∈ lw_all := lw_g (lw_at lw_m5 160 rfl) rfl
theorem q1292 : (Jvm.Cond.instanceMethod ({ cls := "DanceNotation$Repeat", name := "write", desc := "(Ljava/lang/StringBuilder;)V" } : Jvm.MethodName)) ∈ lw_all := lw_g (lw_at lw_m5 215 rfl) rfl
theorem q1293 : (Jvm.Cond.code ({ cls := "DanceNotation$Repeat", name := "write", desc := "(Ljava/lang/StringBuilder;)V" } : Jvm.MethodName) prog_15_method_7_code (2 : Nat) (Option.none : Option Jvm.ClassFile.FieldType)) ∈ lw_all := lw_g (lw_at lw_m5 216 rfl) rfl
theorem q1294 : (Jvm.Cond.methodLink "DanceNotation$Repeat" (42 : Nat) ({ cls := "java/lang/StringBuilder", name := "append", desc := "(I)Ljava/lang/StringBuilder;" } : Jvm.MethodName)) ∈ lw_all := lw_g (lw_at lw_m5 217 rfl) rfl
theorem q1295 : (Jvm.Cond.classLink "DanceNotation$Repeat" (48 : Nat) "DanceNotation$Several") ∈ lw_all := lw_g (lw_at lw_m5 218 rfl) rfl
theorem q1296 : (Jvm.Cond.classLink "DanceNotation$Repeat" (8 : Nat) "DanceNotation$Repeat") ∈ lw_all := lw_g (lw_at lw_m5 219 rfl) rfl
theorem q1297 : (Jvm.Cond.methodLink "DanceNotation$Repeat" (50 : Nat) ({ cls := "DanceNotation$Repeat", name := "writePart", desc := "(Ljava/lang/StringBuilder;LDanceNotation$Node;Z)V" } : Jvm.MethodName)) ∈ lw_all := lw_g (lw_at lw_m5 220 rfl) rfl
theorem q1298 : (Jvm.Cond.sameMethod "DanceNotation$Repeat" "DanceNotation$Node" "writePart" "(Ljava/lang/StringBuilder;LDanceNotation$Node;Z)V") ∈ lw_all := lw_g (lw_at lw_m5 221 rfl) rfl
theorem q1299 : (Jvm.Cond.selects "DanceNotation$Repeat" ({ cls := "DanceNotation$Repeat", name := "writePart", desc := "(Ljava/lang/StringBuilder;LDanceNotation$Node;Z)V" } : Jvm.MethodName) ({ cls := "DanceNotation$Node", name := "writePart", desc := "(Ljava/lang/StringBuilder;LDanceNotation$Node;Z)V" } : Jvm.MethodName)) ∈ lw_all := lw_g (lw_at lw_m5 222 rfl) rfl
theorem q1319 : (Jvm.Cond.selects "DanceNotation$Repeat" ({ cls := "DanceNotation$Node", name := "write", desc := "(Ljava/lang/StringBuilder;)V" } : Jvm.MethodName) ({ cls := "DanceNotation$Repeat", name := "write", desc := "(Ljava/lang/StringBuilder;)V" } : Jvm.MethodName)) ∈ lw_all := lw_g (lw_at lw_m6 2 rfl) rfl
theorem q1708 : (Jvm.Cond.instantiable "DanceNotation$Repeat" (2 : Nat)) ∈ lw_all := lw_g (lw_at lw_m7 151 rfl) rfl
theorem q1929 : (Jvm.Cond.fieldLink "DanceNotation$Repeat" (20 : Nat) "DanceNotation$Repeat" "part" "LDanceNotation$Node;") ∈ lw_all := lw_g (lw_at lw_m8 132 rfl) rfl
theorem q1930 : (Jvm.Cond.sameField "DanceNotation$Repeat" "DanceNotation$Single" "part" "LDanceNotation$Node;") ∈ lw_all := lw_g (lw_at lw_m8 133 rfl) rfl
theorem q1945 : (Jvm.Cond.instanceMethod ({ cls := "DanceNotation$Repeat", name := "<init>", desc := "(ILDanceNotation$Node;)V" } : Jvm.MethodName)) ∈ lw_all := lw_g (lw_at lw_m8 148 rfl) rfl
theorem q1946 : (Jvm.Cond.code ({ cls := "DanceNotation$Repeat", name := "<init>", desc := "(ILDanceNotation$Node;)V" } : Jvm.MethodName) prog_15_method_1_code (3 : Nat) (Option.none : Option Jvm.ClassFile.FieldType)) ∈ lw_all := lw_g (lw_at lw_m8 149 rfl) rfl
theorem q1947 : (Jvm.Cond.methodLink "DanceNotation$Repeat" (1 : Nat) ({ cls := "DanceNotation$Single", name := "<init>", desc := "(LDanceNotation$Node;)V" } : Jvm.MethodName)) ∈ lw_all := lw_g (lw_at lw_m8 150 rfl) rfl
theorem q1948 : (Jvm.Cond.fieldLink "DanceNotation$Repeat" (7 : Nat) "DanceNotation$Repeat" "number" "I") ∈ lw_all := lw_g (lw_at lw_m8 151 rfl) rfl
theorem q1949 : (Jvm.Cond.laysFinal "DanceNotation$Repeat" "DanceNotation$Repeat" "number" "I") ∈ lw_all := lw_g (lw_at lw_m8 152 rfl) rfl
theorem q1950 : (Jvm.Cond.soleField "DanceNotation$Repeat" "number") ∈ lw_all := lw_g (lw_at lw_m8 153 rfl) rfl
theorem q1951 : (Jvm.Cond.laysFinal "DanceNotation$Repeat" "DanceNotation$Single" "part" "LDanceNotation$Node;") ∈ lw_all := lw_g (lw_at lw_m8 154 rfl) rfl
theorem q1974 : (Jvm.Cond.selects "DanceNotation$Repeat" ({ cls := "DanceNotation$Node", name := "checkAll", desc := "()V" } : Jvm.MethodName) ({ cls := "DanceNotation$Node", name := "checkAll", desc := "()V" } : Jvm.MethodName)) ∈ lw_all := lw_g (lw_at lw_m8 177 rfl) rfl
theorem q2027 : (Jvm.Cond.selects "DanceNotation$Repeat" ({ cls := "DanceNotation$Node", name := "cues", desc := "()I" } : Jvm.MethodName) ({ cls := "DanceNotation$Repeat", name := "cues", desc := "()I" } : Jvm.MethodName)) ∈ lw_all := lw_g (lw_at lw_m8 230 rfl) rfl
theorem q2028 : (Jvm.Cond.instanceMethod ({ cls := "DanceNotation$Repeat", name := "cues", desc := "()I" } : Jvm.MethodName)) ∈ lw_all := lw_g (lw_at lw_m8 231 rfl) rfl
theorem q2029 : (Jvm.Cond.code ({ cls := "DanceNotation$Repeat", name := "cues", desc := "()I" } : Jvm.MethodName) prog_15_method_3_code (1 : Nat) (Option.some Jvm.ClassFile.FieldType.int)) ∈ lw_all := lw_g (lw_at lw_m8 232 rfl) rfl
theorem q2030 : (Jvm.Cond.methodLink "DanceNotation$Repeat" (17 : Nat) ({ cls := "DanceNotation$Single", name := "cues", desc := "()I" } : Jvm.MethodName)) ∈ lw_all := lw_g (lw_at lw_m8 233 rfl) rfl
theorem q2039 : (Jvm.Cond.selects "DanceNotation$Repeat" ({ cls := "DanceNotation$Node", name := "check", desc := "()V" } : Jvm.MethodName) ({ cls := "DanceNotation$Node", name := "check", desc := "()V" } : Jvm.MethodName)) ∈ lw_all := lw_g (lw_at lw_m9 2 rfl) rfl
theorem q2063 : (Jvm.Cond.castable "DanceNotation$Repeat" "DanceNotation$Parts") ∈ lw_tbl := lw_at lw_m9 26 rfl
theorem q2064 : (Jvm.Cond.unhidden "DanceNotation$Repeat" "partCount" "()I") ∈ lw_tbl := lw_at lw_m9 27 rfl
theorem q2078 : (Jvm.Cond.unhidden "DanceNotation$Repeat" "part" "(I)LDanceNotation$Node;") ∈ lw_tbl := lw_at lw_m9 41 rfl
theorem q2082 : (Jvm.Cond.unhidden "DanceNotation$Repeat" "used" "()I") ∈ lw_tbl := lw_at lw_m9 45 rfl
theorem q2165 : (Jvm.Cond.unhidden "DanceNotation$Repeat" "depth" "()I") ∈ lw_tbl := lw_at lw_m9 128 rfl
theorem q2176 : (Jvm.Cond.unhidden "DanceNotation$Repeat" "nodes" "()I") ∈ lw_tbl := lw_at lw_m9 139 rfl
theorem q2214 : (Jvm.Cond.selects "DanceNotation$Repeat" ({ cls := "DanceNotation$Node", name := "leaves", desc := "()Ljava/util/Iterator;" } : Jvm.MethodName) ({ cls := "DanceNotation$Node", name := "leaves", desc := "()Ljava/util/Iterator;" } : Jvm.MethodName)) ∈ lw_all := lw_g (lw_at lw_m9 177 rfl) rfl
theorem q2254 : (Jvm.Cond.instanceMethod ({ cls := "DanceNotation$Repeat", name := "renamed", desc := "([I)LDanceNotation$Node;" } : Jvm.MethodName)) ∈ lw_all := lw_g (lw_at lw_m9 217 rfl) rfl
theorem q2255 : (Jvm.Cond.code ({ cls := "DanceNotation$Repeat", name := "renamed", desc := "([I)LDanceNotation$Node;" } : Jvm.MethodName) prog_15_method_6_code (2 : Nat) (Option.some (Jvm.ClassFile.FieldType.object "DanceNotation$Node"))) ∈ lw_all := lw_g (lw_at lw_m9 218 rfl) rfl
theorem q2256 : (Jvm.Cond.methodLink "DanceNotation$Repeat" (35 : Nat) ({ cls := "DanceNotation$Node", name := "renamed", desc := "([I)LDanceNotation$Node;" } : Jvm.MethodName)) ∈ lw_all := lw_g (lw_at lw_m9 219 rfl) rfl
theorem q2268 : (Jvm.Cond.methodLink "DanceNotation$Repeat" (39 : Nat) ({ cls := "DanceNotation$Repeat", name := "<init>", desc := "(ILDanceNotation$Node;)V" } : Jvm.MethodName)) ∈ lw_all := lw_g (lw_at lw_m9 231 rfl) rfl
theorem q2271 : (Jvm.Cond.selects "DanceNotation$Repeat" ({ cls := "DanceNotation$Node", name := "renamed", desc := "([I)LDanceNotation$Node;" } : Jvm.MethodName) ({ cls := "DanceNotation$Repeat", name := "renamed", desc := "([I)LDanceNotation$Node;" } : Jvm.MethodName)) ∈ lw_all := lw_g (lw_at lw_m9 234 rfl) rfl
theorem q2450 : (Jvm.Cond.instanceMethod ({ cls := "DanceNotation$Repeat", name := "displacement", desc := "(IZ)I" } : Jvm.MethodName)) ∈ lw_all := lw_g (lw_at lw_m10 173 rfl) rfl
theorem q2451 : (Jvm.Cond.code ({ cls := "DanceNotation$Repeat", name := "displacement", desc := "(IZ)I" } : Jvm.MethodName) prog_15_method_5_code (3 : Nat) (Option.some Jvm.ClassFile.FieldType.int)) ∈ lw_all := lw_g (lw_at lw_m10 174 rfl) rfl
theorem q2452 : (Jvm.Cond.methodLink "DanceNotation$Repeat" (31 : Nat) ({ cls := "DanceNotation$Node", name := "displacement", desc := "(IZ)I" } : Jvm.MethodName)) ∈ lw_all := lw_g (lw_at lw_m10 175 rfl) rfl
theorem q2460 : (Jvm.Cond.selects "DanceNotation$Repeat" ({ cls := "DanceNotation$Node", name := "displacement", desc := "(IZ)I" } : Jvm.MethodName) ({ cls := "DanceNotation$Repeat", name := "displacement", desc := "(IZ)I" } : Jvm.MethodName)) ∈ lw_all := lw_g (lw_at lw_m10 183 rfl) rfl
theorem q3309 : (Jvm.Cond.castable "DanceNotation$Repeat" "DanceNotation$Node") ∈ lw_tbl := lw_at lw_m14 72 rfl
theorem q3332 : (Jvm.Cond.castable "DanceNotation$Repeat" "java/lang/Object") ∈ lw_tbl := lw_at lw_m14 95 rfl
theorem in_X10 : ∀ w ∈ wsX100, w ∈ lw_all := lw_in wsX100 [1951, 1949] (by decide +kernel) (by decide +kernel)

/-! DanceNotation$Leaf -/
set_option maxRecDepth 100000
def RX11 : String := "DanceNotation$Leaf"
abbrev cX11_partCount : ByteArray := prog_7_method_2_code
def yX11_partCount : MethodName := ⟨RX11, "partCount", "()I"⟩
theorem dX11_partCount_0 : decode cX11_partCount 0 = .ok (.iconst 0, 1) := by decide +kernel
theorem dX11_partCount_1 : decode cX11_partCount 1 = .ok (.ireturn, 1) := by decide +kernel
abbrev cX11_part : ByteArray := prog_7_method_3_code
def yX11_part : MethodName := ⟨RX11, "part", "(I)LDanceNotation$Node;"⟩
def dkwX11_part_0 : List UInt8 := [187, 0, 7, 89, 183, 0, 9, 191]
abbrev dktX11_part_0 : List UInt8 := dkwX11_part_0 ++ []
theorem dksX11_part_0 : cX11_part.data.toList.drop 0 = dktX11_part_0 := by decide +kernel
theorem dX11_part_0 : decode cX11_part 0 = .ok (.new 7, 3) := dk_187 0 7 (dk_at dksX11_part_0 0 rfl rfl)
theorem dX11_part_3 : decode cX11_part 3 = .ok (.dup, 1) := dk_89 (dk_at dksX11_part_0 3 rfl rfl)
theorem dX11_part_4 : decode cX11_part 4 = .ok (.invokespecial 9, 3) := dk_183 0 9 (dk_at dksX11_part_0 4 rfl rfl)
theorem dX11_part_7 : decode cX11_part 7 = .ok (.athrow, 1) := dk_191 (dk_at dksX11_part_0 7 rfl rfl)
abbrev cX11_init : ByteArray := prog_7_method_1_code
def yX11_init : MethodName := ⟨RX11, "<init>", "()V"⟩
theorem dX11_init_0 : decode cX11_init 0 = .ok (.aload_n 0, 1) := by decide +kernel
theorem dX11_init_1 : decode cX11_init 1 = .ok (.invokespecial 1, 3) := by decide +kernel
theorem dX11_init_4 : decode cX11_init 4 = .ok (.return_, 1) := by decide +kernel
theorem q157 : (Jvm.Cond.initialized "DanceNotation$Leaf") ∈ lw_all := lw_g (lw_at lw_m1 40 rfl) rfl
theorem q864 : (Jvm.Cond.instanceMethod ({ cls := "DanceNotation$Leaf", name := "partCount", desc := "()I" } : Jvm.MethodName)) ∈ lw_all := lw_g (lw_at lw_m4 27 rfl) rfl
theorem q865 : (Jvm.Cond.code ({ cls := "DanceNotation$Leaf", name := "partCount", desc := "()I" } : Jvm.MethodName) prog_7_method_2_code (1 : Nat) (Option.some Jvm.ClassFile.FieldType.int)) ∈ lw_all := lw_g (lw_at lw_m4 28 rfl) rfl
theorem q878 : (Jvm.Cond.instanceMethod ({ cls := "DanceNotation$Leaf", name := "part", desc := "(I)LDanceNotation$Node;" } : Jvm.MethodName)) ∈ lw_all := lw_g (lw_at lw_m4 41 rfl) rfl
theorem q879 : (Jvm.Cond.code ({ cls := "DanceNotation$Leaf", name := "part", desc := "(I)LDanceNotation$Node;" } : Jvm.MethodName) prog_7_method_3_code (2 : Nat) (Option.some (Jvm.ClassFile.FieldType.object "DanceNotation$Node"))) ∈ lw_all := lw_g (lw_at lw_m4 42 rfl) rfl
theorem q880 : (Jvm.Cond.classLink "DanceNotation$Leaf" (7 : Nat) "java/lang/IndexOutOfBoundsException") ∈ lw_all := lw_g (lw_at lw_m4 43 rfl) rfl
theorem q881 : (Jvm.Cond.methodLink "DanceNotation$Leaf" (9 : Nat) ({ cls := "java/lang/IndexOutOfBoundsException", name := "<init>", desc := "()V" } : Jvm.MethodName)) ∈ lw_all := lw_g (lw_at lw_m4 44 rfl) rfl
theorem q1727 : (Jvm.Cond.instanceMethod ({ cls := "DanceNotation$Leaf", name := "<init>", desc := "()V" } : Jvm.MethodName)) ∈ lw_all := lw_g (lw_at lw_m7 170 rfl) rfl
theorem q1728 : (Jvm.Cond.code ({ cls := "DanceNotation$Leaf", name := "<init>", desc := "()V" } : Jvm.MethodName) prog_7_method_1_code (1 : Nat) (Option.none : Option Jvm.ClassFile.FieldType)) ∈ lw_all := lw_g (lw_at lw_m7 171 rfl) rfl
theorem q1729 : (Jvm.Cond.methodLinkNest "DanceNotation$Leaf" (1 : Nat) ({ cls := "DanceNotation$Node", name := "<init>", desc := "()V" } : Jvm.MethodName) "DanceNotation") ∈ lw_tbl := lw_at lw_m7 172 rfl
theorem q2015 : (Jvm.Cond.sameMethod "DanceNotation$Leaf" "DanceNotation$Node" "check" "()V") ∈ lw_all := lw_g (lw_at lw_m8 218 rfl) rfl
theorem q2017 : (Jvm.Cond.superclass "DanceNotation$Leaf" "DanceNotation$Node") ∈ lw_all := lw_g (lw_at lw_m8 220 rfl) rfl
theorem q2057 : (Jvm.Cond.publicMethod ({ cls := "DanceNotation$Leaf", name := "partCount", desc := "()I" } : Jvm.MethodName)) ∈ lw_tbl := lw_at lw_m9 20 rfl
theorem q2074 : (Jvm.Cond.publicMethod ({ cls := "DanceNotation$Leaf", name := "part", desc := "(I)LDanceNotation$Node;" } : Jvm.MethodName)) ∈ lw_tbl := lw_at lw_m9 37 rfl

/-! DanceNotation$Cue -/
set_option maxRecDepth 100000
def RX12 : String := "DanceNotation$Cue"
abbrev cX12_length : ByteArray := prog_3_method_2_code
def yX12_length : MethodName := ⟨RX12, "length", "()I"⟩
theorem dX12_length_0 : decode cX12_length 0 = .ok (.iconst 0, 1) := by decide +kernel
theorem dX12_length_1 : decode cX12_length 1 = .ok (.ireturn, 1) := by decide +kernel
abbrev cX12_perform : ByteArray := prog_3_method_4_code
def yX12_perform : MethodName := ⟨RX12, "perform", "(LDanceNotation$Score;IIZ)V"⟩
def dkwX12_perform_0 : List UInt8 := [43, 180, 0, 7, 28, 92, 46, 4, 96, 79, 177]
abbrev dktX12_perform_0 : List UInt8 := dkwX12_perform_0 ++ []
theorem dksX12_perform_0 : cX12_perform.data.toList.drop 0 = dktX12_perform_0 := by decide +kernel
theorem dX12_perform_0 : decode cX12_perform 0 = .ok (.aload_n 1, 1) := dk_43 (dk_at dksX12_perform_0 0 rfl rfl)
theorem dX12_perform_1 : decode cX12_perform 1 = .ok (.getfield 7, 3) := dk_180 0 7 (dk_at dksX12_perform_0 1 rfl rfl)
theorem dX12_perform_4 : decode cX12_perform 4 = .ok (.iload_n 2, 1) := dk_28 (dk_at dksX12_perform_0 4 rfl rfl)
theorem dX12_perform_5 : decode cX12_perform 5 = .ok (.dup2, 1) := dk_92 (dk_at dksX12_perform_0 5 rfl rfl)
theorem dX12_perform_6 : decode cX12_perform 6 = .ok (.iaload, 1) := dk_46 (dk_at dksX12_perform_0 6 rfl rfl)
theorem dX12_perform_7 : decode cX12_perform 7 = .ok (.iconst 1, 1) := dk_4 (dk_at dksX12_perform_0 7 rfl rfl)
theorem dX12_perform_8 : decode cX12_perform 8 = .ok (.iadd, 1) := dk_96 (dk_at dksX12_perform_0 8 rfl rfl)
theorem dX12_perform_9 : decode cX12_perform 9 = .ok (.iastore, 1) := dk_79 (dk_at dksX12_perform_0 9 rfl rfl)
theorem dX12_perform_10 : decode cX12_perform 10 = .ok (.return_, 1) := dk_177 (dk_at dksX12_perform_0 10 rfl rfl)
abbrev cX12_write : ByteArray := prog_3_method_7_code
def yX12_write : MethodName := ⟨RX12, "write", "(Ljava/lang/StringBuilder;)V"⟩
def dkwX12_write_0 : List UInt8 := [43, 18, 13, 182, 0, 15, 87, 177]
abbrev dktX12_write_0 : List UInt8 := dkwX12_write_0 ++ []
theorem dksX12_write_0 : cX12_write.data.toList.drop 0 = dktX12_write_0 := by decide +kernel
theorem dX12_write_0 : decode cX12_write 0 = .ok (.aload_n 1, 1) := dk_43 (dk_at dksX12_write_0 0 rfl rfl)
theorem dX12_write_1 : decode cX12_write 1 = .ok (.ldc 13, 2) := dk_18 13 (dk_at dksX12_write_0 1 rfl rfl)
theorem dX12_write_3 : decode cX12_write 3 = .ok (.invokevirtual 15, 3) := dk_182 0 15 (dk_at dksX12_write_0 3 rfl rfl)
theorem dX12_write_6 : decode cX12_write 6 = .ok (.pop, 1) := dk_87 (dk_at dksX12_write_0 6 rfl rfl)
theorem dX12_write_7 : decode cX12_write 7 = .ok (.return_, 1) := dk_177 (dk_at dksX12_write_0 7 rfl rfl)
abbrev cX12_init : ByteArray := prog_3_method_1_code
def yX12_init : MethodName := ⟨RX12, "<init>", "()V"⟩
theorem dX12_init_0 : decode cX12_init 0 = .ok (.aload_n 0, 1) := by decide +kernel
theorem dX12_init_1 : decode cX12_init 1 = .ok (.invokespecial 1, 3) := by decide +kernel
theorem dX12_init_4 : decode cX12_init 4 = .ok (.return_, 1) := by decide +kernel
abbrev cX12_cues : ByteArray := prog_3_method_3_code
def yX12_cues : MethodName := ⟨RX12, "cues", "()I"⟩
theorem dX12_cues_0 : decode cX12_cues 0 = .ok (.iconst 1, 1) := by decide +kernel
theorem dX12_cues_1 : decode cX12_cues 1 = .ok (.ireturn, 1) := by decide +kernel
abbrev cX12_renamed : ByteArray := prog_3_method_6_code
def yX12_renamed : MethodName := ⟨RX12, "renamed", "([I)LDanceNotation$Node;"⟩
theorem dX12_renamed_0 : decode cX12_renamed 0 = .ok (.aload_n 0, 1) := by decide +kernel
theorem dX12_renamed_1 : decode cX12_renamed 1 = .ok (.areturn, 1) := by decide +kernel
abbrev cX12_displacement : ByteArray := prog_3_method_5_code
def yX12_displacement : MethodName := ⟨RX12, "displacement", "(IZ)I"⟩
theorem dX12_displacement_0 : decode cX12_displacement 0 = .ok (.iconst 0, 1) := by decide +kernel
theorem dX12_displacement_1 : decode cX12_displacement 1 = .ok (.ireturn, 1) := by decide +kernel
theorem q158 : (Jvm.Cond.initialized "DanceNotation$Cue") ∈ lw_all := lw_g (lw_at lw_m1 41 rfl) rfl
theorem q863 : (Jvm.Cond.selects "DanceNotation$Cue" ({ cls := "DanceNotation$Parts", name := "partCount", desc := "()I" } : Jvm.MethodName) ({ cls := "DanceNotation$Leaf", name := "partCount", desc := "()I" } : Jvm.MethodName)) ∈ lw_all := lw_g (lw_at lw_m4 26 rfl) rfl
theorem q877 : (Jvm.Cond.selects "DanceNotation$Cue" ({ cls := "DanceNotation$Parts", name := "part", desc := "(I)LDanceNotation$Node;" } : Jvm.MethodName) ({ cls := "DanceNotation$Leaf", name := "part", desc := "(I)LDanceNotation$Node;" } : Jvm.MethodName)) ∈ lw_all := lw_g (lw_at lw_m4 40 rfl) rfl
theorem q995 : (Jvm.Cond.selects "DanceNotation$Cue" ({ cls := "java/lang/Object", name := "getClass", desc := "()Ljava/lang/Class;" } : Jvm.MethodName) ({ cls := "java/lang/Object", name := "getClass", desc := "()Ljava/lang/Class;" } : Jvm.MethodName)) ∈ lw_all := lw_g (lw_at lw_m4 158 rfl) rfl
theorem q1106 : (Jvm.Cond.selects "DanceNotation$Cue" ({ cls := "DanceNotation$Node", name := "score", desc := "()LDanceNotation$Score;" } : Jvm.MethodName) ({ cls := "DanceNotation$Node", name := "score", desc := "()LDanceNotation$Score;" } : Jvm.MethodName)) ∈ lw_all := lw_g (lw_at lw_m5 29 rfl) rfl
theorem q1118 : (Jvm.Cond.selects "DanceNotation$Cue" ({ cls := "DanceNotation$Node", name := "length", desc := "()I" } : Jvm.MethodName) ({ cls := "DanceNotation$Cue", name := "length", desc := "()I" } : Jvm.MethodName)) ∈ lw_all := lw_g (lw_at lw_m5 41 rfl) rfl
theorem q1119 : (Jvm.Cond.instanceMethod ({ cls := "DanceNotation$Cue", name := "length", desc := "()I" } : Jvm.MethodName)) ∈ lw_all := lw_g (lw_at lw_m5 42 rfl) rfl
theorem q1120 : (Jvm.Cond.code ({ cls := "DanceNotation$Cue", name := "length", desc := "()I" } : Jvm.MethodName) prog_3_method_2_code (1 : Nat) (Option.some Jvm.ClassFile.FieldType.int)) ∈ lw_all := lw_g (lw_at lw_m5 43 rfl) rfl
theorem q1173 : (Jvm.Cond.fieldLinkNest "DanceNotation$Cue" (7 : Nat) "DanceNotation$Score" "cues" "[I" "DanceNotation") ∈ lw_tbl := lw_at lw_m5 96 rfl
theorem q1189 : (Jvm.Cond.selects "DanceNotation$Cue" ({ cls := "DanceNotation$Node", name := "perform", desc := "(LDanceNotation$Score;IIZ)V" } : Jvm.MethodName) ({ cls := "DanceNotation$Cue", name := "perform", desc := "(LDanceNotation$Score;IIZ)V" } : Jvm.MethodName)) ∈ lw_all := lw_g (lw_at lw_m5 112 rfl) rfl
theorem q1190 : (Jvm.Cond.instanceMethod ({ cls := "DanceNotation$Cue", name := "perform", desc := "(LDanceNotation$Score;IIZ)V" } : Jvm.MethodName)) ∈ lw_all := lw_g (lw_at lw_m5 113 rfl) rfl
theorem q1191 : (Jvm.Cond.code ({ cls := "DanceNotation$Cue", name := "perform", desc := "(LDanceNotation$Score;IIZ)V" } : Jvm.MethodName) prog_3_method_4_code (5 : Nat) (Option.none : Option Jvm.ClassFile.FieldType)) ∈ lw_all := lw_g (lw_at lw_m5 114 rfl) rfl
theorem q1253 : (Jvm.Cond.selects "DanceNotation$Cue" ({ cls := "DanceNotation$Node", name := "write", desc := "(Ljava/lang/StringBuilder;)V" } : Jvm.MethodName) ({ cls := "DanceNotation$Cue", name := "write", desc := "(Ljava/lang/StringBuilder;)V" } : Jvm.MethodName)) ∈ lw_all := lw_g (lw_at lw_m5 176 rfl) rfl
theorem q1254 : (Jvm.Cond.instanceMethod ({ cls := "DanceNotation$Cue", name := "write", desc := "(Ljava/lang/StringBuilder;)V" } : Jvm.MethodName)) ∈ lw_all := lw_g (lw_at lw_m5 177 rfl) rfl
theorem q1255 : (Jvm.Cond.code ({ cls := "DanceNotation$Cue", name := "write", desc := "(Ljava/lang/StringBuilder;)V" } : Jvm.MethodName) prog_3_method_7_code (2 : Nat) (Option.none : Option Jvm.ClassFile.FieldType)) ∈ lw_all := lw_g (lw_at lw_m5 178 rfl) rfl
theorem q1256 : (Jvm.Cond.stringRef "DanceNotation$Cue" (13 : Nat) "!") ∈ lw_tbl := lw_at lw_m5 179 rfl
theorem q1257 : (Jvm.Cond.methodLink "DanceNotation$Cue" (15 : Nat) ({ cls := "java/lang/StringBuilder", name := "append", desc := "(Ljava/lang/String;)Ljava/lang/StringBuilder;" } : Jvm.MethodName)) ∈ lw_all := lw_g (lw_at lw_m5 180 rfl) rfl
theorem q1722 : (Jvm.Cond.instantiable "DanceNotation$Cue" (0 : Nat)) ∈ lw_all := lw_g (lw_at lw_m7 165 rfl) rfl
theorem q1724 : (Jvm.Cond.instanceMethod ({ cls := "DanceNotation$Cue", name := "<init>", desc := "()V" } : Jvm.MethodName)) ∈ lw_all := lw_g (lw_at lw_m7 167 rfl) rfl
theorem q1725 : (Jvm.Cond.code ({ cls := "DanceNotation$Cue", name := "<init>", desc := "()V" } : Jvm.MethodName) prog_3_method_1_code (1 : Nat) (Option.none : Option Jvm.ClassFile.FieldType)) ∈ lw_all := lw_g (lw_at lw_m7 168 rfl) rfl
theorem q1726 : (Jvm.Cond.methodLinkNest "DanceNotation$Cue" (1 : Nat) ({ cls := "DanceNotation$Leaf", name := "<init>", desc := "()V" } : Jvm.MethodName) "DanceNotation") ∈ lw_tbl := lw_at lw_m7 169 rfl
theorem q1733 : (Jvm.Cond.superclass "DanceNotation$Cue" "DanceNotation$Leaf") ∈ lw_all := lw_g (lw_at lw_m7 176 rfl) rfl
theorem q1971 : (Jvm.Cond.selects "DanceNotation$Cue" ({ cls := "DanceNotation$Node", name := "checkAll", desc := "()V" } : Jvm.MethodName) ({ cls := "DanceNotation$Node", name := "checkAll", desc := "()V" } : Jvm.MethodName)) ∈ lw_all := lw_g (lw_at lw_m8 174 rfl) rfl
theorem q1982 : (Jvm.Cond.selects "DanceNotation$Cue" ({ cls := "DanceNotation$Node", name := "check", desc := "()V" } : Jvm.MethodName) ({ cls := "DanceNotation$Node", name := "check", desc := "()V" } : Jvm.MethodName)) ∈ lw_all := lw_g (lw_at lw_m8 185 rfl) rfl
theorem q2022 : (Jvm.Cond.selects "DanceNotation$Cue" ({ cls := "DanceNotation$Node", name := "cues", desc := "()I" } : Jvm.MethodName) ({ cls := "DanceNotation$Cue", name := "cues", desc := "()I" } : Jvm.MethodName)) ∈ lw_all := lw_g (lw_at lw_m8 225 rfl) rfl
theorem q2023 : (Jvm.Cond.instanceMethod ({ cls := "DanceNotation$Cue", name := "cues", desc := "()I" } : Jvm.MethodName)) ∈ lw_all := lw_g (lw_at lw_m8 226 rfl) rfl
theorem q2024 : (Jvm.Cond.code ({ cls := "DanceNotation$Cue", name := "cues", desc := "()I" } : Jvm.MethodName) prog_3_method_3_code (1 : Nat) (Option.some Jvm.ClassFile.FieldType.int)) ∈ lw_all := lw_g (lw_at lw_m8 227 rfl) rfl
theorem q2045 : (Jvm.Cond.unhidden "DanceNotation$Cue" "used" "()I") ∈ lw_tbl := lw_at lw_m9 8 rfl
theorem q2055 : (Jvm.Cond.castable "DanceNotation$Cue" "DanceNotation$Parts") ∈ lw_tbl := lw_at lw_m9 18 rfl
theorem q2056 : (Jvm.Cond.unhidden "DanceNotation$Cue" "partCount" "()I") ∈ lw_tbl := lw_at lw_m9 19 rfl
theorem q2073 : (Jvm.Cond.unhidden "DanceNotation$Cue" "part" "(I)LDanceNotation$Node;") ∈ lw_tbl := lw_at lw_m9 36 rfl
theorem q2162 : (Jvm.Cond.unhidden "DanceNotation$Cue" "depth" "()I") ∈ lw_tbl := lw_at lw_m9 125 rfl
theorem q2173 : (Jvm.Cond.unhidden "DanceNotation$Cue" "nodes" "()I") ∈ lw_tbl := lw_at lw_m9 136 rfl
theorem q2211 : (Jvm.Cond.selects "DanceNotation$Cue" ({ cls := "DanceNotation$Node", name := "leaves", desc := "()Ljava/util/Iterator;" } : Jvm.MethodName) ({ cls := "DanceNotation$Node", name := "leaves", desc := "()Ljava/util/Iterator;" } : Jvm.MethodName)) ∈ lw_all := lw_g (lw_at lw_m9 174 rfl) rfl
theorem q2242 : (Jvm.Cond.selects "DanceNotation$Cue" ({ cls := "DanceNotation$Node", name := "renamed", desc := "([I)LDanceNotation$Node;" } : Jvm.MethodName) ({ cls := "DanceNotation$Cue", name := "renamed", desc := "([I)LDanceNotation$Node;" } : Jvm.MethodName)) ∈ lw_all := lw_g (lw_at lw_m9 205 rfl) rfl
theorem q2243 : (Jvm.Cond.instanceMethod ({ cls := "DanceNotation$Cue", name := "renamed", desc := "([I)LDanceNotation$Node;" } : Jvm.MethodName)) ∈ lw_all := lw_g (lw_at lw_m9 206 rfl) rfl
theorem q2244 : (Jvm.Cond.code ({ cls := "DanceNotation$Cue", name := "renamed", desc := "([I)LDanceNotation$Node;" } : Jvm.MethodName) prog_3_method_6_code (2 : Nat) (Option.some (Jvm.ClassFile.FieldType.object "DanceNotation$Node"))) ∈ lw_all := lw_g (lw_at lw_m9 207 rfl) rfl
theorem q2438 : (Jvm.Cond.selects "DanceNotation$Cue" ({ cls := "DanceNotation$Node", name := "displacement", desc := "(IZ)I" } : Jvm.MethodName) ({ cls := "DanceNotation$Cue", name := "displacement", desc := "(IZ)I" } : Jvm.MethodName)) ∈ lw_all := lw_g (lw_at lw_m10 161 rfl) rfl
theorem q2439 : (Jvm.Cond.instanceMethod ({ cls := "DanceNotation$Cue", name := "displacement", desc := "(IZ)I" } : Jvm.MethodName)) ∈ lw_all := lw_g (lw_at lw_m10 162 rfl) rfl
theorem q2440 : (Jvm.Cond.code ({ cls := "DanceNotation$Cue", name := "displacement", desc := "(IZ)I" } : Jvm.MethodName) prog_3_method_5_code (3 : Nat) (Option.some Jvm.ClassFile.FieldType.int)) ∈ lw_all := lw_g (lw_at lw_m10 163 rfl) rfl
theorem q3306 : (Jvm.Cond.castable "DanceNotation$Cue" "DanceNotation$Node") ∈ lw_tbl := lw_at lw_m14 69 rfl
theorem q3333 : (Jvm.Cond.castable "DanceNotation$Cue" "java/lang/Object") ∈ lw_tbl := lw_at lw_m14 96 rfl

/-! DanceNotation$Phrase -/
set_option maxRecDepth 100000
def RX13 : String := "DanceNotation$Phrase"
def TX13 : u_T := fun k => match k with
  | 0 => ("DanceNotation$Phrase", "offset", "I", true)
  | 1 => ("DanceNotation$Phrase", "dancers", "[I", true)
  | _ => ("DanceNotation$Phrase", "steps", "Ljava/lang/String;", true)
def tyX13 : Nat → FieldType := fun k => match k with
  | 0 => .int
  | 1 => .array .int
  | _ => .object "java/lang/String"
abbrev wsX130 : List Cond := u_ws RX13 TX13 3
theorem nmX13 : ∀ a, a < 3 → ∀ b, b < 3 → a ≠ b → (TX13 a).2.1 ≠ (TX13 b).2.1 := by decide +kernel
theorem tyX13_ok : ∀ k, k < 3 → parseFieldDescriptor (TX13 k).2.2.1 = some (tyX13 k) := by decide +kernel
abbrev cX13_length : ByteArray := prog_13_method_3_code
def yX13_length : MethodName := ⟨RX13, "length", "()I"⟩
def dkwX13_length_0 : List UInt8 := [42, 180, 0, 15, 182, 0, 27, 42, 180, 0, 9, 42, 180, 0, 19, 190, 4, 100, 104, 96, 172]
abbrev dktX13_length_0 : List UInt8 := dkwX13_length_0 ++ []
theorem dksX13_length_0 : cX13_length.data.toList.drop 0 = dktX13_length_0 := by decide +kernel
theorem dX13_length_0 : decode cX13_length 0 = .ok (.aload_n 0, 1) := dk_42 (dk_at dksX13_length_0 0 rfl rfl)
theorem dX13_length_1 : decode cX13_length 1 = .ok (.getfield 15, 3) := dk_180 0 15 (dk_at dksX13_length_0 1 rfl rfl)
theorem dX13_length_4 : decode cX13_length 4 = .ok (.invokevirtual 27, 3) := dk_182 0 27 (dk_at dksX13_length_0 4 rfl rfl)
theorem dX13_length_7 : decode cX13_length 7 = .ok (.aload_n 0, 1) := dk_42 (dk_at dksX13_length_0 7 rfl rfl)
theorem dX13_length_8 : decode cX13_length 8 = .ok (.getfield 9, 3) := dk_180 0 9 (dk_at dksX13_length_0 8 rfl rfl)
theorem dX13_length_11 : decode cX13_length 11 = .ok (.aload_n 0, 1) := dk_42 (dk_at dksX13_length_0 11 rfl rfl)
theorem dX13_length_12 : decode cX13_length 12 = .ok (.getfield 19, 3) := dk_180 0 19 (dk_at dksX13_length_0 12 rfl rfl)
theorem dX13_length_15 : decode cX13_length 15 = .ok (.arraylength, 1) := dk_190 (dk_at dksX13_length_0 15 rfl rfl)
theorem dX13_length_16 : decode cX13_length 16 = .ok (.iconst 1, 1) := dk_4 (dk_at dksX13_length_0 16 rfl rfl)
theorem dX13_length_17 : decode cX13_length 17 = .ok (.isub, 1) := dk_100 (dk_at dksX13_length_0 17 rfl rfl)
theorem dX13_length_18 : decode cX13_length 18 = .ok (.imul, 1) := dk_104 (dk_at dksX13_length_0 18 rfl rfl)
theorem dX13_length_19 : decode cX13_length 19 = .ok (.iadd, 1) := dk_96 (dk_at dksX13_length_0 19 rfl rfl)
theorem dX13_length_20 : decode cX13_length 20 = .ok (.ireturn, 1) := dk_172 (dk_at dksX13_length_0 20 rfl rfl)
abbrev cX13_perform : ByteArray := prog_13_method_5_code
def yX13_perform : MethodName := ⟨RX13, "perform", "(LDanceNotation$Score;IIZ)V"⟩
def dkwX13_perform_4 : List UInt8 := [185, 0, 60, 2, 0, 85, 132, 7, 1, 167, 255, 179, 132, 6, 1, 167, 255, 160, 177]
abbrev dktX13_perform_4 : List UInt8 := dkwX13_perform_4 ++ []
def dkwX13_perform_3 : List UInt8 := [167, 0, 7, 28, 21, 8, 96, 43, 180, 0, 52, 29, 50, 42, 180, 0, 15, 21, 7, 182, 0, 56]
abbrev dktX13_perform_3 : List UInt8 := dkwX13_perform_3 ++ dktX13_perform_4
def dkwX13_perform_2 : List UInt8 := [54, 8, 43, 180, 0, 47, 42, 180, 0, 19, 21, 6, 46, 50, 21, 4, 153, 0, 11, 21, 5, 21, 8, 100]
abbrev dktX13_perform_2 : List UInt8 := dkwX13_perform_2 ++ dktX13_perform_3
def dkwX13_perform_1 : List UInt8 := [54, 7, 21, 7, 42, 180, 0, 15, 182, 0, 27, 162, 0, 71, 42, 180, 0, 9, 21, 6, 104, 21, 7, 96]
abbrev dktX13_perform_1 : List UInt8 := dkwX13_perform_1 ++ dktX13_perform_2
def dkwX13_perform_0 : List UInt8 := [28, 42, 182, 0, 46, 96, 4, 100, 54, 5, 3, 54, 6, 21, 6, 42, 180, 0, 19, 190, 162, 0, 92, 3]
abbrev dktX13_perform_0 : List UInt8 := dkwX13_perform_0 ++ dktX13_perform_1
theorem dksX13_perform_0 : cX13_perform.data.toList.drop 0 = dktX13_perform_0 := by decide +kernel
theorem dksX13_perform_1 : cX13_perform.data.toList.drop 24 = dktX13_perform_1 := dk_seg dksX13_perform_0 24 rfl rfl
theorem dksX13_perform_2 : cX13_perform.data.toList.drop 48 = dktX13_perform_2 := dk_seg dksX13_perform_1 24 rfl rfl
theorem dksX13_perform_3 : cX13_perform.data.toList.drop 72 = dktX13_perform_3 := dk_seg dksX13_perform_2 24 rfl rfl
theorem dksX13_perform_4 : cX13_perform.data.toList.drop 94 = dktX13_perform_4 := dk_seg dksX13_perform_3 22 rfl rfl
theorem dX13_perform_0 : decode cX13_perform 0 = .ok (.iload_n 2, 1) := dk_28 (dk_at dksX13_perform_0 0 rfl rfl)
theorem dX13_perform_1 : decode cX13_perform 1 = .ok (.aload_n 0, 1) := dk_42 (dk_at dksX13_perform_0 1 rfl rfl)
theorem dX13_perform_2 : decode cX13_perform 2 = .ok (.invokevirtual 46, 3) := dk_182 0 46 (dk_at dksX13_perform_0 2 rfl rfl)
theorem dX13_perform_5 : decode cX13_perform 5 = .ok (.iadd, 1) := dk_96 (dk_at dksX13_perform_0 5 rfl rfl)
theorem dX13_perform_6 : decode cX13_perform 6 = .ok (.iconst 1, 1) := dk_4 (dk_at dksX13_perform_0 6 rfl rfl)
theorem dX13_perform_7 : decode cX13_perform 7 = .ok (.isub, 1) := dk_100 (dk_at dksX13_perform_0 7 rfl rfl)
theorem dX13_perform_8 : decode cX13_perform 8 = .ok (.istore 5, 2) := dk_54 5 (dk_at dksX13_perform_0 8 rfl rfl)
theorem dX13_perform_10 : decode cX13_perform 10 = .ok (.iconst 0, 1) := dk_3 (dk_at dksX13_perform_0 10 rfl rfl)
theorem dX13_perform_11 : decode cX13_perform 11 = .ok (.istore 6, 2) := dk_54 6 (dk_at dksX13_perform_0 11 rfl rfl)
theorem dX13_perform_13 : decode cX13_perform 13 = .ok (.iload 6, 2) := dk_21 6 (dk_at dksX13_perform_0 13 rfl rfl)
theorem dX13_perform_15 : decode cX13_perform 15 = .ok (.aload_n 0, 1) := dk_42 (dk_at dksX13_perform_0 15 rfl rfl)
theorem dX13_perform_16 : decode cX13_perform 16 = .ok (.getfield 19, 3) := dk_180 0 19 (dk_at dksX13_perform_0 16 rfl rfl)
theorem dX13_perform_19 : decode cX13_perform 19 = .ok (.arraylength, 1) := dk_190 (dk_at dksX13_perform_0 19 rfl rfl)
theorem dX13_perform_20 : decode cX13_perform 20 = .ok (.if_icmp .ge 92, 3) := dk_162 0 92 (dk_at dksX13_perform_0 20 rfl rfl)
theorem dX13_perform_23 : decode cX13_perform 23 = .ok (.iconst 0, 1) := dk_3 (dk_at dksX13_perform_0 23 rfl rfl)
theorem dX13_perform_24 : decode cX13_perform 24 = .ok (.istore 7, 2) := dk_54 7 (dk_at dksX13_perform_1 0 rfl rfl)
theorem dX13_perform_26 : decode cX13_perform 26 = .ok (.iload 7, 2) := dk_21 7 (dk_at dksX13_perform_1 2 rfl rfl)
theorem dX13_perform_28 : decode cX13_perform 28 = .ok (.aload_n 0, 1) := dk_42 (dk_at dksX13_perform_1 4 rfl rfl)
theorem dX13_perform_29 : decode cX13_perform 29 = .ok (.getfield 15, 3) := dk_180 0 15 (dk_at dksX13_perform_1 5 rfl rfl)
theorem dX13_perform_32 : decode cX13_perform 32 = .ok (.invokevirtual 27, 3) := dk_182 0 27 (dk_at dksX13_perform_1 8 rfl rfl)
theorem dX13_perform_35 : decode cX13_perform 35 = .ok (.if_icmp .ge 71, 3) := dk_162 0 71 (dk_at dksX13_perform_1 11 rfl rfl)
theorem dX13_perform_38 : decode cX13_perform 38 = .ok (.aload_n 0, 1) := dk_42 (dk_at dksX13_perform_1 14 rfl rfl)
theorem dX13_perform_39 : decode cX13_perform 39 = .ok (.getfield 9, 3) := dk_180 0 9 (dk_at dksX13_perform_1 15 rfl rfl)
theorem dX13_perform_42 : decode cX13_perform 42 = .ok (.iload 6, 2) := dk_21 6 (dk_at dksX13_perform_1 18 rfl rfl)
theorem dX13_perform_44 : decode cX13_perform 44 = .ok (.imul, 1) := dk_104 (dk_at dksX13_perform_1 20 rfl rfl)
theorem dX13_perform_45 : decode cX13_perform 45 = .ok (.iload 7, 2) := dk_21 7 (dk_at dksX13_perform_1 21 rfl rfl)
theorem dX13_perform_47 : decode cX13_perform 47 = .ok (.iadd, 1) := dk_96 (dk_at dksX13_perform_1 23 rfl rfl)
theorem dX13_perform_48 : decode cX13_perform 48 = .ok (.istore 8, 2) := dk_54 8 (dk_at dksX13_perform_2 0 rfl rfl)
theorem dX13_perform_50 : decode cX13_perform 50 = .ok (.aload_n 1, 1) := dk_43 (dk_at dksX13_perform_2 2 rfl rfl)
theorem dX13_perform_51 : decode cX13_perform 51 = .ok (.getfield 47, 3) := dk_180 0 47 (dk_at dksX13_perform_2 3 rfl rfl)
theorem dX13_perform_54 : decode cX13_perform 54 = .ok (.aload_n 0, 1) := dk_42 (dk_at dksX13_perform_2 6 rfl rfl)
theorem dX13_perform_55 : decode cX13_perform 55 = .ok (.getfield 19, 3) := dk_180 0 19 (dk_at dksX13_perform_2 7 rfl rfl)
theorem dX13_perform_58 : decode cX13_perform 58 = .ok (.iload 6, 2) := dk_21 6 (dk_at dksX13_perform_2 10 rfl rfl)
theorem dX13_perform_60 : decode cX13_perform 60 = .ok (.iaload, 1) := dk_46 (dk_at dksX13_perform_2 12 rfl rfl)
theorem dX13_perform_61 : decode cX13_perform 61 = .ok (.aaload, 1) := dk_50 (dk_at dksX13_perform_2 13 rfl rfl)
theorem dX13_perform_62 : decode cX13_perform 62 = .ok (.iload 4, 2) := dk_21 4 (dk_at dksX13_perform_2 14 rfl rfl)
theorem dX13_perform_64 : decode cX13_perform 64 = .ok (.ifCond .eq 11, 3) := dk_153 0 11 (dk_at dksX13_perform_2 16 rfl rfl)
theorem dX13_perform_67 : decode cX13_perform 67 = .ok (.iload 5, 2) := dk_21 5 (dk_at dksX13_perform_2 19 rfl rfl)
theorem dX13_perform_69 : decode cX13_perform 69 = .ok (.iload 8, 2) := dk_21 8 (dk_at dksX13_perform_2 21 rfl rfl)
theorem dX13_perform_71 : decode cX13_perform 71 = .ok (.isub, 1) := dk_100 (dk_at dksX13_perform_2 23 rfl rfl)
theorem dX13_perform_72 : decode cX13_perform 72 = .ok (.goto 7, 3) := dk_167 0 7 (dk_at dksX13_perform_3 0 rfl rfl)
theorem dX13_perform_75 : decode cX13_perform 75 = .ok (.iload_n 2, 1) := dk_28 (dk_at dksX13_perform_3 3 rfl rfl)
theorem dX13_perform_76 : decode cX13_perform 76 = .ok (.iload 8, 2) := dk_21 8 (dk_at dksX13_perform_3 4 rfl rfl)
theorem dX13_perform_78 : decode cX13_perform 78 = .ok (.iadd, 1) := dk_96 (dk_at dksX13_perform_3 6 rfl rfl)
theorem dX13_perform_79 : decode cX13_perform 79 = .ok (.aload_n 1, 1) := dk_43 (dk_at dksX13_perform_3 7 rfl rfl)
theorem dX13_perform_80 : decode cX13_perform 80 = .ok (.getfield 52, 3) := dk_180 0 52 (dk_at dksX13_perform_3 8 rfl rfl)
theorem dX13_perform_83 : decode cX13_perform 83 = .ok (.iload_n 3, 1) := dk_29 (dk_at dksX13_perform_3 11 rfl rfl)
theorem dX13_perform_84 : decode cX13_perform 84 = .ok (.aaload, 1) := dk_50 (dk_at dksX13_perform_3 12 rfl rfl)
theorem dX13_perform_85 : decode cX13_perform 85 = .ok (.aload_n 0, 1) := dk_42 (dk_at dksX13_perform_3 13 rfl rfl)
theorem dX13_perform_86 : decode cX13_perform 86 = .ok (.getfield 15, 3) := dk_180 0 15 (dk_at dksX13_perform_3 14 rfl rfl)
theorem dX13_perform_89 : decode cX13_perform 89 = .ok (.iload 7, 2) := dk_21 7 (dk_at dksX13_perform_3 17 rfl rfl)
theorem dX13_perform_91 : decode cX13_perform 91 = .ok (.invokevirtual 56, 3) := dk_182 0 56 (dk_at dksX13_perform_3 19 rfl rfl)
theorem dX13_perform_94 : decode cX13_perform 94 = .ok (.invokeinterface 60 2, 5) := by decide +kernel
theorem dX13_perform_99 : decode cX13_perform 99 = .ok (.castore, 1) := dk_85 (dk_at dksX13_perform_4 5 rfl rfl)
theorem dX13_perform_100 : decode cX13_perform 100 = .ok (.iinc 7 1, 3) := dk_132 7 1 (dk_at dksX13_perform_4 6 rfl rfl)
theorem dX13_perform_103 : decode cX13_perform 103 = .ok (.goto (-77), 3) := dk_167 255 179 (dk_at dksX13_perform_4 9 rfl rfl)
theorem dX13_perform_106 : decode cX13_perform 106 = .ok (.iinc 6 1, 3) := dk_132 6 1 (dk_at dksX13_perform_4 12 rfl rfl)
theorem dX13_perform_109 : decode cX13_perform 109 = .ok (.goto (-96), 3) := dk_167 255 160 (dk_at dksX13_perform_4 15 rfl rfl)
theorem dX13_perform_112 : decode cX13_perform 112 = .ok (.return_, 1) := dk_177 (dk_at dksX13_perform_4 18 rfl rfl)
abbrev cX13_write : ByteArray := prog_13_method_9_code
def yX13_write : MethodName := ⟨RX13, "write", "(Ljava/lang/StringBuilder;)V"⟩
def dkwX13_write_3 : List UInt8 := [180, 0, 15, 182, 0, 79, 87, 177]
abbrev dktX13_write_3 : List UInt8 := dkwX13_write_3 ++ []
def dkwX13_write_2 : List UInt8 := [16, 65, 21, 5, 96, 146, 182, 0, 88, 87, 132, 4, 1, 167, 255, 230, 43, 18, 91, 182, 0, 79, 42]
abbrev dktX13_write_2 : List UInt8 := dkwX13_write_2 ++ dktX13_write_3
def dkwX13_write_1 : List UInt8 := [180, 0, 19, 77, 44, 190, 62, 3, 54, 4, 21, 4, 29, 162, 0, 26, 44, 21, 4, 46, 54, 5, 43]
abbrev dktX13_write_1 : List UInt8 := dkwX13_write_1 ++ dktX13_write_2
def dkwX13_write_0 : List UInt8 := [42, 180, 0, 9, 158, 0, 17, 43, 18, 77, 182, 0, 79, 42, 180, 0, 9, 182, 0, 85, 87, 42]
abbrev dktX13_write_0 : List UInt8 := dkwX13_write_0 ++ dktX13_write_1
theorem dksX13_write_0 : cX13_write.data.toList.drop 0 = dktX13_write_0 := by decide +kernel
theorem dksX13_write_1 : cX13_write.data.toList.drop 22 = dktX13_write_1 := dk_seg dksX13_write_0 22 rfl rfl
theorem dksX13_write_2 : cX13_write.data.toList.drop 45 = dktX13_write_2 := dk_seg dksX13_write_1 23 rfl rfl
theorem dksX13_write_3 : cX13_write.data.toList.drop 68 = dktX13_write_3 := dk_seg dksX13_write_2 23 rfl rfl
theorem dX13_write_0 : decode cX13_write 0 = .ok (.aload_n 0, 1) := dk_42 (dk_at dksX13_write_0 0 rfl rfl)
theorem dX13_write_1 : decode cX13_write 1 = .ok (.getfield 9, 3) := dk_180 0 9 (dk_at dksX13_write_0 1 rfl rfl)
theorem dX13_write_4 : decode cX13_write 4 = .ok (.ifCond .le 17, 3) := dk_158 0 17 (dk_at dksX13_write_0 4 rfl rfl)
theorem dX13_write_7 : decode cX13_write 7 = .ok (.aload_n 1, 1) := dk_43 (dk_at dksX13_write_0 7 rfl rfl)
theorem dX13_write_8 : decode cX13_write 8 = .ok (.ldc 77, 2) := dk_18 77 (dk_at dksX13_write_0 8 rfl rfl)
theorem dX13_write_10 : decode cX13_write 10 = .ok (.invokevirtual 79, 3) := dk_182 0 79 (dk_at dksX13_write_0 10 rfl rfl)
theorem dX13_write_13 : decode cX13_write 13 = .ok (.aload_n 0, 1) := dk_42 (dk_at dksX13_write_0 13 rfl rfl)
theorem dX13_write_14 : decode cX13_write 14 = .ok (.getfield 9, 3) := dk_180 0 9 (dk_at dksX13_write_0 14 rfl rfl)
theorem dX13_write_17 : decode cX13_write 17 = .ok (.invokevirtual 85, 3) := dk_182 0 85 (dk_at dksX13_write_0 17 rfl rfl)
theorem dX13_write_20 : decode cX13_write 20 = .ok (.pop, 1) := dk_87 (dk_at dksX13_write_0 20 rfl rfl)
theorem dX13_write_21 : decode cX13_write 21 = .ok (.aload_n 0, 1) := dk_42 (dk_at dksX13_write_0 21 rfl rfl)
theorem dX13_write_22 : decode cX13_write 22 = .ok (.getfield 19, 3) := dk_180 0 19 (dk_at dksX13_write_1 0 rfl rfl)
theorem dX13_write_25 : decode cX13_write 25 = .ok (.astore_n 2, 1) := dk_77 (dk_at dksX13_write_1 3 rfl rfl)
theorem dX13_write_26 : decode cX13_write 26 = .ok (.aload_n 2, 1) := dk_44 (dk_at dksX13_write_1 4 rfl rfl)
theorem dX13_write_27 : decode cX13_write 27 = .ok (.arraylength, 1) := dk_190 (dk_at dksX13_write_1 5 rfl rfl)
theorem dX13_write_28 : decode cX13_write 28 = .ok (.istore_n 3, 1) := dk_62 (dk_at dksX13_write_1 6 rfl rfl)
theorem dX13_write_29 : decode cX13_write 29 = .ok (.iconst 0, 1) := dk_3 (dk_at dksX13_write_1 7 rfl rfl)
theorem dX13_write_30 : decode cX13_write 30 = .ok (.istore 4, 2) := dk_54 4 (dk_at dksX13_write_1 8 rfl rfl)
theorem dX13_write_32 : decode cX13_write 32 = .ok (.iload 4, 2) := dk_21 4 (dk_at dksX13_write_1 10 rfl rfl)
theorem dX13_write_34 : decode cX13_write 34 = .ok (.iload_n 3, 1) := dk_29 (dk_at dksX13_write_1 12 rfl rfl)
theorem dX13_write_35 : decode cX13_write 35 = .ok (.if_icmp .ge 26, 3) := dk_162 0 26 (dk_at dksX13_write_1 13 rfl rfl)
theorem dX13_write_38 : decode cX13_write 38 = .ok (.aload_n 2, 1) := dk_44 (dk_at dksX13_write_1 16 rfl rfl)
theorem dX13_write_39 : decode cX13_write 39 = .ok (.iload 4, 2) := dk_21 4 (dk_at dksX13_write_1 17 rfl rfl)
theorem dX13_write_41 : decode cX13_write 41 = .ok (.iaload, 1) := dk_46 (dk_at dksX13_write_1 19 rfl rfl)
theorem dX13_write_42 : decode cX13_write 42 = .ok (.istore 5, 2) := dk_54 5 (dk_at dksX13_write_1 20 rfl rfl)
theorem dX13_write_44 : decode cX13_write 44 = .ok (.aload_n 1, 1) := dk_43 (dk_at dksX13_write_1 22 rfl rfl)
theorem dX13_write_45 : decode cX13_write 45 = .ok (.bipush 65, 2) := dk_16 65 (dk_at dksX13_write_2 0 rfl rfl)
theorem dX13_write_47 : decode cX13_write 47 = .ok (.iload 5, 2) := dk_21 5 (dk_at dksX13_write_2 2 rfl rfl)
theorem dX13_write_49 : decode cX13_write 49 = .ok (.iadd, 1) := dk_96 (dk_at dksX13_write_2 4 rfl rfl)
theorem dX13_write_50 : decode cX13_write 50 = .ok (.i2c, 1) := dk_146 (dk_at dksX13_write_2 5 rfl rfl)
theorem dX13_write_51 : decode cX13_write 51 = .ok (.invokevirtual 88, 3) := dk_182 0 88 (dk_at dksX13_write_2 6 rfl rfl)
theorem dX13_write_54 : decode cX13_write 54 = .ok (.pop, 1) := dk_87 (dk_at dksX13_write_2 9 rfl rfl)
theorem dX13_write_55 : decode cX13_write 55 = .ok (.iinc 4 1, 3) := dk_132 4 1 (dk_at dksX13_write_2 10 rfl rfl)
theorem dX13_write_58 : decode cX13_write 58 = .ok (.goto (-26), 3) := dk_167 255 230 (dk_at dksX13_write_2 13 rfl rfl)
theorem dX13_write_61 : decode cX13_write 61 = .ok (.aload_n 1, 1) := dk_43 (dk_at dksX13_write_2 16 rfl rfl)
theorem dX13_write_62 : decode cX13_write 62 = .ok (.ldc 91, 2) := dk_18 91 (dk_at dksX13_write_2 17 rfl rfl)
theorem dX13_write_64 : decode cX13_write 64 = .ok (.invokevirtual 79, 3) := dk_182 0 79 (dk_at dksX13_write_2 19 rfl rfl)
theorem dX13_write_67 : decode cX13_write 67 = .ok (.aload_n 0, 1) := dk_42 (dk_at dksX13_write_2 22 rfl rfl)
theorem dX13_write_68 : decode cX13_write 68 = .ok (.getfield 15, 3) := dk_180 0 15 (dk_at dksX13_write_3 0 rfl rfl)
theorem dX13_write_71 : decode cX13_write 71 = .ok (.invokevirtual 79, 3) := dk_182 0 79 (dk_at dksX13_write_3 3 rfl rfl)
theorem dX13_write_74 : decode cX13_write 74 = .ok (.pop, 1) := dk_87 (dk_at dksX13_write_3 6 rfl rfl)
theorem dX13_write_75 : decode cX13_write 75 = .ok (.return_, 1) := dk_177 (dk_at dksX13_write_3 7 rfl rfl)
abbrev cX13_init : ByteArray := prog_13_method_1_code
def yX13_init : MethodName := ⟨RX13, "<init>", "(ILjava/lang/String;[I)V"⟩
def dkwX13_init_0 : List UInt8 := [42, 183, 0, 3, 42, 27, 181, 0, 9, 42, 44, 181, 0, 15, 42, 45, 181, 0, 19, 177]
abbrev dktX13_init_0 : List UInt8 := dkwX13_init_0 ++ []
theorem dksX13_init_0 : cX13_init.data.toList.drop 0 = dktX13_init_0 := by decide +kernel
theorem dX13_init_0 : decode cX13_init 0 = .ok (.aload_n 0, 1) := dk_42 (dk_at dksX13_init_0 0 rfl rfl)
theorem dX13_init_1 : decode cX13_init 1 = .ok (.invokespecial 3, 3) := dk_183 0 3 (dk_at dksX13_init_0 1 rfl rfl)
theorem dX13_init_4 : decode cX13_init 4 = .ok (.aload_n 0, 1) := dk_42 (dk_at dksX13_init_0 4 rfl rfl)
theorem dX13_init_5 : decode cX13_init 5 = .ok (.iload_n 1, 1) := dk_27 (dk_at dksX13_init_0 5 rfl rfl)
theorem dX13_init_6 : decode cX13_init 6 = .ok (.putfield 9, 3) := dk_181 0 9 (dk_at dksX13_init_0 6 rfl rfl)
theorem dX13_init_9 : decode cX13_init 9 = .ok (.aload_n 0, 1) := dk_42 (dk_at dksX13_init_0 9 rfl rfl)
theorem dX13_init_10 : decode cX13_init 10 = .ok (.aload_n 2, 1) := dk_44 (dk_at dksX13_init_0 10 rfl rfl)
theorem dX13_init_11 : decode cX13_init 11 = .ok (.putfield 15, 3) := dk_181 0 15 (dk_at dksX13_init_0 11 rfl rfl)
theorem dX13_init_14 : decode cX13_init 14 = .ok (.aload_n 0, 1) := dk_42 (dk_at dksX13_init_0 14 rfl rfl)
theorem dX13_init_15 : decode cX13_init 15 = .ok (.aload_n 3, 1) := dk_45 (dk_at dksX13_init_0 15 rfl rfl)
theorem dX13_init_16 : decode cX13_init 16 = .ok (.putfield 19, 3) := dk_181 0 19 (dk_at dksX13_init_0 16 rfl rfl)
theorem dX13_init_19 : decode cX13_init 19 = .ok (.return_, 1) := dk_177 (dk_at dksX13_init_0 19 rfl rfl)
abbrev cX13_check : ByteArray := prog_13_method_4_code
def yX13_check : MethodName := ⟨RX13, "check", "()V"⟩
def dkwX13_check_3 : List UInt8 := [177]
abbrev dktX13_check_3 : List UInt8 := dkwX13_check_3 ++ []
def dkwX13_check_2 : List UInt8 := [167, 255, 224, 28, 153, 0, 16, 187, 0, 32, 89, 4, 28, 184, 0, 34, 183, 0, 40, 191, 42, 183, 0, 43]
abbrev dktX13_check_2 : List UInt8 := dkwX13_check_2 ++ dktX13_check_3
def dkwX13_check_1 : List UInt8 := [21, 5, 46, 54, 6, 28, 27, 4, 21, 6, 120, 126, 128, 61, 27, 4, 21, 6, 120, 128, 60, 132, 5, 1]
abbrev dktX13_check_1 : List UInt8 := dkwX13_check_1 ++ dktX13_check_2
def dkwX13_check_0 : List UInt8 := [3, 60, 3, 61, 42, 180, 0, 19, 78, 45, 190, 54, 4, 3, 54, 5, 21, 5, 21, 4, 162, 0, 31, 45]
abbrev dktX13_check_0 : List UInt8 := dkwX13_check_0 ++ dktX13_check_1
theorem dksX13_check_0 : cX13_check.data.toList.drop 0 = dktX13_check_0 := by decide +kernel
theorem dksX13_check_1 : cX13_check.data.toList.drop 24 = dktX13_check_1 := dk_seg dksX13_check_0 24 rfl rfl
theorem dksX13_check_2 : cX13_check.data.toList.drop 48 = dktX13_check_2 := dk_seg dksX13_check_1 24 rfl rfl
theorem dksX13_check_3 : cX13_check.data.toList.drop 72 = dktX13_check_3 := dk_seg dksX13_check_2 24 rfl rfl
theorem dX13_check_0 : decode cX13_check 0 = .ok (.iconst 0, 1) := dk_3 (dk_at dksX13_check_0 0 rfl rfl)
theorem dX13_check_1 : decode cX13_check 1 = .ok (.istore_n 1, 1) := dk_60 (dk_at dksX13_check_0 1 rfl rfl)
theorem dX13_check_2 : decode cX13_check 2 = .ok (.iconst 0, 1) := dk_3 (dk_at dksX13_check_0 2 rfl rfl)
theorem dX13_check_3 : decode cX13_check 3 = .ok (.istore_n 2, 1) := dk_61 (dk_at dksX13_check_0 3 rfl rfl)
theorem dX13_check_4 : decode cX13_check 4 = .ok (.aload_n 0, 1) := dk_42 (dk_at dksX13_check_0 4 rfl rfl)
theorem dX13_check_5 : decode cX13_check 5 = .ok (.getfield 19, 3) := dk_180 0 19 (dk_at dksX13_check_0 5 rfl rfl)
theorem dX13_check_8 : decode cX13_check 8 = .ok (.astore_n 3, 1) := dk_78 (dk_at dksX13_check_0 8 rfl rfl)
theorem dX13_check_9 : decode cX13_check 9 = .ok (.aload_n 3, 1) := dk_45 (dk_at dksX13_check_0 9 rfl rfl)
theorem dX13_check_10 : decode cX13_check 10 = .ok (.arraylength, 1) := dk_190 (dk_at dksX13_check_0 10 rfl rfl)
theorem dX13_check_11 : decode cX13_check 11 = .ok (.istore 4, 2) := dk_54 4 (dk_at dksX13_check_0 11 rfl rfl)
theorem dX13_check_13 : decode cX13_check 13 = .ok (.iconst 0, 1) := dk_3 (dk_at dksX13_check_0 13 rfl rfl)
theorem dX13_check_14 : decode cX13_check 14 = .ok (.istore 5, 2) := dk_54 5 (dk_at dksX13_check_0 14 rfl rfl)
theorem dX13_check_16 : decode cX13_check 16 = .ok (.iload 5, 2) := dk_21 5 (dk_at dksX13_check_0 16 rfl rfl)
theorem dX13_check_18 : decode cX13_check 18 = .ok (.iload 4, 2) := dk_21 4 (dk_at dksX13_check_0 18 rfl rfl)
theorem dX13_check_20 : decode cX13_check 20 = .ok (.if_icmp .ge 31, 3) := dk_162 0 31 (dk_at dksX13_check_0 20 rfl rfl)
theorem dX13_check_23 : decode cX13_check 23 = .ok (.aload_n 3, 1) := dk_45 (dk_at dksX13_check_0 23 rfl rfl)
theorem dX13_check_24 : decode cX13_check 24 = .ok (.iload 5, 2) := dk_21 5 (dk_at dksX13_check_1 0 rfl rfl)
theorem dX13_check_26 : decode cX13_check 26 = .ok (.iaload, 1) := dk_46 (dk_at dksX13_check_1 2 rfl rfl)
theorem dX13_check_27 : decode cX13_check 27 = .ok (.istore 6, 2) := dk_54 6 (dk_at dksX13_check_1 3 rfl rfl)
theorem dX13_check_29 : decode cX13_check 29 = .ok (.iload_n 2, 1) := dk_28 (dk_at dksX13_check_1 5 rfl rfl)
theorem dX13_check_30 : decode cX13_check 30 = .ok (.iload_n 1, 1) := dk_27 (dk_at dksX13_check_1 6 rfl rfl)
theorem dX13_check_31 : decode cX13_check 31 = .ok (.iconst 1, 1) := dk_4 (dk_at dksX13_check_1 7 rfl rfl)
theorem dX13_check_32 : decode cX13_check 32 = .ok (.iload 6, 2) := dk_21 6 (dk_at dksX13_check_1 8 rfl rfl)
theorem dX13_check_34 : decode cX13_check 34 = .ok (.ishl, 1) := dk_120 (dk_at dksX13_check_1 10 rfl rfl)
theorem dX13_check_35 : decode cX13_check 35 = .ok (.iand, 1) := dk_126 (dk_at dksX13_check_1 11 rfl rfl)
theorem dX13_check_36 : decode cX13_check 36 = .ok (.ior, 1) := dk_128 (dk_at dksX13_check_1 12 rfl rfl)
theorem dX13_check_37 : decode cX13_check 37 = .ok (.istore_n 2, 1) := dk_61 (dk_at dksX13_check_1 13 rfl rfl)
theorem dX13_check_38 : decode cX13_check 38 = .ok (.iload_n 1, 1) := dk_27 (dk_at dksX13_check_1 14 rfl rfl)
theorem dX13_check_39 : decode cX13_check 39 = .ok (.iconst 1, 1) := dk_4 (dk_at dksX13_check_1 15 rfl rfl)
theorem dX13_check_40 : decode cX13_check 40 = .ok (.iload 6, 2) := dk_21 6 (dk_at dksX13_check_1 16 rfl rfl)
theorem dX13_check_42 : decode cX13_check 42 = .ok (.ishl, 1) := dk_120 (dk_at dksX13_check_1 18 rfl rfl)
theorem dX13_check_43 : decode cX13_check 43 = .ok (.ior, 1) := dk_128 (dk_at dksX13_check_1 19 rfl rfl)
theorem dX13_check_44 : decode cX13_check 44 = .ok (.istore_n 1, 1) := dk_60 (dk_at dksX13_check_1 20 rfl rfl)
theorem dX13_check_45 : decode cX13_check 45 = .ok (.iinc 5 1, 3) := dk_132 5 1 (dk_at dksX13_check_1 21 rfl rfl)
theorem dX13_check_48 : decode cX13_check 48 = .ok (.goto (-32), 3) := dk_167 255 224 (dk_at dksX13_check_2 0 rfl rfl)
theorem dX13_check_51 : decode cX13_check 51 = .ok (.iload_n 2, 1) := dk_28 (dk_at dksX13_check_2 3 rfl rfl)
theorem dX13_check_52 : decode cX13_check 52 = .ok (.ifCond .eq 16, 3) := dk_153 0 16 (dk_at dksX13_check_2 4 rfl rfl)
theorem dX13_check_55 : decode cX13_check 55 = .ok (.new 32, 3) := dk_187 0 32 (dk_at dksX13_check_2 7 rfl rfl)
theorem dX13_check_58 : decode cX13_check 58 = .ok (.dup, 1) := dk_89 (dk_at dksX13_check_2 10 rfl rfl)
theorem dX13_check_59 : decode cX13_check 59 = .ok (.iconst 1, 1) := dk_4 (dk_at dksX13_check_2 11 rfl rfl)
theorem dX13_check_60 : decode cX13_check 60 = .ok (.iload_n 2, 1) := dk_28 (dk_at dksX13_check_2 12 rfl rfl)
theorem dX13_check_61 : decode cX13_check 61 = .ok (.invokestatic 34, 3) := dk_184 0 34 (dk_at dksX13_check_2 13 rfl rfl)
theorem dX13_check_64 : decode cX13_check 64 = .ok (.invokespecial 40, 3) := dk_183 0 40 (dk_at dksX13_check_2 16 rfl rfl)
theorem dX13_check_67 : decode cX13_check 67 = .ok (.athrow, 1) := dk_191 (dk_at dksX13_check_2 19 rfl rfl)
theorem dX13_check_68 : decode cX13_check 68 = .ok (.aload_n 0, 1) := dk_42 (dk_at dksX13_check_2 20 rfl rfl)
theorem dX13_check_69 : decode cX13_check 69 = .ok (.invokespecial 43, 3) := dk_183 0 43 (dk_at dksX13_check_2 21 rfl rfl)
theorem dX13_check_72 : decode cX13_check 72 = .ok (.return_, 1) := dk_177 (dk_at dksX13_check_3 0 rfl rfl)
abbrev cX13_used : ByteArray := prog_13_method_2_code
def yX13_used : MethodName := ⟨RX13, "used", "()I"⟩
def dkwX13_used_1 : List UInt8 := [21, 4, 46, 54, 5, 27, 4, 21, 5, 120, 128, 60, 132, 4, 1, 167, 255, 234, 27, 172]
abbrev dktX13_used_1 : List UInt8 := dkwX13_used_1 ++ []
def dkwX13_used_0 : List UInt8 := [42, 183, 0, 23, 60, 42, 180, 0, 19, 77, 44, 190, 62, 3, 54, 4, 21, 4, 29, 162, 0, 22, 44]
abbrev dktX13_used_0 : List UInt8 := dkwX13_used_0 ++ dktX13_used_1
theorem dksX13_used_0 : cX13_used.data.toList.drop 0 = dktX13_used_0 := by decide +kernel
theorem dksX13_used_1 : cX13_used.data.toList.drop 23 = dktX13_used_1 := dk_seg dksX13_used_0 23 rfl rfl
theorem dX13_used_0 : decode cX13_used 0 = .ok (.aload_n 0, 1) := dk_42 (dk_at dksX13_used_0 0 rfl rfl)
theorem dX13_used_1 : decode cX13_used 1 = .ok (.invokespecial 23, 3) := dk_183 0 23 (dk_at dksX13_used_0 1 rfl rfl)
theorem dX13_used_4 : decode cX13_used 4 = .ok (.istore_n 1, 1) := dk_60 (dk_at dksX13_used_0 4 rfl rfl)
theorem dX13_used_5 : decode cX13_used 5 = .ok (.aload_n 0, 1) := dk_42 (dk_at dksX13_used_0 5 rfl rfl)
theorem dX13_used_6 : decode cX13_used 6 = .ok (.getfield 19, 3) := dk_180 0 19 (dk_at dksX13_used_0 6 rfl rfl)
theorem dX13_used_9 : decode cX13_used 9 = .ok (.astore_n 2, 1) := dk_77 (dk_at dksX13_used_0 9 rfl rfl)
theorem dX13_used_10 : decode cX13_used 10 = .ok (.aload_n 2, 1) := dk_44 (dk_at dksX13_used_0 10 rfl rfl)
theorem dX13_used_11 : decode cX13_used 11 = .ok (.arraylength, 1) := dk_190 (dk_at dksX13_used_0 11 rfl rfl)
theorem dX13_used_12 : decode cX13_used 12 = .ok (.istore_n 3, 1) := dk_62 (dk_at dksX13_used_0 12 rfl rfl)
theorem dX13_used_13 : decode cX13_used 13 = .ok (.iconst 0, 1) := dk_3 (dk_at dksX13_used_0 13 rfl rfl)
theorem dX13_used_14 : decode cX13_used 14 = .ok (.istore 4, 2) := dk_54 4 (dk_at dksX13_used_0 14 rfl rfl)
theorem dX13_used_16 : decode cX13_used 16 = .ok (.iload 4, 2) := dk_21 4 (dk_at dksX13_used_0 16 rfl rfl)
theorem dX13_used_18 : decode cX13_used 18 = .ok (.iload_n 3, 1) := dk_29 (dk_at dksX13_used_0 18 rfl rfl)
theorem dX13_used_19 : decode cX13_used 19 = .ok (.if_icmp .ge 22, 3) := dk_162 0 22 (dk_at dksX13_used_0 19 rfl rfl)
theorem dX13_used_22 : decode cX13_used 22 = .ok (.aload_n 2, 1) := dk_44 (dk_at dksX13_used_0 22 rfl rfl)
theorem dX13_used_23 : decode cX13_used 23 = .ok (.iload 4, 2) := dk_21 4 (dk_at dksX13_used_1 0 rfl rfl)
theorem dX13_used_25 : decode cX13_used 25 = .ok (.iaload, 1) := dk_46 (dk_at dksX13_used_1 2 rfl rfl)
theorem dX13_used_26 : decode cX13_used 26 = .ok (.istore 5, 2) := dk_54 5 (dk_at dksX13_used_1 3 rfl rfl)
theorem dX13_used_28 : decode cX13_used 28 = .ok (.iload_n 1, 1) := dk_27 (dk_at dksX13_used_1 5 rfl rfl)
theorem dX13_used_29 : decode cX13_used 29 = .ok (.iconst 1, 1) := dk_4 (dk_at dksX13_used_1 6 rfl rfl)
theorem dX13_used_30 : decode cX13_used 30 = .ok (.iload 5, 2) := dk_21 5 (dk_at dksX13_used_1 7 rfl rfl)
theorem dX13_used_32 : decode cX13_used 32 = .ok (.ishl, 1) := dk_120 (dk_at dksX13_used_1 9 rfl rfl)
theorem dX13_used_33 : decode cX13_used 33 = .ok (.ior, 1) := dk_128 (dk_at dksX13_used_1 10 rfl rfl)
theorem dX13_used_34 : decode cX13_used 34 = .ok (.istore_n 1, 1) := dk_60 (dk_at dksX13_used_1 11 rfl rfl)
theorem dX13_used_35 : decode cX13_used 35 = .ok (.iinc 4 1, 3) := dk_132 4 1 (dk_at dksX13_used_1 12 rfl rfl)
theorem dX13_used_38 : decode cX13_used 38 = .ok (.goto (-22), 3) := dk_167 255 234 (dk_at dksX13_used_1 15 rfl rfl)
theorem dX13_used_41 : decode cX13_used 41 = .ok (.iload_n 1, 1) := dk_27 (dk_at dksX13_used_1 18 rfl rfl)
theorem dX13_used_42 : decode cX13_used 42 = .ok (.ireturn, 1) := dk_172 (dk_at dksX13_used_1 19 rfl rfl)
abbrev cX13_changedBy : ByteArray := prog_13_method_6_code
def yX13_changedBy : MethodName := ⟨RX13, "changedBy", "([I)I"⟩
def dkwX13_changedBy_2 : List UInt8 := [167, 255, 223, 28, 172]
abbrev dktX13_changedBy_2 : List UInt8 := dkwX13_changedBy_2 ++ []
def dkwX13_changedBy_1 : List UInt8 := [46, 54, 6, 28, 43, 21, 6, 46, 21, 6, 160, 0, 7, 3, 167, 0, 4, 4, 96, 61, 132, 5, 1]
abbrev dktX13_changedBy_1 : List UInt8 := dkwX13_changedBy_1 ++ dktX13_changedBy_2
def dkwX13_changedBy_0 : List UInt8 := [3, 61, 42, 180, 0, 19, 78, 45, 190, 54, 4, 3, 54, 5, 21, 5, 21, 4, 162, 0, 32, 45, 21, 5]
abbrev dktX13_changedBy_0 : List UInt8 := dkwX13_changedBy_0 ++ dktX13_changedBy_1
theorem dksX13_changedBy_0 : cX13_changedBy.data.toList.drop 0 = dktX13_changedBy_0 := by decide +kernel
theorem dksX13_changedBy_1 : cX13_changedBy.data.toList.drop 24 = dktX13_changedBy_1 := dk_seg dksX13_changedBy_0 24 rfl rfl
theorem dksX13_changedBy_2 : cX13_changedBy.data.toList.drop 47 = dktX13_changedBy_2 := dk_seg dksX13_changedBy_1 23 rfl rfl
theorem dX13_changedBy_0 : decode cX13_changedBy 0 = .ok (.iconst 0, 1) := dk_3 (dk_at dksX13_changedBy_0 0 rfl rfl)
theorem dX13_changedBy_1 : decode cX13_changedBy 1 = .ok (.istore_n 2, 1) := dk_61 (dk_at dksX13_changedBy_0 1 rfl rfl)
theorem dX13_changedBy_2 : decode cX13_changedBy 2 = .ok (.aload_n 0, 1) := dk_42 (dk_at dksX13_changedBy_0 2 rfl rfl)
theorem dX13_changedBy_3 : decode cX13_changedBy 3 = .ok (.getfield 19, 3) := dk_180 0 19 (dk_at dksX13_changedBy_0 3 rfl rfl)
theorem dX13_changedBy_6 : decode cX13_changedBy 6 = .ok (.astore_n 3, 1) := dk_78 (dk_at dksX13_changedBy_0 6 rfl rfl)
theorem dX13_changedBy_7 : decode cX13_changedBy 7 = .ok (.aload_n 3, 1) := dk_45 (dk_at dksX13_changedBy_0 7 rfl rfl)
theorem dX13_changedBy_8 : decode cX13_changedBy 8 = .ok (.arraylength, 1) := dk_190 (dk_at dksX13_changedBy_0 8 rfl rfl)
theorem dX13_changedBy_9 : decode cX13_changedBy 9 = .ok (.istore 4, 2) := dk_54 4 (dk_at dksX13_changedBy_0 9 rfl rfl)
theorem dX13_changedBy_11 : decode cX13_changedBy 11 = .ok (.iconst 0, 1) := dk_3 (dk_at dksX13_changedBy_0 11 rfl rfl)
theorem dX13_changedBy_12 : decode cX13_changedBy 12 = .ok (.istore 5, 2) := dk_54 5 (dk_at dksX13_changedBy_0 12 rfl rfl)
theorem dX13_changedBy_14 : decode cX13_changedBy 14 = .ok (.iload 5, 2) := dk_21 5 (dk_at dksX13_changedBy_0 14 rfl rfl)
theorem dX13_changedBy_16 : decode cX13_changedBy 16 = .ok (.iload 4, 2) := dk_21 4 (dk_at dksX13_changedBy_0 16 rfl rfl)
theorem dX13_changedBy_18 : decode cX13_changedBy 18 = .ok (.if_icmp .ge 32, 3) := dk_162 0 32 (dk_at dksX13_changedBy_0 18 rfl rfl)
theorem dX13_changedBy_21 : decode cX13_changedBy 21 = .ok (.aload_n 3, 1) := dk_45 (dk_at dksX13_changedBy_0 21 rfl rfl)
theorem dX13_changedBy_22 : decode cX13_changedBy 22 = .ok (.iload 5, 2) := dk_21 5 (dk_at dksX13_changedBy_0 22 rfl rfl)
theorem dX13_changedBy_24 : decode cX13_changedBy 24 = .ok (.iaload, 1) := dk_46 (dk_at dksX13_changedBy_1 0 rfl rfl)
theorem dX13_changedBy_25 : decode cX13_changedBy 25 = .ok (.istore 6, 2) := dk_54 6 (dk_at dksX13_changedBy_1 1 rfl rfl)
theorem dX13_changedBy_27 : decode cX13_changedBy 27 = .ok (.iload_n 2, 1) := dk_28 (dk_at dksX13_changedBy_1 3 rfl rfl)
theorem dX13_changedBy_28 : decode cX13_changedBy 28 = .ok (.aload_n 1, 1) := dk_43 (dk_at dksX13_changedBy_1 4 rfl rfl)
theorem dX13_changedBy_29 : decode cX13_changedBy 29 = .ok (.iload 6, 2) := dk_21 6 (dk_at dksX13_changedBy_1 5 rfl rfl)
theorem dX13_changedBy_31 : decode cX13_changedBy 31 = .ok (.iaload, 1) := dk_46 (dk_at dksX13_changedBy_1 7 rfl rfl)
theorem dX13_changedBy_32 : decode cX13_changedBy 32 = .ok (.iload 6, 2) := dk_21 6 (dk_at dksX13_changedBy_1 8 rfl rfl)
theorem dX13_changedBy_34 : decode cX13_changedBy 34 = .ok (.if_icmp .ne 7, 3) := dk_160 0 7 (dk_at dksX13_changedBy_1 10 rfl rfl)
theorem dX13_changedBy_37 : decode cX13_changedBy 37 = .ok (.iconst 0, 1) := dk_3 (dk_at dksX13_changedBy_1 13 rfl rfl)
theorem dX13_changedBy_38 : decode cX13_changedBy 38 = .ok (.goto 4, 3) := dk_167 0 4 (dk_at dksX13_changedBy_1 14 rfl rfl)
theorem dX13_changedBy_41 : decode cX13_changedBy 41 = .ok (.iconst 1, 1) := dk_4 (dk_at dksX13_changedBy_1 17 rfl rfl)
theorem dX13_changedBy_42 : decode cX13_changedBy 42 = .ok (.iadd, 1) := dk_96 (dk_at dksX13_changedBy_1 18 rfl rfl)
theorem dX13_changedBy_43 : decode cX13_changedBy 43 = .ok (.istore_n 2, 1) := dk_61 (dk_at dksX13_changedBy_1 19 rfl rfl)
theorem dX13_changedBy_44 : decode cX13_changedBy 44 = .ok (.iinc 5 1, 3) := dk_132 5 1 (dk_at dksX13_changedBy_1 20 rfl rfl)
theorem dX13_changedBy_47 : decode cX13_changedBy 47 = .ok (.goto (-33), 3) := dk_167 255 223 (dk_at dksX13_changedBy_2 0 rfl rfl)
theorem dX13_changedBy_50 : decode cX13_changedBy 50 = .ok (.iload_n 2, 1) := dk_28 (dk_at dksX13_changedBy_2 3 rfl rfl)
theorem dX13_changedBy_51 : decode cX13_changedBy 51 = .ok (.ireturn, 1) := dk_172 (dk_at dksX13_changedBy_2 4 rfl rfl)
abbrev cX13_renamed : ByteArray := prog_13_method_8_code
def yX13_renamed : MethodName := ⟨RX13, "renamed", "([I)LDanceNotation$Node;"⟩
def dkwX13_renamed_2 : List UInt8 := [183, 0, 74, 176]
abbrev dktX13_renamed_2 : List UInt8 := dkwX13_renamed_2 ++ []
def dkwX13_renamed_1 : List UInt8 := [46, 46, 79, 132, 3, 1, 167, 255, 236, 187, 0, 10, 89, 42, 180, 0, 9, 42, 180, 0, 15, 44]
abbrev dktX13_renamed_1 : List UInt8 := dkwX13_renamed_1 ++ dktX13_renamed_2
def dkwX13_renamed_0 : List UInt8 := [42, 180, 0, 19, 190, 188, 10, 77, 3, 62, 29, 44, 190, 162, 0, 20, 44, 29, 43, 42, 180, 0, 19, 29]
abbrev dktX13_renamed_0 : List UInt8 := dkwX13_renamed_0 ++ dktX13_renamed_1
theorem dksX13_renamed_0 : cX13_renamed.data.toList.drop 0 = dktX13_renamed_0 := by decide +kernel
theorem dksX13_renamed_1 : cX13_renamed.data.toList.drop 24 = dktX13_renamed_1 := dk_seg dksX13_renamed_0 24 rfl rfl
theorem dksX13_renamed_2 : cX13_renamed.data.toList.drop 46 = dktX13_renamed_2 := dk_seg dksX13_renamed_1 22 rfl rfl
theorem dX13_renamed_0 : decode cX13_renamed 0 = .ok (.aload_n 0, 1) := dk_42 (dk_at dksX13_renamed_0 0 rfl rfl)
theorem dX13_renamed_1 : decode cX13_renamed 1 = .ok (.getfield 19, 3) := dk_180 0 19 (dk_at dksX13_renamed_0 1 rfl rfl)
theorem dX13_renamed_4 : decode cX13_renamed 4 = .ok (.arraylength, 1) := dk_190 (dk_at dksX13_renamed_0 4 rfl rfl)
theorem dX13_renamed_5 : decode cX13_renamed 5 = .ok (.newarray .int, 2) := dk_188_10 (dk_at dksX13_renamed_0 5 rfl rfl)
theorem dX13_renamed_7 : decode cX13_renamed 7 = .ok (.astore_n 2, 1) := dk_77 (dk_at dksX13_renamed_0 7 rfl rfl)
theorem dX13_renamed_8 : decode cX13_renamed 8 = .ok (.iconst 0, 1) := dk_3 (dk_at dksX13_renamed_0 8 rfl rfl)
theorem dX13_renamed_9 : decode cX13_renamed 9 = .ok (.istore_n 3, 1) := dk_62 (dk_at dksX13_renamed_0 9 rfl rfl)
theorem dX13_renamed_10 : decode cX13_renamed 10 = .ok (.iload_n 3, 1) := dk_29 (dk_at dksX13_renamed_0 10 rfl rfl)
theorem dX13_renamed_11 : decode cX13_renamed 11 = .ok (.aload_n 2, 1) := dk_44 (dk_at dksX13_renamed_0 11 rfl rfl)
theorem dX13_renamed_12 : decode cX13_renamed 12 = .ok (.arraylength, 1) := dk_190 (dk_at dksX13_renamed_0 12 rfl rfl)
theorem dX13_renamed_13 : decode cX13_renamed 13 = .ok (.if_icmp .ge 20, 3) := dk_162 0 20 (dk_at dksX13_renamed_0 13 rfl rfl)
theorem dX13_renamed_16 : decode cX13_renamed 16 = .ok (.aload_n 2, 1) := dk_44 (dk_at dksX13_renamed_0 16 rfl rfl)
theorem dX13_renamed_17 : decode cX13_renamed 17 = .ok (.iload_n 3, 1) := dk_29 (dk_at dksX13_renamed_0 17 rfl rfl)
theorem dX13_renamed_18 : decode cX13_renamed 18 = .ok (.aload_n 1, 1) := dk_43 (dk_at dksX13_renamed_0 18 rfl rfl)
theorem dX13_renamed_19 : decode cX13_renamed 19 = .ok (.aload_n 0, 1) := dk_42 (dk_at dksX13_renamed_0 19 rfl rfl)
theorem dX13_renamed_20 : decode cX13_renamed 20 = .ok (.getfield 19, 3) := dk_180 0 19 (dk_at dksX13_renamed_0 20 rfl rfl)
theorem dX13_renamed_23 : decode cX13_renamed 23 = .ok (.iload_n 3, 1) := dk_29 (dk_at dksX13_renamed_0 23 rfl rfl)
theorem dX13_renamed_24 : decode cX13_renamed 24 = .ok (.iaload, 1) := dk_46 (dk_at dksX13_renamed_1 0 rfl rfl)
theorem dX13_renamed_25 : decode cX13_renamed 25 = .ok (.iaload, 1) := dk_46 (dk_at dksX13_renamed_1 1 rfl rfl)
theorem dX13_renamed_26 : decode cX13_renamed 26 = .ok (.iastore, 1) := dk_79 (dk_at dksX13_renamed_1 2 rfl rfl)
theorem dX13_renamed_27 : decode cX13_renamed 27 = .ok (.iinc 3 1, 3) := dk_132 3 1 (dk_at dksX13_renamed_1 3 rfl rfl)
theorem dX13_renamed_30 : decode cX13_renamed 30 = .ok (.goto (-20), 3) := dk_167 255 236 (dk_at dksX13_renamed_1 6 rfl rfl)
theorem dX13_renamed_33 : decode cX13_renamed 33 = .ok (.new 10, 3) := dk_187 0 10 (dk_at dksX13_renamed_1 9 rfl rfl)
theorem dX13_renamed_36 : decode cX13_renamed 36 = .ok (.dup, 1) := dk_89 (dk_at dksX13_renamed_1 12 rfl rfl)
theorem dX13_renamed_37 : decode cX13_renamed 37 = .ok (.aload_n 0, 1) := dk_42 (dk_at dksX13_renamed_1 13 rfl rfl)
theorem dX13_renamed_38 : decode cX13_renamed 38 = .ok (.getfield 9, 3) := dk_180 0 9 (dk_at dksX13_renamed_1 14 rfl rfl)
theorem dX13_renamed_41 : decode cX13_renamed 41 = .ok (.aload_n 0, 1) := dk_42 (dk_at dksX13_renamed_1 17 rfl rfl)
theorem dX13_renamed_42 : decode cX13_renamed 42 = .ok (.getfield 15, 3) := dk_180 0 15 (dk_at dksX13_renamed_1 18 rfl rfl)
theorem dX13_renamed_45 : decode cX13_renamed 45 = .ok (.aload_n 2, 1) := dk_44 (dk_at dksX13_renamed_1 21 rfl rfl)
theorem dX13_renamed_46 : decode cX13_renamed 46 = .ok (.invokespecial 74, 3) := dk_183 0 74 (dk_at dksX13_renamed_2 0 rfl rfl)
theorem dX13_renamed_49 : decode cX13_renamed 49 = .ok (.areturn, 1) := dk_176 (dk_at dksX13_renamed_2 3 rfl rfl)
abbrev cX13_displacement : ByteArray := prog_13_method_7_code
def yX13_displacement : MethodName := ⟨RX13, "displacement", "(IZ)I"⟩
def dkwX13_displacement_3 : List UInt8 := [167, 0, 4, 3, 172]
abbrev dktX13_displacement_3 : List UInt8 := dkwX13_displacement_3 ++ []
def dkwX13_displacement_2 : List UInt8 := [184, 0, 70, 96, 62, 132, 4, 1, 167, 255, 207, 42, 182, 0, 73, 27, 122, 4, 126, 4, 160, 0, 7, 29]
abbrev dktX13_displacement_2 : List UInt8 := dkwX13_displacement_2 ++ dktX13_displacement_3
def dkwX13_displacement_1 : List UInt8 := [180, 0, 15, 21, 4, 182, 0, 56, 184, 0, 66, 167, 0, 15, 42, 180, 0, 15, 21, 4, 182, 0, 56]
abbrev dktX13_displacement_1 : List UInt8 := dkwX13_displacement_1 ++ dktX13_displacement_2
def dkwX13_displacement_0 : List UInt8 := [3, 62, 3, 54, 4, 21, 4, 42, 180, 0, 15, 182, 0, 27, 162, 0, 43, 29, 28, 153, 0, 18, 42]
abbrev dktX13_displacement_0 : List UInt8 := dkwX13_displacement_0 ++ dktX13_displacement_1
theorem dksX13_displacement_0 : cX13_displacement.data.toList.drop 0 = dktX13_displacement_0 := by decide +kernel
theorem dksX13_displacement_1 : cX13_displacement.data.toList.drop 23 = dktX13_displacement_1 := dk_seg dksX13_displacement_0 23 rfl rfl
theorem dksX13_displacement_2 : cX13_displacement.data.toList.drop 46 = dktX13_displacement_2 := dk_seg dksX13_displacement_1 23 rfl rfl
theorem dksX13_displacement_3 : cX13_displacement.data.toList.drop 70 = dktX13_displacement_3 := dk_seg dksX13_displacement_2 24 rfl rfl
theorem dX13_displacement_0 : decode cX13_displacement 0 = .ok (.iconst 0, 1) := dk_3 (dk_at dksX13_displacement_0 0 rfl rfl)
theorem dX13_displacement_1 : decode cX13_displacement 1 = .ok (.istore_n 3, 1) := dk_62 (dk_at dksX13_displacement_0 1 rfl rfl)
theorem dX13_displacement_2 : decode cX13_displacement 2 = .ok (.iconst 0, 1) := dk_3 (dk_at dksX13_displacement_0 2 rfl rfl)
theorem dX13_displacement_3 : decode cX13_displacement 3 = .ok (.istore 4, 2) := dk_54 4 (dk_at dksX13_displacement_0 3 rfl rfl)
theorem dX13_displacement_5 : decode cX13_displacement 5 = .ok (.iload 4, 2) := dk_21 4 (dk_at dksX13_displacement_0 5 rfl rfl)
theorem dX13_displacement_7 : decode cX13_displacement 7 = .ok (.aload_n 0, 1) := dk_42 (dk_at dksX13_displacement_0 7 rfl rfl)
theorem dX13_displacement_8 : decode cX13_displacement 8 = .ok (.getfield 15, 3) := dk_180 0 15 (dk_at dksX13_displacement_0 8 rfl rfl)
theorem dX13_displacement_11 : decode cX13_displacement 11 = .ok (.invokevirtual 27, 3) := dk_182 0 27 (dk_at dksX13_displacement_0 11 rfl rfl)
theorem dX13_displacement_14 : decode cX13_displacement 14 = .ok (.if_icmp .ge 43, 3) := dk_162 0 43 (dk_at dksX13_displacement_0 14 rfl rfl)
theorem dX13_displacement_17 : decode cX13_displacement 17 = .ok (.iload_n 3, 1) := dk_29 (dk_at dksX13_displacement_0 17 rfl rfl)
theorem dX13_displacement_18 : decode cX13_displacement 18 = .ok (.iload_n 2, 1) := dk_28 (dk_at dksX13_displacement_0 18 rfl rfl)
theorem dX13_displacement_19 : decode cX13_displacement 19 = .ok (.ifCond .eq 18, 3) := dk_153 0 18 (dk_at dksX13_displacement_0 19 rfl rfl)
theorem dX13_displacement_22 : decode cX13_displacement 22 = .ok (.aload_n 0, 1) := dk_42 (dk_at dksX13_displacement_0 22 rfl rfl)
theorem dX13_displacement_23 : decode cX13_displacement 23 = .ok (.getfield 15, 3) := dk_180 0 15 (dk_at dksX13_displacement_1 0 rfl rfl)
theorem dX13_displacement_26 : decode cX13_displacement 26 = .ok (.iload 4, 2) := dk_21 4 (dk_at dksX13_displacement_1 3 rfl rfl)
theorem dX13_displacement_28 : decode cX13_displacement 28 = .ok (.invokevirtual 56, 3) := dk_182 0 56 (dk_at dksX13_displacement_1 5 rfl rfl)
theorem dX13_displacement_31 : decode cX13_displacement 31 = .ok (.invokestatic 66, 3) := dk_184 0 66 (dk_at dksX13_displacement_1 8 rfl rfl)
theorem dX13_displacement_34 : decode cX13_displacement 34 = .ok (.goto 15, 3) := dk_167 0 15 (dk_at dksX13_displacement_1 11 rfl rfl)
theorem dX13_displacement_37 : decode cX13_displacement 37 = .ok (.aload_n 0, 1) := dk_42 (dk_at dksX13_displacement_1 14 rfl rfl)
theorem dX13_displacement_38 : decode cX13_displacement 38 = .ok (.getfield 15, 3) := dk_180 0 15 (dk_at dksX13_displacement_1 15 rfl rfl)
theorem dX13_displacement_41 : decode cX13_displacement 41 = .ok (.iload 4, 2) := dk_21 4 (dk_at dksX13_displacement_1 18 rfl rfl)
theorem dX13_displacement_43 : decode cX13_displacement 43 = .ok (.invokevirtual 56, 3) := dk_182 0 56 (dk_at dksX13_displacement_1 20 rfl rfl)
theorem dX13_displacement_46 : decode cX13_displacement 46 = .ok (.invokestatic 70, 3) := dk_184 0 70 (dk_at dksX13_displacement_2 0 rfl rfl)
theorem dX13_displacement_49 : decode cX13_displacement 49 = .ok (.iadd, 1) := dk_96 (dk_at dksX13_displacement_2 3 rfl rfl)
theorem dX13_displacement_50 : decode cX13_displacement 50 = .ok (.istore_n 3, 1) := dk_62 (dk_at dksX13_displacement_2 4 rfl rfl)
theorem dX13_displacement_51 : decode cX13_displacement 51 = .ok (.iinc 4 1, 3) := dk_132 4 1 (dk_at dksX13_displacement_2 5 rfl rfl)
theorem dX13_displacement_54 : decode cX13_displacement 54 = .ok (.goto (-49), 3) := dk_167 255 207 (dk_at dksX13_displacement_2 8 rfl rfl)
theorem dX13_displacement_57 : decode cX13_displacement 57 = .ok (.aload_n 0, 1) := dk_42 (dk_at dksX13_displacement_2 11 rfl rfl)
theorem dX13_displacement_58 : decode cX13_displacement 58 = .ok (.invokevirtual 73, 3) := dk_182 0 73 (dk_at dksX13_displacement_2 12 rfl rfl)
theorem dX13_displacement_61 : decode cX13_displacement 61 = .ok (.iload_n 1, 1) := dk_27 (dk_at dksX13_displacement_2 15 rfl rfl)
theorem dX13_displacement_62 : decode cX13_displacement 62 = .ok (.ishr, 1) := dk_122 (dk_at dksX13_displacement_2 16 rfl rfl)
theorem dX13_displacement_63 : decode cX13_displacement 63 = .ok (.iconst 1, 1) := dk_4 (dk_at dksX13_displacement_2 17 rfl rfl)
theorem dX13_displacement_64 : decode cX13_displacement 64 = .ok (.iand, 1) := dk_126 (dk_at dksX13_displacement_2 18 rfl rfl)
theorem dX13_displacement_65 : decode cX13_displacement 65 = .ok (.iconst 1, 1) := dk_4 (dk_at dksX13_displacement_2 19 rfl rfl)
theorem dX13_displacement_66 : decode cX13_displacement 66 = .ok (.if_icmp .ne 7, 3) := dk_160 0 7 (dk_at dksX13_displacement_2 20 rfl rfl)
theorem dX13_displacement_69 : decode cX13_displacement 69 = .ok (.iload_n 3, 1) := dk_29 (dk_at dksX13_displacement_2 23 rfl rfl)
theorem dX13_displacement_70 : decode cX13_displacement 70 = .ok (.goto 4, 3) := dk_167 0 4 (dk_at dksX13_displacement_3 0 rfl rfl)
theorem dX13_displacement_73 : decode cX13_displacement 73 = .ok (.iconst 0, 1) := dk_3 (dk_at dksX13_displacement_3 3 rfl rfl)
theorem dX13_displacement_74 : decode cX13_displacement 74 = .ok (.ireturn, 1) := dk_172 (dk_at dksX13_displacement_3 4 rfl rfl)
theorem q163 : (Jvm.Cond.initialized "DanceNotation$Phrase") ∈ lw_all := lw_g (lw_at lw_m1 46 rfl) rfl
theorem q869 : (Jvm.Cond.selects "DanceNotation$Phrase" ({ cls := "DanceNotation$Parts", name := "partCount", desc := "()I" } : Jvm.MethodName) ({ cls := "DanceNotation$Leaf", name := "partCount", desc := "()I" } : Jvm.MethodName)) ∈ lw_all := lw_g (lw_at lw_m4 32 rfl) rfl
theorem q888 : (Jvm.Cond.selects "DanceNotation$Phrase" ({ cls := "DanceNotation$Parts", name := "part", desc := "(I)LDanceNotation$Node;" } : Jvm.MethodName) ({ cls := "DanceNotation$Leaf", name := "part", desc := "(I)LDanceNotation$Node;" } : Jvm.MethodName)) ∈ lw_all := lw_g (lw_at lw_m4 51 rfl) rfl
theorem q1002 : (Jvm.Cond.selects "DanceNotation$Phrase" ({ cls := "java/lang/Object", name := "getClass", desc := "()Ljava/lang/Class;" } : Jvm.MethodName) ({ cls := "java/lang/Object", name := "getClass", desc := "()Ljava/lang/Class;" } : Jvm.MethodName)) ∈ lw_all := lw_g (lw_at lw_m4 165 rfl) rfl
theorem q1108 : (Jvm.Cond.selects "DanceNotation$Phrase" ({ cls := "DanceNotation$Node", name := "score", desc := "()LDanceNotation$Score;" } : Jvm.MethodName) ({ cls := "DanceNotation$Node", name := "score", desc := "()LDanceNotation$Score;" } : Jvm.MethodName)) ∈ lw_all := lw_g (lw_at lw_m5 31 rfl) rfl
theorem q1125 : (Jvm.Cond.instanceMethod ({ cls := "DanceNotation$Phrase", name := "length", desc := "()I" } : Jvm.MethodName)) ∈ lw_all := lw_g (lw_at lw_m5 48 rfl) rfl
theorem q1126 : (Jvm.Cond.code ({ cls := "DanceNotation$Phrase", name := "length", desc := "()I" } : Jvm.MethodName) prog_13_method_3_code (1 : Nat) (Option.some Jvm.ClassFile.FieldType.int)) ∈ lw_all := lw_g (lw_at lw_m5 49 rfl) rfl
theorem q1127 : (Jvm.Cond.methodLink "DanceNotation$Phrase" (27 : Nat) ({ cls := "java/lang/String", name := "length", desc := "()I" } : Jvm.MethodName)) ∈ lw_all := lw_g (lw_at lw_m5 50 rfl) rfl
theorem q1136 : (Jvm.Cond.selects "DanceNotation$Phrase" ({ cls := "DanceNotation$Node", name := "length", desc := "()I" } : Jvm.MethodName) ({ cls := "DanceNotation$Phrase", name := "length", desc := "()I" } : Jvm.MethodName)) ∈ lw_all := lw_g (lw_at lw_m5 59 rfl) rfl
theorem q1168 : (Jvm.Cond.fieldLinkNest "DanceNotation$Phrase" (47 : Nat) "DanceNotation$Score" "steps" "[[C" "DanceNotation") ∈ lw_tbl := lw_at lw_m5 91 rfl
theorem q1175 : (Jvm.Cond.fieldLinkNest "DanceNotation$Phrase" (52 : Nat) "DanceNotation$Score" "rules" "[LDanceNotation$StepRule;" "DanceNotation") ∈ lw_tbl := lw_at lw_m5 98 rfl
theorem q1196 : (Jvm.Cond.instanceMethod ({ cls := "DanceNotation$Phrase", name := "perform", desc := "(LDanceNotation$Score;IIZ)V" } : Jvm.MethodName)) ∈ lw_all := lw_g (lw_at lw_m5 119 rfl) rfl
theorem q1197 : (Jvm.Cond.code ({ cls := "DanceNotation$Phrase", name := "perform", desc := "(LDanceNotation$Score;IIZ)V" } : Jvm.MethodName) prog_13_method_5_code (9 : Nat) (Option.none : Option Jvm.ClassFile.FieldType)) ∈ lw_all := lw_g (lw_at lw_m5 120 rfl) rfl
theorem q1198 : (Jvm.Cond.methodLink "DanceNotation$Phrase" (46 : Nat) ({ cls := "DanceNotation$Phrase", name := "length", desc := "()I" } : Jvm.MethodName)) ∈ lw_all := lw_g (lw_at lw_m5 121 rfl) rfl
theorem q1199 : (Jvm.Cond.methodLink "DanceNotation$Phrase" (56 : Nat) ({ cls := "java/lang/String", name := "charAt", desc := "(I)C" } : Jvm.MethodName)) ∈ lw_all := lw_g (lw_at lw_m5 122 rfl) rfl
theorem q1221 : (Jvm.Cond.interfaceEntry "DanceNotation$Phrase" (60 : Nat)) ∈ lw_tbl := lw_at lw_m5 144 rfl
theorem q1222 : (Jvm.Cond.methodLink "DanceNotation$Phrase" (60 : Nat) ({ cls := "DanceNotation$StepRule", name := "of", desc := "(C)C" } : Jvm.MethodName)) ∈ lw_all := lw_g (lw_at lw_m5 145 rfl) rfl
theorem q1236 : (Jvm.Cond.selects "DanceNotation$Phrase" ({ cls := "DanceNotation$Node", name := "perform", desc := "(LDanceNotation$Score;IIZ)V" } : Jvm.MethodName) ({ cls := "DanceNotation$Phrase", name := "perform", desc := "(LDanceNotation$Score;IIZ)V" } : Jvm.MethodName)) ∈ lw_all := lw_g (lw_at lw_m5 159 rfl) rfl
theorem q1273 : (Jvm.Cond.instanceMethod ({ cls := "DanceNotation$Phrase", name := "write", desc := "(Ljava/lang/StringBuilder;)V" } : Jvm.MethodName)) ∈ lw_all := lw_g (lw_at lw_m5 196 rfl) rfl
theorem q1274 : (Jvm.Cond.code ({ cls := "DanceNotation$Phrase", name := "write", desc := "(Ljava/lang/StringBuilder;)V" } : Jvm.MethodName) prog_13_method_9_code (6 : Nat) (Option.none : Option Jvm.ClassFile.FieldType)) ∈ lw_all := lw_g (lw_at lw_m5 197 rfl) rfl
theorem q1275 : (Jvm.Cond.stringRef "DanceNotation$Phrase" (77 : Nat) "c") ∈ lw_tbl := lw_at lw_m5 198 rfl
theorem q1276 : (Jvm.Cond.methodLink "DanceNotation$Phrase" (79 : Nat) ({ cls := "java/lang/StringBuilder", name := "append", desc := "(Ljava/lang/String;)Ljava/lang/StringBuilder;" } : Jvm.MethodName)) ∈ lw_all := lw_g (lw_at lw_m5 199 rfl) rfl
theorem q1277 : (Jvm.Cond.methodLink "DanceNotation$Phrase" (85 : Nat) ({ cls := "java/lang/StringBuilder", name := "append", desc := "(I)Ljava/lang/StringBuilder;" } : Jvm.MethodName)) ∈ lw_all := lw_g (lw_at lw_m5 200 rfl) rfl
theorem q1278 : (Jvm.Cond.methodLink "DanceNotation$Phrase" (88 : Nat) ({ cls := "java/lang/StringBuilder", name := "append", desc := "(C)Ljava/lang/StringBuilder;" } : Jvm.MethodName)) ∈ lw_all := lw_g (lw_at lw_m5 201 rfl) rfl
theorem q1291 : (Jvm.Cond.stringRef "DanceNotation$Phrase" (91 : Nat) ":") ∈ lw_tbl := lw_at lw_m5 214 rfl
theorem q1318 : (Jvm.Cond.selects "DanceNotation$Phrase" ({ cls := "DanceNotation$Node", name := "write", desc := "(Ljava/lang/StringBuilder;)V" } : Jvm.MethodName) ({ cls := "DanceNotation$Phrase", name := "write", desc := "(Ljava/lang/StringBuilder;)V" } : Jvm.MethodName)) ∈ lw_all := lw_g (lw_at lw_m6 1 rfl) rfl
theorem q1832 : (Jvm.Cond.instantiable "DanceNotation$Phrase" (3 : Nat)) ∈ lw_all := lw_g (lw_at lw_m8 35 rfl) rfl
theorem q1898 : (Jvm.Cond.instanceMethod ({ cls := "DanceNotation$Phrase", name := "<init>", desc := "(ILjava/lang/String;[I)V" } : Jvm.MethodName)) ∈ lw_all := lw_g (lw_at lw_m8 101 rfl) rfl
theorem q1899 : (Jvm.Cond.code ({ cls := "DanceNotation$Phrase", name := "<init>", desc := "(ILjava/lang/String;[I)V" } : Jvm.MethodName) prog_13_method_1_code (4 : Nat) (Option.none : Option Jvm.ClassFile.FieldType)) ∈ lw_all := lw_g (lw_at lw_m8 102 rfl) rfl
theorem q1900 : (Jvm.Cond.methodLinkNest "DanceNotation$Phrase" (3 : Nat) ({ cls := "DanceNotation$Leaf", name := "<init>", desc := "()V" } : Jvm.MethodName) "DanceNotation") ∈ lw_tbl := lw_at lw_m8 103 rfl
theorem q1901 : (Jvm.Cond.fieldLink "DanceNotation$Phrase" (9 : Nat) "DanceNotation$Phrase" "offset" "I") ∈ lw_all := lw_g (lw_at lw_m8 104 rfl) rfl
theorem q1902 : (Jvm.Cond.fieldLink "DanceNotation$Phrase" (19 : Nat) "DanceNotation$Phrase" "dancers" "[I") ∈ lw_all := lw_g (lw_at lw_m8 105 rfl) rfl
theorem q1903 : (Jvm.Cond.fieldLink "DanceNotation$Phrase" (15 : Nat) "DanceNotation$Phrase" "steps" "Ljava/lang/String;") ∈ lw_all := lw_g (lw_at lw_m8 106 rfl) rfl
theorem q1904 : (Jvm.Cond.laysFinal "DanceNotation$Phrase" "DanceNotation$Phrase" "offset" "I") ∈ lw_all := lw_g (lw_at lw_m8 107 rfl) rfl
theorem q1905 : (Jvm.Cond.soleField "DanceNotation$Phrase" "offset") ∈ lw_all := lw_g (lw_at lw_m8 108 rfl) rfl
theorem q1906 : (Jvm.Cond.laysFinal "DanceNotation$Phrase" "DanceNotation$Phrase" "dancers" "[I") ∈ lw_all := lw_g (lw_at lw_m8 109 rfl) rfl
theorem q1907 : (Jvm.Cond.soleField "DanceNotation$Phrase" "dancers") ∈ lw_all := lw_g (lw_at lw_m8 110 rfl) rfl
theorem q1908 : (Jvm.Cond.laysFinal "DanceNotation$Phrase" "DanceNotation$Phrase" "steps" "Ljava/lang/String;") ∈ lw_all := lw_g (lw_at lw_m8 111 rfl) rfl
theorem q1909 : (Jvm.Cond.soleField "DanceNotation$Phrase" "steps") ∈ lw_all := lw_g (lw_at lw_m8 112 rfl) rfl
theorem q1910 : (Jvm.Cond.superclass "DanceNotation$Phrase" "DanceNotation$Leaf") ∈ lw_all := lw_g (lw_at lw_m8 113 rfl) rfl
theorem q1973 : (Jvm.Cond.selects "DanceNotation$Phrase" ({ cls := "DanceNotation$Node", name := "checkAll", desc := "()V" } : Jvm.MethodName) ({ cls := "DanceNotation$Node", name := "checkAll", desc := "()V" } : Jvm.MethodName)) ∈ lw_all := lw_g (lw_at lw_m8 176 rfl) rfl
theorem q1984 : (Jvm.Cond.selects "DanceNotation$Phrase" ({ cls := "DanceNotation$Node", name := "check", desc := "()V" } : Jvm.MethodName) ({ cls := "DanceNotation$Phrase", name := "check", desc := "()V" } : Jvm.MethodName)) ∈ lw_all := lw_g (lw_at lw_m8 187 rfl) rfl
theorem q1985 : (Jvm.Cond.instanceMethod ({ cls := "DanceNotation$Phrase", name := "check", desc := "()V" } : Jvm.MethodName)) ∈ lw_all := lw_g (lw_at lw_m8 188 rfl) rfl
theorem q1986 : (Jvm.Cond.code ({ cls := "DanceNotation$Phrase", name := "check", desc := "()V" } : Jvm.MethodName) prog_13_method_4_code (7 : Nat) (Option.none : Option Jvm.ClassFile.FieldType)) ∈ lw_all := lw_g (lw_at lw_m8 189 rfl) rfl
theorem q1987 : (Jvm.Cond.classLink "DanceNotation$Phrase" (32 : Nat) "DanceNotation$RefusedException") ∈ lw_all := lw_g (lw_at lw_m8 190 rfl) rfl
theorem q1996 : (Jvm.Cond.methodLink "DanceNotation$Phrase" (34 : Nat) ({ cls := "java/lang/Integer", name := "numberOfTrailingZeros", desc := "(I)I" } : Jvm.MethodName)) ∈ lw_all := lw_g (lw_at lw_m8 199 rfl) rfl
theorem q2000 : (Jvm.Cond.methodLink "DanceNotation$Phrase" (40 : Nat) ({ cls := "DanceNotation$RefusedException", name := "<init>", desc := "(II)V" } : Jvm.MethodName)) ∈ lw_all := lw_g (lw_at lw_m8 203 rfl) rfl
theorem q2014 : (Jvm.Cond.methodLink "DanceNotation$Phrase" (43 : Nat) ({ cls := "DanceNotation$Leaf", name := "check", desc := "()V" } : Jvm.MethodName)) ∈ lw_all := lw_g (lw_at lw_m8 217 rfl) rfl
theorem q2026 : (Jvm.Cond.selects "DanceNotation$Phrase" ({ cls := "DanceNotation$Node", name := "cues", desc := "()I" } : Jvm.MethodName) ({ cls := "DanceNotation$Node", name := "cues", desc := "()I" } : Jvm.MethodName)) ∈ lw_all := lw_g (lw_at lw_m8 229 rfl) rfl
theorem q2047 : (Jvm.Cond.selects "DanceNotation$Phrase" ({ cls := "DanceNotation$Parts", name := "used", desc := "()I" } : Jvm.MethodName) ({ cls := "DanceNotation$Phrase", name := "used", desc := "()I" } : Jvm.MethodName)) ∈ lw_all := lw_g (lw_at lw_m9 10 rfl) rfl
theorem q2048 : (Jvm.Cond.instanceMethod ({ cls := "DanceNotation$Phrase", name := "used", desc := "()I" } : Jvm.MethodName)) ∈ lw_all := lw_g (lw_at lw_m9 11 rfl) rfl
theorem q2049 : (Jvm.Cond.code ({ cls := "DanceNotation$Phrase", name := "used", desc := "()I" } : Jvm.MethodName) prog_13_method_2_code (6 : Nat) (Option.some Jvm.ClassFile.FieldType.int)) ∈ lw_all := lw_g (lw_at lw_m9 12 rfl) rfl
theorem q2061 : (Jvm.Cond.castable "DanceNotation$Phrase" "DanceNotation$Parts") ∈ lw_tbl := lw_at lw_m9 24 rfl
theorem q2062 : (Jvm.Cond.unhidden "DanceNotation$Phrase" "partCount" "()I") ∈ lw_tbl := lw_at lw_m9 25 rfl
theorem q2077 : (Jvm.Cond.unhidden "DanceNotation$Phrase" "part" "(I)LDanceNotation$Node;") ∈ lw_tbl := lw_at lw_m9 40 rfl
theorem q2164 : (Jvm.Cond.unhidden "DanceNotation$Phrase" "depth" "()I") ∈ lw_tbl := lw_at lw_m9 127 rfl
theorem q2175 : (Jvm.Cond.unhidden "DanceNotation$Phrase" "nodes" "()I") ∈ lw_tbl := lw_at lw_m9 138 rfl
theorem q2213 : (Jvm.Cond.selects "DanceNotation$Phrase" ({ cls := "DanceNotation$Node", name := "leaves", desc := "()Ljava/util/Iterator;" } : Jvm.MethodName) ({ cls := "DanceNotation$Node", name := "leaves", desc := "()Ljava/util/Iterator;" } : Jvm.MethodName)) ∈ lw_all := lw_g (lw_at lw_m9 176 rfl) rfl
theorem q2236 : (Jvm.Cond.instanceMethod ({ cls := "DanceNotation$Phrase", name := "changedBy", desc := "([I)I" } : Jvm.MethodName)) ∈ lw_all := lw_g (lw_at lw_m9 199 rfl) rfl
theorem q2237 : (Jvm.Cond.selects "DanceNotation$Phrase" ({ cls := "DanceNotation$Phrase", name := "changedBy", desc := "([I)I" } : Jvm.MethodName) ({ cls := "DanceNotation$Phrase", name := "changedBy", desc := "([I)I" } : Jvm.MethodName)) ∈ lw_all := lw_g (lw_at lw_m9 200 rfl) rfl
theorem q2238 : (Jvm.Cond.code ({ cls := "DanceNotation$Phrase", name := "changedBy", desc := "([I)I" } : Jvm.MethodName) prog_13_method_6_code (7 : Nat) (Option.some Jvm.ClassFile.FieldType.int)) ∈ lw_all := lw_g (lw_at lw_m9 201 rfl) rfl
theorem q2250 : (Jvm.Cond.instanceMethod ({ cls := "DanceNotation$Phrase", name := "renamed", desc := "([I)LDanceNotation$Node;" } : Jvm.MethodName)) ∈ lw_all := lw_g (lw_at lw_m9 213 rfl) rfl
theorem q2251 : (Jvm.Cond.code ({ cls := "DanceNotation$Phrase", name := "renamed", desc := "([I)LDanceNotation$Node;" } : Jvm.MethodName) prog_13_method_8_code (4 : Nat) (Option.some (Jvm.ClassFile.FieldType.object "DanceNotation$Node"))) ∈ lw_all := lw_g (lw_at lw_m9 214 rfl) rfl
theorem q2252 : (Jvm.Cond.classLink "DanceNotation$Phrase" (10 : Nat) "DanceNotation$Phrase") ∈ lw_all := lw_g (lw_at lw_m9 215 rfl) rfl
theorem q2253 : (Jvm.Cond.methodLink "DanceNotation$Phrase" (74 : Nat) ({ cls := "DanceNotation$Phrase", name := "<init>", desc := "(ILjava/lang/String;[I)V" } : Jvm.MethodName)) ∈ lw_all := lw_g (lw_at lw_m9 216 rfl) rfl
theorem q2270 : (Jvm.Cond.selects "DanceNotation$Phrase" ({ cls := "DanceNotation$Node", name := "renamed", desc := "([I)LDanceNotation$Node;" } : Jvm.MethodName) ({ cls := "DanceNotation$Phrase", name := "renamed", desc := "([I)LDanceNotation$Node;" } : Jvm.MethodName)) ∈ lw_all := lw_g (lw_at lw_m9 233 rfl) rfl
theorem q2445 : (Jvm.Cond.instanceMethod ({ cls := "DanceNotation$Phrase", name := "displacement", desc := "(IZ)I" } : Jvm.MethodName)) ∈ lw_all := lw_g (lw_at lw_m10 168 rfl) rfl
theorem q2446 : (Jvm.Cond.code ({ cls := "DanceNotation$Phrase", name := "displacement", desc := "(IZ)I" } : Jvm.MethodName) prog_13_method_7_code (5 : Nat) (Option.some Jvm.ClassFile.FieldType.int)) ∈ lw_all := lw_g (lw_at lw_m10 169 rfl) rfl
theorem q2447 : (Jvm.Cond.methodLinkNest "DanceNotation$Phrase" (66 : Nat) ({ cls := "DanceNotation", name := "rowsOf", desc := "(C)I" } : Jvm.MethodName) "DanceNotation") ∈ lw_tbl := lw_at lw_m10 170 rfl
theorem q2448 : (Jvm.Cond.methodLinkNest "DanceNotation$Phrase" (70 : Nat) ({ cls := "DanceNotation", name := "columnsOf", desc := "(C)I" } : Jvm.MethodName) "DanceNotation") ∈ lw_tbl := lw_at lw_m10 171 rfl
theorem q2449 : (Jvm.Cond.methodLink "DanceNotation$Phrase" (73 : Nat) ({ cls := "DanceNotation$Phrase", name := "used", desc := "()I" } : Jvm.MethodName)) ∈ lw_all := lw_g (lw_at lw_m10 172 rfl) rfl
theorem q2459 : (Jvm.Cond.selects "DanceNotation$Phrase" ({ cls := "DanceNotation$Node", name := "displacement", desc := "(IZ)I" } : Jvm.MethodName) ({ cls := "DanceNotation$Phrase", name := "displacement", desc := "(IZ)I" } : Jvm.MethodName)) ∈ lw_all := lw_g (lw_at lw_m10 182 rfl) rfl
theorem q3295 : (Jvm.Cond.selects "DanceNotation$Phrase" ({ cls := "DanceNotation$Phrase", name := "length", desc := "()I" } : Jvm.MethodName) ({ cls := "DanceNotation$Phrase", name := "length", desc := "()I" } : Jvm.MethodName)) ∈ lw_all := lw_g (lw_at lw_m14 58 rfl) rfl
theorem q3302 : (Jvm.Cond.selects "DanceNotation$Phrase" ({ cls := "DanceNotation$Phrase", name := "used", desc := "()I" } : Jvm.MethodName) ({ cls := "DanceNotation$Phrase", name := "used", desc := "()I" } : Jvm.MethodName)) ∈ lw_all := lw_g (lw_at lw_m14 65 rfl) rfl
theorem q3308 : (Jvm.Cond.castable "DanceNotation$Phrase" "DanceNotation$Node") ∈ lw_tbl := lw_at lw_m14 71 rfl
theorem q3335 : (Jvm.Cond.castable "DanceNotation$Phrase" "java/lang/Object") ∈ lw_tbl := lw_at lw_m14 98 rfl
theorem in_X13 : ∀ w ∈ wsX130, w ∈ lw_all := lw_in wsX130 [1904, 1906, 1908] (by decide +kernel) (by decide +kernel)

/-! DanceNotation$Mirrored -/
set_option maxRecDepth 100000
def RX14 : String := "DanceNotation$Mirrored"
def TX14 : u_T := fun k => match k with
  | _ => ("DanceNotation$Single", "part", "LDanceNotation$Node;", true)
def tyX14 : Nat → FieldType := fun k => match k with
  | _ => .object "DanceNotation$Node"
abbrev wsX140 : List Cond := u_ws RX14 TX14 1
theorem nmX14 : ∀ a, a < 1 → ∀ b, b < 1 → a ≠ b → (TX14 a).2.1 ≠ (TX14 b).2.1 := by decide +kernel
theorem tyX14_ok : ∀ k, k < 1 → parseFieldDescriptor (TX14 k).2.2.1 = some (tyX14 k) := by decide +kernel
abbrev cX14_perform : ByteArray := prog_8_method_2_code
def yX14_perform : MethodName := ⟨RX14, "perform", "(LDanceNotation$Score;IIZ)V"⟩
def dkwX14_perform_0 : List UInt8 := [42, 180, 0, 9, 43, 28, 29, 4, 130, 21, 4, 182, 0, 15, 177]
abbrev dktX14_perform_0 : List UInt8 := dkwX14_perform_0 ++ []
theorem dksX14_perform_0 : cX14_perform.data.toList.drop 0 = dktX14_perform_0 := by decide +kernel
theorem dX14_perform_0 : decode cX14_perform 0 = .ok (.aload_n 0, 1) := dk_42 (dk_at dksX14_perform_0 0 rfl rfl)
theorem dX14_perform_1 : decode cX14_perform 1 = .ok (.getfield 9, 3) := dk_180 0 9 (dk_at dksX14_perform_0 1 rfl rfl)
theorem dX14_perform_4 : decode cX14_perform 4 = .ok (.aload_n 1, 1) := dk_43 (dk_at dksX14_perform_0 4 rfl rfl)
theorem dX14_perform_5 : decode cX14_perform 5 = .ok (.iload_n 2, 1) := dk_28 (dk_at dksX14_perform_0 5 rfl rfl)
theorem dX14_perform_6 : decode cX14_perform 6 = .ok (.iload_n 3, 1) := dk_29 (dk_at dksX14_perform_0 6 rfl rfl)
theorem dX14_perform_7 : decode cX14_perform 7 = .ok (.iconst 1, 1) := dk_4 (dk_at dksX14_perform_0 7 rfl rfl)
theorem dX14_perform_8 : decode cX14_perform 8 = .ok (.ixor, 1) := dk_130 (dk_at dksX14_perform_0 8 rfl rfl)
theorem dX14_perform_9 : decode cX14_perform 9 = .ok (.iload 4, 2) := dk_21 4 (dk_at dksX14_perform_0 9 rfl rfl)
theorem dX14_perform_11 : decode cX14_perform 11 = .ok (.invokevirtual 15, 3) := dk_182 0 15 (dk_at dksX14_perform_0 11 rfl rfl)
theorem dX14_perform_14 : decode cX14_perform 14 = .ok (.return_, 1) := dk_177 (dk_at dksX14_perform_0 14 rfl rfl)
abbrev cX14_write : ByteArray := prog_8_method_5_code
def yX14_write : MethodName := ⟨RX14, "write", "(Ljava/lang/StringBuilder;)V"⟩
def dkwX14_write_0 : List UInt8 := [43, 18, 30, 182, 0, 32, 87, 42, 43, 42, 180, 0, 9, 4, 182, 0, 38, 177]
abbrev dktX14_write_0 : List UInt8 := dkwX14_write_0 ++ []
theorem dksX14_write_0 : cX14_write.data.toList.drop 0 = dktX14_write_0 := by decide +kernel
theorem dX14_write_0 : decode cX14_write 0 = .ok (.aload_n 1, 1) := dk_43 (dk_at dksX14_write_0 0 rfl rfl)
theorem dX14_write_1 : decode cX14_write 1 = .ok (.ldc 30, 2) := dk_18 30 (dk_at dksX14_write_0 1 rfl rfl)
theorem dX14_write_3 : decode cX14_write 3 = .ok (.invokevirtual 32, 3) := dk_182 0 32 (dk_at dksX14_write_0 3 rfl rfl)
theorem dX14_write_6 : decode cX14_write 6 = .ok (.pop, 1) := dk_87 (dk_at dksX14_write_0 6 rfl rfl)
theorem dX14_write_7 : decode cX14_write 7 = .ok (.aload_n 0, 1) := dk_42 (dk_at dksX14_write_0 7 rfl rfl)
theorem dX14_write_8 : decode cX14_write 8 = .ok (.aload_n 1, 1) := dk_43 (dk_at dksX14_write_0 8 rfl rfl)
theorem dX14_write_9 : decode cX14_write 9 = .ok (.aload_n 0, 1) := dk_42 (dk_at dksX14_write_0 9 rfl rfl)
theorem dX14_write_10 : decode cX14_write 10 = .ok (.getfield 9, 3) := dk_180 0 9 (dk_at dksX14_write_0 10 rfl rfl)
theorem dX14_write_13 : decode cX14_write 13 = .ok (.iconst 1, 1) := dk_4 (dk_at dksX14_write_0 13 rfl rfl)
theorem dX14_write_14 : decode cX14_write 14 = .ok (.invokevirtual 38, 3) := dk_182 0 38 (dk_at dksX14_write_0 14 rfl rfl)
theorem dX14_write_17 : decode cX14_write 17 = .ok (.return_, 1) := dk_177 (dk_at dksX14_write_0 17 rfl rfl)
abbrev cX14_init : ByteArray := prog_8_method_1_code
def yX14_init : MethodName := ⟨RX14, "<init>", "(LDanceNotation$Node;)V"⟩
def dkwX14_init_0 : List UInt8 := [42, 43, 183, 0, 3, 177]
abbrev dktX14_init_0 : List UInt8 := dkwX14_init_0 ++ []
theorem dksX14_init_0 : cX14_init.data.toList.drop 0 = dktX14_init_0 := by decide +kernel
theorem dX14_init_0 : decode cX14_init 0 = .ok (.aload_n 0, 1) := dk_42 (dk_at dksX14_init_0 0 rfl rfl)
theorem dX14_init_1 : decode cX14_init 1 = .ok (.aload_n 1, 1) := dk_43 (dk_at dksX14_init_0 1 rfl rfl)
theorem dX14_init_2 : decode cX14_init 2 = .ok (.invokespecial 3, 3) := dk_183 0 3 (dk_at dksX14_init_0 2 rfl rfl)
theorem dX14_init_5 : decode cX14_init 5 = .ok (.return_, 1) := dk_177 (dk_at dksX14_init_0 5 rfl rfl)
abbrev cX14_renamed : ByteArray := prog_8_method_4_code
def yX14_renamed : MethodName := ⟨RX14, "renamed", "([I)LDanceNotation$Node;"⟩
def dkwX14_renamed_0 : List UInt8 := [187, 0, 10, 89, 42, 180, 0, 9, 43, 182, 0, 25, 183, 0, 29, 176]
abbrev dktX14_renamed_0 : List UInt8 := dkwX14_renamed_0 ++ []
theorem dksX14_renamed_0 : cX14_renamed.data.toList.drop 0 = dktX14_renamed_0 := by decide +kernel
theorem dX14_renamed_0 : decode cX14_renamed 0 = .ok (.new 10, 3) := dk_187 0 10 (dk_at dksX14_renamed_0 0 rfl rfl)
theorem dX14_renamed_3 : decode cX14_renamed 3 = .ok (.dup, 1) := dk_89 (dk_at dksX14_renamed_0 3 rfl rfl)
theorem dX14_renamed_4 : decode cX14_renamed 4 = .ok (.aload_n 0, 1) := dk_42 (dk_at dksX14_renamed_0 4 rfl rfl)
theorem dX14_renamed_5 : decode cX14_renamed 5 = .ok (.getfield 9, 3) := dk_180 0 9 (dk_at dksX14_renamed_0 5 rfl rfl)
theorem dX14_renamed_8 : decode cX14_renamed 8 = .ok (.aload_n 1, 1) := dk_43 (dk_at dksX14_renamed_0 8 rfl rfl)
theorem dX14_renamed_9 : decode cX14_renamed 9 = .ok (.invokevirtual 25, 3) := dk_182 0 25 (dk_at dksX14_renamed_0 9 rfl rfl)
theorem dX14_renamed_12 : decode cX14_renamed 12 = .ok (.invokespecial 29, 3) := dk_183 0 29 (dk_at dksX14_renamed_0 12 rfl rfl)
theorem dX14_renamed_15 : decode cX14_renamed 15 = .ok (.areturn, 1) := dk_176 (dk_at dksX14_renamed_0 15 rfl rfl)
abbrev cX14_displacement : ByteArray := prog_8_method_3_code
def yX14_displacement : MethodName := ⟨RX14, "displacement", "(IZ)I"⟩
def dkwX14_displacement_0 : List UInt8 := [42, 180, 0, 9, 27, 28, 182, 0, 21, 62, 28, 153, 0, 7, 29, 167, 0, 5, 29, 116, 172]
abbrev dktX14_displacement_0 : List UInt8 := dkwX14_displacement_0 ++ []
theorem dksX14_displacement_0 : cX14_displacement.data.toList.drop 0 = dktX14_displacement_0 := by decide +kernel
theorem dX14_displacement_0 : decode cX14_displacement 0 = .ok (.aload_n 0, 1) := dk_42 (dk_at dksX14_displacement_0 0 rfl rfl)
theorem dX14_displacement_1 : decode cX14_displacement 1 = .ok (.getfield 9, 3) := dk_180 0 9 (dk_at dksX14_displacement_0 1 rfl rfl)
theorem dX14_displacement_4 : decode cX14_displacement 4 = .ok (.iload_n 1, 1) := dk_27 (dk_at dksX14_displacement_0 4 rfl rfl)
theorem dX14_displacement_5 : decode cX14_displacement 5 = .ok (.iload_n 2, 1) := dk_28 (dk_at dksX14_displacement_0 5 rfl rfl)
theorem dX14_displacement_6 : decode cX14_displacement 6 = .ok (.invokevirtual 21, 3) := dk_182 0 21 (dk_at dksX14_displacement_0 6 rfl rfl)
theorem dX14_displacement_9 : decode cX14_displacement 9 = .ok (.istore_n 3, 1) := dk_62 (dk_at dksX14_displacement_0 9 rfl rfl)
theorem dX14_displacement_10 : decode cX14_displacement 10 = .ok (.iload_n 2, 1) := dk_28 (dk_at dksX14_displacement_0 10 rfl rfl)
theorem dX14_displacement_11 : decode cX14_displacement 11 = .ok (.ifCond .eq 7, 3) := dk_153 0 7 (dk_at dksX14_displacement_0 11 rfl rfl)
theorem dX14_displacement_14 : decode cX14_displacement 14 = .ok (.iload_n 3, 1) := dk_29 (dk_at dksX14_displacement_0 14 rfl rfl)
theorem dX14_displacement_15 : decode cX14_displacement 15 = .ok (.goto 5, 3) := dk_167 0 5 (dk_at dksX14_displacement_0 15 rfl rfl)
theorem dX14_displacement_18 : decode cX14_displacement 18 = .ok (.iload_n 3, 1) := dk_29 (dk_at dksX14_displacement_0 18 rfl rfl)
theorem dX14_displacement_19 : decode cX14_displacement 19 = .ok (.ineg, 1) := dk_116 (dk_at dksX14_displacement_0 19 rfl rfl)
theorem dX14_displacement_20 : decode cX14_displacement 20 = .ok (.ireturn, 1) := dk_172 (dk_at dksX14_displacement_0 20 rfl rfl)
theorem q164 : (Jvm.Cond.initialized "DanceNotation$Mirrored") ∈ lw_all := lw_g (lw_at lw_m1 47 rfl) rfl
theorem q866 : (Jvm.Cond.selects "DanceNotation$Mirrored" ({ cls := "DanceNotation$Parts", name := "partCount", desc := "()I" } : Jvm.MethodName) ({ cls := "DanceNotation$Single", name := "partCount", desc := "()I" } : Jvm.MethodName)) ∈ lw_all := lw_g (lw_at lw_m4 29 rfl) rfl
theorem q885 : (Jvm.Cond.selects "DanceNotation$Mirrored" ({ cls := "DanceNotation$Parts", name := "part", desc := "(I)LDanceNotation$Node;" } : Jvm.MethodName) ({ cls := "DanceNotation$Single", name := "part", desc := "(I)LDanceNotation$Node;" } : Jvm.MethodName)) ∈ lw_all := lw_g (lw_at lw_m4 48 rfl) rfl
theorem q999 : (Jvm.Cond.selects "DanceNotation$Mirrored" ({ cls := "java/lang/Object", name := "getClass", desc := "()Ljava/lang/Class;" } : Jvm.MethodName) ({ cls := "java/lang/Object", name := "getClass", desc := "()Ljava/lang/Class;" } : Jvm.MethodName)) ∈ lw_all := lw_g (lw_at lw_m4 162 rfl) rfl
theorem q1107 : (Jvm.Cond.selects "DanceNotation$Mirrored" ({ cls := "DanceNotation$Node", name := "score", desc := "()LDanceNotation$Score;" } : Jvm.MethodName) ({ cls := "DanceNotation$Node", name := "score", desc := "()LDanceNotation$Score;" } : Jvm.MethodName)) ∈ lw_all := lw_g (lw_at lw_m5 30 rfl) rfl
theorem q1121 : (Jvm.Cond.selects "DanceNotation$Mirrored" ({ cls := "DanceNotation$Node", name := "length", desc := "()I" } : Jvm.MethodName) ({ cls := "DanceNotation$Single", name := "length", desc := "()I" } : Jvm.MethodName)) ∈ lw_all := lw_g (lw_at lw_m5 44 rfl) rfl
theorem q1192 : (Jvm.Cond.selects "DanceNotation$Mirrored" ({ cls := "DanceNotation$Node", name := "perform", desc := "(LDanceNotation$Score;IIZ)V" } : Jvm.MethodName) ({ cls := "DanceNotation$Mirrored", name := "perform", desc := "(LDanceNotation$Score;IIZ)V" } : Jvm.MethodName)) ∈ lw_all := lw_g (lw_at lw_m5 115 rfl) rfl
theorem q1193 : (Jvm.Cond.instanceMethod ({ cls := "DanceNotation$Mirrored", name := "perform", desc := "(LDanceNotation$Score;IIZ)V" } : Jvm.MethodName)) ∈ lw_all := lw_g (lw_at lw_m5 116 rfl) rfl
theorem q1194 : (Jvm.Cond.code ({ cls := "DanceNotation$Mirrored", name := "perform", desc := "(LDanceNotation$Score;IIZ)V" } : Jvm.MethodName) prog_8_method_2_code (5 : Nat) (Option.none : Option Jvm.ClassFile.FieldType)) ∈ lw_all := lw_g (lw_at lw_m5 117 rfl) rfl
theorem q1195 : (Jvm.Cond.methodLink "DanceNotation$Mirrored" (15 : Nat) ({ cls := "DanceNotation$Node", name := "perform", desc := "(LDanceNotation$Score;IIZ)V" } : Jvm.MethodName)) ∈ lw_all := lw_g (lw_at lw_m5 118 rfl) rfl
theorem q1258 : (Jvm.Cond.selects "DanceNotation$Mirrored" ({ cls := "DanceNotation$Node", name := "write", desc := "(Ljava/lang/StringBuilder;)V" } : Jvm.MethodName) ({ cls := "DanceNotation$Mirrored", name := "write", desc := "(Ljava/lang/StringBuilder;)V" } : Jvm.MethodName)) ∈ lw_all := lw_g (lw_at lw_m5 181 rfl) rfl
theorem q1259 : (Jvm.Cond.instanceMethod ({ cls := "DanceNotation$Mirrored", name := "write", desc := "(Ljava/lang/StringBuilder;)V" } : Jvm.MethodName)) ∈ lw_all := lw_g (lw_at lw_m5 182 rfl) rfl
theorem q1260 : (Jvm.Cond.code ({ cls := "DanceNotation$Mirrored", name := "write", desc := "(Ljava/lang/StringBuilder;)V" } : Jvm.MethodName) prog_8_method_5_code (2 : Nat) (Option.none : Option Jvm.ClassFile.FieldType)) ∈ lw_all := lw_g (lw_at lw_m5 183 rfl) rfl
theorem q1261 : (Jvm.Cond.stringRef "DanceNotation$Mirrored" (30 : Nat) "m") ∈ lw_tbl := lw_at lw_m5 184 rfl
theorem q1262 : (Jvm.Cond.methodLink "DanceNotation$Mirrored" (32 : Nat) ({ cls := "java/lang/StringBuilder", name := "append", desc := "(Ljava/lang/String;)Ljava/lang/StringBuilder;" } : Jvm.MethodName)) ∈ lw_all := lw_g (lw_at lw_m5 185 rfl) rfl
theorem q1263 : (Jvm.Cond.methodLink "DanceNotation$Mirrored" (38 : Nat) ({ cls := "DanceNotation$Mirrored", name := "writePart", desc := "(Ljava/lang/StringBuilder;LDanceNotation$Node;Z)V" } : Jvm.MethodName)) ∈ lw_all := lw_g (lw_at lw_m5 186 rfl) rfl
theorem q1264 : (Jvm.Cond.sameMethod "DanceNotation$Mirrored" "DanceNotation$Node" "writePart" "(Ljava/lang/StringBuilder;LDanceNotation$Node;Z)V") ∈ lw_all := lw_g (lw_at lw_m5 187 rfl) rfl
theorem q1266 : (Jvm.Cond.selects "DanceNotation$Mirrored" ({ cls := "DanceNotation$Mirrored", name := "writePart", desc := "(Ljava/lang/StringBuilder;LDanceNotation$Node;Z)V" } : Jvm.MethodName) ({ cls := "DanceNotation$Node", name := "writePart", desc := "(Ljava/lang/StringBuilder;LDanceNotation$Node;Z)V" } : Jvm.MethodName)) ∈ lw_all := lw_g (lw_at lw_m5 189 rfl) rfl
theorem q1912 : (Jvm.Cond.instantiable "DanceNotation$Mirrored" (1 : Nat)) ∈ lw_all := lw_g (lw_at lw_m8 115 rfl) rfl
theorem q1918 : (Jvm.Cond.instanceMethod ({ cls := "DanceNotation$Mirrored", name := "<init>", desc := "(LDanceNotation$Node;)V" } : Jvm.MethodName)) ∈ lw_all := lw_g (lw_at lw_m8 121 rfl) rfl
theorem q1919 : (Jvm.Cond.code ({ cls := "DanceNotation$Mirrored", name := "<init>", desc := "(LDanceNotation$Node;)V" } : Jvm.MethodName) prog_8_method_1_code (2 : Nat) (Option.none : Option Jvm.ClassFile.FieldType)) ∈ lw_all := lw_g (lw_at lw_m8 122 rfl) rfl
theorem q1920 : (Jvm.Cond.methodLink "DanceNotation$Mirrored" (3 : Nat) ({ cls := "DanceNotation$Single", name := "<init>", desc := "(LDanceNotation$Node;)V" } : Jvm.MethodName)) ∈ lw_all := lw_g (lw_at lw_m8 123 rfl) rfl
theorem q1925 : (Jvm.Cond.fieldLink "DanceNotation$Mirrored" (9 : Nat) "DanceNotation$Mirrored" "part" "LDanceNotation$Node;") ∈ lw_all := lw_g (lw_at lw_m8 128 rfl) rfl
theorem q1926 : (Jvm.Cond.sameField "DanceNotation$Mirrored" "DanceNotation$Single" "part" "LDanceNotation$Node;") ∈ lw_all := lw_g (lw_at lw_m8 129 rfl) rfl
theorem q1933 : (Jvm.Cond.laysFinal "DanceNotation$Mirrored" "DanceNotation$Single" "part" "LDanceNotation$Node;") ∈ lw_all := lw_g (lw_at lw_m8 136 rfl) rfl
theorem q1935 : (Jvm.Cond.superclass "DanceNotation$Mirrored" "DanceNotation$Single") ∈ lw_all := lw_g (lw_at lw_m8 138 rfl) rfl
theorem q1972 : (Jvm.Cond.selects "DanceNotation$Mirrored" ({ cls := "DanceNotation$Node", name := "checkAll", desc := "()V" } : Jvm.MethodName) ({ cls := "DanceNotation$Node", name := "checkAll", desc := "()V" } : Jvm.MethodName)) ∈ lw_all := lw_g (lw_at lw_m8 175 rfl) rfl
theorem q1983 : (Jvm.Cond.selects "DanceNotation$Mirrored" ({ cls := "DanceNotation$Node", name := "check", desc := "()V" } : Jvm.MethodName) ({ cls := "DanceNotation$Node", name := "check", desc := "()V" } : Jvm.MethodName)) ∈ lw_all := lw_g (lw_at lw_m8 186 rfl) rfl
theorem q2025 : (Jvm.Cond.selects "DanceNotation$Mirrored" ({ cls := "DanceNotation$Node", name := "cues", desc := "()I" } : Jvm.MethodName) ({ cls := "DanceNotation$Node", name := "cues", desc := "()I" } : Jvm.MethodName)) ∈ lw_all := lw_g (lw_at lw_m8 228 rfl) rfl
theorem q2046 : (Jvm.Cond.unhidden "DanceNotation$Mirrored" "used" "()I") ∈ lw_tbl := lw_at lw_m9 9 rfl
theorem q2058 : (Jvm.Cond.castable "DanceNotation$Mirrored" "DanceNotation$Parts") ∈ lw_tbl := lw_at lw_m9 21 rfl
theorem q2059 : (Jvm.Cond.unhidden "DanceNotation$Mirrored" "partCount" "()I") ∈ lw_tbl := lw_at lw_m9 22 rfl
theorem q2075 : (Jvm.Cond.unhidden "DanceNotation$Mirrored" "part" "(I)LDanceNotation$Node;") ∈ lw_tbl := lw_at lw_m9 38 rfl
theorem q2163 : (Jvm.Cond.unhidden "DanceNotation$Mirrored" "depth" "()I") ∈ lw_tbl := lw_at lw_m9 126 rfl
theorem q2174 : (Jvm.Cond.unhidden "DanceNotation$Mirrored" "nodes" "()I") ∈ lw_tbl := lw_at lw_m9 137 rfl
theorem q2212 : (Jvm.Cond.selects "DanceNotation$Mirrored" ({ cls := "DanceNotation$Node", name := "leaves", desc := "()Ljava/util/Iterator;" } : Jvm.MethodName) ({ cls := "DanceNotation$Node", name := "leaves", desc := "()Ljava/util/Iterator;" } : Jvm.MethodName)) ∈ lw_all := lw_g (lw_at lw_m9 175 rfl) rfl
theorem q2245 : (Jvm.Cond.selects "DanceNotation$Mirrored" ({ cls := "DanceNotation$Node", name := "renamed", desc := "([I)LDanceNotation$Node;" } : Jvm.MethodName) ({ cls := "DanceNotation$Mirrored", name := "renamed", desc := "([I)LDanceNotation$Node;" } : Jvm.MethodName)) ∈ lw_all := lw_g (lw_at lw_m9 208 rfl) rfl
theorem q2246 : (Jvm.Cond.instanceMethod ({ cls := "DanceNotation$Mirrored", name := "renamed", desc := "([I)LDanceNotation$Node;" } : Jvm.MethodName)) ∈ lw_all := lw_g (lw_at lw_m9 209 rfl) rfl
theorem q2247 : (Jvm.Cond.code ({ cls := "DanceNotation$Mirrored", name := "renamed", desc := "([I)LDanceNotation$Node;" } : Jvm.MethodName) prog_8_method_4_code (2 : Nat) (Option.some (Jvm.ClassFile.FieldType.object "DanceNotation$Node"))) ∈ lw_all := lw_g (lw_at lw_m9 210 rfl) rfl
theorem q2248 : (Jvm.Cond.classLink "DanceNotation$Mirrored" (10 : Nat) "DanceNotation$Mirrored") ∈ lw_all := lw_g (lw_at lw_m9 211 rfl) rfl
theorem q2249 : (Jvm.Cond.methodLink "DanceNotation$Mirrored" (25 : Nat) ({ cls := "DanceNotation$Node", name := "renamed", desc := "([I)LDanceNotation$Node;" } : Jvm.MethodName)) ∈ lw_all := lw_g (lw_at lw_m9 212 rfl) rfl
theorem q2269 : (Jvm.Cond.methodLink "DanceNotation$Mirrored" (29 : Nat) ({ cls := "DanceNotation$Mirrored", name := "<init>", desc := "(LDanceNotation$Node;)V" } : Jvm.MethodName)) ∈ lw_all := lw_g (lw_at lw_m9 232 rfl) rfl
theorem q2441 : (Jvm.Cond.selects "DanceNotation$Mirrored" ({ cls := "DanceNotation$Node", name := "displacement", desc := "(IZ)I" } : Jvm.MethodName) ({ cls := "DanceNotation$Mirrored", name := "displacement", desc := "(IZ)I" } : Jvm.MethodName)) ∈ lw_all := lw_g (lw_at lw_m10 164 rfl) rfl
theorem q2442 : (Jvm.Cond.instanceMethod ({ cls := "DanceNotation$Mirrored", name := "displacement", desc := "(IZ)I" } : Jvm.MethodName)) ∈ lw_all := lw_g (lw_at lw_m10 165 rfl) rfl
theorem q2443 : (Jvm.Cond.code ({ cls := "DanceNotation$Mirrored", name := "displacement", desc := "(IZ)I" } : Jvm.MethodName) prog_8_method_3_code (4 : Nat) (Option.some Jvm.ClassFile.FieldType.int)) ∈ lw_all := lw_g (lw_at lw_m10 166 rfl) rfl
theorem q2444 : (Jvm.Cond.methodLink "DanceNotation$Mirrored" (21 : Nat) ({ cls := "DanceNotation$Node", name := "displacement", desc := "(IZ)I" } : Jvm.MethodName)) ∈ lw_all := lw_g (lw_at lw_m10 167 rfl) rfl
theorem q3307 : (Jvm.Cond.castable "DanceNotation$Mirrored" "DanceNotation$Node") ∈ lw_tbl := lw_at lw_m14 70 rfl
theorem q3337 : (Jvm.Cond.castable "DanceNotation$Mirrored" "java/lang/Object") ∈ lw_tbl := lw_at lw_m14 100 rfl
theorem in_X14 : ∀ w ∈ wsX140, w ∈ lw_all := lw_in wsX140 [1933] (by decide +kernel) (by decide +kernel)

/-! DanceNotation$Reversed -/
set_option maxRecDepth 100000
def RX15 : String := "DanceNotation$Reversed"
def TX15 : u_T := fun k => match k with
  | _ => ("DanceNotation$Single", "part", "LDanceNotation$Node;", true)
def tyX15 : Nat → FieldType := fun k => match k with
  | _ => .object "DanceNotation$Node"
abbrev wsX150 : List Cond := u_ws RX15 TX15 1
theorem nmX15 : ∀ a, a < 1 → ∀ b, b < 1 → a ≠ b → (TX15 a).2.1 ≠ (TX15 b).2.1 := by decide +kernel
theorem tyX15_ok : ∀ k, k < 1 → parseFieldDescriptor (TX15 k).2.2.1 = some (tyX15 k) := by decide +kernel
abbrev cX15_perform : ByteArray := prog_16_method_2_code
def yX15_perform : MethodName := ⟨RX15, "perform", "(LDanceNotation$Score;IIZ)V"⟩
def dkwX15_perform_0 : List UInt8 := [42, 180, 0, 9, 43, 28, 29, 5, 130, 21, 4, 154, 0, 7, 4, 167, 0, 4, 3, 182, 0, 15, 177]
abbrev dktX15_perform_0 : List UInt8 := dkwX15_perform_0 ++ []
theorem dksX15_perform_0 : cX15_perform.data.toList.drop 0 = dktX15_perform_0 := by decide +kernel
theorem dX15_perform_0 : decode cX15_perform 0 = .ok (.aload_n 0, 1) := dk_42 (dk_at dksX15_perform_0 0 rfl rfl)
theorem dX15_perform_1 : decode cX15_perform 1 = .ok (.getfield 9, 3) := dk_180 0 9 (dk_at dksX15_perform_0 1 rfl rfl)
theorem dX15_perform_4 : decode cX15_perform 4 = .ok (.aload_n 1, 1) := dk_43 (dk_at dksX15_perform_0 4 rfl rfl)
theorem dX15_perform_5 : decode cX15_perform 5 = .ok (.iload_n 2, 1) := dk_28 (dk_at dksX15_perform_0 5 rfl rfl)
theorem dX15_perform_6 : decode cX15_perform 6 = .ok (.iload_n 3, 1) := dk_29 (dk_at dksX15_perform_0 6 rfl rfl)
theorem dX15_perform_7 : decode cX15_perform 7 = .ok (.iconst 2, 1) := dk_5 (dk_at dksX15_perform_0 7 rfl rfl)
theorem dX15_perform_8 : decode cX15_perform 8 = .ok (.ixor, 1) := dk_130 (dk_at dksX15_perform_0 8 rfl rfl)
theorem dX15_perform_9 : decode cX15_perform 9 = .ok (.iload 4, 2) := dk_21 4 (dk_at dksX15_perform_0 9 rfl rfl)
theorem dX15_perform_11 : decode cX15_perform 11 = .ok (.ifCond .ne 7, 3) := dk_154 0 7 (dk_at dksX15_perform_0 11 rfl rfl)
theorem dX15_perform_14 : decode cX15_perform 14 = .ok (.iconst 1, 1) := dk_4 (dk_at dksX15_perform_0 14 rfl rfl)
theorem dX15_perform_15 : decode cX15_perform 15 = .ok (.goto 4, 3) := dk_167 0 4 (dk_at dksX15_perform_0 15 rfl rfl)
theorem dX15_perform_18 : decode cX15_perform 18 = .ok (.iconst 0, 1) := dk_3 (dk_at dksX15_perform_0 18 rfl rfl)
theorem dX15_perform_19 : decode cX15_perform 19 = .ok (.invokevirtual 15, 3) := dk_182 0 15 (dk_at dksX15_perform_0 19 rfl rfl)
theorem dX15_perform_22 : decode cX15_perform 22 = .ok (.return_, 1) := dk_177 (dk_at dksX15_perform_0 22 rfl rfl)
abbrev cX15_write : ByteArray := prog_16_method_5_code
def yX15_write : MethodName := ⟨RX15, "write", "(Ljava/lang/StringBuilder;)V"⟩
def dkwX15_write_0 : List UInt8 := [43, 18, 30, 182, 0, 32, 87, 42, 43, 42, 180, 0, 9, 4, 182, 0, 38, 177]
abbrev dktX15_write_0 : List UInt8 := dkwX15_write_0 ++ []
theorem dksX15_write_0 : cX15_write.data.toList.drop 0 = dktX15_write_0 := by decide +kernel
theorem dX15_write_0 : decode cX15_write 0 = .ok (.aload_n 1, 1) := dk_43 (dk_at dksX15_write_0 0 rfl rfl)
theorem dX15_write_1 : decode cX15_write 1 = .ok (.ldc 30, 2) := dk_18 30 (dk_at dksX15_write_0 1 rfl rfl)
theorem dX15_write_3 : decode cX15_write 3 = .ok (.invokevirtual 32, 3) := dk_182 0 32 (dk_at dksX15_write_0 3 rfl rfl)
theorem dX15_write_6 : decode cX15_write 6 = .ok (.pop, 1) := dk_87 (dk_at dksX15_write_0 6 rfl rfl)
theorem dX15_write_7 : decode cX15_write 7 = .ok (.aload_n 0, 1) := dk_42 (dk_at dksX15_write_0 7 rfl rfl)
theorem dX15_write_8 : decode cX15_write 8 = .ok (.aload_n 1, 1) := dk_43 (dk_at dksX15_write_0 8 rfl rfl)
theorem dX15_write_9 : decode cX15_write 9 = .ok (.aload_n 0, 1) := dk_42 (dk_at dksX15_write_0 9 rfl rfl)
theorem dX15_write_10 : decode cX15_write 10 = .ok (.getfield 9, 3) := dk_180 0 9 (dk_at dksX15_write_0 10 rfl rfl)
theorem dX15_write_13 : decode cX15_write 13 = .ok (.iconst 1, 1) := dk_4 (dk_at dksX15_write_0 13 rfl rfl)
theorem dX15_write_14 : decode cX15_write 14 = .ok (.invokevirtual 38, 3) := dk_182 0 38 (dk_at dksX15_write_0 14 rfl rfl)
theorem dX15_write_17 : decode cX15_write 17 = .ok (.return_, 1) := dk_177 (dk_at dksX15_write_0 17 rfl rfl)
abbrev cX15_init : ByteArray := prog_16_method_1_code
def yX15_init : MethodName := ⟨RX15, "<init>", "(LDanceNotation$Node;)V"⟩
def dkwX15_init_0 : List UInt8 := [42, 43, 183, 0, 3, 177]
abbrev dktX15_init_0 : List UInt8 := dkwX15_init_0 ++ []
theorem dksX15_init_0 : cX15_init.data.toList.drop 0 = dktX15_init_0 := by decide +kernel
theorem dX15_init_0 : decode cX15_init 0 = .ok (.aload_n 0, 1) := dk_42 (dk_at dksX15_init_0 0 rfl rfl)
theorem dX15_init_1 : decode cX15_init 1 = .ok (.aload_n 1, 1) := dk_43 (dk_at dksX15_init_0 1 rfl rfl)
theorem dX15_init_2 : decode cX15_init 2 = .ok (.invokespecial 3, 3) := dk_183 0 3 (dk_at dksX15_init_0 2 rfl rfl)
theorem dX15_init_5 : decode cX15_init 5 = .ok (.return_, 1) := dk_177 (dk_at dksX15_init_0 5 rfl rfl)
abbrev cX15_renamed : ByteArray := prog_16_method_4_code
def yX15_renamed : MethodName := ⟨RX15, "renamed", "([I)LDanceNotation$Node;"⟩
def dkwX15_renamed_0 : List UInt8 := [187, 0, 10, 89, 42, 180, 0, 9, 43, 182, 0, 25, 183, 0, 29, 176]
abbrev dktX15_renamed_0 : List UInt8 := dkwX15_renamed_0 ++ []
theorem dksX15_renamed_0 : cX15_renamed.data.toList.drop 0 = dktX15_renamed_0 := by decide +kernel
theorem dX15_renamed_0 : decode cX15_renamed 0 = .ok (.new 10, 3) := dk_187 0 10 (dk_at dksX15_renamed_0 0 rfl rfl)
theorem dX15_renamed_3 : decode cX15_renamed 3 = .ok (.dup, 1) := dk_89 (dk_at dksX15_renamed_0 3 rfl rfl)
theorem dX15_renamed_4 : decode cX15_renamed 4 = .ok (.aload_n 0, 1) := dk_42 (dk_at dksX15_renamed_0 4 rfl rfl)
theorem dX15_renamed_5 : decode cX15_renamed 5 = .ok (.getfield 9, 3) := dk_180 0 9 (dk_at dksX15_renamed_0 5 rfl rfl)
theorem dX15_renamed_8 : decode cX15_renamed 8 = .ok (.aload_n 1, 1) := dk_43 (dk_at dksX15_renamed_0 8 rfl rfl)
theorem dX15_renamed_9 : decode cX15_renamed 9 = .ok (.invokevirtual 25, 3) := dk_182 0 25 (dk_at dksX15_renamed_0 9 rfl rfl)
theorem dX15_renamed_12 : decode cX15_renamed 12 = .ok (.invokespecial 29, 3) := dk_183 0 29 (dk_at dksX15_renamed_0 12 rfl rfl)
theorem dX15_renamed_15 : decode cX15_renamed 15 = .ok (.areturn, 1) := dk_176 (dk_at dksX15_renamed_0 15 rfl rfl)
abbrev cX15_displacement : ByteArray := prog_16_method_3_code
def yX15_displacement : MethodName := ⟨RX15, "displacement", "(IZ)I"⟩
def dkwX15_displacement_0 : List UInt8 := [42, 180, 0, 9, 27, 28, 182, 0, 21, 116, 172]
abbrev dktX15_displacement_0 : List UInt8 := dkwX15_displacement_0 ++ []
theorem dksX15_displacement_0 : cX15_displacement.data.toList.drop 0 = dktX15_displacement_0 := by decide +kernel
theorem dX15_displacement_0 : decode cX15_displacement 0 = .ok (.aload_n 0, 1) := dk_42 (dk_at dksX15_displacement_0 0 rfl rfl)
theorem dX15_displacement_1 : decode cX15_displacement 1 = .ok (.getfield 9, 3) := dk_180 0 9 (dk_at dksX15_displacement_0 1 rfl rfl)
theorem dX15_displacement_4 : decode cX15_displacement 4 = .ok (.iload_n 1, 1) := dk_27 (dk_at dksX15_displacement_0 4 rfl rfl)
theorem dX15_displacement_5 : decode cX15_displacement 5 = .ok (.iload_n 2, 1) := dk_28 (dk_at dksX15_displacement_0 5 rfl rfl)
theorem dX15_displacement_6 : decode cX15_displacement 6 = .ok (.invokevirtual 21, 3) := dk_182 0 21 (dk_at dksX15_displacement_0 6 rfl rfl)
theorem dX15_displacement_9 : decode cX15_displacement 9 = .ok (.ineg, 1) := dk_116 (dk_at dksX15_displacement_0 9 rfl rfl)
theorem dX15_displacement_10 : decode cX15_displacement 10 = .ok (.ireturn, 1) := dk_172 (dk_at dksX15_displacement_0 10 rfl rfl)
theorem q165 : (Jvm.Cond.initialized "DanceNotation$Reversed") ∈ lw_all := lw_g (lw_at lw_m1 48 rfl) rfl
theorem q871 : (Jvm.Cond.selects "DanceNotation$Reversed" ({ cls := "DanceNotation$Parts", name := "partCount", desc := "()I" } : Jvm.MethodName) ({ cls := "DanceNotation$Single", name := "partCount", desc := "()I" } : Jvm.MethodName)) ∈ lw_all := lw_g (lw_at lw_m4 34 rfl) rfl
theorem q890 : (Jvm.Cond.selects "DanceNotation$Reversed" ({ cls := "DanceNotation$Parts", name := "part", desc := "(I)LDanceNotation$Node;" } : Jvm.MethodName) ({ cls := "DanceNotation$Single", name := "part", desc := "(I)LDanceNotation$Node;" } : Jvm.MethodName)) ∈ lw_all := lw_g (lw_at lw_m4 53 rfl) rfl
theorem q1005 : (Jvm.Cond.selects "DanceNotation$Reversed" ({ cls := "java/lang/Object", name := "getClass", desc := "()Ljava/lang/Class;" } : Jvm.MethodName) ({ cls := "java/lang/Object", name := "getClass", desc := "()Ljava/lang/Class;" } : Jvm.MethodName)) ∈ lw_all := lw_g (lw_at lw_m4 168 rfl) rfl
theorem q1110 : (Jvm.Cond.selects "DanceNotation$Reversed" ({ cls := "DanceNotation$Node", name := "score", desc := "()LDanceNotation$Score;" } : Jvm.MethodName) ({ cls := "DanceNotation$Node", name := "score", desc := "()LDanceNotation$Score;" } : Jvm.MethodName)) ∈ lw_all := lw_g (lw_at lw_m5 33 rfl) rfl
theorem q1138 : (Jvm.Cond.selects "DanceNotation$Reversed" ({ cls := "DanceNotation$Node", name := "length", desc := "()I" } : Jvm.MethodName) ({ cls := "DanceNotation$Single", name := "length", desc := "()I" } : Jvm.MethodName)) ∈ lw_all := lw_g (lw_at lw_m5 61 rfl) rfl
theorem q1229 : (Jvm.Cond.instanceMethod ({ cls := "DanceNotation$Reversed", name := "perform", desc := "(LDanceNotation$Score;IIZ)V" } : Jvm.MethodName)) ∈ lw_all := lw_g (lw_at lw_m5 152 rfl) rfl
theorem q1230 : (Jvm.Cond.code ({ cls := "DanceNotation$Reversed", name := "perform", desc := "(LDanceNotation$Score;IIZ)V" } : Jvm.MethodName) prog_16_method_2_code (5 : Nat) (Option.none : Option Jvm.ClassFile.FieldType)) ∈ lw_all := lw_g (lw_at lw_m5 153 rfl) rfl
theorem q1231 : (Jvm.Cond.methodLink "DanceNotation$Reversed" (15 : Nat) ({ cls := "DanceNotation$Node", name := "perform", desc := "(LDanceNotation$Score;IIZ)V" } : Jvm.MethodName)) ∈ lw_all := lw_g (lw_at lw_m5 154 rfl) rfl
theorem q1238 : (Jvm.Cond.selects "DanceNotation$Reversed" ({ cls := "DanceNotation$Node", name := "perform", desc := "(LDanceNotation$Score;IIZ)V" } : Jvm.MethodName) ({ cls := "DanceNotation$Reversed", name := "perform", desc := "(LDanceNotation$Score;IIZ)V" } : Jvm.MethodName)) ∈ lw_all := lw_g (lw_at lw_m5 161 rfl) rfl
theorem q1300 : (Jvm.Cond.instanceMethod ({ cls := "DanceNotation$Reversed", name := "write", desc := "(Ljava/lang/StringBuilder;)V" } : Jvm.MethodName)) ∈ lw_all := lw_g (lw_at lw_m5 223 rfl) rfl
theorem q1301 : (Jvm.Cond.code ({ cls := "DanceNotation$Reversed", name := "write", desc := "(Ljava/lang/StringBuilder;)V" } : Jvm.MethodName) prog_16_method_5_code (2 : Nat) (Option.none : Option Jvm.ClassFile.FieldType)) ∈ lw_all := lw_g (lw_at lw_m5 224 rfl) rfl
theorem q1302 : (Jvm.Cond.stringRef "DanceNotation$Reversed" (30 : Nat) "r") ∈ lw_tbl := lw_at lw_m5 225 rfl
theorem q1303 : (Jvm.Cond.methodLink "DanceNotation$Reversed" (32 : Nat) ({ cls := "java/lang/StringBuilder", name := "append", desc := "(Ljava/lang/String;)Ljava/lang/StringBuilder;" } : Jvm.MethodName)) ∈ lw_all := lw_g (lw_at lw_m5 226 rfl) rfl
theorem q1304 : (Jvm.Cond.methodLink "DanceNotation$Reversed" (38 : Nat) ({ cls := "DanceNotation$Reversed", name := "writePart", desc := "(Ljava/lang/StringBuilder;LDanceNotation$Node;Z)V" } : Jvm.MethodName)) ∈ lw_all := lw_g (lw_at lw_m5 227 rfl) rfl
theorem q1305 : (Jvm.Cond.sameMethod "DanceNotation$Reversed" "DanceNotation$Node" "writePart" "(Ljava/lang/StringBuilder;LDanceNotation$Node;Z)V") ∈ lw_all := lw_g (lw_at lw_m5 228 rfl) rfl
theorem q1306 : (Jvm.Cond.selects "DanceNotation$Reversed" ({ cls := "DanceNotation$Reversed", name := "writePart", desc := "(Ljava/lang/StringBuilder;LDanceNotation$Node;Z)V" } : Jvm.MethodName) ({ cls := "DanceNotation$Node", name := "writePart", desc := "(Ljava/lang/StringBuilder;LDanceNotation$Node;Z)V" } : Jvm.MethodName)) ∈ lw_all := lw_g (lw_at lw_m5 229 rfl) rfl
theorem q1320 : (Jvm.Cond.selects "DanceNotation$Reversed" ({ cls := "DanceNotation$Node", name := "write", desc := "(Ljava/lang/StringBuilder;)V" } : Jvm.MethodName) ({ cls := "DanceNotation$Reversed", name := "write", desc := "(Ljava/lang/StringBuilder;)V" } : Jvm.MethodName)) ∈ lw_all := lw_g (lw_at lw_m6 3 rfl) rfl
theorem q1927 : (Jvm.Cond.fieldLink "DanceNotation$Reversed" (9 : Nat) "DanceNotation$Reversed" "part" "LDanceNotation$Node;") ∈ lw_all := lw_g (lw_at lw_m8 130 rfl) rfl
theorem q1928 : (Jvm.Cond.sameField "DanceNotation$Reversed" "DanceNotation$Single" "part" "LDanceNotation$Node;") ∈ lw_all := lw_g (lw_at lw_m8 131 rfl) rfl
theorem q1937 : (Jvm.Cond.instantiable "DanceNotation$Reversed" (1 : Nat)) ∈ lw_all := lw_g (lw_at lw_m8 140 rfl) rfl
theorem q1939 : (Jvm.Cond.instanceMethod ({ cls := "DanceNotation$Reversed", name := "<init>", desc := "(LDanceNotation$Node;)V" } : Jvm.MethodName)) ∈ lw_all := lw_g (lw_at lw_m8 142 rfl) rfl
theorem q1940 : (Jvm.Cond.code ({ cls := "DanceNotation$Reversed", name := "<init>", desc := "(LDanceNotation$Node;)V" } : Jvm.MethodName) prog_16_method_1_code (2 : Nat) (Option.none : Option Jvm.ClassFile.FieldType)) ∈ lw_all := lw_g (lw_at lw_m8 143 rfl) rfl
theorem q1941 : (Jvm.Cond.methodLink "DanceNotation$Reversed" (3 : Nat) ({ cls := "DanceNotation$Single", name := "<init>", desc := "(LDanceNotation$Node;)V" } : Jvm.MethodName)) ∈ lw_all := lw_g (lw_at lw_m8 144 rfl) rfl
theorem q1942 : (Jvm.Cond.laysFinal "DanceNotation$Reversed" "DanceNotation$Single" "part" "LDanceNotation$Node;") ∈ lw_all := lw_g (lw_at lw_m8 145 rfl) rfl
theorem q1943 : (Jvm.Cond.superclass "DanceNotation$Reversed" "DanceNotation$Single") ∈ lw_all := lw_g (lw_at lw_m8 146 rfl) rfl
theorem q1975 : (Jvm.Cond.selects "DanceNotation$Reversed" ({ cls := "DanceNotation$Node", name := "checkAll", desc := "()V" } : Jvm.MethodName) ({ cls := "DanceNotation$Node", name := "checkAll", desc := "()V" } : Jvm.MethodName)) ∈ lw_all := lw_g (lw_at lw_m8 178 rfl) rfl
theorem q2035 : (Jvm.Cond.selects "DanceNotation$Reversed" ({ cls := "DanceNotation$Node", name := "cues", desc := "()I" } : Jvm.MethodName) ({ cls := "DanceNotation$Node", name := "cues", desc := "()I" } : Jvm.MethodName)) ∈ lw_all := lw_g (lw_at lw_m8 238 rfl) rfl
theorem q2040 : (Jvm.Cond.selects "DanceNotation$Reversed" ({ cls := "DanceNotation$Node", name := "check", desc := "()V" } : Jvm.MethodName) ({ cls := "DanceNotation$Node", name := "check", desc := "()V" } : Jvm.MethodName)) ∈ lw_all := lw_g (lw_at lw_m9 3 rfl) rfl
theorem q2065 : (Jvm.Cond.castable "DanceNotation$Reversed" "DanceNotation$Parts") ∈ lw_tbl := lw_at lw_m9 28 rfl
theorem q2066 : (Jvm.Cond.unhidden "DanceNotation$Reversed" "partCount" "()I") ∈ lw_tbl := lw_at lw_m9 29 rfl
theorem q2079 : (Jvm.Cond.unhidden "DanceNotation$Reversed" "part" "(I)LDanceNotation$Node;") ∈ lw_tbl := lw_at lw_m9 42 rfl
theorem q2083 : (Jvm.Cond.unhidden "DanceNotation$Reversed" "used" "()I") ∈ lw_tbl := lw_at lw_m9 46 rfl
theorem q2166 : (Jvm.Cond.unhidden "DanceNotation$Reversed" "depth" "()I") ∈ lw_tbl := lw_at lw_m9 129 rfl
theorem q2177 : (Jvm.Cond.unhidden "DanceNotation$Reversed" "nodes" "()I") ∈ lw_tbl := lw_at lw_m9 140 rfl
theorem q2215 : (Jvm.Cond.selects "DanceNotation$Reversed" ({ cls := "DanceNotation$Node", name := "leaves", desc := "()Ljava/util/Iterator;" } : Jvm.MethodName) ({ cls := "DanceNotation$Node", name := "leaves", desc := "()Ljava/util/Iterator;" } : Jvm.MethodName)) ∈ lw_all := lw_g (lw_at lw_m9 178 rfl) rfl
theorem q2257 : (Jvm.Cond.instanceMethod ({ cls := "DanceNotation$Reversed", name := "renamed", desc := "([I)LDanceNotation$Node;" } : Jvm.MethodName)) ∈ lw_all := lw_g (lw_at lw_m9 220 rfl) rfl
theorem q2258 : (Jvm.Cond.code ({ cls := "DanceNotation$Reversed", name := "renamed", desc := "([I)LDanceNotation$Node;" } : Jvm.MethodName) prog_16_method_4_code (2 : Nat) (Option.some (Jvm.ClassFile.FieldType.object "DanceNotation$Node"))) ∈ lw_all := lw_g (lw_at lw_m9 221 rfl) rfl
theorem q2259 : (Jvm.Cond.classLink "DanceNotation$Reversed" (10 : Nat) "DanceNotation$Reversed") ∈ lw_all := lw_g (lw_at lw_m9 222 rfl) rfl
theorem q2260 : (Jvm.Cond.methodLink "DanceNotation$Reversed" (25 : Nat) ({ cls := "DanceNotation$Node", name := "renamed", desc := "([I)LDanceNotation$Node;" } : Jvm.MethodName)) ∈ lw_all := lw_g (lw_at lw_m9 223 rfl) rfl
theorem q2267 : (Jvm.Cond.methodLink "DanceNotation$Reversed" (29 : Nat) ({ cls := "DanceNotation$Reversed", name := "<init>", desc := "(LDanceNotation$Node;)V" } : Jvm.MethodName)) ∈ lw_all := lw_g (lw_at lw_m9 230 rfl) rfl
theorem q2272 : (Jvm.Cond.selects "DanceNotation$Reversed" ({ cls := "DanceNotation$Node", name := "renamed", desc := "([I)LDanceNotation$Node;" } : Jvm.MethodName) ({ cls := "DanceNotation$Reversed", name := "renamed", desc := "([I)LDanceNotation$Node;" } : Jvm.MethodName)) ∈ lw_all := lw_g (lw_at lw_m9 235 rfl) rfl
theorem q2453 : (Jvm.Cond.instanceMethod ({ cls := "DanceNotation$Reversed", name := "displacement", desc := "(IZ)I" } : Jvm.MethodName)) ∈ lw_all := lw_g (lw_at lw_m10 176 rfl) rfl
theorem q2454 : (Jvm.Cond.code ({ cls := "DanceNotation$Reversed", name := "displacement", desc := "(IZ)I" } : Jvm.MethodName) prog_16_method_3_code (3 : Nat) (Option.some Jvm.ClassFile.FieldType.int)) ∈ lw_all := lw_g (lw_at lw_m10 177 rfl) rfl
theorem q2455 : (Jvm.Cond.methodLink "DanceNotation$Reversed" (21 : Nat) ({ cls := "DanceNotation$Node", name := "displacement", desc := "(IZ)I" } : Jvm.MethodName)) ∈ lw_all := lw_g (lw_at lw_m10 178 rfl) rfl
theorem q2461 : (Jvm.Cond.selects "DanceNotation$Reversed" ({ cls := "DanceNotation$Node", name := "displacement", desc := "(IZ)I" } : Jvm.MethodName) ({ cls := "DanceNotation$Reversed", name := "displacement", desc := "(IZ)I" } : Jvm.MethodName)) ∈ lw_all := lw_g (lw_at lw_m10 184 rfl) rfl
theorem q3310 : (Jvm.Cond.castable "DanceNotation$Reversed" "DanceNotation$Node") ∈ lw_tbl := lw_at lw_m14 73 rfl
theorem q3338 : (Jvm.Cond.castable "DanceNotation$Reversed" "java/lang/Object") ∈ lw_tbl := lw_at lw_m14 101 rfl
theorem in_X15 : ∀ w ∈ wsX150, w ∈ lw_all := lw_in wsX150 [1942] (by decide +kernel) (by decide +kernel)

/-! DanceNotation$Several -/
set_option maxRecDepth 100000
def RX16 : String := "DanceNotation$Several"
def TX16 : u_T := fun k => match k with
  | 0 => ("DanceNotation$Several", "isLayer", "Z", true)
  | _ => ("DanceNotation$Several", "parts", "Ljava/util/ArrayList;", true)
def tyX16 : Nat → FieldType := fun k => match k with
  | 0 => .boolean
  | _ => .object "java/util/ArrayList"
abbrev wsX160 : List Cond := u_ws RX16 TX16 2
theorem nmX16 : ∀ a, a < 2 → ∀ b, b < 2 → a ≠ b → (TX16 a).2.1 ≠ (TX16 b).2.1 := by decide +kernel
theorem tyX16_ok : ∀ k, k < 2 → parseFieldDescriptor (TX16 k).2.2.1 = some (tyX16 k) := by decide +kernel
abbrev cX16_partCount : ByteArray := prog_18_method_3_code
def yX16_partCount : MethodName := ⟨RX16, "partCount", "()I"⟩
def dkwX16_partCount_0 : List UInt8 := [42, 180, 0, 15, 182, 0, 19, 172]
abbrev dktX16_partCount_0 : List UInt8 := dkwX16_partCount_0 ++ []
theorem dksX16_partCount_0 : cX16_partCount.data.toList.drop 0 = dktX16_partCount_0 := by decide +kernel
theorem dX16_partCount_0 : decode cX16_partCount 0 = .ok (.aload_n 0, 1) := dk_42 (dk_at dksX16_partCount_0 0 rfl rfl)
theorem dX16_partCount_1 : decode cX16_partCount 1 = .ok (.getfield 15, 3) := dk_180 0 15 (dk_at dksX16_partCount_0 1 rfl rfl)
theorem dX16_partCount_4 : decode cX16_partCount 4 = .ok (.invokevirtual 19, 3) := dk_182 0 19 (dk_at dksX16_partCount_0 4 rfl rfl)
theorem dX16_partCount_7 : decode cX16_partCount 7 = .ok (.ireturn, 1) := dk_172 (dk_at dksX16_partCount_0 7 rfl rfl)
abbrev cX16_part : ByteArray := prog_18_method_4_code
def yX16_part : MethodName := ⟨RX16, "part", "(I)LDanceNotation$Node;"⟩
def dkwX16_part_0 : List UInt8 := [42, 180, 0, 15, 27, 182, 0, 25, 192, 0, 4, 176]
abbrev dktX16_part_0 : List UInt8 := dkwX16_part_0 ++ []
theorem dksX16_part_0 : cX16_part.data.toList.drop 0 = dktX16_part_0 := by decide +kernel
theorem dX16_part_0 : decode cX16_part 0 = .ok (.aload_n 0, 1) := dk_42 (dk_at dksX16_part_0 0 rfl rfl)
theorem dX16_part_1 : decode cX16_part 1 = .ok (.getfield 15, 3) := dk_180 0 15 (dk_at dksX16_part_0 1 rfl rfl)
theorem dX16_part_4 : decode cX16_part 4 = .ok (.iload_n 1, 1) := dk_27 (dk_at dksX16_part_0 4 rfl rfl)
theorem dX16_part_5 : decode cX16_part 5 = .ok (.invokevirtual 25, 3) := dk_182 0 25 (dk_at dksX16_part_0 5 rfl rfl)
theorem dX16_part_8 : decode cX16_part 8 = .ok (.checkcast 4, 3) := dk_192 0 4 (dk_at dksX16_part_0 8 rfl rfl)
theorem dX16_part_11 : decode cX16_part 11 = .ok (.areturn, 1) := dk_176 (dk_at dksX16_part_0 11 rfl rfl)
abbrev cX16_length : ByteArray := prog_18_method_5_code
def yX16_length : MethodName := ⟨RX16, "length", "()I"⟩
def dkwX16_length_2 : List UInt8 := [182, 0, 32, 96, 60, 132, 2, 1, 167, 255, 205, 27, 172]
abbrev dktX16_length_2 : List UInt8 := dkwX16_length_2 ++ []
def dkwX16_length_1 : List UInt8 := [192, 0, 4, 78, 42, 180, 0, 9, 153, 0, 14, 27, 45, 182, 0, 32, 184, 0, 35, 167, 0, 9, 27, 45]
abbrev dktX16_length_1 : List UInt8 := dkwX16_length_1 ++ dktX16_length_2
def dkwX16_length_0 : List UInt8 := [3, 60, 3, 61, 28, 42, 180, 0, 15, 182, 0, 19, 162, 0, 46, 42, 180, 0, 15, 28, 182, 0, 25]
abbrev dktX16_length_0 : List UInt8 := dkwX16_length_0 ++ dktX16_length_1
theorem dksX16_length_0 : cX16_length.data.toList.drop 0 = dktX16_length_0 := by decide +kernel
theorem dksX16_length_1 : cX16_length.data.toList.drop 23 = dktX16_length_1 := dk_seg dksX16_length_0 23 rfl rfl
theorem dksX16_length_2 : cX16_length.data.toList.drop 47 = dktX16_length_2 := dk_seg dksX16_length_1 24 rfl rfl
theorem dX16_length_0 : decode cX16_length 0 = .ok (.iconst 0, 1) := dk_3 (dk_at dksX16_length_0 0 rfl rfl)
theorem dX16_length_1 : decode cX16_length 1 = .ok (.istore_n 1, 1) := dk_60 (dk_at dksX16_length_0 1 rfl rfl)
theorem dX16_length_2 : decode cX16_length 2 = .ok (.iconst 0, 1) := dk_3 (dk_at dksX16_length_0 2 rfl rfl)
theorem dX16_length_3 : decode cX16_length 3 = .ok (.istore_n 2, 1) := dk_61 (dk_at dksX16_length_0 3 rfl rfl)
theorem dX16_length_4 : decode cX16_length 4 = .ok (.iload_n 2, 1) := dk_28 (dk_at dksX16_length_0 4 rfl rfl)
theorem dX16_length_5 : decode cX16_length 5 = .ok (.aload_n 0, 1) := dk_42 (dk_at dksX16_length_0 5 rfl rfl)
theorem dX16_length_6 : decode cX16_length 6 = .ok (.getfield 15, 3) := dk_180 0 15 (dk_at dksX16_length_0 6 rfl rfl)
theorem dX16_length_9 : decode cX16_length 9 = .ok (.invokevirtual 19, 3) := dk_182 0 19 (dk_at dksX16_length_0 9 rfl rfl)
theorem dX16_length_12 : decode cX16_length 12 = .ok (.if_icmp .ge 46, 3) := dk_162 0 46 (dk_at dksX16_length_0 12 rfl rfl)
theorem dX16_length_15 : decode cX16_length 15 = .ok (.aload_n 0, 1) := dk_42 (dk_at dksX16_length_0 15 rfl rfl)
theorem dX16_length_16 : decode cX16_length 16 = .ok (.getfield 15, 3) := dk_180 0 15 (dk_at dksX16_length_0 16 rfl rfl)
theorem dX16_length_19 : decode cX16_length 19 = .ok (.iload_n 2, 1) := dk_28 (dk_at dksX16_length_0 19 rfl rfl)
theorem dX16_length_20 : decode cX16_length 20 = .ok (.invokevirtual 25, 3) := dk_182 0 25 (dk_at dksX16_length_0 20 rfl rfl)
theorem dX16_length_23 : decode cX16_length 23 = .ok (.checkcast 4, 3) := dk_192 0 4 (dk_at dksX16_length_1 0 rfl rfl)
theorem dX16_length_26 : decode cX16_length 26 = .ok (.astore_n 3, 1) := dk_78 (dk_at dksX16_length_1 3 rfl rfl)
theorem dX16_length_27 : decode cX16_length 27 = .ok (.aload_n 0, 1) := dk_42 (dk_at dksX16_length_1 4 rfl rfl)
theorem dX16_length_28 : decode cX16_length 28 = .ok (.getfield 9, 3) := dk_180 0 9 (dk_at dksX16_length_1 5 rfl rfl)
theorem dX16_length_31 : decode cX16_length 31 = .ok (.ifCond .eq 14, 3) := dk_153 0 14 (dk_at dksX16_length_1 8 rfl rfl)
theorem dX16_length_34 : decode cX16_length 34 = .ok (.iload_n 1, 1) := dk_27 (dk_at dksX16_length_1 11 rfl rfl)
theorem dX16_length_35 : decode cX16_length 35 = .ok (.aload_n 3, 1) := dk_45 (dk_at dksX16_length_1 12 rfl rfl)
theorem dX16_length_36 : decode cX16_length 36 = .ok (.invokevirtual 32, 3) := dk_182 0 32 (dk_at dksX16_length_1 13 rfl rfl)
theorem dX16_length_39 : decode cX16_length 39 = .ok (.invokestatic 35, 3) := dk_184 0 35 (dk_at dksX16_length_1 16 rfl rfl)
theorem dX16_length_42 : decode cX16_length 42 = .ok (.goto 9, 3) := dk_167 0 9 (dk_at dksX16_length_1 19 rfl rfl)
theorem dX16_length_45 : decode cX16_length 45 = .ok (.iload_n 1, 1) := dk_27 (dk_at dksX16_length_1 22 rfl rfl)
theorem dX16_length_46 : decode cX16_length 46 = .ok (.aload_n 3, 1) := dk_45 (dk_at dksX16_length_1 23 rfl rfl)
theorem dX16_length_47 : decode cX16_length 47 = .ok (.invokevirtual 32, 3) := dk_182 0 32 (dk_at dksX16_length_2 0 rfl rfl)
theorem dX16_length_50 : decode cX16_length 50 = .ok (.iadd, 1) := dk_96 (dk_at dksX16_length_2 3 rfl rfl)
theorem dX16_length_51 : decode cX16_length 51 = .ok (.istore_n 1, 1) := dk_60 (dk_at dksX16_length_2 4 rfl rfl)
theorem dX16_length_52 : decode cX16_length 52 = .ok (.iinc 2 1, 3) := dk_132 2 1 (dk_at dksX16_length_2 5 rfl rfl)
theorem dX16_length_55 : decode cX16_length 55 = .ok (.goto (-51), 3) := dk_167 255 205 (dk_at dksX16_length_2 8 rfl rfl)
theorem dX16_length_58 : decode cX16_length 58 = .ok (.iload_n 1, 1) := dk_27 (dk_at dksX16_length_2 11 rfl rfl)
theorem dX16_length_59 : decode cX16_length 59 = .ok (.ireturn, 1) := dk_172 (dk_at dksX16_length_2 12 rfl rfl)
abbrev cX16_perform : ByteArray := prog_18_method_7_code
def yX16_perform : MethodName := ⟨RX16, "perform", "(LDanceNotation$Score;IIZ)V"⟩
def dkwX16_perform_4 : List UInt8 := [167, 255, 173, 177]
abbrev dktX16_perform_4 : List UInt8 := dkwX16_perform_4 ++ []
def dkwX16_perform_3 : List UInt8 := [182, 0, 59, 21, 5, 42, 180, 0, 9, 153, 0, 7, 3, 167, 0, 5, 21, 9, 96, 54, 5, 132, 7, 1]
abbrev dktX16_perform_3 : List UInt8 := dkwX16_perform_3 ++ dktX16_perform_4
def dkwX16_perform_2 : List UInt8 := [28, 21, 4, 153, 0, 14, 21, 6, 21, 5, 100, 21, 9, 100, 167, 0, 5, 21, 5, 96, 29, 21, 4]
abbrev dktX16_perform_2 : List UInt8 := dkwX16_perform_2 ++ dktX16_perform_3
def dkwX16_perform_1 : List UInt8 := [42, 180, 0, 15, 21, 7, 182, 0, 25, 192, 0, 4, 58, 8, 25, 8, 182, 0, 32, 54, 9, 25, 8, 43]
abbrev dktX16_perform_1 : List UInt8 := dkwX16_perform_1 ++ dktX16_perform_2
def dkwX16_perform_0 : List UInt8 := [3, 54, 5, 42, 182, 0, 58, 54, 6, 3, 54, 7, 21, 7, 42, 180, 0, 15, 182, 0, 19, 162, 0, 77]
abbrev dktX16_perform_0 : List UInt8 := dkwX16_perform_0 ++ dktX16_perform_1
theorem dksX16_perform_0 : cX16_perform.data.toList.drop 0 = dktX16_perform_0 := by decide +kernel
theorem dksX16_perform_1 : cX16_perform.data.toList.drop 24 = dktX16_perform_1 := dk_seg dksX16_perform_0 24 rfl rfl
theorem dksX16_perform_2 : cX16_perform.data.toList.drop 48 = dktX16_perform_2 := dk_seg dksX16_perform_1 24 rfl rfl
theorem dksX16_perform_3 : cX16_perform.data.toList.drop 71 = dktX16_perform_3 := dk_seg dksX16_perform_2 23 rfl rfl
theorem dksX16_perform_4 : cX16_perform.data.toList.drop 95 = dktX16_perform_4 := dk_seg dksX16_perform_3 24 rfl rfl
theorem dX16_perform_0 : decode cX16_perform 0 = .ok (.iconst 0, 1) := dk_3 (dk_at dksX16_perform_0 0 rfl rfl)
theorem dX16_perform_1 : decode cX16_perform 1 = .ok (.istore 5, 2) := dk_54 5 (dk_at dksX16_perform_0 1 rfl rfl)
theorem dX16_perform_3 : decode cX16_perform 3 = .ok (.aload_n 0, 1) := dk_42 (dk_at dksX16_perform_0 3 rfl rfl)
theorem dX16_perform_4 : decode cX16_perform 4 = .ok (.invokevirtual 58, 3) := dk_182 0 58 (dk_at dksX16_perform_0 4 rfl rfl)
theorem dX16_perform_7 : decode cX16_perform 7 = .ok (.istore 6, 2) := dk_54 6 (dk_at dksX16_perform_0 7 rfl rfl)
theorem dX16_perform_9 : decode cX16_perform 9 = .ok (.iconst 0, 1) := dk_3 (dk_at dksX16_perform_0 9 rfl rfl)
theorem dX16_perform_10 : decode cX16_perform 10 = .ok (.istore 7, 2) := dk_54 7 (dk_at dksX16_perform_0 10 rfl rfl)
theorem dX16_perform_12 : decode cX16_perform 12 = .ok (.iload 7, 2) := dk_21 7 (dk_at dksX16_perform_0 12 rfl rfl)
theorem dX16_perform_14 : decode cX16_perform 14 = .ok (.aload_n 0, 1) := dk_42 (dk_at dksX16_perform_0 14 rfl rfl)
theorem dX16_perform_15 : decode cX16_perform 15 = .ok (.getfield 15, 3) := dk_180 0 15 (dk_at dksX16_perform_0 15 rfl rfl)
theorem dX16_perform_18 : decode cX16_perform 18 = .ok (.invokevirtual 19, 3) := dk_182 0 19 (dk_at dksX16_perform_0 18 rfl rfl)
theorem dX16_perform_21 : decode cX16_perform 21 = .ok (.if_icmp .ge 77, 3) := dk_162 0 77 (dk_at dksX16_perform_0 21 rfl rfl)
theorem dX16_perform_24 : decode cX16_perform 24 = .ok (.aload_n 0, 1) := dk_42 (dk_at dksX16_perform_1 0 rfl rfl)
theorem dX16_perform_25 : decode cX16_perform 25 = .ok (.getfield 15, 3) := dk_180 0 15 (dk_at dksX16_perform_1 1 rfl rfl)
theorem dX16_perform_28 : decode cX16_perform 28 = .ok (.iload 7, 2) := dk_21 7 (dk_at dksX16_perform_1 4 rfl rfl)
theorem dX16_perform_30 : decode cX16_perform 30 = .ok (.invokevirtual 25, 3) := dk_182 0 25 (dk_at dksX16_perform_1 6 rfl rfl)
theorem dX16_perform_33 : decode cX16_perform 33 = .ok (.checkcast 4, 3) := dk_192 0 4 (dk_at dksX16_perform_1 9 rfl rfl)
theorem dX16_perform_36 : decode cX16_perform 36 = .ok (.astore 8, 2) := dk_58 8 (dk_at dksX16_perform_1 12 rfl rfl)
theorem dX16_perform_38 : decode cX16_perform 38 = .ok (.aload 8, 2) := dk_25 8 (dk_at dksX16_perform_1 14 rfl rfl)
theorem dX16_perform_40 : decode cX16_perform 40 = .ok (.invokevirtual 32, 3) := dk_182 0 32 (dk_at dksX16_perform_1 16 rfl rfl)
theorem dX16_perform_43 : decode cX16_perform 43 = .ok (.istore 9, 2) := dk_54 9 (dk_at dksX16_perform_1 19 rfl rfl)
theorem dX16_perform_45 : decode cX16_perform 45 = .ok (.aload 8, 2) := dk_25 8 (dk_at dksX16_perform_1 21 rfl rfl)
theorem dX16_perform_47 : decode cX16_perform 47 = .ok (.aload_n 1, 1) := dk_43 (dk_at dksX16_perform_1 23 rfl rfl)
theorem dX16_perform_48 : decode cX16_perform 48 = .ok (.iload_n 2, 1) := dk_28 (dk_at dksX16_perform_2 0 rfl rfl)
theorem dX16_perform_49 : decode cX16_perform 49 = .ok (.iload 4, 2) := dk_21 4 (dk_at dksX16_perform_2 1 rfl rfl)
theorem dX16_perform_51 : decode cX16_perform 51 = .ok (.ifCond .eq 14, 3) := dk_153 0 14 (dk_at dksX16_perform_2 3 rfl rfl)
theorem dX16_perform_54 : decode cX16_perform 54 = .ok (.iload 6, 2) := dk_21 6 (dk_at dksX16_perform_2 6 rfl rfl)
theorem dX16_perform_56 : decode cX16_perform 56 = .ok (.iload 5, 2) := dk_21 5 (dk_at dksX16_perform_2 8 rfl rfl)
theorem dX16_perform_58 : decode cX16_perform 58 = .ok (.isub, 1) := dk_100 (dk_at dksX16_perform_2 10 rfl rfl)
theorem dX16_perform_59 : decode cX16_perform 59 = .ok (.iload 9, 2) := dk_21 9 (dk_at dksX16_perform_2 11 rfl rfl)
theorem dX16_perform_61 : decode cX16_perform 61 = .ok (.isub, 1) := dk_100 (dk_at dksX16_perform_2 13 rfl rfl)
theorem dX16_perform_62 : decode cX16_perform 62 = .ok (.goto 5, 3) := dk_167 0 5 (dk_at dksX16_perform_2 14 rfl rfl)
theorem dX16_perform_65 : decode cX16_perform 65 = .ok (.iload 5, 2) := dk_21 5 (dk_at dksX16_perform_2 17 rfl rfl)
theorem dX16_perform_67 : decode cX16_perform 67 = .ok (.iadd, 1) := dk_96 (dk_at dksX16_perform_2 19 rfl rfl)
theorem dX16_perform_68 : decode cX16_perform 68 = .ok (.iload_n 3, 1) := dk_29 (dk_at dksX16_perform_2 20 rfl rfl)
theorem dX16_perform_69 : decode cX16_perform 69 = .ok (.iload 4, 2) := dk_21 4 (dk_at dksX16_perform_2 21 rfl rfl)
theorem dX16_perform_71 : decode cX16_perform 71 = .ok (.invokevirtual 59, 3) := dk_182 0 59 (dk_at dksX16_perform_3 0 rfl rfl)
theorem dX16_perform_74 : decode cX16_perform 74 = .ok (.iload 5, 2) := dk_21 5 (dk_at dksX16_perform_3 3 rfl rfl)
theorem dX16_perform_76 : decode cX16_perform 76 = .ok (.aload_n 0, 1) := dk_42 (dk_at dksX16_perform_3 5 rfl rfl)
theorem dX16_perform_77 : decode cX16_perform 77 = .ok (.getfield 9, 3) := dk_180 0 9 (dk_at dksX16_perform_3 6 rfl rfl)
theorem dX16_perform_80 : decode cX16_perform 80 = .ok (.ifCond .eq 7, 3) := dk_153 0 7 (dk_at dksX16_perform_3 9 rfl rfl)
theorem dX16_perform_83 : decode cX16_perform 83 = .ok (.iconst 0, 1) := dk_3 (dk_at dksX16_perform_3 12 rfl rfl)
theorem dX16_perform_84 : decode cX16_perform 84 = .ok (.goto 5, 3) := dk_167 0 5 (dk_at dksX16_perform_3 13 rfl rfl)
theorem dX16_perform_87 : decode cX16_perform 87 = .ok (.iload 9, 2) := dk_21 9 (dk_at dksX16_perform_3 16 rfl rfl)
theorem dX16_perform_89 : decode cX16_perform 89 = .ok (.iadd, 1) := dk_96 (dk_at dksX16_perform_3 18 rfl rfl)
theorem dX16_perform_90 : decode cX16_perform 90 = .ok (.istore 5, 2) := dk_54 5 (dk_at dksX16_perform_3 19 rfl rfl)
theorem dX16_perform_92 : decode cX16_perform 92 = .ok (.iinc 7 1, 3) := dk_132 7 1 (dk_at dksX16_perform_3 21 rfl rfl)
theorem dX16_perform_95 : decode cX16_perform 95 = .ok (.goto (-83), 3) := dk_167 255 173 (dk_at dksX16_perform_4 0 rfl rfl)
theorem dX16_perform_98 : decode cX16_perform 98 = .ok (.return_, 1) := dk_177 (dk_at dksX16_perform_4 3 rfl rfl)
abbrev cX16_write : ByteArray := prog_18_method_10_code
def yX16_write : MethodName := ⟨RX16, "write", "(Ljava/lang/StringBuilder;)V"⟩
def dkwX16_write_4 : List UInt8 := [180, 0, 15, 28, 182, 0, 25, 192, 0, 4, 29, 182, 0, 88, 132, 2, 1, 167, 255, 151, 177]
abbrev dktX16_write_4 : List UInt8 := dkwX16_write_4 ++ []
def dkwX16_write_3 : List UInt8 := [180, 0, 9, 153, 0, 10, 42, 180, 0, 9, 153, 0, 7, 4, 167, 0, 4, 3, 62, 42, 43, 42]
abbrev dktX16_write_3 : List UInt8 := dkwX16_write_3 ++ dktX16_write_4
def dkwX16_write_2 : List UInt8 := [182, 0, 25, 58, 5, 25, 5, 193, 0, 10, 153, 0, 29, 25, 5, 192, 0, 10, 58, 4, 25, 4]
abbrev dktX16_write_2 : List UInt8 := dkwX16_write_2 ++ dktX16_write_3
def dkwX16_write_1 : List UInt8 := [180, 0, 9, 153, 0, 8, 18, 78, 167, 0, 5, 18, 80, 182, 0, 82, 87, 42, 180, 0, 15, 28]
abbrev dktX16_write_1 : List UInt8 := dkwX16_write_1 ++ dktX16_write_2
def dkwX16_write_0 : List UInt8 := [3, 61, 28, 42, 180, 0, 15, 182, 0, 19, 162, 0, 100, 43, 28, 154, 0, 8, 18, 76, 167, 0, 17, 42]
abbrev dktX16_write_0 : List UInt8 := dkwX16_write_0 ++ dktX16_write_1
theorem dksX16_write_0 : cX16_write.data.toList.drop 0 = dktX16_write_0 := by decide +kernel
theorem dksX16_write_1 : cX16_write.data.toList.drop 24 = dktX16_write_1 := dk_seg dksX16_write_0 24 rfl rfl
theorem dksX16_write_2 : cX16_write.data.toList.drop 46 = dktX16_write_2 := dk_seg dksX16_write_1 22 rfl rfl
theorem dksX16_write_3 : cX16_write.data.toList.drop 68 = dktX16_write_3 := dk_seg dksX16_write_2 22 rfl rfl
theorem dksX16_write_4 : cX16_write.data.toList.drop 90 = dktX16_write_4 := dk_seg dksX16_write_3 22 rfl rfl
theorem dX16_write_0 : decode cX16_write 0 = .ok (.iconst 0, 1) := dk_3 (dk_at dksX16_write_0 0 rfl rfl)
theorem dX16_write_1 : decode cX16_write 1 = .ok (.istore_n 2, 1) := dk_61 (dk_at dksX16_write_0 1 rfl rfl)
theorem dX16_write_2 : decode cX16_write 2 = .ok (.iload_n 2, 1) := dk_28 (dk_at dksX16_write_0 2 rfl rfl)
theorem dX16_write_3 : decode cX16_write 3 = .ok (.aload_n 0, 1) := dk_42 (dk_at dksX16_write_0 3 rfl rfl)
theorem dX16_write_4 : decode cX16_write 4 = .ok (.getfield 15, 3) := dk_180 0 15 (dk_at dksX16_write_0 4 rfl rfl)
theorem dX16_write_7 : decode cX16_write 7 = .ok (.invokevirtual 19, 3) := dk_182 0 19 (dk_at dksX16_write_0 7 rfl rfl)
theorem dX16_write_10 : decode cX16_write 10 = .ok (.if_icmp .ge 100, 3) := dk_162 0 100 (dk_at dksX16_write_0 10 rfl rfl)
theorem dX16_write_13 : decode cX16_write 13 = .ok (.aload_n 1, 1) := dk_43 (dk_at dksX16_write_0 13 rfl rfl)
theorem dX16_write_14 : decode cX16_write 14 = .ok (.iload_n 2, 1) := dk_28 (dk_at dksX16_write_0 14 rfl rfl)
theorem dX16_write_15 : decode cX16_write 15 = .ok (.ifCond .ne 8, 3) := dk_154 0 8 (dk_at dksX16_write_0 15 rfl rfl)
theorem dX16_write_18 : decode cX16_write 18 = .ok (.ldc 76, 2) := dk_18 76 (dk_at dksX16_write_0 18 rfl rfl)
theorem dX16_write_20 : decode cX16_write 20 = .ok (.goto 17, 3) := dk_167 0 17 (dk_at dksX16_write_0 20 rfl rfl)
theorem dX16_write_23 : decode cX16_write 23 = .ok (.aload_n 0, 1) := dk_42 (dk_at dksX16_write_0 23 rfl rfl)
theorem dX16_write_24 : decode cX16_write 24 = .ok (.getfield 9, 3) := dk_180 0 9 (dk_at dksX16_write_1 0 rfl rfl)
theorem dX16_write_27 : decode cX16_write 27 = .ok (.ifCond .eq 8, 3) := dk_153 0 8 (dk_at dksX16_write_1 3 rfl rfl)
theorem dX16_write_30 : decode cX16_write 30 = .ok (.ldc 78, 2) := dk_18 78 (dk_at dksX16_write_1 6 rfl rfl)
theorem dX16_write_32 : decode cX16_write 32 = .ok (.goto 5, 3) := dk_167 0 5 (dk_at dksX16_write_1 8 rfl rfl)
theorem dX16_write_35 : decode cX16_write 35 = .ok (.ldc 80, 2) := dk_18 80 (dk_at dksX16_write_1 11 rfl rfl)
theorem dX16_write_37 : decode cX16_write 37 = .ok (.invokevirtual 82, 3) := dk_182 0 82 (dk_at dksX16_write_1 13 rfl rfl)
theorem dX16_write_40 : decode cX16_write 40 = .ok (.pop, 1) := dk_87 (dk_at dksX16_write_1 16 rfl rfl)
theorem dX16_write_41 : decode cX16_write 41 = .ok (.aload_n 0, 1) := dk_42 (dk_at dksX16_write_1 17 rfl rfl)
theorem dX16_write_42 : decode cX16_write 42 = .ok (.getfield 15, 3) := dk_180 0 15 (dk_at dksX16_write_1 18 rfl rfl)
theorem dX16_write_45 : decode cX16_write 45 = .ok (.iload_n 2, 1) := dk_28 (dk_at dksX16_write_1 21 rfl rfl)
theorem dX16_write_46 : decode cX16_write 46 = .ok (.invokevirtual 25, 3) := dk_182 0 25 (dk_at dksX16_write_2 0 rfl rfl)
theorem dX16_write_49 : decode cX16_write 49 = .ok (.astore 5, 2) := dk_58 5 (dk_at dksX16_write_2 3 rfl rfl)
theorem dX16_write_51 : decode cX16_write 51 = .ok (.aload 5, 2) := dk_25 5 (dk_at dksX16_write_2 5 rfl rfl)
theorem dX16_write_53 : decode cX16_write 53 = .ok (.instanceof 10, 3) := dk_193 0 10 (dk_at dksX16_write_2 7 rfl rfl)
theorem dX16_write_56 : decode cX16_write 56 = .ok (.ifCond .eq 29, 3) := dk_153 0 29 (dk_at dksX16_write_2 10 rfl rfl)
theorem dX16_write_59 : decode cX16_write 59 = .ok (.aload 5, 2) := dk_25 5 (dk_at dksX16_write_2 13 rfl rfl)
theorem dX16_write_61 : decode cX16_write 61 = .ok (.checkcast 10, 3) := dk_192 0 10 (dk_at dksX16_write_2 15 rfl rfl)
theorem dX16_write_64 : decode cX16_write 64 = .ok (.astore 4, 2) := dk_58 4 (dk_at dksX16_write_2 18 rfl rfl)
theorem dX16_write_66 : decode cX16_write 66 = .ok (.aload 4, 2) := dk_25 4 (dk_at dksX16_write_2 20 rfl rfl)
theorem dX16_write_68 : decode cX16_write 68 = .ok (.getfield 9, 3) := dk_180 0 9 (dk_at dksX16_write_3 0 rfl rfl)
theorem dX16_write_71 : decode cX16_write 71 = .ok (.ifCond .eq 10, 3) := dk_153 0 10 (dk_at dksX16_write_3 3 rfl rfl)
theorem dX16_write_74 : decode cX16_write 74 = .ok (.aload_n 0, 1) := dk_42 (dk_at dksX16_write_3 6 rfl rfl)
theorem dX16_write_75 : decode cX16_write 75 = .ok (.getfield 9, 3) := dk_180 0 9 (dk_at dksX16_write_3 7 rfl rfl)
theorem dX16_write_78 : decode cX16_write 78 = .ok (.ifCond .eq 7, 3) := dk_153 0 7 (dk_at dksX16_write_3 10 rfl rfl)
theorem dX16_write_81 : decode cX16_write 81 = .ok (.iconst 1, 1) := dk_4 (dk_at dksX16_write_3 13 rfl rfl)
theorem dX16_write_82 : decode cX16_write 82 = .ok (.goto 4, 3) := dk_167 0 4 (dk_at dksX16_write_3 14 rfl rfl)
theorem dX16_write_85 : decode cX16_write 85 = .ok (.iconst 0, 1) := dk_3 (dk_at dksX16_write_3 17 rfl rfl)
theorem dX16_write_86 : decode cX16_write 86 = .ok (.istore_n 3, 1) := dk_62 (dk_at dksX16_write_3 18 rfl rfl)
theorem dX16_write_87 : decode cX16_write 87 = .ok (.aload_n 0, 1) := dk_42 (dk_at dksX16_write_3 19 rfl rfl)
theorem dX16_write_88 : decode cX16_write 88 = .ok (.aload_n 1, 1) := dk_43 (dk_at dksX16_write_3 20 rfl rfl)
theorem dX16_write_89 : decode cX16_write 89 = .ok (.aload_n 0, 1) := dk_42 (dk_at dksX16_write_3 21 rfl rfl)
theorem dX16_write_90 : decode cX16_write 90 = .ok (.getfield 15, 3) := dk_180 0 15 (dk_at dksX16_write_4 0 rfl rfl)
theorem dX16_write_93 : decode cX16_write 93 = .ok (.iload_n 2, 1) := dk_28 (dk_at dksX16_write_4 3 rfl rfl)
theorem dX16_write_94 : decode cX16_write 94 = .ok (.invokevirtual 25, 3) := dk_182 0 25 (dk_at dksX16_write_4 4 rfl rfl)
theorem dX16_write_97 : decode cX16_write 97 = .ok (.checkcast 4, 3) := dk_192 0 4 (dk_at dksX16_write_4 7 rfl rfl)
theorem dX16_write_100 : decode cX16_write 100 = .ok (.iload_n 3, 1) := dk_29 (dk_at dksX16_write_4 10 rfl rfl)
theorem dX16_write_101 : decode cX16_write 101 = .ok (.invokevirtual 88, 3) := dk_182 0 88 (dk_at dksX16_write_4 11 rfl rfl)
theorem dX16_write_104 : decode cX16_write 104 = .ok (.iinc 2 1, 3) := dk_132 2 1 (dk_at dksX16_write_4 14 rfl rfl)
theorem dX16_write_107 : decode cX16_write 107 = .ok (.goto (-105), 3) := dk_167 255 151 (dk_at dksX16_write_4 17 rfl rfl)
theorem dX16_write_110 : decode cX16_write 110 = .ok (.return_, 1) := dk_177 (dk_at dksX16_write_4 20 rfl rfl)
abbrev cX16_of : ByteArray := prog_18_method_2_code
def yX16_of : MethodName := ⟨RX16, "of", "(ZLjava/util/ArrayList;)LDanceNotation$Node;"⟩
def dkwX16_of_1 : List UInt8 := [43, 183, 0, 29, 176]
abbrev dktX16_of_1 : List UInt8 := dkwX16_of_1 ++ []
def dkwX16_of_0 : List UInt8 := [43, 182, 0, 19, 4, 160, 0, 14, 43, 3, 182, 0, 25, 192, 0, 4, 167, 0, 12, 187, 0, 10, 89, 26]
abbrev dktX16_of_0 : List UInt8 := dkwX16_of_0 ++ dktX16_of_1
theorem dksX16_of_0 : cX16_of.data.toList.drop 0 = dktX16_of_0 := by decide +kernel
theorem dksX16_of_1 : cX16_of.data.toList.drop 24 = dktX16_of_1 := dk_seg dksX16_of_0 24 rfl rfl
theorem dX16_of_0 : decode cX16_of 0 = .ok (.aload_n 1, 1) := dk_43 (dk_at dksX16_of_0 0 rfl rfl)
theorem dX16_of_1 : decode cX16_of 1 = .ok (.invokevirtual 19, 3) := dk_182 0 19 (dk_at dksX16_of_0 1 rfl rfl)
theorem dX16_of_4 : decode cX16_of 4 = .ok (.iconst 1, 1) := dk_4 (dk_at dksX16_of_0 4 rfl rfl)
theorem dX16_of_5 : decode cX16_of 5 = .ok (.if_icmp .ne 14, 3) := dk_160 0 14 (dk_at dksX16_of_0 5 rfl rfl)
theorem dX16_of_8 : decode cX16_of 8 = .ok (.aload_n 1, 1) := dk_43 (dk_at dksX16_of_0 8 rfl rfl)
theorem dX16_of_9 : decode cX16_of 9 = .ok (.iconst 0, 1) := dk_3 (dk_at dksX16_of_0 9 rfl rfl)
theorem dX16_of_10 : decode cX16_of 10 = .ok (.invokevirtual 25, 3) := dk_182 0 25 (dk_at dksX16_of_0 10 rfl rfl)
theorem dX16_of_13 : decode cX16_of 13 = .ok (.checkcast 4, 3) := dk_192 0 4 (dk_at dksX16_of_0 13 rfl rfl)
theorem dX16_of_16 : decode cX16_of 16 = .ok (.goto 12, 3) := dk_167 0 12 (dk_at dksX16_of_0 16 rfl rfl)
theorem dX16_of_19 : decode cX16_of 19 = .ok (.new 10, 3) := dk_187 0 10 (dk_at dksX16_of_0 19 rfl rfl)
theorem dX16_of_22 : decode cX16_of 22 = .ok (.dup, 1) := dk_89 (dk_at dksX16_of_0 22 rfl rfl)
theorem dX16_of_23 : decode cX16_of 23 = .ok (.iload_n 0, 1) := dk_26 (dk_at dksX16_of_0 23 rfl rfl)
theorem dX16_of_24 : decode cX16_of 24 = .ok (.aload_n 1, 1) := dk_43 (dk_at dksX16_of_1 0 rfl rfl)
theorem dX16_of_25 : decode cX16_of 25 = .ok (.invokespecial 29, 3) := dk_183 0 29 (dk_at dksX16_of_1 1 rfl rfl)
theorem dX16_of_28 : decode cX16_of 28 = .ok (.areturn, 1) := dk_176 (dk_at dksX16_of_1 4 rfl rfl)
abbrev cX16_init : ByteArray := prog_18_method_1_code
def yX16_init : MethodName := ⟨RX16, "<init>", "(ZLjava/util/ArrayList;)V"⟩
def dkwX16_init_0 : List UInt8 := [42, 183, 0, 3, 42, 27, 181, 0, 9, 42, 44, 181, 0, 15, 177]
abbrev dktX16_init_0 : List UInt8 := dkwX16_init_0 ++ []
theorem dksX16_init_0 : cX16_init.data.toList.drop 0 = dktX16_init_0 := by decide +kernel
theorem dX16_init_0 : decode cX16_init 0 = .ok (.aload_n 0, 1) := dk_42 (dk_at dksX16_init_0 0 rfl rfl)
theorem dX16_init_1 : decode cX16_init 1 = .ok (.invokespecial 3, 3) := dk_183 0 3 (dk_at dksX16_init_0 1 rfl rfl)
theorem dX16_init_4 : decode cX16_init 4 = .ok (.aload_n 0, 1) := dk_42 (dk_at dksX16_init_0 4 rfl rfl)
theorem dX16_init_5 : decode cX16_init 5 = .ok (.iload_n 1, 1) := dk_27 (dk_at dksX16_init_0 5 rfl rfl)
theorem dX16_init_6 : decode cX16_init 6 = .ok (.putfield 9, 3) := dk_181 0 9 (dk_at dksX16_init_0 6 rfl rfl)
theorem dX16_init_9 : decode cX16_init 9 = .ok (.aload_n 0, 1) := dk_42 (dk_at dksX16_init_0 9 rfl rfl)
theorem dX16_init_10 : decode cX16_init 10 = .ok (.aload_n 2, 1) := dk_44 (dk_at dksX16_init_0 10 rfl rfl)
theorem dX16_init_11 : decode cX16_init 11 = .ok (.putfield 15, 3) := dk_181 0 15 (dk_at dksX16_init_0 11 rfl rfl)
theorem dX16_init_14 : decode cX16_init 14 = .ok (.return_, 1) := dk_177 (dk_at dksX16_init_0 14 rfl rfl)
abbrev cX16_check : ByteArray := prog_18_method_6_code
def yX16_check : MethodName := ⟨RX16, "check", "()V"⟩
def dkwX16_check_3 : List UInt8 := [187, 0, 44, 89, 4, 28, 184, 0, 46, 183, 0, 52, 191, 42, 183, 0, 55, 177]
abbrev dktX16_check_3 : List UInt8 := dkwX16_check_3 ++ []
def dkwX16_check_2 : List UInt8 := [167, 0, 4, 3, 128, 61, 27, 25, 4, 182, 0, 41, 128, 60, 132, 3, 1, 167, 255, 200, 28, 153, 0, 16]
abbrev dktX16_check_2 : List UInt8 := dkwX16_check_2 ++ dktX16_check_3
def dkwX16_check_1 : List UInt8 := [182, 0, 25, 192, 0, 4, 58, 4, 28, 42, 180, 0, 9, 153, 0, 13, 27, 25, 4, 182, 0, 41, 126]
abbrev dktX16_check_1 : List UInt8 := dkwX16_check_1 ++ dktX16_check_2
def dkwX16_check_0 : List UInt8 := [3, 60, 3, 61, 3, 62, 29, 42, 180, 0, 15, 182, 0, 19, 162, 0, 51, 42, 180, 0, 15, 29]
abbrev dktX16_check_0 : List UInt8 := dkwX16_check_0 ++ dktX16_check_1
theorem dksX16_check_0 : cX16_check.data.toList.drop 0 = dktX16_check_0 := by decide +kernel
theorem dksX16_check_1 : cX16_check.data.toList.drop 22 = dktX16_check_1 := dk_seg dksX16_check_0 22 rfl rfl
theorem dksX16_check_2 : cX16_check.data.toList.drop 45 = dktX16_check_2 := dk_seg dksX16_check_1 23 rfl rfl
theorem dksX16_check_3 : cX16_check.data.toList.drop 69 = dktX16_check_3 := dk_seg dksX16_check_2 24 rfl rfl
theorem dX16_check_0 : decode cX16_check 0 = .ok (.iconst 0, 1) := dk_3 (dk_at dksX16_check_0 0 rfl rfl)
theorem dX16_check_1 : decode cX16_check 1 = .ok (.istore_n 1, 1) := dk_60 (dk_at dksX16_check_0 1 rfl rfl)
theorem dX16_check_2 : decode cX16_check 2 = .ok (.iconst 0, 1) := dk_3 (dk_at dksX16_check_0 2 rfl rfl)
theorem dX16_check_3 : decode cX16_check 3 = .ok (.istore_n 2, 1) := dk_61 (dk_at dksX16_check_0 3 rfl rfl)
theorem dX16_check_4 : decode cX16_check 4 = .ok (.iconst 0, 1) := dk_3 (dk_at dksX16_check_0 4 rfl rfl)
theorem dX16_check_5 : decode cX16_check 5 = .ok (.istore_n 3, 1) := dk_62 (dk_at dksX16_check_0 5 rfl rfl)
theorem dX16_check_6 : decode cX16_check 6 = .ok (.iload_n 3, 1) := dk_29 (dk_at dksX16_check_0 6 rfl rfl)
theorem dX16_check_7 : decode cX16_check 7 = .ok (.aload_n 0, 1) := dk_42 (dk_at dksX16_check_0 7 rfl rfl)
theorem dX16_check_8 : decode cX16_check 8 = .ok (.getfield 15, 3) := dk_180 0 15 (dk_at dksX16_check_0 8 rfl rfl)
theorem dX16_check_11 : decode cX16_check 11 = .ok (.invokevirtual 19, 3) := dk_182 0 19 (dk_at dksX16_check_0 11 rfl rfl)
theorem dX16_check_14 : decode cX16_check 14 = .ok (.if_icmp .ge 51, 3) := dk_162 0 51 (dk_at dksX16_check_0 14 rfl rfl)
theorem dX16_check_17 : decode cX16_check 17 = .ok (.aload_n 0, 1) := dk_42 (dk_at dksX16_check_0 17 rfl rfl)
theorem dX16_check_18 : decode cX16_check 18 = .ok (.getfield 15, 3) := dk_180 0 15 (dk_at dksX16_check_0 18 rfl rfl)
theorem dX16_check_21 : decode cX16_check 21 = .ok (.iload_n 3, 1) := dk_29 (dk_at dksX16_check_0 21 rfl rfl)
theorem dX16_check_22 : decode cX16_check 22 = .ok (.invokevirtual 25, 3) := dk_182 0 25 (dk_at dksX16_check_1 0 rfl rfl)
theorem dX16_check_25 : decode cX16_check 25 = .ok (.checkcast 4, 3) := dk_192 0 4 (dk_at dksX16_check_1 3 rfl rfl)
theorem dX16_check_28 : decode cX16_check 28 = .ok (.astore 4, 2) := dk_58 4 (dk_at dksX16_check_1 6 rfl rfl)
theorem dX16_check_30 : decode cX16_check 30 = .ok (.iload_n 2, 1) := dk_28 (dk_at dksX16_check_1 8 rfl rfl)
theorem dX16_check_31 : decode cX16_check 31 = .ok (.aload_n 0, 1) := dk_42 (dk_at dksX16_check_1 9 rfl rfl)
theorem dX16_check_32 : decode cX16_check 32 = .ok (.getfield 9, 3) := dk_180 0 9 (dk_at dksX16_check_1 10 rfl rfl)
theorem dX16_check_35 : decode cX16_check 35 = .ok (.ifCond .eq 13, 3) := dk_153 0 13 (dk_at dksX16_check_1 13 rfl rfl)
theorem dX16_check_38 : decode cX16_check 38 = .ok (.iload_n 1, 1) := dk_27 (dk_at dksX16_check_1 16 rfl rfl)
theorem dX16_check_39 : decode cX16_check 39 = .ok (.aload 4, 2) := dk_25 4 (dk_at dksX16_check_1 17 rfl rfl)
theorem dX16_check_41 : decode cX16_check 41 = .ok (.invokevirtual 41, 3) := dk_182 0 41 (dk_at dksX16_check_1 19 rfl rfl)
theorem dX16_check_44 : decode cX16_check 44 = .ok (.iand, 1) := dk_126 (dk_at dksX16_check_1 22 rfl rfl)
theorem dX16_check_45 : decode cX16_check 45 = .ok (.goto 4, 3) := dk_167 0 4 (dk_at dksX16_check_2 0 rfl rfl)
theorem dX16_check_48 : decode cX16_check 48 = .ok (.iconst 0, 1) := dk_3 (dk_at dksX16_check_2 3 rfl rfl)
theorem dX16_check_49 : decode cX16_check 49 = .ok (.ior, 1) := dk_128 (dk_at dksX16_check_2 4 rfl rfl)
theorem dX16_check_50 : decode cX16_check 50 = .ok (.istore_n 2, 1) := dk_61 (dk_at dksX16_check_2 5 rfl rfl)
theorem dX16_check_51 : decode cX16_check 51 = .ok (.iload_n 1, 1) := dk_27 (dk_at dksX16_check_2 6 rfl rfl)
theorem dX16_check_52 : decode cX16_check 52 = .ok (.aload 4, 2) := dk_25 4 (dk_at dksX16_check_2 7 rfl rfl)
theorem dX16_check_54 : decode cX16_check 54 = .ok (.invokevirtual 41, 3) := dk_182 0 41 (dk_at dksX16_check_2 9 rfl rfl)
theorem dX16_check_57 : decode cX16_check 57 = .ok (.ior, 1) := dk_128 (dk_at dksX16_check_2 12 rfl rfl)
theorem dX16_check_58 : decode cX16_check 58 = .ok (.istore_n 1, 1) := dk_60 (dk_at dksX16_check_2 13 rfl rfl)
theorem dX16_check_59 : decode cX16_check 59 = .ok (.iinc 3 1, 3) := dk_132 3 1 (dk_at dksX16_check_2 14 rfl rfl)
theorem dX16_check_62 : decode cX16_check 62 = .ok (.goto (-56), 3) := dk_167 255 200 (dk_at dksX16_check_2 17 rfl rfl)
theorem dX16_check_65 : decode cX16_check 65 = .ok (.iload_n 2, 1) := dk_28 (dk_at dksX16_check_2 20 rfl rfl)
theorem dX16_check_66 : decode cX16_check 66 = .ok (.ifCond .eq 16, 3) := dk_153 0 16 (dk_at dksX16_check_2 21 rfl rfl)
theorem dX16_check_69 : decode cX16_check 69 = .ok (.new 44, 3) := dk_187 0 44 (dk_at dksX16_check_3 0 rfl rfl)
theorem dX16_check_72 : decode cX16_check 72 = .ok (.dup, 1) := dk_89 (dk_at dksX16_check_3 3 rfl rfl)
theorem dX16_check_73 : decode cX16_check 73 = .ok (.iconst 1, 1) := dk_4 (dk_at dksX16_check_3 4 rfl rfl)
theorem dX16_check_74 : decode cX16_check 74 = .ok (.iload_n 2, 1) := dk_28 (dk_at dksX16_check_3 5 rfl rfl)
theorem dX16_check_75 : decode cX16_check 75 = .ok (.invokestatic 46, 3) := dk_184 0 46 (dk_at dksX16_check_3 6 rfl rfl)
theorem dX16_check_78 : decode cX16_check 78 = .ok (.invokespecial 52, 3) := dk_183 0 52 (dk_at dksX16_check_3 9 rfl rfl)
theorem dX16_check_81 : decode cX16_check 81 = .ok (.athrow, 1) := dk_191 (dk_at dksX16_check_3 12 rfl rfl)
theorem dX16_check_82 : decode cX16_check 82 = .ok (.aload_n 0, 1) := dk_42 (dk_at dksX16_check_3 13 rfl rfl)
theorem dX16_check_83 : decode cX16_check 83 = .ok (.invokespecial 55, 3) := dk_183 0 55 (dk_at dksX16_check_3 14 rfl rfl)
theorem dX16_check_86 : decode cX16_check 86 = .ok (.return_, 1) := dk_177 (dk_at dksX16_check_3 17 rfl rfl)
abbrev cX16_renamed : ByteArray := prog_18_method_9_code
def yX16_renamed : MethodName := ⟨RX16, "renamed", "([I)LDanceNotation$Node;"⟩
def dkwX16_renamed_2 : List UInt8 := [132, 3, 1, 167, 255, 217, 187, 0, 10, 89, 42, 180, 0, 9, 44, 183, 0, 29, 176]
abbrev dktX16_renamed_2 : List UInt8 := dkwX16_renamed_2 ++ []
def dkwX16_renamed_1 : List UInt8 := [180, 0, 15, 29, 182, 0, 25, 192, 0, 4, 58, 4, 44, 25, 4, 43, 182, 0, 68, 182, 0, 72, 54, 5]
abbrev dktX16_renamed_1 : List UInt8 := dkwX16_renamed_1 ++ dktX16_renamed_2
def dkwX16_renamed_0 : List UInt8 := [187, 0, 20, 89, 183, 0, 67, 77, 3, 62, 29, 42, 180, 0, 15, 182, 0, 19, 162, 0, 34, 42]
abbrev dktX16_renamed_0 : List UInt8 := dkwX16_renamed_0 ++ dktX16_renamed_1
theorem dksX16_renamed_0 : cX16_renamed.data.toList.drop 0 = dktX16_renamed_0 := by decide +kernel
theorem dksX16_renamed_1 : cX16_renamed.data.toList.drop 22 = dktX16_renamed_1 := dk_seg dksX16_renamed_0 22 rfl rfl
theorem dksX16_renamed_2 : cX16_renamed.data.toList.drop 46 = dktX16_renamed_2 := dk_seg dksX16_renamed_1 24 rfl rfl
theorem dX16_renamed_0 : decode cX16_renamed 0 = .ok (.new 20, 3) := dk_187 0 20 (dk_at dksX16_renamed_0 0 rfl rfl)
theorem dX16_renamed_3 : decode cX16_renamed 3 = .ok (.dup, 1) := dk_89 (dk_at dksX16_renamed_0 3 rfl rfl)
theorem dX16_renamed_4 : decode cX16_renamed 4 = .ok (.invokespecial 67, 3) := dk_183 0 67 (dk_at dksX16_renamed_0 4 rfl rfl)
theorem dX16_renamed_7 : decode cX16_renamed 7 = .ok (.astore_n 2, 1) := dk_77 (dk_at dksX16_renamed_0 7 rfl rfl)
theorem dX16_renamed_8 : decode cX16_renamed 8 = .ok (.iconst 0, 1) := dk_3 (dk_at dksX16_renamed_0 8 rfl rfl)
theorem dX16_renamed_9 : decode cX16_renamed 9 = .ok (.istore_n 3, 1) := dk_62 (dk_at dksX16_renamed_0 9 rfl rfl)
theorem dX16_renamed_10 : decode cX16_renamed 10 = .ok (.iload_n 3, 1) := dk_29 (dk_at dksX16_renamed_0 10 rfl rfl)
theorem dX16_renamed_11 : decode cX16_renamed 11 = .ok (.aload_n 0, 1) := dk_42 (dk_at dksX16_renamed_0 11 rfl rfl)
theorem dX16_renamed_12 : decode cX16_renamed 12 = .ok (.getfield 15, 3) := dk_180 0 15 (dk_at dksX16_renamed_0 12 rfl rfl)
theorem dX16_renamed_15 : decode cX16_renamed 15 = .ok (.invokevirtual 19, 3) := dk_182 0 19 (dk_at dksX16_renamed_0 15 rfl rfl)
theorem dX16_renamed_18 : decode cX16_renamed 18 = .ok (.if_icmp .ge 34, 3) := dk_162 0 34 (dk_at dksX16_renamed_0 18 rfl rfl)
theorem dX16_renamed_21 : decode cX16_renamed 21 = .ok (.aload_n 0, 1) := dk_42 (dk_at dksX16_renamed_0 21 rfl rfl)
theorem dX16_renamed_22 : decode cX16_renamed 22 = .ok (.getfield 15, 3) := dk_180 0 15 (dk_at dksX16_renamed_1 0 rfl rfl)
theorem dX16_renamed_25 : decode cX16_renamed 25 = .ok (.iload_n 3, 1) := dk_29 (dk_at dksX16_renamed_1 3 rfl rfl)
theorem dX16_renamed_26 : decode cX16_renamed 26 = .ok (.invokevirtual 25, 3) := dk_182 0 25 (dk_at dksX16_renamed_1 4 rfl rfl)
theorem dX16_renamed_29 : decode cX16_renamed 29 = .ok (.checkcast 4, 3) := dk_192 0 4 (dk_at dksX16_renamed_1 7 rfl rfl)
theorem dX16_renamed_32 : decode cX16_renamed 32 = .ok (.astore 4, 2) := dk_58 4 (dk_at dksX16_renamed_1 10 rfl rfl)
theorem dX16_renamed_34 : decode cX16_renamed 34 = .ok (.aload_n 2, 1) := dk_44 (dk_at dksX16_renamed_1 12 rfl rfl)
theorem dX16_renamed_35 : decode cX16_renamed 35 = .ok (.aload 4, 2) := dk_25 4 (dk_at dksX16_renamed_1 13 rfl rfl)
theorem dX16_renamed_37 : decode cX16_renamed 37 = .ok (.aload_n 1, 1) := dk_43 (dk_at dksX16_renamed_1 15 rfl rfl)
theorem dX16_renamed_38 : decode cX16_renamed 38 = .ok (.invokevirtual 68, 3) := dk_182 0 68 (dk_at dksX16_renamed_1 16 rfl rfl)
theorem dX16_renamed_41 : decode cX16_renamed 41 = .ok (.invokevirtual 72, 3) := dk_182 0 72 (dk_at dksX16_renamed_1 19 rfl rfl)
theorem dX16_renamed_44 : decode cX16_renamed 44 = .ok (.istore 5, 2) := dk_54 5 (dk_at dksX16_renamed_1 22 rfl rfl)
theorem dX16_renamed_46 : decode cX16_renamed 46 = .ok (.iinc 3 1, 3) := dk_132 3 1 (dk_at dksX16_renamed_2 0 rfl rfl)
theorem dX16_renamed_49 : decode cX16_renamed 49 = .ok (.goto (-39), 3) := dk_167 255 217 (dk_at dksX16_renamed_2 3 rfl rfl)
theorem dX16_renamed_52 : decode cX16_renamed 52 = .ok (.new 10, 3) := dk_187 0 10 (dk_at dksX16_renamed_2 6 rfl rfl)
theorem dX16_renamed_55 : decode cX16_renamed 55 = .ok (.dup, 1) := dk_89 (dk_at dksX16_renamed_2 9 rfl rfl)
theorem dX16_renamed_56 : decode cX16_renamed 56 = .ok (.aload_n 0, 1) := dk_42 (dk_at dksX16_renamed_2 10 rfl rfl)
theorem dX16_renamed_57 : decode cX16_renamed 57 = .ok (.getfield 9, 3) := dk_180 0 9 (dk_at dksX16_renamed_2 11 rfl rfl)
theorem dX16_renamed_60 : decode cX16_renamed 60 = .ok (.aload_n 2, 1) := dk_44 (dk_at dksX16_renamed_2 14 rfl rfl)
theorem dX16_renamed_61 : decode cX16_renamed 61 = .ok (.invokespecial 29, 3) := dk_183 0 29 (dk_at dksX16_renamed_2 15 rfl rfl)
theorem dX16_renamed_64 : decode cX16_renamed 64 = .ok (.areturn, 1) := dk_176 (dk_at dksX16_renamed_2 18 rfl rfl)
abbrev cX16_displacement : ByteArray := prog_18_method_8_code
def yX16_displacement : MethodName := ⟨RX16, "displacement", "(IZ)I"⟩
def dkwX16_displacement_2 : List UInt8 := [29, 172]
abbrev dktX16_displacement_2 : List UInt8 := dkwX16_displacement_2 ++ []
def dkwX16_displacement_1 : List UInt8 := [182, 0, 25, 192, 0, 4, 58, 5, 29, 25, 5, 27, 28, 182, 0, 63, 96, 62, 132, 4, 1, 167, 255, 217]
abbrev dktX16_displacement_1 : List UInt8 := dkwX16_displacement_1 ++ dktX16_displacement_2
def dkwX16_displacement_0 : List UInt8 := [3, 62, 3, 54, 4, 21, 4, 42, 180, 0, 15, 182, 0, 19, 162, 0, 33, 42, 180, 0, 15, 21, 4]
abbrev dktX16_displacement_0 : List UInt8 := dkwX16_displacement_0 ++ dktX16_displacement_1
theorem dksX16_displacement_0 : cX16_displacement.data.toList.drop 0 = dktX16_displacement_0 := by decide +kernel
theorem dksX16_displacement_1 : cX16_displacement.data.toList.drop 23 = dktX16_displacement_1 := dk_seg dksX16_displacement_0 23 rfl rfl
theorem dksX16_displacement_2 : cX16_displacement.data.toList.drop 47 = dktX16_displacement_2 := dk_seg dksX16_displacement_1 24 rfl rfl
theorem dX16_displacement_0 : decode cX16_displacement 0 = .ok (.iconst 0, 1) := dk_3 (dk_at dksX16_displacement_0 0 rfl rfl)
theorem dX16_displacement_1 : decode cX16_displacement 1 = .ok (.istore_n 3, 1) := dk_62 (dk_at dksX16_displacement_0 1 rfl rfl)
theorem dX16_displacement_2 : decode cX16_displacement 2 = .ok (.iconst 0, 1) := dk_3 (dk_at dksX16_displacement_0 2 rfl rfl)
theorem dX16_displacement_3 : decode cX16_displacement 3 = .ok (.istore 4, 2) := dk_54 4 (dk_at dksX16_displacement_0 3 rfl rfl)
theorem dX16_displacement_5 : decode cX16_displacement 5 = .ok (.iload 4, 2) := dk_21 4 (dk_at dksX16_displacement_0 5 rfl rfl)
theorem dX16_displacement_7 : decode cX16_displacement 7 = .ok (.aload_n 0, 1) := dk_42 (dk_at dksX16_displacement_0 7 rfl rfl)
theorem dX16_displacement_8 : decode cX16_displacement 8 = .ok (.getfield 15, 3) := dk_180 0 15 (dk_at dksX16_displacement_0 8 rfl rfl)
theorem dX16_displacement_11 : decode cX16_displacement 11 = .ok (.invokevirtual 19, 3) := dk_182 0 19 (dk_at dksX16_displacement_0 11 rfl rfl)
theorem dX16_displacement_14 : decode cX16_displacement 14 = .ok (.if_icmp .ge 33, 3) := dk_162 0 33 (dk_at dksX16_displacement_0 14 rfl rfl)
theorem dX16_displacement_17 : decode cX16_displacement 17 = .ok (.aload_n 0, 1) := dk_42 (dk_at dksX16_displacement_0 17 rfl rfl)
theorem dX16_displacement_18 : decode cX16_displacement 18 = .ok (.getfield 15, 3) := dk_180 0 15 (dk_at dksX16_displacement_0 18 rfl rfl)
theorem dX16_displacement_21 : decode cX16_displacement 21 = .ok (.iload 4, 2) := dk_21 4 (dk_at dksX16_displacement_0 21 rfl rfl)
theorem dX16_displacement_23 : decode cX16_displacement 23 = .ok (.invokevirtual 25, 3) := dk_182 0 25 (dk_at dksX16_displacement_1 0 rfl rfl)
theorem dX16_displacement_26 : decode cX16_displacement 26 = .ok (.checkcast 4, 3) := dk_192 0 4 (dk_at dksX16_displacement_1 3 rfl rfl)
theorem dX16_displacement_29 : decode cX16_displacement 29 = .ok (.astore 5, 2) := dk_58 5 (dk_at dksX16_displacement_1 6 rfl rfl)
theorem dX16_displacement_31 : decode cX16_displacement 31 = .ok (.iload_n 3, 1) := dk_29 (dk_at dksX16_displacement_1 8 rfl rfl)
theorem dX16_displacement_32 : decode cX16_displacement 32 = .ok (.aload 5, 2) := dk_25 5 (dk_at dksX16_displacement_1 9 rfl rfl)
theorem dX16_displacement_34 : decode cX16_displacement 34 = .ok (.iload_n 1, 1) := dk_27 (dk_at dksX16_displacement_1 11 rfl rfl)
theorem dX16_displacement_35 : decode cX16_displacement 35 = .ok (.iload_n 2, 1) := dk_28 (dk_at dksX16_displacement_1 12 rfl rfl)
theorem dX16_displacement_36 : decode cX16_displacement 36 = .ok (.invokevirtual 63, 3) := dk_182 0 63 (dk_at dksX16_displacement_1 13 rfl rfl)
theorem dX16_displacement_39 : decode cX16_displacement 39 = .ok (.iadd, 1) := dk_96 (dk_at dksX16_displacement_1 16 rfl rfl)
theorem dX16_displacement_40 : decode cX16_displacement 40 = .ok (.istore_n 3, 1) := dk_62 (dk_at dksX16_displacement_1 17 rfl rfl)
theorem dX16_displacement_41 : decode cX16_displacement 41 = .ok (.iinc 4 1, 3) := dk_132 4 1 (dk_at dksX16_displacement_1 18 rfl rfl)
theorem dX16_displacement_44 : decode cX16_displacement 44 = .ok (.goto (-39), 3) := dk_167 255 217 (dk_at dksX16_displacement_1 21 rfl rfl)
theorem dX16_displacement_47 : decode cX16_displacement 47 = .ok (.iload_n 3, 1) := dk_29 (dk_at dksX16_displacement_2 0 rfl rfl)
theorem dX16_displacement_48 : decode cX16_displacement 48 = .ok (.ireturn, 1) := dk_172 (dk_at dksX16_displacement_2 1 rfl rfl)
abbrev cX16_with : ByteArray := prog_18_method_11_code
def yX16_with : MethodName := ⟨RX16, "with", "(LDanceNotation$Node;)LDanceNotation$Several;"⟩
def dkwX16_with_1 : List UInt8 := [183, 0, 29, 176]
abbrev dktX16_with_1 : List UInt8 := dkwX16_with_1 ++ []
def dkwX16_with_0 : List UInt8 := [187, 0, 20, 89, 42, 180, 0, 15, 183, 0, 92, 77, 44, 43, 182, 0, 72, 62, 187, 0, 10, 89, 3, 44]
abbrev dktX16_with_0 : List UInt8 := dkwX16_with_0 ++ dktX16_with_1
theorem dksX16_with_0 : cX16_with.data.toList.drop 0 = dktX16_with_0 := by decide +kernel
theorem dksX16_with_1 : cX16_with.data.toList.drop 24 = dktX16_with_1 := dk_seg dksX16_with_0 24 rfl rfl
theorem dX16_with_0 : decode cX16_with 0 = .ok (.new 20, 3) := dk_187 0 20 (dk_at dksX16_with_0 0 rfl rfl)
theorem dX16_with_3 : decode cX16_with 3 = .ok (.dup, 1) := dk_89 (dk_at dksX16_with_0 3 rfl rfl)
theorem dX16_with_4 : decode cX16_with 4 = .ok (.aload_n 0, 1) := dk_42 (dk_at dksX16_with_0 4 rfl rfl)
theorem dX16_with_5 : decode cX16_with 5 = .ok (.getfield 15, 3) := dk_180 0 15 (dk_at dksX16_with_0 5 rfl rfl)
theorem dX16_with_8 : decode cX16_with 8 = .ok (.invokespecial 92, 3) := dk_183 0 92 (dk_at dksX16_with_0 8 rfl rfl)
theorem dX16_with_11 : decode cX16_with 11 = .ok (.astore_n 2, 1) := dk_77 (dk_at dksX16_with_0 11 rfl rfl)
theorem dX16_with_12 : decode cX16_with 12 = .ok (.aload_n 2, 1) := dk_44 (dk_at dksX16_with_0 12 rfl rfl)
theorem dX16_with_13 : decode cX16_with 13 = .ok (.aload_n 1, 1) := dk_43 (dk_at dksX16_with_0 13 rfl rfl)
theorem dX16_with_14 : decode cX16_with 14 = .ok (.invokevirtual 72, 3) := dk_182 0 72 (dk_at dksX16_with_0 14 rfl rfl)
theorem dX16_with_17 : decode cX16_with 17 = .ok (.istore_n 3, 1) := dk_62 (dk_at dksX16_with_0 17 rfl rfl)
theorem dX16_with_18 : decode cX16_with 18 = .ok (.new 10, 3) := dk_187 0 10 (dk_at dksX16_with_0 18 rfl rfl)
theorem dX16_with_21 : decode cX16_with 21 = .ok (.dup, 1) := dk_89 (dk_at dksX16_with_0 21 rfl rfl)
theorem dX16_with_22 : decode cX16_with 22 = .ok (.iconst 0, 1) := dk_3 (dk_at dksX16_with_0 22 rfl rfl)
theorem dX16_with_23 : decode cX16_with 23 = .ok (.aload_n 2, 1) := dk_44 (dk_at dksX16_with_0 23 rfl rfl)
theorem dX16_with_24 : decode cX16_with 24 = .ok (.invokespecial 29, 3) := dk_183 0 29 (dk_at dksX16_with_1 0 rfl rfl)
theorem dX16_with_27 : decode cX16_with 27 = .ok (.areturn, 1) := dk_176 (dk_at dksX16_with_1 3 rfl rfl)
theorem q166 : (Jvm.Cond.initialized "DanceNotation$Several") ∈ lw_all := lw_g (lw_at lw_m1 49 rfl) rfl
theorem q872 : (Jvm.Cond.selects "DanceNotation$Several" ({ cls := "DanceNotation$Parts", name := "partCount", desc := "()I" } : Jvm.MethodName) ({ cls := "DanceNotation$Several", name := "partCount", desc := "()I" } : Jvm.MethodName)) ∈ lw_all := lw_g (lw_at lw_m4 35 rfl) rfl
theorem q873 : (Jvm.Cond.instanceMethod ({ cls := "DanceNotation$Several", name := "partCount", desc := "()I" } : Jvm.MethodName)) ∈ lw_all := lw_g (lw_at lw_m4 36 rfl) rfl
theorem q874 : (Jvm.Cond.code ({ cls := "DanceNotation$Several", name := "partCount", desc := "()I" } : Jvm.MethodName) prog_18_method_3_code (1 : Nat) (Option.some Jvm.ClassFile.FieldType.int)) ∈ lw_all := lw_g (lw_at lw_m4 37 rfl) rfl
theorem q875 : (Jvm.Cond.methodLink "DanceNotation$Several" (19 : Nat) ({ cls := "java/util/ArrayList", name := "size", desc := "()I" } : Jvm.MethodName)) ∈ lw_all := lw_g (lw_at lw_m4 38 rfl) rfl
theorem q891 : (Jvm.Cond.selects "DanceNotation$Several" ({ cls := "DanceNotation$Parts", name := "part", desc := "(I)LDanceNotation$Node;" } : Jvm.MethodName) ({ cls := "DanceNotation$Several", name := "part", desc := "(I)LDanceNotation$Node;" } : Jvm.MethodName)) ∈ lw_all := lw_g (lw_at lw_m4 54 rfl) rfl
theorem q892 : (Jvm.Cond.instanceMethod ({ cls := "DanceNotation$Several", name := "part", desc := "(I)LDanceNotation$Node;" } : Jvm.MethodName)) ∈ lw_all := lw_g (lw_at lw_m4 55 rfl) rfl
theorem q893 : (Jvm.Cond.code ({ cls := "DanceNotation$Several", name := "part", desc := "(I)LDanceNotation$Node;" } : Jvm.MethodName) prog_18_method_4_code (2 : Nat) (Option.some (Jvm.ClassFile.FieldType.object "DanceNotation$Node"))) ∈ lw_all := lw_g (lw_at lw_m4 56 rfl) rfl
theorem q894 : (Jvm.Cond.methodLink "DanceNotation$Several" (25 : Nat) ({ cls := "java/util/ArrayList", name := "get", desc := "(I)Ljava/lang/Object;" } : Jvm.MethodName)) ∈ lw_all := lw_g (lw_at lw_m4 57 rfl) rfl
theorem q908 : (Jvm.Cond.classLink "DanceNotation$Several" (4 : Nat) "DanceNotation$Node") ∈ lw_all := lw_g (lw_at lw_m4 71 rfl) rfl
theorem q1007 : (Jvm.Cond.selects "DanceNotation$Several" ({ cls := "java/lang/Object", name := "getClass", desc := "()Ljava/lang/Class;" } : Jvm.MethodName) ({ cls := "java/lang/Object", name := "getClass", desc := "()Ljava/lang/Class;" } : Jvm.MethodName)) ∈ lw_all := lw_g (lw_at lw_m4 170 rfl) rfl
theorem q1111 : (Jvm.Cond.selects "DanceNotation$Several" ({ cls := "DanceNotation$Node", name := "score", desc := "()LDanceNotation$Score;" } : Jvm.MethodName) ({ cls := "DanceNotation$Node", name := "score", desc := "()LDanceNotation$Score;" } : Jvm.MethodName)) ∈ lw_all := lw_g (lw_at lw_m5 34 rfl) rfl
theorem q1132 : (Jvm.Cond.instanceMethod ({ cls := "DanceNotation$Several", name := "length", desc := "()I" } : Jvm.MethodName)) ∈ lw_all := lw_g (lw_at lw_m5 55 rfl) rfl
theorem q1133 : (Jvm.Cond.code ({ cls := "DanceNotation$Several", name := "length", desc := "()I" } : Jvm.MethodName) prog_18_method_5_code (4 : Nat) (Option.some Jvm.ClassFile.FieldType.int)) ∈ lw_all := lw_g (lw_at lw_m5 56 rfl) rfl
theorem q1134 : (Jvm.Cond.methodLink "DanceNotation$Several" (32 : Nat) ({ cls := "DanceNotation$Node", name := "length", desc := "()I" } : Jvm.MethodName)) ∈ lw_all := lw_g (lw_at lw_m5 57 rfl) rfl
theorem q1135 : (Jvm.Cond.methodLink "DanceNotation$Several" (35 : Nat) ({ cls := "java/lang/Math", name := "max", desc := "(II)I" } : Jvm.MethodName)) ∈ lw_all := lw_g (lw_at lw_m5 58 rfl) rfl
theorem q1139 : (Jvm.Cond.selects "DanceNotation$Several" ({ cls := "DanceNotation$Node", name := "length", desc := "()I" } : Jvm.MethodName) ({ cls := "DanceNotation$Several", name := "length", desc := "()I" } : Jvm.MethodName)) ∈ lw_all := lw_g (lw_at lw_m5 62 rfl) rfl
theorem q1232 : (Jvm.Cond.instanceMethod ({ cls := "DanceNotation$Several", name := "perform", desc := "(LDanceNotation$Score;IIZ)V" } : Jvm.MethodName)) ∈ lw_all := lw_g (lw_at lw_m5 155 rfl) rfl
theorem q1233 : (Jvm.Cond.code ({ cls := "DanceNotation$Several", name := "perform", desc := "(LDanceNotation$Score;IIZ)V" } : Jvm.MethodName) prog_18_method_7_code (10 : Nat) (Option.none : Option Jvm.ClassFile.FieldType)) ∈ lw_all := lw_g (lw_at lw_m5 156 rfl) rfl
theorem q1234 : (Jvm.Cond.methodLink "DanceNotation$Several" (58 : Nat) ({ cls := "DanceNotation$Several", name := "length", desc := "()I" } : Jvm.MethodName)) ∈ lw_all := lw_g (lw_at lw_m5 157 rfl) rfl
theorem q1235 : (Jvm.Cond.methodLink "DanceNotation$Several" (59 : Nat) ({ cls := "DanceNotation$Node", name := "perform", desc := "(LDanceNotation$Score;IIZ)V" } : Jvm.MethodName)) ∈ lw_all := lw_g (lw_at lw_m5 158 rfl) rfl
theorem q1239 : (Jvm.Cond.selects "DanceNotation$Several" ({ cls := "DanceNotation$Node", name := "perform", desc := "(LDanceNotation$Score;IIZ)V" } : Jvm.MethodName) ({ cls := "DanceNotation$Several", name := "perform", desc := "(LDanceNotation$Score;IIZ)V" } : Jvm.MethodName)) ∈ lw_all := lw_g (lw_at lw_m5 162 rfl) rfl
theorem q1307 : (Jvm.Cond.instanceMethod ({ cls := "DanceNotation$Several", name := "write", desc := "(Ljava/lang/StringBuilder;)V" } : Jvm.MethodName)) ∈ lw_all := lw_g (lw_at lw_m5 230 rfl) rfl
theorem q1308 : (Jvm.Cond.code ({ cls := "DanceNotation$Several", name := "write", desc := "(Ljava/lang/StringBuilder;)V" } : Jvm.MethodName) prog_18_method_10_code (6 : Nat) (Option.none : Option Jvm.ClassFile.FieldType)) ∈ lw_all := lw_g (lw_at lw_m5 231 rfl) rfl
theorem q1309 : (Jvm.Cond.stringRef "DanceNotation$Several" (76 : Nat) "") ∈ lw_tbl := lw_at lw_m5 232 rfl
theorem q1310 : (Jvm.Cond.stringRef "DanceNotation$Several" (78 : Nat) "|") ∈ lw_tbl := lw_at lw_m5 233 rfl
theorem q1311 : (Jvm.Cond.stringRef "DanceNotation$Several" (80 : Nat) ";") ∈ lw_tbl := lw_at lw_m5 234 rfl
theorem q1312 : (Jvm.Cond.methodLink "DanceNotation$Several" (82 : Nat) ({ cls := "java/lang/StringBuilder", name := "append", desc := "(Ljava/lang/String;)Ljava/lang/StringBuilder;" } : Jvm.MethodName)) ∈ lw_all := lw_g (lw_at lw_m5 235 rfl) rfl
theorem q1313 : (Jvm.Cond.classLink "DanceNotation$Several" (10 : Nat) "DanceNotation$Several") ∈ lw_all := lw_g (lw_at lw_m5 236 rfl) rfl
theorem q1314 : (Jvm.Cond.methodLink "DanceNotation$Several" (88 : Nat) ({ cls := "DanceNotation$Several", name := "writePart", desc := "(Ljava/lang/StringBuilder;LDanceNotation$Node;Z)V" } : Jvm.MethodName)) ∈ lw_all := lw_g (lw_at lw_m5 237 rfl) rfl
theorem q1315 : (Jvm.Cond.sameMethod "DanceNotation$Several" "DanceNotation$Node" "writePart" "(Ljava/lang/StringBuilder;LDanceNotation$Node;Z)V") ∈ lw_all := lw_g (lw_at lw_m5 238 rfl) rfl
theorem q1316 : (Jvm.Cond.selects "DanceNotation$Several" ({ cls := "DanceNotation$Several", name := "writePart", desc := "(Ljava/lang/StringBuilder;LDanceNotation$Node;Z)V" } : Jvm.MethodName) ({ cls := "DanceNotation$Node", name := "writePart", desc := "(Ljava/lang/StringBuilder;LDanceNotation$Node;Z)V" } : Jvm.MethodName)) ∈ lw_all := lw_g (lw_at lw_m5 239 rfl) rfl
theorem q1321 : (Jvm.Cond.selects "DanceNotation$Several" ({ cls := "DanceNotation$Node", name := "write", desc := "(Ljava/lang/StringBuilder;)V" } : Jvm.MethodName) ({ cls := "DanceNotation$Several", name := "write", desc := "(Ljava/lang/StringBuilder;)V" } : Jvm.MethodName)) ∈ lw_all := lw_g (lw_at lw_m6 4 rfl) rfl
theorem q1953 : (Jvm.Cond.static ({ cls := "DanceNotation$Several", name := "of", desc := "(ZLjava/util/ArrayList;)LDanceNotation$Node;" } : Jvm.MethodName)) ∈ lw_all := lw_g (lw_at lw_m8 156 rfl) rfl
theorem q1954 : (Jvm.Cond.code ({ cls := "DanceNotation$Several", name := "of", desc := "(ZLjava/util/ArrayList;)LDanceNotation$Node;" } : Jvm.MethodName) prog_18_method_2_code (2 : Nat) (Option.some (Jvm.ClassFile.FieldType.object "DanceNotation$Node"))) ∈ lw_all := lw_g (lw_at lw_m8 157 rfl) rfl
theorem q1955 : (Jvm.Cond.instantiable "DanceNotation$Several" (2 : Nat)) ∈ lw_all := lw_g (lw_at lw_m8 158 rfl) rfl
theorem q1956 : (Jvm.Cond.methodLink "DanceNotation$Several" (29 : Nat) ({ cls := "DanceNotation$Several", name := "<init>", desc := "(ZLjava/util/ArrayList;)V" } : Jvm.MethodName)) ∈ lw_all := lw_g (lw_at lw_m8 159 rfl) rfl
theorem q1957 : (Jvm.Cond.instanceMethod ({ cls := "DanceNotation$Several", name := "<init>", desc := "(ZLjava/util/ArrayList;)V" } : Jvm.MethodName)) ∈ lw_all := lw_g (lw_at lw_m8 160 rfl) rfl
theorem q1958 : (Jvm.Cond.code ({ cls := "DanceNotation$Several", name := "<init>", desc := "(ZLjava/util/ArrayList;)V" } : Jvm.MethodName) prog_18_method_1_code (3 : Nat) (Option.none : Option Jvm.ClassFile.FieldType)) ∈ lw_all := lw_g (lw_at lw_m8 161 rfl) rfl
theorem q1959 : (Jvm.Cond.methodLinkNest "DanceNotation$Several" (3 : Nat) ({ cls := "DanceNotation$Node", name := "<init>", desc := "()V" } : Jvm.MethodName) "DanceNotation") ∈ lw_tbl := lw_at lw_m8 162 rfl
theorem q1960 : (Jvm.Cond.fieldLink "DanceNotation$Several" (9 : Nat) "DanceNotation$Several" "isLayer" "Z") ∈ lw_all := lw_g (lw_at lw_m8 163 rfl) rfl
theorem q1962 : (Jvm.Cond.fieldLink "DanceNotation$Several" (15 : Nat) "DanceNotation$Several" "parts" "Ljava/util/ArrayList;") ∈ lw_all := lw_g (lw_at lw_m8 165 rfl) rfl
theorem q1963 : (Jvm.Cond.laysFinal "DanceNotation$Several" "DanceNotation$Several" "isLayer" "Z") ∈ lw_all := lw_g (lw_at lw_m8 166 rfl) rfl
theorem q1964 : (Jvm.Cond.soleField "DanceNotation$Several" "isLayer") ∈ lw_all := lw_g (lw_at lw_m8 167 rfl) rfl
theorem q1965 : (Jvm.Cond.laysFinal "DanceNotation$Several" "DanceNotation$Several" "parts" "Ljava/util/ArrayList;") ∈ lw_all := lw_g (lw_at lw_m8 168 rfl) rfl
theorem q1966 : (Jvm.Cond.soleField "DanceNotation$Several" "parts") ∈ lw_all := lw_g (lw_at lw_m8 169 rfl) rfl
theorem q1967 : (Jvm.Cond.superclass "DanceNotation$Several" "DanceNotation$Node") ∈ lw_all := lw_g (lw_at lw_m8 170 rfl) rfl
theorem q1976 : (Jvm.Cond.selects "DanceNotation$Several" ({ cls := "DanceNotation$Node", name := "checkAll", desc := "()V" } : Jvm.MethodName) ({ cls := "DanceNotation$Node", name := "checkAll", desc := "()V" } : Jvm.MethodName)) ∈ lw_all := lw_g (lw_at lw_m8 179 rfl) rfl
theorem q2036 : (Jvm.Cond.selects "DanceNotation$Several" ({ cls := "DanceNotation$Node", name := "cues", desc := "()I" } : Jvm.MethodName) ({ cls := "DanceNotation$Node", name := "cues", desc := "()I" } : Jvm.MethodName)) ∈ lw_all := lw_g (lw_at lw_m8 239 rfl) rfl
theorem q2041 : (Jvm.Cond.selects "DanceNotation$Several" ({ cls := "DanceNotation$Node", name := "check", desc := "()V" } : Jvm.MethodName) ({ cls := "DanceNotation$Several", name := "check", desc := "()V" } : Jvm.MethodName)) ∈ lw_all := lw_g (lw_at lw_m9 4 rfl) rfl
theorem q2042 : (Jvm.Cond.instanceMethod ({ cls := "DanceNotation$Several", name := "check", desc := "()V" } : Jvm.MethodName)) ∈ lw_all := lw_g (lw_at lw_m9 5 rfl) rfl
theorem q2043 : (Jvm.Cond.code ({ cls := "DanceNotation$Several", name := "check", desc := "()V" } : Jvm.MethodName) prog_18_method_6_code (5 : Nat) (Option.none : Option Jvm.ClassFile.FieldType)) ∈ lw_all := lw_g (lw_at lw_m9 6 rfl) rfl
theorem q2067 : (Jvm.Cond.castable "DanceNotation$Several" "DanceNotation$Parts") ∈ lw_tbl := lw_at lw_m9 30 rfl
theorem q2068 : (Jvm.Cond.unhidden "DanceNotation$Several" "partCount" "()I") ∈ lw_tbl := lw_at lw_m9 31 rfl
theorem q2069 : (Jvm.Cond.publicMethod ({ cls := "DanceNotation$Several", name := "partCount", desc := "()I" } : Jvm.MethodName)) ∈ lw_tbl := lw_at lw_m9 32 rfl
theorem q2080 : (Jvm.Cond.unhidden "DanceNotation$Several" "part" "(I)LDanceNotation$Node;") ∈ lw_tbl := lw_at lw_m9 43 rfl
theorem q2081 : (Jvm.Cond.publicMethod ({ cls := "DanceNotation$Several", name := "part", desc := "(I)LDanceNotation$Node;" } : Jvm.MethodName)) ∈ lw_tbl := lw_at lw_m9 44 rfl
theorem q2084 : (Jvm.Cond.unhidden "DanceNotation$Several" "used" "()I") ∈ lw_tbl := lw_at lw_m9 47 rfl
theorem q2086 : (Jvm.Cond.classLink "DanceNotation$Several" (44 : Nat) "DanceNotation$RefusedException") ∈ lw_all := lw_g (lw_at lw_m9 49 rfl) rfl
theorem q2087 : (Jvm.Cond.methodLink "DanceNotation$Several" (46 : Nat) ({ cls := "java/lang/Integer", name := "numberOfTrailingZeros", desc := "(I)I" } : Jvm.MethodName)) ∈ lw_all := lw_g (lw_at lw_m9 50 rfl) rfl
theorem q2088 : (Jvm.Cond.methodLink "DanceNotation$Several" (52 : Nat) ({ cls := "DanceNotation$RefusedException", name := "<init>", desc := "(II)V" } : Jvm.MethodName)) ∈ lw_all := lw_g (lw_at lw_m9 51 rfl) rfl
theorem q2089 : (Jvm.Cond.methodLink "DanceNotation$Several" (55 : Nat) ({ cls := "DanceNotation$Node", name := "check", desc := "()V" } : Jvm.MethodName)) ∈ lw_all := lw_g (lw_at lw_m9 52 rfl) rfl
theorem q2167 : (Jvm.Cond.unhidden "DanceNotation$Several" "depth" "()I") ∈ lw_tbl := lw_at lw_m9 130 rfl
theorem q2178 : (Jvm.Cond.unhidden "DanceNotation$Several" "nodes" "()I") ∈ lw_tbl := lw_at lw_m9 141 rfl
theorem q2216 : (Jvm.Cond.selects "DanceNotation$Several" ({ cls := "DanceNotation$Node", name := "leaves", desc := "()Ljava/util/Iterator;" } : Jvm.MethodName) ({ cls := "DanceNotation$Node", name := "leaves", desc := "()Ljava/util/Iterator;" } : Jvm.MethodName)) ∈ lw_all := lw_g (lw_at lw_m9 179 rfl) rfl
theorem q2261 : (Jvm.Cond.instanceMethod ({ cls := "DanceNotation$Several", name := "renamed", desc := "([I)LDanceNotation$Node;" } : Jvm.MethodName)) ∈ lw_all := lw_g (lw_at lw_m9 224 rfl) rfl
theorem q2262 : (Jvm.Cond.code ({ cls := "DanceNotation$Several", name := "renamed", desc := "([I)LDanceNotation$Node;" } : Jvm.MethodName) prog_18_method_9_code (6 : Nat) (Option.some (Jvm.ClassFile.FieldType.object "DanceNotation$Node"))) ∈ lw_all := lw_g (lw_at lw_m9 225 rfl) rfl
theorem q2263 : (Jvm.Cond.classLink "DanceNotation$Several" (20 : Nat) "java/util/ArrayList") ∈ lw_all := lw_g (lw_at lw_m9 226 rfl) rfl
theorem q2264 : (Jvm.Cond.methodLink "DanceNotation$Several" (67 : Nat) ({ cls := "java/util/ArrayList", name := "<init>", desc := "()V" } : Jvm.MethodName)) ∈ lw_all := lw_g (lw_at lw_m9 227 rfl) rfl
theorem q2265 : (Jvm.Cond.methodLink "DanceNotation$Several" (68 : Nat) ({ cls := "DanceNotation$Node", name := "renamed", desc := "([I)LDanceNotation$Node;" } : Jvm.MethodName)) ∈ lw_all := lw_g (lw_at lw_m9 228 rfl) rfl
theorem q2266 : (Jvm.Cond.methodLink "DanceNotation$Several" (72 : Nat) ({ cls := "java/util/ArrayList", name := "add", desc := "(Ljava/lang/Object;)Z" } : Jvm.MethodName)) ∈ lw_all := lw_g (lw_at lw_m9 229 rfl) rfl
theorem q2273 : (Jvm.Cond.selects "DanceNotation$Several" ({ cls := "DanceNotation$Node", name := "renamed", desc := "([I)LDanceNotation$Node;" } : Jvm.MethodName) ({ cls := "DanceNotation$Several", name := "renamed", desc := "([I)LDanceNotation$Node;" } : Jvm.MethodName)) ∈ lw_all := lw_g (lw_at lw_m9 236 rfl) rfl
theorem q2456 : (Jvm.Cond.instanceMethod ({ cls := "DanceNotation$Several", name := "displacement", desc := "(IZ)I" } : Jvm.MethodName)) ∈ lw_all := lw_g (lw_at lw_m10 179 rfl) rfl
theorem q2457 : (Jvm.Cond.code ({ cls := "DanceNotation$Several", name := "displacement", desc := "(IZ)I" } : Jvm.MethodName) prog_18_method_8_code (6 : Nat) (Option.some Jvm.ClassFile.FieldType.int)) ∈ lw_all := lw_g (lw_at lw_m10 180 rfl) rfl
theorem q2458 : (Jvm.Cond.methodLink "DanceNotation$Several" (63 : Nat) ({ cls := "DanceNotation$Node", name := "displacement", desc := "(IZ)I" } : Jvm.MethodName)) ∈ lw_all := lw_g (lw_at lw_m10 181 rfl) rfl
theorem q2462 : (Jvm.Cond.selects "DanceNotation$Several" ({ cls := "DanceNotation$Node", name := "displacement", desc := "(IZ)I" } : Jvm.MethodName) ({ cls := "DanceNotation$Several", name := "displacement", desc := "(IZ)I" } : Jvm.MethodName)) ∈ lw_all := lw_g (lw_at lw_m10 185 rfl) rfl
theorem q2636 : (Jvm.Cond.instanceMethod ({ cls := "DanceNotation$Several", name := "with", desc := "(LDanceNotation$Node;)LDanceNotation$Several;" } : Jvm.MethodName)) ∈ lw_all := lw_g (lw_at lw_m11 119 rfl) rfl
theorem q2637 : (Jvm.Cond.selects "DanceNotation$Several" ({ cls := "DanceNotation$Several", name := "with", desc := "(LDanceNotation$Node;)LDanceNotation$Several;" } : Jvm.MethodName) ({ cls := "DanceNotation$Several", name := "with", desc := "(LDanceNotation$Node;)LDanceNotation$Several;" } : Jvm.MethodName)) ∈ lw_all := lw_g (lw_at lw_m11 120 rfl) rfl
theorem q2638 : (Jvm.Cond.code ({ cls := "DanceNotation$Several", name := "with", desc := "(LDanceNotation$Node;)LDanceNotation$Several;" } : Jvm.MethodName) prog_18_method_11_code (4 : Nat) (Option.some (Jvm.ClassFile.FieldType.object "DanceNotation$Several"))) ∈ lw_all := lw_g (lw_at lw_m11 121 rfl) rfl
theorem q2639 : (Jvm.Cond.methodLink "DanceNotation$Several" (92 : Nat) ({ cls := "java/util/ArrayList", name := "<init>", desc := "(Ljava/util/Collection;)V" } : Jvm.MethodName)) ∈ lw_all := lw_g (lw_at lw_m11 122 rfl) rfl
theorem q3296 : (Jvm.Cond.selects "DanceNotation$Several" ({ cls := "DanceNotation$Several", name := "length", desc := "()I" } : Jvm.MethodName) ({ cls := "DanceNotation$Several", name := "length", desc := "()I" } : Jvm.MethodName)) ∈ lw_all := lw_g (lw_at lw_m14 59 rfl) rfl
theorem q3311 : (Jvm.Cond.castable "DanceNotation$Several" "DanceNotation$Node") ∈ lw_tbl := lw_at lw_m14 74 rfl
theorem q3339 : (Jvm.Cond.castable "DanceNotation$Several" "java/lang/Object") ∈ lw_tbl := lw_at lw_m14 102 rfl
theorem in_X16 : ∀ w ∈ wsX160, w ∈ lw_all := lw_in wsX160 [1963, 1965] (by decide +kernel) (by decide +kernel)

/-! DanceNotation$RefusedException -/
set_option maxRecDepth 100000
def RX17 : String := "DanceNotation$RefusedException"
def TX17 : u_T := fun k => match k with
  | 0 => ("java/lang/Throwable", "cause", "Ljava/lang/Throwable;", false)
  | 1 => ("java/lang/Throwable", "stackTrace", "[Ljava/lang/StackTraceElement;", false)
  | 2 => ("java/lang/Throwable", "suppressedExceptions", "Ljava/util/List;", false)
  | 3 => ("java/lang/Throwable", "detailMessage", "Ljava/lang/String;", false)
  | 4 => ("java/lang/Throwable", "backtrace", "Ljava/lang/Object;", false)
  | 5 => ("java/lang/Throwable", "depth", "I", false)
  | 6 => ("DanceNotation$RefusedException", "reason", "I", true)
  | _ => ("DanceNotation$RefusedException", "dancer", "I", true)
def tyX17 : Nat → FieldType := fun k => match k with
  | 0 => .object "java/lang/Throwable"
  | 1 => .array (.object "java/lang/StackTraceElement")
  | 2 => .object "java/util/List"
  | 3 => .object "java/lang/String"
  | 4 => .object "java/lang/Object"
  | 5 => .int
  | 6 => .int
  | _ => .int
abbrev wsX170 : List Cond := u_ws RX17 TX17 8
theorem nmX17 : ∀ a, a < 8 → ∀ b, b < 8 → a ≠ b → (TX17 a).2.1 ≠ (TX17 b).2.1 := by decide +kernel
theorem tyX17_ok : ∀ k, k < 8 → parseFieldDescriptor (TX17 k).2.2.1 = some (tyX17 k) := by decide +kernel
abbrev cX17_init : ByteArray := prog_14_method_1_code
def yX17_init : MethodName := ⟨RX17, "<init>", "(II)V"⟩
def dkwX17_init_0 : List UInt8 := [42, 1, 1, 3, 3, 183, 0, 1, 42, 27, 181, 0, 7, 42, 28, 181, 0, 13, 177]
abbrev dktX17_init_0 : List UInt8 := dkwX17_init_0 ++ []
theorem dksX17_init_0 : cX17_init.data.toList.drop 0 = dktX17_init_0 := by decide +kernel
theorem dX17_init_0 : decode cX17_init 0 = .ok (.aload_n 0, 1) := dk_42 (dk_at dksX17_init_0 0 rfl rfl)
theorem dX17_init_1 : decode cX17_init 1 = .ok (.aconst_null, 1) := dk_1 (dk_at dksX17_init_0 1 rfl rfl)
theorem dX17_init_2 : decode cX17_init 2 = .ok (.aconst_null, 1) := dk_1 (dk_at dksX17_init_0 2 rfl rfl)
theorem dX17_init_3 : decode cX17_init 3 = .ok (.iconst 0, 1) := dk_3 (dk_at dksX17_init_0 3 rfl rfl)
theorem dX17_init_4 : decode cX17_init 4 = .ok (.iconst 0, 1) := dk_3 (dk_at dksX17_init_0 4 rfl rfl)
theorem dX17_init_5 : decode cX17_init 5 = .ok (.invokespecial 1, 3) := dk_183 0 1 (dk_at dksX17_init_0 5 rfl rfl)
theorem dX17_init_8 : decode cX17_init 8 = .ok (.aload_n 0, 1) := dk_42 (dk_at dksX17_init_0 8 rfl rfl)
theorem dX17_init_9 : decode cX17_init 9 = .ok (.iload_n 1, 1) := dk_27 (dk_at dksX17_init_0 9 rfl rfl)
theorem dX17_init_10 : decode cX17_init 10 = .ok (.putfield 7, 3) := dk_181 0 7 (dk_at dksX17_init_0 10 rfl rfl)
theorem dX17_init_13 : decode cX17_init 13 = .ok (.aload_n 0, 1) := dk_42 (dk_at dksX17_init_0 13 rfl rfl)
theorem dX17_init_14 : decode cX17_init 14 = .ok (.iload_n 2, 1) := dk_28 (dk_at dksX17_init_0 14 rfl rfl)
theorem dX17_init_15 : decode cX17_init 15 = .ok (.putfield 13, 3) := dk_181 0 13 (dk_at dksX17_init_0 15 rfl rfl)
theorem dX17_init_18 : decode cX17_init 18 = .ok (.return_, 1) := dk_177 (dk_at dksX17_init_0 18 rfl rfl)
theorem q167 : (Jvm.Cond.initialized "DanceNotation$RefusedException") ∈ lw_all := lw_g (lw_at lw_m1 50 rfl) rfl
theorem q411 : (Jvm.Cond.selects "DanceNotation$RefusedException" ({ cls := "java/lang/Throwable", name := "fillInStackTrace", desc := "()Ljava/lang/Throwable;" } : Jvm.MethodName) ({ cls := "java/lang/Throwable", name := "fillInStackTrace", desc := "()Ljava/lang/Throwable;" } : Jvm.MethodName)) ∈ lw_all := lw_g (lw_at lw_m2 54 rfl) rfl
theorem q980 : (Jvm.Cond.selects "DanceNotation$RefusedException" ({ cls := "java/lang/Throwable", name := "toString", desc := "()Ljava/lang/String;" } : Jvm.MethodName) ({ cls := "java/lang/Throwable", name := "toString", desc := "()Ljava/lang/String;" } : Jvm.MethodName)) ∈ lw_all := lw_g (lw_at lw_m4 143 rfl) rfl
theorem q1003 : (Jvm.Cond.selects "DanceNotation$RefusedException" ({ cls := "java/lang/Object", name := "getClass", desc := "()Ljava/lang/Class;" } : Jvm.MethodName) ({ cls := "java/lang/Object", name := "getClass", desc := "()Ljava/lang/Class;" } : Jvm.MethodName)) ∈ lw_all := lw_g (lw_at lw_m4 166 rfl) rfl
theorem q1033 : (Jvm.Cond.selects "DanceNotation$RefusedException" ({ cls := "java/lang/Throwable", name := "getLocalizedMessage", desc := "()Ljava/lang/String;" } : Jvm.MethodName) ({ cls := "java/lang/Throwable", name := "getLocalizedMessage", desc := "()Ljava/lang/String;" } : Jvm.MethodName)) ∈ lw_all := lw_g (lw_at lw_m4 196 rfl) rfl
theorem q1046 : (Jvm.Cond.selects "DanceNotation$RefusedException" ({ cls := "java/lang/Throwable", name := "getMessage", desc := "()Ljava/lang/String;" } : Jvm.MethodName) ({ cls := "java/lang/Throwable", name := "getMessage", desc := "()Ljava/lang/String;" } : Jvm.MethodName)) ∈ lw_all := lw_g (lw_at lw_m4 209 rfl) rfl
theorem q1988 : (Jvm.Cond.instantiable "DanceNotation$RefusedException" (8 : Nat)) ∈ lw_all := lw_g (lw_at lw_m8 191 rfl) rfl
theorem q1989 : (Jvm.Cond.castable "DanceNotation$RefusedException" "DanceNotation$RefusedException") ∈ lw_tbl := lw_at lw_m8 192 rfl
theorem q1990 : (Jvm.Cond.selects "DanceNotation$RefusedException" ({ cls := "java/lang/Throwable", name := "fillInStackTrace", desc := "(I)Ljava/lang/Throwable;" } : Jvm.MethodName) ({ cls := "java/lang/Throwable", name := "fillInStackTrace", desc := "(I)Ljava/lang/Throwable;" } : Jvm.MethodName)) ∈ lw_all := lw_g (lw_at lw_m8 193 rfl) rfl
theorem q1991 : (Jvm.Cond.lays "DanceNotation$RefusedException" "java/lang/Throwable" "cause" "Ljava/lang/Throwable;") ∈ lw_all := lw_g (lw_at lw_m8 194 rfl) rfl
theorem q1992 : (Jvm.Cond.lays "DanceNotation$RefusedException" "java/lang/Throwable" "stackTrace" "[Ljava/lang/StackTraceElement;") ∈ lw_all := lw_g (lw_at lw_m8 195 rfl) rfl
theorem q1993 : (Jvm.Cond.lays "DanceNotation$RefusedException" "java/lang/Throwable" "suppressedExceptions" "Ljava/util/List;") ∈ lw_all := lw_g (lw_at lw_m8 196 rfl) rfl
theorem q1994 : (Jvm.Cond.lays "DanceNotation$RefusedException" "java/lang/Throwable" "detailMessage" "Ljava/lang/String;") ∈ lw_all := lw_g (lw_at lw_m8 197 rfl) rfl
theorem q1995 : (Jvm.Cond.lays "DanceNotation$RefusedException" "java/lang/Throwable" "backtrace" "Ljava/lang/Object;") ∈ lw_all := lw_g (lw_at lw_m8 198 rfl) rfl
theorem q2001 : (Jvm.Cond.instanceMethod ({ cls := "DanceNotation$RefusedException", name := "<init>", desc := "(II)V" } : Jvm.MethodName)) ∈ lw_all := lw_g (lw_at lw_m8 204 rfl) rfl
theorem q2002 : (Jvm.Cond.code ({ cls := "DanceNotation$RefusedException", name := "<init>", desc := "(II)V" } : Jvm.MethodName) prog_14_method_1_code (3 : Nat) (Option.none : Option Jvm.ClassFile.FieldType)) ∈ lw_all := lw_g (lw_at lw_m8 205 rfl) rfl
theorem q2003 : (Jvm.Cond.methodLink "DanceNotation$RefusedException" (1 : Nat) ({ cls := "java/lang/Exception", name := "<init>", desc := "(Ljava/lang/String;Ljava/lang/Throwable;ZZ)V" } : Jvm.MethodName)) ∈ lw_all := lw_g (lw_at lw_m8 206 rfl) rfl
theorem q2004 : (Jvm.Cond.fieldLink "DanceNotation$RefusedException" (7 : Nat) "DanceNotation$RefusedException" "reason" "I") ∈ lw_all := lw_g (lw_at lw_m8 207 rfl) rfl
theorem q2006 : (Jvm.Cond.fieldLink "DanceNotation$RefusedException" (13 : Nat) "DanceNotation$RefusedException" "dancer" "I") ∈ lw_all := lw_g (lw_at lw_m8 209 rfl) rfl
theorem q2008 : (Jvm.Cond.laysFinal "DanceNotation$RefusedException" "DanceNotation$RefusedException" "reason" "I") ∈ lw_all := lw_g (lw_at lw_m8 211 rfl) rfl
theorem q2009 : (Jvm.Cond.soleField "DanceNotation$RefusedException" "reason") ∈ lw_all := lw_g (lw_at lw_m8 212 rfl) rfl
theorem q2010 : (Jvm.Cond.laysFinal "DanceNotation$RefusedException" "DanceNotation$RefusedException" "dancer" "I") ∈ lw_all := lw_g (lw_at lw_m8 213 rfl) rfl
theorem q2011 : (Jvm.Cond.soleField "DanceNotation$RefusedException" "dancer") ∈ lw_all := lw_g (lw_at lw_m8 214 rfl) rfl
theorem q2012 : (Jvm.Cond.lays "DanceNotation$RefusedException" "java/lang/Throwable" "depth" "I") ∈ lw_all := lw_g (lw_at lw_m8 215 rfl) rfl
theorem q2013 : (Jvm.Cond.superclass "DanceNotation$RefusedException" "java/lang/Exception") ∈ lw_all := lw_g (lw_at lw_m8 216 rfl) rfl
theorem q3340 : (Jvm.Cond.castable "DanceNotation$RefusedException" "java/lang/Object") ∈ lw_tbl := lw_at lw_m14 103 rfl
theorem in_X17 : ∀ w ∈ wsX170, w ∈ lw_all := lw_in wsX170 [1991, 1992, 1993, 1994, 1995, 2012, 2008, 2010] (by decide +kernel) (by decide +kernel)

/-! DanceNotation$Node$1 -/
set_option maxRecDepth 100000
def RX18 : String := "DanceNotation$Node$1"
def TX18 : u_T := fun k => match k with
  | 0 => ("DanceNotation$Node$1", "val$waiting", "Ljava/util/LinkedList;", true)
  | _ => ("DanceNotation$Node$1", "this$0", "LDanceNotation$Node;", true)
def tyX18 : Nat → FieldType := fun k => match k with
  | 0 => .object "java/util/LinkedList"
  | _ => .object "DanceNotation$Node"
abbrev wsX180 : List Cond := u_ws RX18 TX18 2
theorem nmX18 : ∀ a, a < 2 → ∀ b, b < 2 → a ≠ b → (TX18 a).2.1 ≠ (TX18 b).2.1 := by decide +kernel
theorem tyX18_ok : ∀ k, k < 2 → parseFieldDescriptor (TX18 k).2.2.1 = some (tyX18 k) := by decide +kernel
abbrev cX18_hasNext : ByteArray := prog_10_method_2_code
def yX18_hasNext : MethodName := ⟨RX18, "hasNext", "()Z"⟩
def dkwX18_hasNext_0 : List UInt8 := [42, 180, 0, 7, 182, 0, 17, 154, 0, 7, 4, 167, 0, 4, 3, 172]
abbrev dktX18_hasNext_0 : List UInt8 := dkwX18_hasNext_0 ++ []
theorem dksX18_hasNext_0 : cX18_hasNext.data.toList.drop 0 = dktX18_hasNext_0 := by decide +kernel
theorem dX18_hasNext_0 : decode cX18_hasNext 0 = .ok (.aload_n 0, 1) := dk_42 (dk_at dksX18_hasNext_0 0 rfl rfl)
theorem dX18_hasNext_1 : decode cX18_hasNext 1 = .ok (.getfield 7, 3) := dk_180 0 7 (dk_at dksX18_hasNext_0 1 rfl rfl)
theorem dX18_hasNext_4 : decode cX18_hasNext 4 = .ok (.invokevirtual 17, 3) := dk_182 0 17 (dk_at dksX18_hasNext_0 4 rfl rfl)
theorem dX18_hasNext_7 : decode cX18_hasNext 7 = .ok (.ifCond .ne 7, 3) := dk_154 0 7 (dk_at dksX18_hasNext_0 7 rfl rfl)
theorem dX18_hasNext_10 : decode cX18_hasNext 10 = .ok (.iconst 1, 1) := dk_4 (dk_at dksX18_hasNext_0 10 rfl rfl)
theorem dX18_hasNext_11 : decode cX18_hasNext 11 = .ok (.goto 4, 3) := dk_167 0 4 (dk_at dksX18_hasNext_0 11 rfl rfl)
theorem dX18_hasNext_14 : decode cX18_hasNext 14 = .ok (.iconst 0, 1) := dk_3 (dk_at dksX18_hasNext_0 14 rfl rfl)
theorem dX18_hasNext_15 : decode cX18_hasNext 15 = .ok (.ireturn, 1) := dk_172 (dk_at dksX18_hasNext_0 15 rfl rfl)
abbrev cX18_next : ByteArray := prog_10_method_4_code
def yX18_next : MethodName := ⟨RX18, "next", "()Ljava/lang/Object;"⟩
theorem dX18_next_0 : decode cX18_next 0 = .ok (.aload_n 0, 1) := by decide +kernel
theorem dX18_next_1 : decode cX18_next 1 = .ok (.invokevirtual 41, 3) := by decide +kernel
theorem dX18_next_4 : decode cX18_next 4 = .ok (.areturn, 1) := by decide +kernel
abbrev cX18_next_2 : ByteArray := prog_10_method_3_code
def yX18_next_2 : MethodName := ⟨RX18, "next", "()LDanceNotation$Node;"⟩
def dkwX18_next_2_2 : List UInt8 := [3, 182, 0, 33, 76, 167, 255, 214, 43, 176]
abbrev dktX18_next_2_2 : List UInt8 := dkwX18_next_2_2 ++ []
def dkwX18_next_2_1 : List UInt8 := [61, 28, 158, 0, 21, 42, 180, 0, 7, 43, 28, 182, 0, 33, 182, 0, 37, 132, 2, 255, 167, 255, 237, 43]
abbrev dktX18_next_2_1 : List UInt8 := dkwX18_next_2_1 ++ dktX18_next_2_2
def dkwX18_next_2_0 : List UInt8 := [42, 180, 0, 7, 182, 0, 23, 192, 0, 27, 76, 43, 182, 0, 29, 158, 0, 41, 43, 182, 0, 29, 4, 100]
abbrev dktX18_next_2_0 : List UInt8 := dkwX18_next_2_0 ++ dktX18_next_2_1
theorem dksX18_next_2_0 : cX18_next_2.data.toList.drop 0 = dktX18_next_2_0 := by decide +kernel
theorem dksX18_next_2_1 : cX18_next_2.data.toList.drop 24 = dktX18_next_2_1 := dk_seg dksX18_next_2_0 24 rfl rfl
theorem dksX18_next_2_2 : cX18_next_2.data.toList.drop 48 = dktX18_next_2_2 := dk_seg dksX18_next_2_1 24 rfl rfl
theorem dX18_next_2_0 : decode cX18_next_2 0 = .ok (.aload_n 0, 1) := dk_42 (dk_at dksX18_next_2_0 0 rfl rfl)
theorem dX18_next_2_1 : decode cX18_next_2 1 = .ok (.getfield 7, 3) := dk_180 0 7 (dk_at dksX18_next_2_0 1 rfl rfl)
theorem dX18_next_2_4 : decode cX18_next_2 4 = .ok (.invokevirtual 23, 3) := dk_182 0 23 (dk_at dksX18_next_2_0 4 rfl rfl)
theorem dX18_next_2_7 : decode cX18_next_2 7 = .ok (.checkcast 27, 3) := dk_192 0 27 (dk_at dksX18_next_2_0 7 rfl rfl)
theorem dX18_next_2_10 : decode cX18_next_2 10 = .ok (.astore_n 1, 1) := dk_76 (dk_at dksX18_next_2_0 10 rfl rfl)
theorem dX18_next_2_11 : decode cX18_next_2 11 = .ok (.aload_n 1, 1) := dk_43 (dk_at dksX18_next_2_0 11 rfl rfl)
theorem dX18_next_2_12 : decode cX18_next_2 12 = .ok (.invokevirtual 29, 3) := dk_182 0 29 (dk_at dksX18_next_2_0 12 rfl rfl)
theorem dX18_next_2_15 : decode cX18_next_2 15 = .ok (.ifCond .le 41, 3) := dk_158 0 41 (dk_at dksX18_next_2_0 15 rfl rfl)
theorem dX18_next_2_18 : decode cX18_next_2 18 = .ok (.aload_n 1, 1) := dk_43 (dk_at dksX18_next_2_0 18 rfl rfl)
theorem dX18_next_2_19 : decode cX18_next_2 19 = .ok (.invokevirtual 29, 3) := dk_182 0 29 (dk_at dksX18_next_2_0 19 rfl rfl)
theorem dX18_next_2_22 : decode cX18_next_2 22 = .ok (.iconst 1, 1) := dk_4 (dk_at dksX18_next_2_0 22 rfl rfl)
theorem dX18_next_2_23 : decode cX18_next_2 23 = .ok (.isub, 1) := dk_100 (dk_at dksX18_next_2_0 23 rfl rfl)
theorem dX18_next_2_24 : decode cX18_next_2 24 = .ok (.istore_n 2, 1) := dk_61 (dk_at dksX18_next_2_1 0 rfl rfl)
theorem dX18_next_2_25 : decode cX18_next_2 25 = .ok (.iload_n 2, 1) := dk_28 (dk_at dksX18_next_2_1 1 rfl rfl)
theorem dX18_next_2_26 : decode cX18_next_2 26 = .ok (.ifCond .le 21, 3) := dk_158 0 21 (dk_at dksX18_next_2_1 2 rfl rfl)
theorem dX18_next_2_29 : decode cX18_next_2 29 = .ok (.aload_n 0, 1) := dk_42 (dk_at dksX18_next_2_1 5 rfl rfl)
theorem dX18_next_2_30 : decode cX18_next_2 30 = .ok (.getfield 7, 3) := dk_180 0 7 (dk_at dksX18_next_2_1 6 rfl rfl)
theorem dX18_next_2_33 : decode cX18_next_2 33 = .ok (.aload_n 1, 1) := dk_43 (dk_at dksX18_next_2_1 9 rfl rfl)
theorem dX18_next_2_34 : decode cX18_next_2 34 = .ok (.iload_n 2, 1) := dk_28 (dk_at dksX18_next_2_1 10 rfl rfl)
theorem dX18_next_2_35 : decode cX18_next_2 35 = .ok (.invokevirtual 33, 3) := dk_182 0 33 (dk_at dksX18_next_2_1 11 rfl rfl)
theorem dX18_next_2_38 : decode cX18_next_2 38 = .ok (.invokevirtual 37, 3) := dk_182 0 37 (dk_at dksX18_next_2_1 14 rfl rfl)
theorem dX18_next_2_41 : decode cX18_next_2 41 = .ok (.iinc 2 (-1), 3) := dk_132 2 255 (dk_at dksX18_next_2_1 17 rfl rfl)
theorem dX18_next_2_44 : decode cX18_next_2 44 = .ok (.goto (-19), 3) := dk_167 255 237 (dk_at dksX18_next_2_1 20 rfl rfl)
theorem dX18_next_2_47 : decode cX18_next_2 47 = .ok (.aload_n 1, 1) := dk_43 (dk_at dksX18_next_2_1 23 rfl rfl)
theorem dX18_next_2_48 : decode cX18_next_2 48 = .ok (.iconst 0, 1) := dk_3 (dk_at dksX18_next_2_2 0 rfl rfl)
theorem dX18_next_2_49 : decode cX18_next_2 49 = .ok (.invokevirtual 33, 3) := dk_182 0 33 (dk_at dksX18_next_2_2 1 rfl rfl)
theorem dX18_next_2_52 : decode cX18_next_2 52 = .ok (.astore_n 1, 1) := dk_76 (dk_at dksX18_next_2_2 4 rfl rfl)
theorem dX18_next_2_53 : decode cX18_next_2 53 = .ok (.goto (-42), 3) := dk_167 255 214 (dk_at dksX18_next_2_2 5 rfl rfl)
theorem dX18_next_2_56 : decode cX18_next_2 56 = .ok (.aload_n 1, 1) := dk_43 (dk_at dksX18_next_2_2 8 rfl rfl)
theorem dX18_next_2_57 : decode cX18_next_2 57 = .ok (.areturn, 1) := dk_176 (dk_at dksX18_next_2_2 9 rfl rfl)
abbrev cX18_init : ByteArray := prog_10_method_1_code
def yX18_init : MethodName := ⟨RX18, "<init>", "(LDanceNotation$Node;Ljava/util/LinkedList;)V"⟩
def dkwX18_init_0 : List UInt8 := [42, 43, 181, 0, 1, 42, 44, 181, 0, 7, 42, 183, 0, 11, 177]
abbrev dktX18_init_0 : List UInt8 := dkwX18_init_0 ++ []
theorem dksX18_init_0 : cX18_init.data.toList.drop 0 = dktX18_init_0 := by decide +kernel
theorem dX18_init_0 : decode cX18_init 0 = .ok (.aload_n 0, 1) := dk_42 (dk_at dksX18_init_0 0 rfl rfl)
theorem dX18_init_1 : decode cX18_init 1 = .ok (.aload_n 1, 1) := dk_43 (dk_at dksX18_init_0 1 rfl rfl)
theorem dX18_init_2 : decode cX18_init 2 = .ok (.putfield 1, 3) := dk_181 0 1 (dk_at dksX18_init_0 2 rfl rfl)
theorem dX18_init_5 : decode cX18_init 5 = .ok (.aload_n 0, 1) := dk_42 (dk_at dksX18_init_0 5 rfl rfl)
theorem dX18_init_6 : decode cX18_init 6 = .ok (.aload_n 2, 1) := dk_44 (dk_at dksX18_init_0 6 rfl rfl)
theorem dX18_init_7 : decode cX18_init 7 = .ok (.putfield 7, 3) := dk_181 0 7 (dk_at dksX18_init_0 7 rfl rfl)
theorem dX18_init_10 : decode cX18_init 10 = .ok (.aload_n 0, 1) := dk_42 (dk_at dksX18_init_0 10 rfl rfl)
theorem dX18_init_11 : decode cX18_init 11 = .ok (.invokespecial 11, 3) := dk_183 0 11 (dk_at dksX18_init_0 11 rfl rfl)
theorem dX18_init_14 : decode cX18_init 14 = .ok (.return_, 1) := dk_177 (dk_at dksX18_init_0 14 rfl rfl)
theorem q168 : (Jvm.Cond.initialized "DanceNotation$Node$1") ∈ lw_all := lw_g (lw_at lw_m1 51 rfl) rfl
theorem q766 : (Jvm.Cond.castable "DanceNotation$Node$1" "java/util/Iterator") ∈ lw_tbl := lw_at lw_m3 169 rfl
theorem q767 : (Jvm.Cond.selects "DanceNotation$Node$1" ({ cls := "java/util/Iterator", name := "hasNext", desc := "()Z" } : Jvm.MethodName) ({ cls := "DanceNotation$Node$1", name := "hasNext", desc := "()Z" } : Jvm.MethodName)) ∈ lw_all := lw_g (lw_at lw_m3 170 rfl) rfl
theorem q768 : (Jvm.Cond.unhidden "DanceNotation$Node$1" "hasNext" "()Z") ∈ lw_tbl := lw_at lw_m3 171 rfl
theorem q769 : (Jvm.Cond.instanceMethod ({ cls := "DanceNotation$Node$1", name := "hasNext", desc := "()Z" } : Jvm.MethodName)) ∈ lw_all := lw_g (lw_at lw_m3 172 rfl) rfl
theorem q770 : (Jvm.Cond.publicMethod ({ cls := "DanceNotation$Node$1", name := "hasNext", desc := "()Z" } : Jvm.MethodName)) ∈ lw_tbl := lw_at lw_m3 173 rfl
theorem q771 : (Jvm.Cond.code ({ cls := "DanceNotation$Node$1", name := "hasNext", desc := "()Z" } : Jvm.MethodName) prog_10_method_2_code (1 : Nat) (Option.some Jvm.ClassFile.FieldType.boolean)) ∈ lw_all := lw_g (lw_at lw_m3 174 rfl) rfl
theorem q772 : (Jvm.Cond.methodLink "DanceNotation$Node$1" (17 : Nat) ({ cls := "java/util/LinkedList", name := "isEmpty", desc := "()Z" } : Jvm.MethodName)) ∈ lw_all := lw_g (lw_at lw_m3 175 rfl) rfl
theorem q822 : (Jvm.Cond.selects "DanceNotation$Node$1" ({ cls := "java/util/Iterator", name := "next", desc := "()Ljava/lang/Object;" } : Jvm.MethodName) ({ cls := "DanceNotation$Node$1", name := "next", desc := "()Ljava/lang/Object;" } : Jvm.MethodName)) ∈ lw_all := lw_g (lw_at lw_m3 225 rfl) rfl
theorem q823 : (Jvm.Cond.unhidden "DanceNotation$Node$1" "next" "()Ljava/lang/Object;") ∈ lw_tbl := lw_at lw_m3 226 rfl
theorem q824 : (Jvm.Cond.instanceMethod ({ cls := "DanceNotation$Node$1", name := "next", desc := "()Ljava/lang/Object;" } : Jvm.MethodName)) ∈ lw_all := lw_g (lw_at lw_m3 227 rfl) rfl
theorem q825 : (Jvm.Cond.publicMethod ({ cls := "DanceNotation$Node$1", name := "next", desc := "()Ljava/lang/Object;" } : Jvm.MethodName)) ∈ lw_tbl := lw_at lw_m3 228 rfl
theorem q826 : (Jvm.Cond.code ({ cls := "DanceNotation$Node$1", name := "next", desc := "()Ljava/lang/Object;" } : Jvm.MethodName) prog_10_method_4_code (1 : Nat) (Option.some (Jvm.ClassFile.FieldType.object "java/lang/Object"))) ∈ lw_all := lw_g (lw_at lw_m3 229 rfl) rfl
theorem q827 : (Jvm.Cond.methodLink "DanceNotation$Node$1" (41 : Nat) ({ cls := "DanceNotation$Node$1", name := "next", desc := "()LDanceNotation$Node;" } : Jvm.MethodName)) ∈ lw_all := lw_g (lw_at lw_m3 230 rfl) rfl
theorem q828 : (Jvm.Cond.instanceMethod ({ cls := "DanceNotation$Node$1", name := "next", desc := "()LDanceNotation$Node;" } : Jvm.MethodName)) ∈ lw_all := lw_g (lw_at lw_m3 231 rfl) rfl
theorem q829 : (Jvm.Cond.selects "DanceNotation$Node$1" ({ cls := "DanceNotation$Node$1", name := "next", desc := "()LDanceNotation$Node;" } : Jvm.MethodName) ({ cls := "DanceNotation$Node$1", name := "next", desc := "()LDanceNotation$Node;" } : Jvm.MethodName)) ∈ lw_all := lw_g (lw_at lw_m3 232 rfl) rfl
theorem q830 : (Jvm.Cond.code ({ cls := "DanceNotation$Node$1", name := "next", desc := "()LDanceNotation$Node;" } : Jvm.MethodName) prog_10_method_3_code (3 : Nat) (Option.some (Jvm.ClassFile.FieldType.object "DanceNotation$Node"))) ∈ lw_all := lw_g (lw_at lw_m3 233 rfl) rfl
theorem q831 : (Jvm.Cond.methodLink "DanceNotation$Node$1" (23 : Nat) ({ cls := "java/util/LinkedList", name := "removeFirst", desc := "()Ljava/lang/Object;" } : Jvm.MethodName)) ∈ lw_all := lw_g (lw_at lw_m3 234 rfl) rfl
theorem q860 : (Jvm.Cond.classLink "DanceNotation$Node$1" (27 : Nat) "DanceNotation$Node") ∈ lw_all := lw_g (lw_at lw_m4 23 rfl) rfl
theorem q909 : (Jvm.Cond.methodLink "DanceNotation$Node$1" (37 : Nat) ({ cls := "java/util/LinkedList", name := "addFirst", desc := "(Ljava/lang/Object;)V" } : Jvm.MethodName)) ∈ lw_all := lw_g (lw_at lw_m4 72 rfl) rfl
theorem q1000 : (Jvm.Cond.selects "DanceNotation$Node$1" ({ cls := "java/lang/Object", name := "getClass", desc := "()Ljava/lang/Class;" } : Jvm.MethodName) ({ cls := "java/lang/Object", name := "getClass", desc := "()Ljava/lang/Class;" } : Jvm.MethodName)) ∈ lw_all := lw_g (lw_at lw_m4 163 rfl) rfl
theorem q2222 : (Jvm.Cond.instantiable "DanceNotation$Node$1" (2 : Nat)) ∈ lw_all := lw_g (lw_at lw_m9 185 rfl) rfl
theorem q2224 : (Jvm.Cond.instanceMethod ({ cls := "DanceNotation$Node$1", name := "<init>", desc := "(LDanceNotation$Node;Ljava/util/LinkedList;)V" } : Jvm.MethodName)) ∈ lw_all := lw_g (lw_at lw_m9 187 rfl) rfl
theorem q2225 : (Jvm.Cond.code ({ cls := "DanceNotation$Node$1", name := "<init>", desc := "(LDanceNotation$Node;Ljava/util/LinkedList;)V" } : Jvm.MethodName) prog_10_method_1_code (3 : Nat) (Option.none : Option Jvm.ClassFile.FieldType)) ∈ lw_all := lw_g (lw_at lw_m9 188 rfl) rfl
theorem q2226 : (Jvm.Cond.methodLink "DanceNotation$Node$1" (11 : Nat) ({ cls := "java/lang/Object", name := "<init>", desc := "()V" } : Jvm.MethodName)) ∈ lw_all := lw_g (lw_at lw_m9 189 rfl) rfl
theorem q2227 : (Jvm.Cond.fieldLink "DanceNotation$Node$1" (7 : Nat) "DanceNotation$Node$1" "val$waiting" "Ljava/util/LinkedList;") ∈ lw_all := lw_g (lw_at lw_m9 190 rfl) rfl
theorem q2228 : (Jvm.Cond.fieldLink "DanceNotation$Node$1" (1 : Nat) "DanceNotation$Node$1" "this$0" "LDanceNotation$Node;") ∈ lw_all := lw_g (lw_at lw_m9 191 rfl) rfl
theorem q2229 : (Jvm.Cond.laysFinal "DanceNotation$Node$1" "DanceNotation$Node$1" "val$waiting" "Ljava/util/LinkedList;") ∈ lw_all := lw_g (lw_at lw_m9 192 rfl) rfl
theorem q2230 : (Jvm.Cond.soleField "DanceNotation$Node$1" "val$waiting") ∈ lw_all := lw_g (lw_at lw_m9 193 rfl) rfl
theorem q2231 : (Jvm.Cond.laysFinal "DanceNotation$Node$1" "DanceNotation$Node$1" "this$0" "LDanceNotation$Node;") ∈ lw_all := lw_g (lw_at lw_m9 194 rfl) rfl
theorem q2232 : (Jvm.Cond.soleField "DanceNotation$Node$1" "this$0") ∈ lw_all := lw_g (lw_at lw_m9 195 rfl) rfl
theorem q2233 : (Jvm.Cond.superclass "DanceNotation$Node$1" "java/lang/Object") ∈ lw_all := lw_g (lw_at lw_m9 196 rfl) rfl
theorem q3341 : (Jvm.Cond.castable "DanceNotation$Node$1" "java/lang/Object") ∈ lw_tbl := lw_at lw_m14 104 rfl
theorem in_X18 : ∀ w ∈ wsX180, w ∈ lw_all := lw_in wsX180 [2229, 2231] (by decide +kernel) (by decide +kernel)

/-! DanceNotation$Dance$Inspector -/
set_option maxRecDepth 100000
def RX19 : String := "DanceNotation$Dance$Inspector"
def TX19 : u_T := fun k => match k with
  | 0 => ("DanceNotation$Dance$Inspector", "problems", "Ljava/util/ArrayList;", true)
  | 1 => ("DanceNotation$Dance$Inspector", "rowOf", "[I", true)
  | 2 => ("DanceNotation$Dance$Inspector", "columnOf", "[I", true)
  | 3 => ("DanceNotation$Dance$Inspector", "rowBefore", "[I", true)
  | 4 => ("DanceNotation$Dance$Inspector", "columnBefore", "[I", true)
  | _ => ("DanceNotation$Dance$Inspector", "this$0", "LDanceNotation$Dance;", true)
def tyX19 : Nat → FieldType := fun k => match k with
  | 0 => .object "java/util/ArrayList"
  | 1 => .array .int
  | 2 => .array .int
  | 3 => .array .int
  | 4 => .array .int
  | _ => .object "DanceNotation$Dance"
abbrev wsX190 : List Cond := u_ws RX19 TX19 6
theorem nmX19 : ∀ a, a < 6 → ∀ b, b < 6 → a ≠ b → (TX19 a).2.1 ≠ (TX19 b).2.1 := by decide +kernel
theorem tyX19_ok : ∀ k, k < 6 → parseFieldDescriptor (TX19 k).2.2.1 = some (tyX19 k) := by decide +kernel
abbrev cX19_init : ByteArray := prog_5_method_1_code
def yX19_init : MethodName := ⟨RX19, "<init>", "(LDanceNotation$Dance;)V"⟩
def dkwX19_init_2 : List UInt8 := [188, 10, 181, 0, 32, 177]
abbrev dktX19_init_2 : List UInt8 := dkwX19_init_2 ++ []
def dkwX19_init_1 : List UInt8 := [188, 10, 181, 0, 22, 42, 16, 8, 188, 10, 181, 0, 26, 42, 16, 8, 188, 10, 181, 0, 29, 42, 16, 8]
abbrev dktX19_init_1 : List UInt8 := dkwX19_init_1 ++ dktX19_init_2
def dkwX19_init_0 : List UInt8 := [42, 43, 181, 0, 3, 42, 183, 0, 9, 42, 187, 0, 15, 89, 183, 0, 17, 181, 0, 18, 42, 16, 8]
abbrev dktX19_init_0 : List UInt8 := dkwX19_init_0 ++ dktX19_init_1
theorem dksX19_init_0 : cX19_init.data.toList.drop 0 = dktX19_init_0 := by decide +kernel
theorem dksX19_init_1 : cX19_init.data.toList.drop 23 = dktX19_init_1 := dk_seg dksX19_init_0 23 rfl rfl
theorem dksX19_init_2 : cX19_init.data.toList.drop 47 = dktX19_init_2 := dk_seg dksX19_init_1 24 rfl rfl
theorem dX19_init_0 : decode cX19_init 0 = .ok (.aload_n 0, 1) := dk_42 (dk_at dksX19_init_0 0 rfl rfl)
theorem dX19_init_1 : decode cX19_init 1 = .ok (.aload_n 1, 1) := dk_43 (dk_at dksX19_init_0 1 rfl rfl)
theorem dX19_init_2 : decode cX19_init 2 = .ok (.putfield 3, 3) := dk_181 0 3 (dk_at dksX19_init_0 2 rfl rfl)
theorem dX19_init_5 : decode cX19_init 5 = .ok (.aload_n 0, 1) := dk_42 (dk_at dksX19_init_0 5 rfl rfl)
theorem dX19_init_6 : decode cX19_init 6 = .ok (.invokespecial 9, 3) := dk_183 0 9 (dk_at dksX19_init_0 6 rfl rfl)
theorem dX19_init_9 : decode cX19_init 9 = .ok (.aload_n 0, 1) := dk_42 (dk_at dksX19_init_0 9 rfl rfl)
theorem dX19_init_10 : decode cX19_init 10 = .ok (.new 15, 3) := dk_187 0 15 (dk_at dksX19_init_0 10 rfl rfl)
theorem dX19_init_13 : decode cX19_init 13 = .ok (.dup, 1) := dk_89 (dk_at dksX19_init_0 13 rfl rfl)
theorem dX19_init_14 : decode cX19_init 14 = .ok (.invokespecial 17, 3) := dk_183 0 17 (dk_at dksX19_init_0 14 rfl rfl)
theorem dX19_init_17 : decode cX19_init 17 = .ok (.putfield 18, 3) := dk_181 0 18 (dk_at dksX19_init_0 17 rfl rfl)
theorem dX19_init_20 : decode cX19_init 20 = .ok (.aload_n 0, 1) := dk_42 (dk_at dksX19_init_0 20 rfl rfl)
theorem dX19_init_21 : decode cX19_init 21 = .ok (.bipush 8, 2) := dk_16 8 (dk_at dksX19_init_0 21 rfl rfl)
theorem dX19_init_23 : decode cX19_init 23 = .ok (.newarray .int, 2) := dk_188_10 (dk_at dksX19_init_1 0 rfl rfl)
theorem dX19_init_25 : decode cX19_init 25 = .ok (.putfield 22, 3) := dk_181 0 22 (dk_at dksX19_init_1 2 rfl rfl)
theorem dX19_init_28 : decode cX19_init 28 = .ok (.aload_n 0, 1) := dk_42 (dk_at dksX19_init_1 5 rfl rfl)
theorem dX19_init_29 : decode cX19_init 29 = .ok (.bipush 8, 2) := dk_16 8 (dk_at dksX19_init_1 6 rfl rfl)
theorem dX19_init_31 : decode cX19_init 31 = .ok (.newarray .int, 2) := dk_188_10 (dk_at dksX19_init_1 8 rfl rfl)
theorem dX19_init_33 : decode cX19_init 33 = .ok (.putfield 26, 3) := dk_181 0 26 (dk_at dksX19_init_1 10 rfl rfl)
theorem dX19_init_36 : decode cX19_init 36 = .ok (.aload_n 0, 1) := dk_42 (dk_at dksX19_init_1 13 rfl rfl)
theorem dX19_init_37 : decode cX19_init 37 = .ok (.bipush 8, 2) := dk_16 8 (dk_at dksX19_init_1 14 rfl rfl)
theorem dX19_init_39 : decode cX19_init 39 = .ok (.newarray .int, 2) := dk_188_10 (dk_at dksX19_init_1 16 rfl rfl)
theorem dX19_init_41 : decode cX19_init 41 = .ok (.putfield 29, 3) := dk_181 0 29 (dk_at dksX19_init_1 18 rfl rfl)
theorem dX19_init_44 : decode cX19_init 44 = .ok (.aload_n 0, 1) := dk_42 (dk_at dksX19_init_1 21 rfl rfl)
theorem dX19_init_45 : decode cX19_init 45 = .ok (.bipush 8, 2) := dk_16 8 (dk_at dksX19_init_1 22 rfl rfl)
theorem dX19_init_47 : decode cX19_init 47 = .ok (.newarray .int, 2) := dk_188_10 (dk_at dksX19_init_2 0 rfl rfl)
theorem dX19_init_49 : decode cX19_init 49 = .ok (.putfield 32, 3) := dk_181 0 32 (dk_at dksX19_init_2 2 rfl rfl)
theorem dX19_init_52 : decode cX19_init 52 = .ok (.return_, 1) := dk_177 (dk_at dksX19_init_2 5 rfl rfl)
abbrev cX19_inspect : ByteArray := prog_5_method_9_code
def yX19_inspect : MethodName := ⟨RX19, "inspect", "()Ljava/util/ArrayList;"⟩
def dkwX19_inspect_6 : List UInt8 := [176]
abbrev dktX19_inspect_6 : List UInt8 := dkwX19_inspect_6 ++ []
def dkwX19_inspect_5 : List UInt8 := [42, 3, 7, 28, 2, 182, 0, 66, 132, 2, 1, 167, 255, 206, 132, 1, 1, 167, 255, 122, 42, 180, 0, 18]
abbrev dktX19_inspect_5 : List UInt8 := dkwX19_inspect_5 ++ dktX19_inspect_6
def dkwX19_inspect_4 : List UInt8 := [182, 0, 59, 154, 0, 29, 42, 180, 0, 3, 180, 0, 104, 182, 0, 108, 28, 122, 4, 126, 4, 160, 0, 11]
abbrev dktX19_inspect_4 : List UInt8 := dkwX19_inspect_4 ++ dktX19_inspect_5
def dkwX19_inspect_3 : List UInt8 := [42, 27, 6, 182, 0, 100, 3, 61, 27, 154, 0, 52, 28, 16, 8, 162, 0, 46, 42, 180, 0, 3, 28]
abbrev dktX19_inspect_3 : List UInt8 := dkwX19_inspect_3 ++ dktX19_inspect_4
def dkwX19_inspect_2 : List UInt8 := [42, 27, 4, 28, 2, 182, 0, 66, 132, 2, 1, 167, 255, 220, 42, 27, 5, 182, 0, 100, 27, 158, 0, 9]
abbrev dktX19_inspect_2 : List UInt8 := dkwX19_inspect_2 ++ dktX19_inspect_3
def dkwX19_inspect_1 : List UInt8 := [16, 8, 162, 0, 36, 42, 180, 0, 3, 28, 182, 0, 59, 153, 0, 19, 42, 28, 182, 0, 97, 153, 0, 11]
abbrev dktX19_inspect_1 : List UInt8 := dkwX19_inspect_1 ++ dktX19_inspect_2
def dkwX19_inspect_0 : List UInt8 := [3, 60, 27, 42, 180, 0, 3, 180, 0, 73, 180, 0, 90, 163, 0, 126, 42, 27, 182, 0, 93, 3, 61, 28]
abbrev dktX19_inspect_0 : List UInt8 := dkwX19_inspect_0 ++ dktX19_inspect_1
theorem dksX19_inspect_0 : cX19_inspect.data.toList.drop 0 = dktX19_inspect_0 := by decide +kernel
theorem dksX19_inspect_1 : cX19_inspect.data.toList.drop 24 = dktX19_inspect_1 := dk_seg dksX19_inspect_0 24 rfl rfl
theorem dksX19_inspect_2 : cX19_inspect.data.toList.drop 48 = dktX19_inspect_2 := dk_seg dksX19_inspect_1 24 rfl rfl
theorem dksX19_inspect_3 : cX19_inspect.data.toList.drop 72 = dktX19_inspect_3 := dk_seg dksX19_inspect_2 24 rfl rfl
theorem dksX19_inspect_4 : cX19_inspect.data.toList.drop 95 = dktX19_inspect_4 := dk_seg dksX19_inspect_3 23 rfl rfl
theorem dksX19_inspect_5 : cX19_inspect.data.toList.drop 119 = dktX19_inspect_5 := dk_seg dksX19_inspect_4 24 rfl rfl
theorem dksX19_inspect_6 : cX19_inspect.data.toList.drop 143 = dktX19_inspect_6 := dk_seg dksX19_inspect_5 24 rfl rfl
theorem dX19_inspect_0 : decode cX19_inspect 0 = .ok (.iconst 0, 1) := dk_3 (dk_at dksX19_inspect_0 0 rfl rfl)
theorem dX19_inspect_1 : decode cX19_inspect 1 = .ok (.istore_n 1, 1) := dk_60 (dk_at dksX19_inspect_0 1 rfl rfl)
theorem dX19_inspect_2 : decode cX19_inspect 2 = .ok (.iload_n 1, 1) := dk_27 (dk_at dksX19_inspect_0 2 rfl rfl)
theorem dX19_inspect_3 : decode cX19_inspect 3 = .ok (.aload_n 0, 1) := dk_42 (dk_at dksX19_inspect_0 3 rfl rfl)
theorem dX19_inspect_4 : decode cX19_inspect 4 = .ok (.getfield 3, 3) := dk_180 0 3 (dk_at dksX19_inspect_0 4 rfl rfl)
theorem dX19_inspect_7 : decode cX19_inspect 7 = .ok (.getfield 73, 3) := dk_180 0 73 (dk_at dksX19_inspect_0 7 rfl rfl)
theorem dX19_inspect_10 : decode cX19_inspect 10 = .ok (.getfield 90, 3) := dk_180 0 90 (dk_at dksX19_inspect_0 10 rfl rfl)
theorem dX19_inspect_13 : decode cX19_inspect 13 = .ok (.if_icmp .gt 126, 3) := dk_163 0 126 (dk_at dksX19_inspect_0 13 rfl rfl)
theorem dX19_inspect_16 : decode cX19_inspect 16 = .ok (.aload_n 0, 1) := dk_42 (dk_at dksX19_inspect_0 16 rfl rfl)
theorem dX19_inspect_17 : decode cX19_inspect 17 = .ok (.iload_n 1, 1) := dk_27 (dk_at dksX19_inspect_0 17 rfl rfl)
theorem dX19_inspect_18 : decode cX19_inspect 18 = .ok (.invokevirtual 93, 3) := dk_182 0 93 (dk_at dksX19_inspect_0 18 rfl rfl)
theorem dX19_inspect_21 : decode cX19_inspect 21 = .ok (.iconst 0, 1) := dk_3 (dk_at dksX19_inspect_0 21 rfl rfl)
theorem dX19_inspect_22 : decode cX19_inspect 22 = .ok (.istore_n 2, 1) := dk_61 (dk_at dksX19_inspect_0 22 rfl rfl)
theorem dX19_inspect_23 : decode cX19_inspect 23 = .ok (.iload_n 2, 1) := dk_28 (dk_at dksX19_inspect_0 23 rfl rfl)
theorem dX19_inspect_24 : decode cX19_inspect 24 = .ok (.bipush 8, 2) := dk_16 8 (dk_at dksX19_inspect_1 0 rfl rfl)
theorem dX19_inspect_26 : decode cX19_inspect 26 = .ok (.if_icmp .ge 36, 3) := dk_162 0 36 (dk_at dksX19_inspect_1 2 rfl rfl)
theorem dX19_inspect_29 : decode cX19_inspect 29 = .ok (.aload_n 0, 1) := dk_42 (dk_at dksX19_inspect_1 5 rfl rfl)
theorem dX19_inspect_30 : decode cX19_inspect 30 = .ok (.getfield 3, 3) := dk_180 0 3 (dk_at dksX19_inspect_1 6 rfl rfl)
theorem dX19_inspect_33 : decode cX19_inspect 33 = .ok (.iload_n 2, 1) := dk_28 (dk_at dksX19_inspect_1 9 rfl rfl)
theorem dX19_inspect_34 : decode cX19_inspect 34 = .ok (.invokevirtual 59, 3) := dk_182 0 59 (dk_at dksX19_inspect_1 10 rfl rfl)
theorem dX19_inspect_37 : decode cX19_inspect 37 = .ok (.ifCond .eq 19, 3) := dk_153 0 19 (dk_at dksX19_inspect_1 13 rfl rfl)
theorem dX19_inspect_40 : decode cX19_inspect 40 = .ok (.aload_n 0, 1) := dk_42 (dk_at dksX19_inspect_1 16 rfl rfl)
theorem dX19_inspect_41 : decode cX19_inspect 41 = .ok (.iload_n 2, 1) := dk_28 (dk_at dksX19_inspect_1 17 rfl rfl)
theorem dX19_inspect_42 : decode cX19_inspect 42 = .ok (.invokevirtual 97, 3) := dk_182 0 97 (dk_at dksX19_inspect_1 18 rfl rfl)
theorem dX19_inspect_45 : decode cX19_inspect 45 = .ok (.ifCond .eq 11, 3) := dk_153 0 11 (dk_at dksX19_inspect_1 21 rfl rfl)
theorem dX19_inspect_48 : decode cX19_inspect 48 = .ok (.aload_n 0, 1) := dk_42 (dk_at dksX19_inspect_2 0 rfl rfl)
theorem dX19_inspect_49 : decode cX19_inspect 49 = .ok (.iload_n 1, 1) := dk_27 (dk_at dksX19_inspect_2 1 rfl rfl)
theorem dX19_inspect_50 : decode cX19_inspect 50 = .ok (.iconst 1, 1) := dk_4 (dk_at dksX19_inspect_2 2 rfl rfl)
theorem dX19_inspect_51 : decode cX19_inspect 51 = .ok (.iload_n 2, 1) := dk_28 (dk_at dksX19_inspect_2 3 rfl rfl)
theorem dX19_inspect_52 : decode cX19_inspect 52 = .ok (.iconst (-1), 1) := dk_2 (dk_at dksX19_inspect_2 4 rfl rfl)
theorem dX19_inspect_53 : decode cX19_inspect 53 = .ok (.invokevirtual 66, 3) := dk_182 0 66 (dk_at dksX19_inspect_2 5 rfl rfl)
theorem dX19_inspect_56 : decode cX19_inspect 56 = .ok (.iinc 2 1, 3) := dk_132 2 1 (dk_at dksX19_inspect_2 8 rfl rfl)
theorem dX19_inspect_59 : decode cX19_inspect 59 = .ok (.goto (-36), 3) := dk_167 255 220 (dk_at dksX19_inspect_2 11 rfl rfl)
theorem dX19_inspect_62 : decode cX19_inspect 62 = .ok (.aload_n 0, 1) := dk_42 (dk_at dksX19_inspect_2 14 rfl rfl)
theorem dX19_inspect_63 : decode cX19_inspect 63 = .ok (.iload_n 1, 1) := dk_27 (dk_at dksX19_inspect_2 15 rfl rfl)
theorem dX19_inspect_64 : decode cX19_inspect 64 = .ok (.iconst 2, 1) := dk_5 (dk_at dksX19_inspect_2 16 rfl rfl)
theorem dX19_inspect_65 : decode cX19_inspect 65 = .ok (.invokevirtual 100, 3) := dk_182 0 100 (dk_at dksX19_inspect_2 17 rfl rfl)
theorem dX19_inspect_68 : decode cX19_inspect 68 = .ok (.iload_n 1, 1) := dk_27 (dk_at dksX19_inspect_2 20 rfl rfl)
theorem dX19_inspect_69 : decode cX19_inspect 69 = .ok (.ifCond .le 9, 3) := dk_158 0 9 (dk_at dksX19_inspect_2 21 rfl rfl)
theorem dX19_inspect_72 : decode cX19_inspect 72 = .ok (.aload_n 0, 1) := dk_42 (dk_at dksX19_inspect_3 0 rfl rfl)
theorem dX19_inspect_73 : decode cX19_inspect 73 = .ok (.iload_n 1, 1) := dk_27 (dk_at dksX19_inspect_3 1 rfl rfl)
theorem dX19_inspect_74 : decode cX19_inspect 74 = .ok (.iconst 3, 1) := dk_6 (dk_at dksX19_inspect_3 2 rfl rfl)
theorem dX19_inspect_75 : decode cX19_inspect 75 = .ok (.invokevirtual 100, 3) := dk_182 0 100 (dk_at dksX19_inspect_3 3 rfl rfl)
theorem dX19_inspect_78 : decode cX19_inspect 78 = .ok (.iconst 0, 1) := dk_3 (dk_at dksX19_inspect_3 6 rfl rfl)
theorem dX19_inspect_79 : decode cX19_inspect 79 = .ok (.istore_n 2, 1) := dk_61 (dk_at dksX19_inspect_3 7 rfl rfl)
theorem dX19_inspect_80 : decode cX19_inspect 80 = .ok (.iload_n 1, 1) := dk_27 (dk_at dksX19_inspect_3 8 rfl rfl)
theorem dX19_inspect_81 : decode cX19_inspect 81 = .ok (.ifCond .ne 52, 3) := dk_154 0 52 (dk_at dksX19_inspect_3 9 rfl rfl)
theorem dX19_inspect_84 : decode cX19_inspect 84 = .ok (.iload_n 2, 1) := dk_28 (dk_at dksX19_inspect_3 12 rfl rfl)
theorem dX19_inspect_85 : decode cX19_inspect 85 = .ok (.bipush 8, 2) := dk_16 8 (dk_at dksX19_inspect_3 13 rfl rfl)
theorem dX19_inspect_87 : decode cX19_inspect 87 = .ok (.if_icmp .ge 46, 3) := dk_162 0 46 (dk_at dksX19_inspect_3 15 rfl rfl)
theorem dX19_inspect_90 : decode cX19_inspect 90 = .ok (.aload_n 0, 1) := dk_42 (dk_at dksX19_inspect_3 18 rfl rfl)
theorem dX19_inspect_91 : decode cX19_inspect 91 = .ok (.getfield 3, 3) := dk_180 0 3 (dk_at dksX19_inspect_3 19 rfl rfl)
theorem dX19_inspect_94 : decode cX19_inspect 94 = .ok (.iload_n 2, 1) := dk_28 (dk_at dksX19_inspect_3 22 rfl rfl)
theorem dX19_inspect_95 : decode cX19_inspect 95 = .ok (.invokevirtual 59, 3) := dk_182 0 59 (dk_at dksX19_inspect_4 0 rfl rfl)
theorem dX19_inspect_98 : decode cX19_inspect 98 = .ok (.ifCond .ne 29, 3) := dk_154 0 29 (dk_at dksX19_inspect_4 3 rfl rfl)
theorem dX19_inspect_101 : decode cX19_inspect 101 = .ok (.aload_n 0, 1) := dk_42 (dk_at dksX19_inspect_4 6 rfl rfl)
theorem dX19_inspect_102 : decode cX19_inspect 102 = .ok (.getfield 3, 3) := dk_180 0 3 (dk_at dksX19_inspect_4 7 rfl rfl)
theorem dX19_inspect_105 : decode cX19_inspect 105 = .ok (.getfield 104, 3) := dk_180 0 104 (dk_at dksX19_inspect_4 10 rfl rfl)
theorem dX19_inspect_108 : decode cX19_inspect 108 = .ok (.invokevirtual 108, 3) := dk_182 0 108 (dk_at dksX19_inspect_4 13 rfl rfl)
theorem dX19_inspect_111 : decode cX19_inspect 111 = .ok (.iload_n 2, 1) := dk_28 (dk_at dksX19_inspect_4 16 rfl rfl)
theorem dX19_inspect_112 : decode cX19_inspect 112 = .ok (.ishr, 1) := dk_122 (dk_at dksX19_inspect_4 17 rfl rfl)
theorem dX19_inspect_113 : decode cX19_inspect 113 = .ok (.iconst 1, 1) := dk_4 (dk_at dksX19_inspect_4 18 rfl rfl)
theorem dX19_inspect_114 : decode cX19_inspect 114 = .ok (.iand, 1) := dk_126 (dk_at dksX19_inspect_4 19 rfl rfl)
theorem dX19_inspect_115 : decode cX19_inspect 115 = .ok (.iconst 1, 1) := dk_4 (dk_at dksX19_inspect_4 20 rfl rfl)
theorem dX19_inspect_116 : decode cX19_inspect 116 = .ok (.if_icmp .ne 11, 3) := dk_160 0 11 (dk_at dksX19_inspect_4 21 rfl rfl)
theorem dX19_inspect_119 : decode cX19_inspect 119 = .ok (.aload_n 0, 1) := dk_42 (dk_at dksX19_inspect_5 0 rfl rfl)
theorem dX19_inspect_120 : decode cX19_inspect 120 = .ok (.iconst 0, 1) := dk_3 (dk_at dksX19_inspect_5 1 rfl rfl)
theorem dX19_inspect_121 : decode cX19_inspect 121 = .ok (.iconst 4, 1) := dk_7 (dk_at dksX19_inspect_5 2 rfl rfl)
theorem dX19_inspect_122 : decode cX19_inspect 122 = .ok (.iload_n 2, 1) := dk_28 (dk_at dksX19_inspect_5 3 rfl rfl)
theorem dX19_inspect_123 : decode cX19_inspect 123 = .ok (.iconst (-1), 1) := dk_2 (dk_at dksX19_inspect_5 4 rfl rfl)
theorem dX19_inspect_124 : decode cX19_inspect 124 = .ok (.invokevirtual 66, 3) := dk_182 0 66 (dk_at dksX19_inspect_5 5 rfl rfl)
theorem dX19_inspect_127 : decode cX19_inspect 127 = .ok (.iinc 2 1, 3) := dk_132 2 1 (dk_at dksX19_inspect_5 8 rfl rfl)
theorem dX19_inspect_130 : decode cX19_inspect 130 = .ok (.goto (-50), 3) := dk_167 255 206 (dk_at dksX19_inspect_5 11 rfl rfl)
theorem dX19_inspect_133 : decode cX19_inspect 133 = .ok (.iinc 1 1, 3) := dk_132 1 1 (dk_at dksX19_inspect_5 14 rfl rfl)
theorem dX19_inspect_136 : decode cX19_inspect 136 = .ok (.goto (-134), 3) := dk_167 255 122 (dk_at dksX19_inspect_5 17 rfl rfl)
theorem dX19_inspect_139 : decode cX19_inspect 139 = .ok (.aload_n 0, 1) := dk_42 (dk_at dksX19_inspect_5 20 rfl rfl)
theorem dX19_inspect_140 : decode cX19_inspect 140 = .ok (.getfield 18, 3) := dk_180 0 18 (dk_at dksX19_inspect_5 21 rfl rfl)
theorem dX19_inspect_143 : decode cX19_inspect 143 = .ok (.areturn, 1) := dk_176 (dk_at dksX19_inspect_6 0 rfl rfl)
abbrev cX19_move : ByteArray := prog_5_method_8_code
def yX19_move : MethodName := ⟨RX19, "move", "(I)V"⟩
def dkwX19_move_6 : List UInt8 := [96, 79, 132, 2, 1, 167, 255, 111, 177]
abbrev dktX19_move_6 : List UInt8 := dkwX19_move_6 ++ []
def dkwX19_move_5 : List UInt8 := [180, 0, 26, 28, 46, 42, 180, 0, 3, 180, 0, 73, 180, 0, 77, 28, 50, 27, 4, 100, 52, 184, 0, 87]
abbrev dktX19_move_5 : List UInt8 := dkwX19_move_5 ++ dktX19_move_6
def dkwX19_move_4 : List UInt8 := [154, 0, 23, 42, 180, 0, 3, 180, 0, 70, 28, 46, 42, 180, 0, 3, 180, 0, 49, 112, 167, 0, 29, 42]
abbrev dktX19_move_4 : List UInt8 := dkwX19_move_4 ++ dktX19_move_5
def dkwX19_move_3 : List UInt8 := [180, 0, 73, 180, 0, 77, 28, 50, 27, 4, 100, 52, 184, 0, 83, 96, 79, 42, 180, 0, 26, 28, 27]
abbrev dktX19_move_3 : List UInt8 := dkwX19_move_3 ++ dktX19_move_4
def dkwX19_move_2 : List UInt8 := [28, 46, 42, 180, 0, 3, 180, 0, 49, 108, 167, 0, 29, 42, 180, 0, 22, 28, 46, 42, 180, 0, 3]
abbrev dktX19_move_2 : List UInt8 := dkwX19_move_2 ++ dktX19_move_3
def dkwX19_move_1 : List UInt8 := [28, 42, 180, 0, 26, 28, 46, 79, 42, 180, 0, 22, 28, 27, 154, 0, 23, 42, 180, 0, 3, 180, 0, 70]
abbrev dktX19_move_1 : List UInt8 := dkwX19_move_1 ++ dktX19_move_2
def dkwX19_move_0 : List UInt8 := [3, 61, 28, 16, 8, 162, 0, 145, 42, 180, 0, 29, 28, 42, 180, 0, 22, 28, 46, 79, 42, 180, 0, 32]
abbrev dktX19_move_0 : List UInt8 := dkwX19_move_0 ++ dktX19_move_1
theorem dksX19_move_0 : cX19_move.data.toList.drop 0 = dktX19_move_0 := by decide +kernel
theorem dksX19_move_1 : cX19_move.data.toList.drop 24 = dktX19_move_1 := dk_seg dksX19_move_0 24 rfl rfl
theorem dksX19_move_2 : cX19_move.data.toList.drop 48 = dktX19_move_2 := dk_seg dksX19_move_1 24 rfl rfl
theorem dksX19_move_3 : cX19_move.data.toList.drop 71 = dktX19_move_3 := dk_seg dksX19_move_2 23 rfl rfl
theorem dksX19_move_4 : cX19_move.data.toList.drop 94 = dktX19_move_4 := dk_seg dksX19_move_3 23 rfl rfl
theorem dksX19_move_5 : cX19_move.data.toList.drop 118 = dktX19_move_5 := dk_seg dksX19_move_4 24 rfl rfl
theorem dksX19_move_6 : cX19_move.data.toList.drop 142 = dktX19_move_6 := dk_seg dksX19_move_5 24 rfl rfl
theorem dX19_move_0 : decode cX19_move 0 = .ok (.iconst 0, 1) := dk_3 (dk_at dksX19_move_0 0 rfl rfl)
theorem dX19_move_1 : decode cX19_move 1 = .ok (.istore_n 2, 1) := dk_61 (dk_at dksX19_move_0 1 rfl rfl)
theorem dX19_move_2 : decode cX19_move 2 = .ok (.iload_n 2, 1) := dk_28 (dk_at dksX19_move_0 2 rfl rfl)
theorem dX19_move_3 : decode cX19_move 3 = .ok (.bipush 8, 2) := dk_16 8 (dk_at dksX19_move_0 3 rfl rfl)
theorem dX19_move_5 : decode cX19_move 5 = .ok (.if_icmp .ge 145, 3) := dk_162 0 145 (dk_at dksX19_move_0 5 rfl rfl)
theorem dX19_move_8 : decode cX19_move 8 = .ok (.aload_n 0, 1) := dk_42 (dk_at dksX19_move_0 8 rfl rfl)
theorem dX19_move_9 : decode cX19_move 9 = .ok (.getfield 29, 3) := dk_180 0 29 (dk_at dksX19_move_0 9 rfl rfl)
theorem dX19_move_12 : decode cX19_move 12 = .ok (.iload_n 2, 1) := dk_28 (dk_at dksX19_move_0 12 rfl rfl)
theorem dX19_move_13 : decode cX19_move 13 = .ok (.aload_n 0, 1) := dk_42 (dk_at dksX19_move_0 13 rfl rfl)
theorem dX19_move_14 : decode cX19_move 14 = .ok (.getfield 22, 3) := dk_180 0 22 (dk_at dksX19_move_0 14 rfl rfl)
theorem dX19_move_17 : decode cX19_move 17 = .ok (.iload_n 2, 1) := dk_28 (dk_at dksX19_move_0 17 rfl rfl)
theorem dX19_move_18 : decode cX19_move 18 = .ok (.iaload, 1) := dk_46 (dk_at dksX19_move_0 18 rfl rfl)
theorem dX19_move_19 : decode cX19_move 19 = .ok (.iastore, 1) := dk_79 (dk_at dksX19_move_0 19 rfl rfl)
theorem dX19_move_20 : decode cX19_move 20 = .ok (.aload_n 0, 1) := dk_42 (dk_at dksX19_move_0 20 rfl rfl)
theorem dX19_move_21 : decode cX19_move 21 = .ok (.getfield 32, 3) := dk_180 0 32 (dk_at dksX19_move_0 21 rfl rfl)
theorem dX19_move_24 : decode cX19_move 24 = .ok (.iload_n 2, 1) := dk_28 (dk_at dksX19_move_1 0 rfl rfl)
theorem dX19_move_25 : decode cX19_move 25 = .ok (.aload_n 0, 1) := dk_42 (dk_at dksX19_move_1 1 rfl rfl)
theorem dX19_move_26 : decode cX19_move 26 = .ok (.getfield 26, 3) := dk_180 0 26 (dk_at dksX19_move_1 2 rfl rfl)
theorem dX19_move_29 : decode cX19_move 29 = .ok (.iload_n 2, 1) := dk_28 (dk_at dksX19_move_1 5 rfl rfl)
theorem dX19_move_30 : decode cX19_move 30 = .ok (.iaload, 1) := dk_46 (dk_at dksX19_move_1 6 rfl rfl)
theorem dX19_move_31 : decode cX19_move 31 = .ok (.iastore, 1) := dk_79 (dk_at dksX19_move_1 7 rfl rfl)
theorem dX19_move_32 : decode cX19_move 32 = .ok (.aload_n 0, 1) := dk_42 (dk_at dksX19_move_1 8 rfl rfl)
theorem dX19_move_33 : decode cX19_move 33 = .ok (.getfield 22, 3) := dk_180 0 22 (dk_at dksX19_move_1 9 rfl rfl)
theorem dX19_move_36 : decode cX19_move 36 = .ok (.iload_n 2, 1) := dk_28 (dk_at dksX19_move_1 12 rfl rfl)
theorem dX19_move_37 : decode cX19_move 37 = .ok (.iload_n 1, 1) := dk_27 (dk_at dksX19_move_1 13 rfl rfl)
theorem dX19_move_38 : decode cX19_move 38 = .ok (.ifCond .ne 23, 3) := dk_154 0 23 (dk_at dksX19_move_1 14 rfl rfl)
theorem dX19_move_41 : decode cX19_move 41 = .ok (.aload_n 0, 1) := dk_42 (dk_at dksX19_move_1 17 rfl rfl)
theorem dX19_move_42 : decode cX19_move 42 = .ok (.getfield 3, 3) := dk_180 0 3 (dk_at dksX19_move_1 18 rfl rfl)
theorem dX19_move_45 : decode cX19_move 45 = .ok (.getfield 70, 3) := dk_180 0 70 (dk_at dksX19_move_1 21 rfl rfl)
theorem dX19_move_48 : decode cX19_move 48 = .ok (.iload_n 2, 1) := dk_28 (dk_at dksX19_move_2 0 rfl rfl)
theorem dX19_move_49 : decode cX19_move 49 = .ok (.iaload, 1) := dk_46 (dk_at dksX19_move_2 1 rfl rfl)
theorem dX19_move_50 : decode cX19_move 50 = .ok (.aload_n 0, 1) := dk_42 (dk_at dksX19_move_2 2 rfl rfl)
theorem dX19_move_51 : decode cX19_move 51 = .ok (.getfield 3, 3) := dk_180 0 3 (dk_at dksX19_move_2 3 rfl rfl)
theorem dX19_move_54 : decode cX19_move 54 = .ok (.getfield 49, 3) := dk_180 0 49 (dk_at dksX19_move_2 6 rfl rfl)
theorem dX19_move_57 : decode cX19_move 57 = .ok (.idiv, 1) := dk_108 (dk_at dksX19_move_2 9 rfl rfl)
theorem dX19_move_58 : decode cX19_move 58 = .ok (.goto 29, 3) := dk_167 0 29 (dk_at dksX19_move_2 10 rfl rfl)
theorem dX19_move_61 : decode cX19_move 61 = .ok (.aload_n 0, 1) := dk_42 (dk_at dksX19_move_2 13 rfl rfl)
theorem dX19_move_62 : decode cX19_move 62 = .ok (.getfield 22, 3) := dk_180 0 22 (dk_at dksX19_move_2 14 rfl rfl)
theorem dX19_move_65 : decode cX19_move 65 = .ok (.iload_n 2, 1) := dk_28 (dk_at dksX19_move_2 17 rfl rfl)
theorem dX19_move_66 : decode cX19_move 66 = .ok (.iaload, 1) := dk_46 (dk_at dksX19_move_2 18 rfl rfl)
theorem dX19_move_67 : decode cX19_move 67 = .ok (.aload_n 0, 1) := dk_42 (dk_at dksX19_move_2 19 rfl rfl)
theorem dX19_move_68 : decode cX19_move 68 = .ok (.getfield 3, 3) := dk_180 0 3 (dk_at dksX19_move_2 20 rfl rfl)
theorem dX19_move_71 : decode cX19_move 71 = .ok (.getfield 73, 3) := dk_180 0 73 (dk_at dksX19_move_3 0 rfl rfl)
theorem dX19_move_74 : decode cX19_move 74 = .ok (.getfield 77, 3) := dk_180 0 77 (dk_at dksX19_move_3 3 rfl rfl)
theorem dX19_move_77 : decode cX19_move 77 = .ok (.iload_n 2, 1) := dk_28 (dk_at dksX19_move_3 6 rfl rfl)
theorem dX19_move_78 : decode cX19_move 78 = .ok (.aaload, 1) := dk_50 (dk_at dksX19_move_3 7 rfl rfl)
theorem dX19_move_79 : decode cX19_move 79 = .ok (.iload_n 1, 1) := dk_27 (dk_at dksX19_move_3 8 rfl rfl)
theorem dX19_move_80 : decode cX19_move 80 = .ok (.iconst 1, 1) := dk_4 (dk_at dksX19_move_3 9 rfl rfl)
theorem dX19_move_81 : decode cX19_move 81 = .ok (.isub, 1) := dk_100 (dk_at dksX19_move_3 10 rfl rfl)
theorem dX19_move_82 : decode cX19_move 82 = .ok (.caload, 1) := dk_52 (dk_at dksX19_move_3 11 rfl rfl)
theorem dX19_move_83 : decode cX19_move 83 = .ok (.invokestatic 83, 3) := dk_184 0 83 (dk_at dksX19_move_3 12 rfl rfl)
theorem dX19_move_86 : decode cX19_move 86 = .ok (.iadd, 1) := dk_96 (dk_at dksX19_move_3 15 rfl rfl)
theorem dX19_move_87 : decode cX19_move 87 = .ok (.iastore, 1) := dk_79 (dk_at dksX19_move_3 16 rfl rfl)
theorem dX19_move_88 : decode cX19_move 88 = .ok (.aload_n 0, 1) := dk_42 (dk_at dksX19_move_3 17 rfl rfl)
theorem dX19_move_89 : decode cX19_move 89 = .ok (.getfield 26, 3) := dk_180 0 26 (dk_at dksX19_move_3 18 rfl rfl)
theorem dX19_move_92 : decode cX19_move 92 = .ok (.iload_n 2, 1) := dk_28 (dk_at dksX19_move_3 21 rfl rfl)
theorem dX19_move_93 : decode cX19_move 93 = .ok (.iload_n 1, 1) := dk_27 (dk_at dksX19_move_3 22 rfl rfl)
theorem dX19_move_94 : decode cX19_move 94 = .ok (.ifCond .ne 23, 3) := dk_154 0 23 (dk_at dksX19_move_4 0 rfl rfl)
theorem dX19_move_97 : decode cX19_move 97 = .ok (.aload_n 0, 1) := dk_42 (dk_at dksX19_move_4 3 rfl rfl)
theorem dX19_move_98 : decode cX19_move 98 = .ok (.getfield 3, 3) := dk_180 0 3 (dk_at dksX19_move_4 4 rfl rfl)
theorem dX19_move_101 : decode cX19_move 101 = .ok (.getfield 70, 3) := dk_180 0 70 (dk_at dksX19_move_4 7 rfl rfl)
theorem dX19_move_104 : decode cX19_move 104 = .ok (.iload_n 2, 1) := dk_28 (dk_at dksX19_move_4 10 rfl rfl)
theorem dX19_move_105 : decode cX19_move 105 = .ok (.iaload, 1) := dk_46 (dk_at dksX19_move_4 11 rfl rfl)
theorem dX19_move_106 : decode cX19_move 106 = .ok (.aload_n 0, 1) := dk_42 (dk_at dksX19_move_4 12 rfl rfl)
theorem dX19_move_107 : decode cX19_move 107 = .ok (.getfield 3, 3) := dk_180 0 3 (dk_at dksX19_move_4 13 rfl rfl)
theorem dX19_move_110 : decode cX19_move 110 = .ok (.getfield 49, 3) := dk_180 0 49 (dk_at dksX19_move_4 16 rfl rfl)
theorem dX19_move_113 : decode cX19_move 113 = .ok (.irem, 1) := dk_112 (dk_at dksX19_move_4 19 rfl rfl)
theorem dX19_move_114 : decode cX19_move 114 = .ok (.goto 29, 3) := dk_167 0 29 (dk_at dksX19_move_4 20 rfl rfl)
theorem dX19_move_117 : decode cX19_move 117 = .ok (.aload_n 0, 1) := dk_42 (dk_at dksX19_move_4 23 rfl rfl)
theorem dX19_move_118 : decode cX19_move 118 = .ok (.getfield 26, 3) := dk_180 0 26 (dk_at dksX19_move_5 0 rfl rfl)
theorem dX19_move_121 : decode cX19_move 121 = .ok (.iload_n 2, 1) := dk_28 (dk_at dksX19_move_5 3 rfl rfl)
theorem dX19_move_122 : decode cX19_move 122 = .ok (.iaload, 1) := dk_46 (dk_at dksX19_move_5 4 rfl rfl)
theorem dX19_move_123 : decode cX19_move 123 = .ok (.aload_n 0, 1) := dk_42 (dk_at dksX19_move_5 5 rfl rfl)
theorem dX19_move_124 : decode cX19_move 124 = .ok (.getfield 3, 3) := dk_180 0 3 (dk_at dksX19_move_5 6 rfl rfl)
theorem dX19_move_127 : decode cX19_move 127 = .ok (.getfield 73, 3) := dk_180 0 73 (dk_at dksX19_move_5 9 rfl rfl)
theorem dX19_move_130 : decode cX19_move 130 = .ok (.getfield 77, 3) := dk_180 0 77 (dk_at dksX19_move_5 12 rfl rfl)
theorem dX19_move_133 : decode cX19_move 133 = .ok (.iload_n 2, 1) := dk_28 (dk_at dksX19_move_5 15 rfl rfl)
theorem dX19_move_134 : decode cX19_move 134 = .ok (.aaload, 1) := dk_50 (dk_at dksX19_move_5 16 rfl rfl)
theorem dX19_move_135 : decode cX19_move 135 = .ok (.iload_n 1, 1) := dk_27 (dk_at dksX19_move_5 17 rfl rfl)
theorem dX19_move_136 : decode cX19_move 136 = .ok (.iconst 1, 1) := dk_4 (dk_at dksX19_move_5 18 rfl rfl)
theorem dX19_move_137 : decode cX19_move 137 = .ok (.isub, 1) := dk_100 (dk_at dksX19_move_5 19 rfl rfl)
theorem dX19_move_138 : decode cX19_move 138 = .ok (.caload, 1) := dk_52 (dk_at dksX19_move_5 20 rfl rfl)
theorem dX19_move_139 : decode cX19_move 139 = .ok (.invokestatic 87, 3) := dk_184 0 87 (dk_at dksX19_move_5 21 rfl rfl)
theorem dX19_move_142 : decode cX19_move 142 = .ok (.iadd, 1) := dk_96 (dk_at dksX19_move_6 0 rfl rfl)
theorem dX19_move_143 : decode cX19_move 143 = .ok (.iastore, 1) := dk_79 (dk_at dksX19_move_6 1 rfl rfl)
theorem dX19_move_144 : decode cX19_move 144 = .ok (.iinc 2 1, 3) := dk_132 2 1 (dk_at dksX19_move_6 2 rfl rfl)
theorem dX19_move_147 : decode cX19_move 147 = .ok (.goto (-145), 3) := dk_167 255 111 (dk_at dksX19_move_6 5 rfl rfl)
theorem dX19_move_150 : decode cX19_move 150 = .ok (.return_, 1) := dk_177 (dk_at dksX19_move_6 8 rfl rfl)
abbrev cX19_isOff : ByteArray := prog_5_method_3_code
def yX19_isOff : MethodName := ⟨RX19, "isOff", "(I)Z"⟩
def dkwX19_isOff_2 : List UInt8 := [4, 167, 0, 4, 3, 172]
abbrev dktX19_isOff_2 : List UInt8 := dkwX19_isOff_2 ++ []
def dkwX19_isOff_1 : List UInt8 := [42, 180, 0, 26, 27, 46, 133, 9, 42, 180, 0, 3, 180, 0, 49, 4, 100, 133, 184, 0, 45, 154, 0, 7]
abbrev dktX19_isOff_1 : List UInt8 := dkwX19_isOff_1 ++ dktX19_isOff_2
def dkwX19_isOff_0 : List UInt8 := [42, 180, 0, 22, 27, 46, 133, 9, 42, 180, 0, 3, 180, 0, 39, 4, 100, 133, 184, 0, 45, 153, 0, 27]
abbrev dktX19_isOff_0 : List UInt8 := dkwX19_isOff_0 ++ dktX19_isOff_1
theorem dksX19_isOff_0 : cX19_isOff.data.toList.drop 0 = dktX19_isOff_0 := by decide +kernel
theorem dksX19_isOff_1 : cX19_isOff.data.toList.drop 24 = dktX19_isOff_1 := dk_seg dksX19_isOff_0 24 rfl rfl
theorem dksX19_isOff_2 : cX19_isOff.data.toList.drop 48 = dktX19_isOff_2 := dk_seg dksX19_isOff_1 24 rfl rfl
theorem dX19_isOff_0 : decode cX19_isOff 0 = .ok (.aload_n 0, 1) := dk_42 (dk_at dksX19_isOff_0 0 rfl rfl)
theorem dX19_isOff_1 : decode cX19_isOff 1 = .ok (.getfield 22, 3) := dk_180 0 22 (dk_at dksX19_isOff_0 1 rfl rfl)
theorem dX19_isOff_4 : decode cX19_isOff 4 = .ok (.iload_n 1, 1) := dk_27 (dk_at dksX19_isOff_0 4 rfl rfl)
theorem dX19_isOff_5 : decode cX19_isOff 5 = .ok (.iaload, 1) := dk_46 (dk_at dksX19_isOff_0 5 rfl rfl)
theorem dX19_isOff_6 : decode cX19_isOff 6 = .ok (.i2l, 1) := dk_133 (dk_at dksX19_isOff_0 6 rfl rfl)
theorem dX19_isOff_7 : decode cX19_isOff 7 = .ok (.lconst 0, 1) := dk_9 (dk_at dksX19_isOff_0 7 rfl rfl)
theorem dX19_isOff_8 : decode cX19_isOff 8 = .ok (.aload_n 0, 1) := dk_42 (dk_at dksX19_isOff_0 8 rfl rfl)
theorem dX19_isOff_9 : decode cX19_isOff 9 = .ok (.getfield 3, 3) := dk_180 0 3 (dk_at dksX19_isOff_0 9 rfl rfl)
theorem dX19_isOff_12 : decode cX19_isOff 12 = .ok (.getfield 39, 3) := dk_180 0 39 (dk_at dksX19_isOff_0 12 rfl rfl)
theorem dX19_isOff_15 : decode cX19_isOff 15 = .ok (.iconst 1, 1) := dk_4 (dk_at dksX19_isOff_0 15 rfl rfl)
theorem dX19_isOff_16 : decode cX19_isOff 16 = .ok (.isub, 1) := dk_100 (dk_at dksX19_isOff_0 16 rfl rfl)
theorem dX19_isOff_17 : decode cX19_isOff 17 = .ok (.i2l, 1) := dk_133 (dk_at dksX19_isOff_0 17 rfl rfl)
theorem dX19_isOff_18 : decode cX19_isOff 18 = .ok (.invokestatic 45, 3) := dk_184 0 45 (dk_at dksX19_isOff_0 18 rfl rfl)
theorem dX19_isOff_21 : decode cX19_isOff 21 = .ok (.ifCond .eq 27, 3) := dk_153 0 27 (dk_at dksX19_isOff_0 21 rfl rfl)
theorem dX19_isOff_24 : decode cX19_isOff 24 = .ok (.aload_n 0, 1) := dk_42 (dk_at dksX19_isOff_1 0 rfl rfl)
theorem dX19_isOff_25 : decode cX19_isOff 25 = .ok (.getfield 26, 3) := dk_180 0 26 (dk_at dksX19_isOff_1 1 rfl rfl)
theorem dX19_isOff_28 : decode cX19_isOff 28 = .ok (.iload_n 1, 1) := dk_27 (dk_at dksX19_isOff_1 4 rfl rfl)
theorem dX19_isOff_29 : decode cX19_isOff 29 = .ok (.iaload, 1) := dk_46 (dk_at dksX19_isOff_1 5 rfl rfl)
theorem dX19_isOff_30 : decode cX19_isOff 30 = .ok (.i2l, 1) := dk_133 (dk_at dksX19_isOff_1 6 rfl rfl)
theorem dX19_isOff_31 : decode cX19_isOff 31 = .ok (.lconst 0, 1) := dk_9 (dk_at dksX19_isOff_1 7 rfl rfl)
theorem dX19_isOff_32 : decode cX19_isOff 32 = .ok (.aload_n 0, 1) := dk_42 (dk_at dksX19_isOff_1 8 rfl rfl)
theorem dX19_isOff_33 : decode cX19_isOff 33 = .ok (.getfield 3, 3) := dk_180 0 3 (dk_at dksX19_isOff_1 9 rfl rfl)
theorem dX19_isOff_36 : decode cX19_isOff 36 = .ok (.getfield 49, 3) := dk_180 0 49 (dk_at dksX19_isOff_1 12 rfl rfl)
theorem dX19_isOff_39 : decode cX19_isOff 39 = .ok (.iconst 1, 1) := dk_4 (dk_at dksX19_isOff_1 15 rfl rfl)
theorem dX19_isOff_40 : decode cX19_isOff 40 = .ok (.isub, 1) := dk_100 (dk_at dksX19_isOff_1 16 rfl rfl)
theorem dX19_isOff_41 : decode cX19_isOff 41 = .ok (.i2l, 1) := dk_133 (dk_at dksX19_isOff_1 17 rfl rfl)
theorem dX19_isOff_42 : decode cX19_isOff 42 = .ok (.invokestatic 45, 3) := dk_184 0 45 (dk_at dksX19_isOff_1 18 rfl rfl)
theorem dX19_isOff_45 : decode cX19_isOff 45 = .ok (.ifCond .ne 7, 3) := dk_154 0 7 (dk_at dksX19_isOff_1 21 rfl rfl)
theorem dX19_isOff_48 : decode cX19_isOff 48 = .ok (.iconst 1, 1) := dk_4 (dk_at dksX19_isOff_2 0 rfl rfl)
theorem dX19_isOff_49 : decode cX19_isOff 49 = .ok (.goto 4, 3) := dk_167 0 4 (dk_at dksX19_isOff_2 1 rfl rfl)
theorem dX19_isOff_52 : decode cX19_isOff 52 = .ok (.iconst 0, 1) := dk_3 (dk_at dksX19_isOff_2 4 rfl rfl)
theorem dX19_isOff_53 : decode cX19_isOff 53 = .ok (.ireturn, 1) := dk_172 (dk_at dksX19_isOff_2 5 rfl rfl)
abbrev cX19_tell : ByteArray := prog_5_method_2_code
def yX19_tell : MethodName := ⟨RX19, "tell", "(IIII)V"⟩
def dkwX19_tell_1 : List UInt8 := [182, 0, 35, 54, 5, 177]
abbrev dktX19_tell_1 : List UInt8 := dkwX19_tell_1 ++ []
def dkwX19_tell_0 : List UInt8 := [42, 180, 0, 18, 7, 188, 10, 89, 3, 27, 79, 89, 4, 28, 79, 89, 5, 29, 79, 89, 6, 21, 4, 79]
abbrev dktX19_tell_0 : List UInt8 := dkwX19_tell_0 ++ dktX19_tell_1
theorem dksX19_tell_0 : cX19_tell.data.toList.drop 0 = dktX19_tell_0 := by decide +kernel
theorem dksX19_tell_1 : cX19_tell.data.toList.drop 24 = dktX19_tell_1 := dk_seg dksX19_tell_0 24 rfl rfl
theorem dX19_tell_0 : decode cX19_tell 0 = .ok (.aload_n 0, 1) := dk_42 (dk_at dksX19_tell_0 0 rfl rfl)
theorem dX19_tell_1 : decode cX19_tell 1 = .ok (.getfield 18, 3) := dk_180 0 18 (dk_at dksX19_tell_0 1 rfl rfl)
theorem dX19_tell_4 : decode cX19_tell 4 = .ok (.iconst 4, 1) := dk_7 (dk_at dksX19_tell_0 4 rfl rfl)
theorem dX19_tell_5 : decode cX19_tell 5 = .ok (.newarray .int, 2) := dk_188_10 (dk_at dksX19_tell_0 5 rfl rfl)
theorem dX19_tell_7 : decode cX19_tell 7 = .ok (.dup, 1) := dk_89 (dk_at dksX19_tell_0 7 rfl rfl)
theorem dX19_tell_8 : decode cX19_tell 8 = .ok (.iconst 0, 1) := dk_3 (dk_at dksX19_tell_0 8 rfl rfl)
theorem dX19_tell_9 : decode cX19_tell 9 = .ok (.iload_n 1, 1) := dk_27 (dk_at dksX19_tell_0 9 rfl rfl)
theorem dX19_tell_10 : decode cX19_tell 10 = .ok (.iastore, 1) := dk_79 (dk_at dksX19_tell_0 10 rfl rfl)
theorem dX19_tell_11 : decode cX19_tell 11 = .ok (.dup, 1) := dk_89 (dk_at dksX19_tell_0 11 rfl rfl)
theorem dX19_tell_12 : decode cX19_tell 12 = .ok (.iconst 1, 1) := dk_4 (dk_at dksX19_tell_0 12 rfl rfl)
theorem dX19_tell_13 : decode cX19_tell 13 = .ok (.iload_n 2, 1) := dk_28 (dk_at dksX19_tell_0 13 rfl rfl)
theorem dX19_tell_14 : decode cX19_tell 14 = .ok (.iastore, 1) := dk_79 (dk_at dksX19_tell_0 14 rfl rfl)
theorem dX19_tell_15 : decode cX19_tell 15 = .ok (.dup, 1) := dk_89 (dk_at dksX19_tell_0 15 rfl rfl)
theorem dX19_tell_16 : decode cX19_tell 16 = .ok (.iconst 2, 1) := dk_5 (dk_at dksX19_tell_0 16 rfl rfl)
theorem dX19_tell_17 : decode cX19_tell 17 = .ok (.iload_n 3, 1) := dk_29 (dk_at dksX19_tell_0 17 rfl rfl)
theorem dX19_tell_18 : decode cX19_tell 18 = .ok (.iastore, 1) := dk_79 (dk_at dksX19_tell_0 18 rfl rfl)
theorem dX19_tell_19 : decode cX19_tell 19 = .ok (.dup, 1) := dk_89 (dk_at dksX19_tell_0 19 rfl rfl)
theorem dX19_tell_20 : decode cX19_tell 20 = .ok (.iconst 3, 1) := dk_6 (dk_at dksX19_tell_0 20 rfl rfl)
theorem dX19_tell_21 : decode cX19_tell 21 = .ok (.iload 4, 2) := dk_21 4 (dk_at dksX19_tell_0 21 rfl rfl)
theorem dX19_tell_23 : decode cX19_tell 23 = .ok (.iastore, 1) := dk_79 (dk_at dksX19_tell_0 23 rfl rfl)
theorem dX19_tell_24 : decode cX19_tell 24 = .ok (.invokevirtual 35, 3) := dk_182 0 35 (dk_at dksX19_tell_1 0 rfl rfl)
theorem dX19_tell_27 : decode cX19_tell 27 = .ok (.istore 5, 2) := dk_54 5 (dk_at dksX19_tell_1 3 rfl rfl)
theorem dX19_tell_29 : decode cX19_tell 29 = .ok (.return_, 1) := dk_177 (dk_at dksX19_tell_1 5 rfl rfl)
abbrev cX19_inspectPairs : ByteArray := prog_5_method_7_code
def yX19_inspectPairs : MethodName := ⟨RX19, "inspectPairs", "(II)V"⟩
def dkwX19_inspectPairs_4 : List UInt8 := [132, 4, 1, 167, 255, 174, 132, 3, 1, 167, 255, 157, 177]
abbrev dktX19_inspectPairs_4 : List UInt8 := dkwX19_inspectPairs_4 ++ []
def dkwX19_inspectPairs_3 : List UInt8 := [167, 0, 13, 42, 29, 21, 4, 182, 0, 63, 153, 0, 12, 42, 27, 28, 29, 21, 4, 182, 0, 66]
abbrev dktX19_inspectPairs_3 : List UInt8 := dkwX19_inspectPairs_3 ++ dktX19_inspectPairs_4
def dkwX19_inspectPairs_2 : List UInt8 := [54, 5, 21, 5, 153, 0, 40, 28, 5, 160, 0, 16, 42, 29, 21, 4, 182, 0, 56, 153, 0, 25]
abbrev dktX19_inspectPairs_2 : List UInt8 := dkwX19_inspectPairs_2 ++ dktX19_inspectPairs_3
def dkwX19_inspectPairs_1 : List UInt8 := [29, 182, 0, 59, 153, 0, 19, 42, 180, 0, 3, 21, 4, 182, 0, 59, 153, 0, 7, 4, 167, 0, 4, 3]
abbrev dktX19_inspectPairs_1 : List UInt8 := dkwX19_inspectPairs_1 ++ dktX19_inspectPairs_2
def dkwX19_inspectPairs_0 : List UInt8 := [3, 62, 29, 16, 8, 162, 0, 99, 29, 4, 96, 54, 4, 21, 4, 16, 8, 162, 0, 81, 42, 180, 0, 3]
abbrev dktX19_inspectPairs_0 : List UInt8 := dkwX19_inspectPairs_0 ++ dktX19_inspectPairs_1
theorem dksX19_inspectPairs_0 : cX19_inspectPairs.data.toList.drop 0 = dktX19_inspectPairs_0 := by decide +kernel
theorem dksX19_inspectPairs_1 : cX19_inspectPairs.data.toList.drop 24 = dktX19_inspectPairs_1 := dk_seg dksX19_inspectPairs_0 24 rfl rfl
theorem dksX19_inspectPairs_2 : cX19_inspectPairs.data.toList.drop 48 = dktX19_inspectPairs_2 := dk_seg dksX19_inspectPairs_1 24 rfl rfl
theorem dksX19_inspectPairs_3 : cX19_inspectPairs.data.toList.drop 70 = dktX19_inspectPairs_3 := dk_seg dksX19_inspectPairs_2 22 rfl rfl
theorem dksX19_inspectPairs_4 : cX19_inspectPairs.data.toList.drop 92 = dktX19_inspectPairs_4 := dk_seg dksX19_inspectPairs_3 22 rfl rfl
theorem dX19_inspectPairs_0 : decode cX19_inspectPairs 0 = .ok (.iconst 0, 1) := dk_3 (dk_at dksX19_inspectPairs_0 0 rfl rfl)
theorem dX19_inspectPairs_1 : decode cX19_inspectPairs 1 = .ok (.istore_n 3, 1) := dk_62 (dk_at dksX19_inspectPairs_0 1 rfl rfl)
theorem dX19_inspectPairs_2 : decode cX19_inspectPairs 2 = .ok (.iload_n 3, 1) := dk_29 (dk_at dksX19_inspectPairs_0 2 rfl rfl)
theorem dX19_inspectPairs_3 : decode cX19_inspectPairs 3 = .ok (.bipush 8, 2) := dk_16 8 (dk_at dksX19_inspectPairs_0 3 rfl rfl)
theorem dX19_inspectPairs_5 : decode cX19_inspectPairs 5 = .ok (.if_icmp .ge 99, 3) := dk_162 0 99 (dk_at dksX19_inspectPairs_0 5 rfl rfl)
theorem dX19_inspectPairs_8 : decode cX19_inspectPairs 8 = .ok (.iload_n 3, 1) := dk_29 (dk_at dksX19_inspectPairs_0 8 rfl rfl)
theorem dX19_inspectPairs_9 : decode cX19_inspectPairs 9 = .ok (.iconst 1, 1) := dk_4 (dk_at dksX19_inspectPairs_0 9 rfl rfl)
theorem dX19_inspectPairs_10 : decode cX19_inspectPairs 10 = .ok (.iadd, 1) := dk_96 (dk_at dksX19_inspectPairs_0 10 rfl rfl)
theorem dX19_inspectPairs_11 : decode cX19_inspectPairs 11 = .ok (.istore 4, 2) := dk_54 4 (dk_at dksX19_inspectPairs_0 11 rfl rfl)
theorem dX19_inspectPairs_13 : decode cX19_inspectPairs 13 = .ok (.iload 4, 2) := dk_21 4 (dk_at dksX19_inspectPairs_0 13 rfl rfl)
theorem dX19_inspectPairs_15 : decode cX19_inspectPairs 15 = .ok (.bipush 8, 2) := dk_16 8 (dk_at dksX19_inspectPairs_0 15 rfl rfl)
theorem dX19_inspectPairs_17 : decode cX19_inspectPairs 17 = .ok (.if_icmp .ge 81, 3) := dk_162 0 81 (dk_at dksX19_inspectPairs_0 17 rfl rfl)
theorem dX19_inspectPairs_20 : decode cX19_inspectPairs 20 = .ok (.aload_n 0, 1) := dk_42 (dk_at dksX19_inspectPairs_0 20 rfl rfl)
theorem dX19_inspectPairs_21 : decode cX19_inspectPairs 21 = .ok (.getfield 3, 3) := dk_180 0 3 (dk_at dksX19_inspectPairs_0 21 rfl rfl)
theorem dX19_inspectPairs_24 : decode cX19_inspectPairs 24 = .ok (.iload_n 3, 1) := dk_29 (dk_at dksX19_inspectPairs_1 0 rfl rfl)
theorem dX19_inspectPairs_25 : decode cX19_inspectPairs 25 = .ok (.invokevirtual 59, 3) := dk_182 0 59 (dk_at dksX19_inspectPairs_1 1 rfl rfl)
theorem dX19_inspectPairs_28 : decode cX19_inspectPairs 28 = .ok (.ifCond .eq 19, 3) := dk_153 0 19 (dk_at dksX19_inspectPairs_1 4 rfl rfl)
theorem dX19_inspectPairs_31 : decode cX19_inspectPairs 31 = .ok (.aload_n 0, 1) := dk_42 (dk_at dksX19_inspectPairs_1 7 rfl rfl)
theorem dX19_inspectPairs_32 : decode cX19_inspectPairs 32 = .ok (.getfield 3, 3) := dk_180 0 3 (dk_at dksX19_inspectPairs_1 8 rfl rfl)
theorem dX19_inspectPairs_35 : decode cX19_inspectPairs 35 = .ok (.iload 4, 2) := dk_21 4 (dk_at dksX19_inspectPairs_1 11 rfl rfl)
theorem dX19_inspectPairs_37 : decode cX19_inspectPairs 37 = .ok (.invokevirtual 59, 3) := dk_182 0 59 (dk_at dksX19_inspectPairs_1 13 rfl rfl)
theorem dX19_inspectPairs_40 : decode cX19_inspectPairs 40 = .ok (.ifCond .eq 7, 3) := dk_153 0 7 (dk_at dksX19_inspectPairs_1 16 rfl rfl)
theorem dX19_inspectPairs_43 : decode cX19_inspectPairs 43 = .ok (.iconst 1, 1) := dk_4 (dk_at dksX19_inspectPairs_1 19 rfl rfl)
theorem dX19_inspectPairs_44 : decode cX19_inspectPairs 44 = .ok (.goto 4, 3) := dk_167 0 4 (dk_at dksX19_inspectPairs_1 20 rfl rfl)
theorem dX19_inspectPairs_47 : decode cX19_inspectPairs 47 = .ok (.iconst 0, 1) := dk_3 (dk_at dksX19_inspectPairs_1 23 rfl rfl)
theorem dX19_inspectPairs_48 : decode cX19_inspectPairs 48 = .ok (.istore 5, 2) := dk_54 5 (dk_at dksX19_inspectPairs_2 0 rfl rfl)
theorem dX19_inspectPairs_50 : decode cX19_inspectPairs 50 = .ok (.iload 5, 2) := dk_21 5 (dk_at dksX19_inspectPairs_2 2 rfl rfl)
theorem dX19_inspectPairs_52 : decode cX19_inspectPairs 52 = .ok (.ifCond .eq 40, 3) := dk_153 0 40 (dk_at dksX19_inspectPairs_2 4 rfl rfl)
theorem dX19_inspectPairs_55 : decode cX19_inspectPairs 55 = .ok (.iload_n 2, 1) := dk_28 (dk_at dksX19_inspectPairs_2 7 rfl rfl)
theorem dX19_inspectPairs_56 : decode cX19_inspectPairs 56 = .ok (.iconst 2, 1) := dk_5 (dk_at dksX19_inspectPairs_2 8 rfl rfl)
theorem dX19_inspectPairs_57 : decode cX19_inspectPairs 57 = .ok (.if_icmp .ne 16, 3) := dk_160 0 16 (dk_at dksX19_inspectPairs_2 9 rfl rfl)
theorem dX19_inspectPairs_60 : decode cX19_inspectPairs 60 = .ok (.aload_n 0, 1) := dk_42 (dk_at dksX19_inspectPairs_2 12 rfl rfl)
theorem dX19_inspectPairs_61 : decode cX19_inspectPairs 61 = .ok (.iload_n 3, 1) := dk_29 (dk_at dksX19_inspectPairs_2 13 rfl rfl)
theorem dX19_inspectPairs_62 : decode cX19_inspectPairs 62 = .ok (.iload 4, 2) := dk_21 4 (dk_at dksX19_inspectPairs_2 14 rfl rfl)
theorem dX19_inspectPairs_64 : decode cX19_inspectPairs 64 = .ok (.invokevirtual 56, 3) := dk_182 0 56 (dk_at dksX19_inspectPairs_2 16 rfl rfl)
theorem dX19_inspectPairs_67 : decode cX19_inspectPairs 67 = .ok (.ifCond .eq 25, 3) := dk_153 0 25 (dk_at dksX19_inspectPairs_2 19 rfl rfl)
theorem dX19_inspectPairs_70 : decode cX19_inspectPairs 70 = .ok (.goto 13, 3) := dk_167 0 13 (dk_at dksX19_inspectPairs_3 0 rfl rfl)
theorem dX19_inspectPairs_73 : decode cX19_inspectPairs 73 = .ok (.aload_n 0, 1) := dk_42 (dk_at dksX19_inspectPairs_3 3 rfl rfl)
theorem dX19_inspectPairs_74 : decode cX19_inspectPairs 74 = .ok (.iload_n 3, 1) := dk_29 (dk_at dksX19_inspectPairs_3 4 rfl rfl)
theorem dX19_inspectPairs_75 : decode cX19_inspectPairs 75 = .ok (.iload 4, 2) := dk_21 4 (dk_at dksX19_inspectPairs_3 5 rfl rfl)
theorem dX19_inspectPairs_77 : decode cX19_inspectPairs 77 = .ok (.invokevirtual 63, 3) := dk_182 0 63 (dk_at dksX19_inspectPairs_3 7 rfl rfl)
theorem dX19_inspectPairs_80 : decode cX19_inspectPairs 80 = .ok (.ifCond .eq 12, 3) := dk_153 0 12 (dk_at dksX19_inspectPairs_3 10 rfl rfl)
theorem dX19_inspectPairs_83 : decode cX19_inspectPairs 83 = .ok (.aload_n 0, 1) := dk_42 (dk_at dksX19_inspectPairs_3 13 rfl rfl)
theorem dX19_inspectPairs_84 : decode cX19_inspectPairs 84 = .ok (.iload_n 1, 1) := dk_27 (dk_at dksX19_inspectPairs_3 14 rfl rfl)
theorem dX19_inspectPairs_85 : decode cX19_inspectPairs 85 = .ok (.iload_n 2, 1) := dk_28 (dk_at dksX19_inspectPairs_3 15 rfl rfl)
theorem dX19_inspectPairs_86 : decode cX19_inspectPairs 86 = .ok (.iload_n 3, 1) := dk_29 (dk_at dksX19_inspectPairs_3 16 rfl rfl)
theorem dX19_inspectPairs_87 : decode cX19_inspectPairs 87 = .ok (.iload 4, 2) := dk_21 4 (dk_at dksX19_inspectPairs_3 17 rfl rfl)
theorem dX19_inspectPairs_89 : decode cX19_inspectPairs 89 = .ok (.invokevirtual 66, 3) := dk_182 0 66 (dk_at dksX19_inspectPairs_3 19 rfl rfl)
theorem dX19_inspectPairs_92 : decode cX19_inspectPairs 92 = .ok (.iinc 4 1, 3) := dk_132 4 1 (dk_at dksX19_inspectPairs_4 0 rfl rfl)
theorem dX19_inspectPairs_95 : decode cX19_inspectPairs 95 = .ok (.goto (-82), 3) := dk_167 255 174 (dk_at dksX19_inspectPairs_4 3 rfl rfl)
theorem dX19_inspectPairs_98 : decode cX19_inspectPairs 98 = .ok (.iinc 3 1, 3) := dk_132 3 1 (dk_at dksX19_inspectPairs_4 6 rfl rfl)
theorem dX19_inspectPairs_101 : decode cX19_inspectPairs 101 = .ok (.goto (-99), 3) := dk_167 255 157 (dk_at dksX19_inspectPairs_4 9 rfl rfl)
theorem dX19_inspectPairs_104 : decode cX19_inspectPairs 104 = .ok (.return_, 1) := dk_177 (dk_at dksX19_inspectPairs_4 12 rfl rfl)
abbrev cX19_isTogether : ByteArray := prog_5_method_4_code
def yX19_isTogether : MethodName := ⟨RX19, "isTogether", "(II)Z"⟩
def dkwX19_isTogether_1 : List UInt8 := [180, 0, 26, 28, 46, 160, 0, 7, 4, 167, 0, 4, 3, 172]
abbrev dktX19_isTogether_1 : List UInt8 := dkwX19_isTogether_1 ++ []
def dkwX19_isTogether_0 : List UInt8 := [42, 180, 0, 22, 27, 46, 42, 180, 0, 22, 28, 46, 160, 0, 22, 42, 180, 0, 26, 27, 46, 42]
abbrev dktX19_isTogether_0 : List UInt8 := dkwX19_isTogether_0 ++ dktX19_isTogether_1
theorem dksX19_isTogether_0 : cX19_isTogether.data.toList.drop 0 = dktX19_isTogether_0 := by decide +kernel
theorem dksX19_isTogether_1 : cX19_isTogether.data.toList.drop 22 = dktX19_isTogether_1 := dk_seg dksX19_isTogether_0 22 rfl rfl
theorem dX19_isTogether_0 : decode cX19_isTogether 0 = .ok (.aload_n 0, 1) := dk_42 (dk_at dksX19_isTogether_0 0 rfl rfl)
theorem dX19_isTogether_1 : decode cX19_isTogether 1 = .ok (.getfield 22, 3) := dk_180 0 22 (dk_at dksX19_isTogether_0 1 rfl rfl)
theorem dX19_isTogether_4 : decode cX19_isTogether 4 = .ok (.iload_n 1, 1) := dk_27 (dk_at dksX19_isTogether_0 4 rfl rfl)
theorem dX19_isTogether_5 : decode cX19_isTogether 5 = .ok (.iaload, 1) := dk_46 (dk_at dksX19_isTogether_0 5 rfl rfl)
theorem dX19_isTogether_6 : decode cX19_isTogether 6 = .ok (.aload_n 0, 1) := dk_42 (dk_at dksX19_isTogether_0 6 rfl rfl)
theorem dX19_isTogether_7 : decode cX19_isTogether 7 = .ok (.getfield 22, 3) := dk_180 0 22 (dk_at dksX19_isTogether_0 7 rfl rfl)
theorem dX19_isTogether_10 : decode cX19_isTogether 10 = .ok (.iload_n 2, 1) := dk_28 (dk_at dksX19_isTogether_0 10 rfl rfl)
theorem dX19_isTogether_11 : decode cX19_isTogether 11 = .ok (.iaload, 1) := dk_46 (dk_at dksX19_isTogether_0 11 rfl rfl)
theorem dX19_isTogether_12 : decode cX19_isTogether 12 = .ok (.if_icmp .ne 22, 3) := dk_160 0 22 (dk_at dksX19_isTogether_0 12 rfl rfl)
theorem dX19_isTogether_15 : decode cX19_isTogether 15 = .ok (.aload_n 0, 1) := dk_42 (dk_at dksX19_isTogether_0 15 rfl rfl)
theorem dX19_isTogether_16 : decode cX19_isTogether 16 = .ok (.getfield 26, 3) := dk_180 0 26 (dk_at dksX19_isTogether_0 16 rfl rfl)
theorem dX19_isTogether_19 : decode cX19_isTogether 19 = .ok (.iload_n 1, 1) := dk_27 (dk_at dksX19_isTogether_0 19 rfl rfl)
theorem dX19_isTogether_20 : decode cX19_isTogether 20 = .ok (.iaload, 1) := dk_46 (dk_at dksX19_isTogether_0 20 rfl rfl)
theorem dX19_isTogether_21 : decode cX19_isTogether 21 = .ok (.aload_n 0, 1) := dk_42 (dk_at dksX19_isTogether_0 21 rfl rfl)
theorem dX19_isTogether_22 : decode cX19_isTogether 22 = .ok (.getfield 26, 3) := dk_180 0 26 (dk_at dksX19_isTogether_1 0 rfl rfl)
theorem dX19_isTogether_25 : decode cX19_isTogether 25 = .ok (.iload_n 2, 1) := dk_28 (dk_at dksX19_isTogether_1 3 rfl rfl)
theorem dX19_isTogether_26 : decode cX19_isTogether 26 = .ok (.iaload, 1) := dk_46 (dk_at dksX19_isTogether_1 4 rfl rfl)
theorem dX19_isTogether_27 : decode cX19_isTogether 27 = .ok (.if_icmp .ne 7, 3) := dk_160 0 7 (dk_at dksX19_isTogether_1 5 rfl rfl)
theorem dX19_isTogether_30 : decode cX19_isTogether 30 = .ok (.iconst 1, 1) := dk_4 (dk_at dksX19_isTogether_1 8 rfl rfl)
theorem dX19_isTogether_31 : decode cX19_isTogether 31 = .ok (.goto 4, 3) := dk_167 0 4 (dk_at dksX19_isTogether_1 9 rfl rfl)
theorem dX19_isTogether_34 : decode cX19_isTogether 34 = .ok (.iconst 0, 1) := dk_3 (dk_at dksX19_isTogether_1 12 rfl rfl)
theorem dX19_isTogether_35 : decode cX19_isTogether 35 = .ok (.ireturn, 1) := dk_172 (dk_at dksX19_isTogether_1 13 rfl rfl)
abbrev cX19_haveExchanged : ByteArray := prog_5_method_6_code
def yX19_haveExchanged : MethodName := ⟨RX19, "haveExchanged", "(II)Z"⟩
def dkwX19_haveExchanged_1 : List UInt8 := [154, 0, 7, 4, 167, 0, 4, 3, 172]
abbrev dktX19_haveExchanged_1 : List UInt8 := dkwX19_haveExchanged_1 ++ []
def dkwX19_haveExchanged_0 : List UInt8 := [42, 27, 28, 182, 0, 52, 153, 0, 25, 42, 28, 27, 182, 0, 52, 153, 0, 16, 42, 27, 28, 182, 0, 56]
abbrev dktX19_haveExchanged_0 : List UInt8 := dkwX19_haveExchanged_0 ++ dktX19_haveExchanged_1
theorem dksX19_haveExchanged_0 : cX19_haveExchanged.data.toList.drop 0 = dktX19_haveExchanged_0 := by decide +kernel
theorem dksX19_haveExchanged_1 : cX19_haveExchanged.data.toList.drop 24 = dktX19_haveExchanged_1 := dk_seg dksX19_haveExchanged_0 24 rfl rfl
theorem dX19_haveExchanged_0 : decode cX19_haveExchanged 0 = .ok (.aload_n 0, 1) := dk_42 (dk_at dksX19_haveExchanged_0 0 rfl rfl)
theorem dX19_haveExchanged_1 : decode cX19_haveExchanged 1 = .ok (.iload_n 1, 1) := dk_27 (dk_at dksX19_haveExchanged_0 1 rfl rfl)
theorem dX19_haveExchanged_2 : decode cX19_haveExchanged 2 = .ok (.iload_n 2, 1) := dk_28 (dk_at dksX19_haveExchanged_0 2 rfl rfl)
theorem dX19_haveExchanged_3 : decode cX19_haveExchanged 3 = .ok (.invokevirtual 52, 3) := dk_182 0 52 (dk_at dksX19_haveExchanged_0 3 rfl rfl)
theorem dX19_haveExchanged_6 : decode cX19_haveExchanged 6 = .ok (.ifCond .eq 25, 3) := dk_153 0 25 (dk_at dksX19_haveExchanged_0 6 rfl rfl)
theorem dX19_haveExchanged_9 : decode cX19_haveExchanged 9 = .ok (.aload_n 0, 1) := dk_42 (dk_at dksX19_haveExchanged_0 9 rfl rfl)
theorem dX19_haveExchanged_10 : decode cX19_haveExchanged 10 = .ok (.iload_n 2, 1) := dk_28 (dk_at dksX19_haveExchanged_0 10 rfl rfl)
theorem dX19_haveExchanged_11 : decode cX19_haveExchanged 11 = .ok (.iload_n 1, 1) := dk_27 (dk_at dksX19_haveExchanged_0 11 rfl rfl)
theorem dX19_haveExchanged_12 : decode cX19_haveExchanged 12 = .ok (.invokevirtual 52, 3) := dk_182 0 52 (dk_at dksX19_haveExchanged_0 12 rfl rfl)
theorem dX19_haveExchanged_15 : decode cX19_haveExchanged 15 = .ok (.ifCond .eq 16, 3) := dk_153 0 16 (dk_at dksX19_haveExchanged_0 15 rfl rfl)
theorem dX19_haveExchanged_18 : decode cX19_haveExchanged 18 = .ok (.aload_n 0, 1) := dk_42 (dk_at dksX19_haveExchanged_0 18 rfl rfl)
theorem dX19_haveExchanged_19 : decode cX19_haveExchanged 19 = .ok (.iload_n 1, 1) := dk_27 (dk_at dksX19_haveExchanged_0 19 rfl rfl)
theorem dX19_haveExchanged_20 : decode cX19_haveExchanged 20 = .ok (.iload_n 2, 1) := dk_28 (dk_at dksX19_haveExchanged_0 20 rfl rfl)
theorem dX19_haveExchanged_21 : decode cX19_haveExchanged 21 = .ok (.invokevirtual 56, 3) := dk_182 0 56 (dk_at dksX19_haveExchanged_0 21 rfl rfl)
theorem dX19_haveExchanged_24 : decode cX19_haveExchanged 24 = .ok (.ifCond .ne 7, 3) := dk_154 0 7 (dk_at dksX19_haveExchanged_1 0 rfl rfl)
theorem dX19_haveExchanged_27 : decode cX19_haveExchanged 27 = .ok (.iconst 1, 1) := dk_4 (dk_at dksX19_haveExchanged_1 3 rfl rfl)
theorem dX19_haveExchanged_28 : decode cX19_haveExchanged 28 = .ok (.goto 4, 3) := dk_167 0 4 (dk_at dksX19_haveExchanged_1 4 rfl rfl)
theorem dX19_haveExchanged_31 : decode cX19_haveExchanged 31 = .ok (.iconst 0, 1) := dk_3 (dk_at dksX19_haveExchanged_1 7 rfl rfl)
theorem dX19_haveExchanged_32 : decode cX19_haveExchanged 32 = .ok (.ireturn, 1) := dk_172 (dk_at dksX19_haveExchanged_1 8 rfl rfl)
abbrev cX19_isWhere : ByteArray := prog_5_method_5_code
def yX19_isWhere : MethodName := ⟨RX19, "isWhere", "(II)Z"⟩
def dkwX19_isWhere_1 : List UInt8 := [180, 0, 32, 28, 46, 160, 0, 7, 4, 167, 0, 4, 3, 172]
abbrev dktX19_isWhere_1 : List UInt8 := dkwX19_isWhere_1 ++ []
def dkwX19_isWhere_0 : List UInt8 := [42, 180, 0, 22, 27, 46, 42, 180, 0, 29, 28, 46, 160, 0, 22, 42, 180, 0, 26, 27, 46, 42]
abbrev dktX19_isWhere_0 : List UInt8 := dkwX19_isWhere_0 ++ dktX19_isWhere_1
theorem dksX19_isWhere_0 : cX19_isWhere.data.toList.drop 0 = dktX19_isWhere_0 := by decide +kernel
theorem dksX19_isWhere_1 : cX19_isWhere.data.toList.drop 22 = dktX19_isWhere_1 := dk_seg dksX19_isWhere_0 22 rfl rfl
theorem dX19_isWhere_0 : decode cX19_isWhere 0 = .ok (.aload_n 0, 1) := dk_42 (dk_at dksX19_isWhere_0 0 rfl rfl)
theorem dX19_isWhere_1 : decode cX19_isWhere 1 = .ok (.getfield 22, 3) := dk_180 0 22 (dk_at dksX19_isWhere_0 1 rfl rfl)
theorem dX19_isWhere_4 : decode cX19_isWhere 4 = .ok (.iload_n 1, 1) := dk_27 (dk_at dksX19_isWhere_0 4 rfl rfl)
theorem dX19_isWhere_5 : decode cX19_isWhere 5 = .ok (.iaload, 1) := dk_46 (dk_at dksX19_isWhere_0 5 rfl rfl)
theorem dX19_isWhere_6 : decode cX19_isWhere 6 = .ok (.aload_n 0, 1) := dk_42 (dk_at dksX19_isWhere_0 6 rfl rfl)
theorem dX19_isWhere_7 : decode cX19_isWhere 7 = .ok (.getfield 29, 3) := dk_180 0 29 (dk_at dksX19_isWhere_0 7 rfl rfl)
theorem dX19_isWhere_10 : decode cX19_isWhere 10 = .ok (.iload_n 2, 1) := dk_28 (dk_at dksX19_isWhere_0 10 rfl rfl)
theorem dX19_isWhere_11 : decode cX19_isWhere 11 = .ok (.iaload, 1) := dk_46 (dk_at dksX19_isWhere_0 11 rfl rfl)
theorem dX19_isWhere_12 : decode cX19_isWhere 12 = .ok (.if_icmp .ne 22, 3) := dk_160 0 22 (dk_at dksX19_isWhere_0 12 rfl rfl)
theorem dX19_isWhere_15 : decode cX19_isWhere 15 = .ok (.aload_n 0, 1) := dk_42 (dk_at dksX19_isWhere_0 15 rfl rfl)
theorem dX19_isWhere_16 : decode cX19_isWhere 16 = .ok (.getfield 26, 3) := dk_180 0 26 (dk_at dksX19_isWhere_0 16 rfl rfl)
theorem dX19_isWhere_19 : decode cX19_isWhere 19 = .ok (.iload_n 1, 1) := dk_27 (dk_at dksX19_isWhere_0 19 rfl rfl)
theorem dX19_isWhere_20 : decode cX19_isWhere 20 = .ok (.iaload, 1) := dk_46 (dk_at dksX19_isWhere_0 20 rfl rfl)
theorem dX19_isWhere_21 : decode cX19_isWhere 21 = .ok (.aload_n 0, 1) := dk_42 (dk_at dksX19_isWhere_0 21 rfl rfl)
theorem dX19_isWhere_22 : decode cX19_isWhere 22 = .ok (.getfield 32, 3) := dk_180 0 32 (dk_at dksX19_isWhere_1 0 rfl rfl)
theorem dX19_isWhere_25 : decode cX19_isWhere 25 = .ok (.iload_n 2, 1) := dk_28 (dk_at dksX19_isWhere_1 3 rfl rfl)
theorem dX19_isWhere_26 : decode cX19_isWhere 26 = .ok (.iaload, 1) := dk_46 (dk_at dksX19_isWhere_1 4 rfl rfl)
theorem dX19_isWhere_27 : decode cX19_isWhere 27 = .ok (.if_icmp .ne 7, 3) := dk_160 0 7 (dk_at dksX19_isWhere_1 5 rfl rfl)
theorem dX19_isWhere_30 : decode cX19_isWhere 30 = .ok (.iconst 1, 1) := dk_4 (dk_at dksX19_isWhere_1 8 rfl rfl)
theorem dX19_isWhere_31 : decode cX19_isWhere 31 = .ok (.goto 4, 3) := dk_167 0 4 (dk_at dksX19_isWhere_1 9 rfl rfl)
theorem dX19_isWhere_34 : decode cX19_isWhere 34 = .ok (.iconst 0, 1) := dk_3 (dk_at dksX19_isWhere_1 12 rfl rfl)
theorem dX19_isWhere_35 : decode cX19_isWhere 35 = .ok (.ireturn, 1) := dk_172 (dk_at dksX19_isWhere_1 13 rfl rfl)
theorem q169 : (Jvm.Cond.initialized "DanceNotation$Dance$Inspector") ∈ lw_all := lw_g (lw_at lw_m1 52 rfl) rfl
theorem q195 : (Jvm.Cond.fieldLinkNest "DanceNotation$Dance$Inspector" (49 : Nat) "DanceNotation$Dance" "columns" "I" "DanceNotation") ∈ lw_tbl := lw_at lw_m1 78 rfl
theorem q198 : (Jvm.Cond.fieldLinkNest "DanceNotation$Dance$Inspector" (39 : Nat) "DanceNotation$Dance" "rows" "I" "DanceNotation") ∈ lw_tbl := lw_at lw_m1 81 rfl
theorem q203 : (Jvm.Cond.fieldLinkNest "DanceNotation$Dance$Inspector" (70 : Nat) "DanceNotation$Dance" "starts" "[I" "DanceNotation") ∈ lw_tbl := lw_at lw_m1 86 rfl
theorem q209 : (Jvm.Cond.fieldLinkNest "DanceNotation$Dance$Inspector" (104 : Nat) "DanceNotation$Dance" "piece" "LDanceNotation$Node;" "DanceNotation") ∈ lw_tbl := lw_at lw_m1 92 rfl
theorem q213 : (Jvm.Cond.fieldLinkNest "DanceNotation$Dance$Inspector" (73 : Nat) "DanceNotation$Dance" "score" "LDanceNotation$Score;" "DanceNotation") ∈ lw_tbl := lw_at lw_m1 96 rfl
theorem q997 : (Jvm.Cond.selects "DanceNotation$Dance$Inspector" ({ cls := "java/lang/Object", name := "getClass", desc := "()Ljava/lang/Class;" } : Jvm.MethodName) ({ cls := "java/lang/Object", name := "getClass", desc := "()Ljava/lang/Class;" } : Jvm.MethodName)) ∈ lw_all := lw_g (lw_at lw_m4 160 rfl) rfl
theorem q1165 : (Jvm.Cond.fieldLinkNest "DanceNotation$Dance$Inspector" (90 : Nat) "DanceNotation$Score" "length" "I" "DanceNotation") ∈ lw_tbl := lw_at lw_m5 88 rfl
theorem q1169 : (Jvm.Cond.fieldLinkNest "DanceNotation$Dance$Inspector" (77 : Nat) "DanceNotation$Score" "steps" "[[C" "DanceNotation") ∈ lw_tbl := lw_at lw_m5 92 rfl
theorem q2327 : (Jvm.Cond.instantiable "DanceNotation$Dance$Inspector" (6 : Nat)) ∈ lw_all := lw_g (lw_at lw_m10 50 rfl) rfl
theorem q2329 : (Jvm.Cond.instanceMethod ({ cls := "DanceNotation$Dance$Inspector", name := "<init>", desc := "(LDanceNotation$Dance;)V" } : Jvm.MethodName)) ∈ lw_all := lw_g (lw_at lw_m10 52 rfl) rfl
theorem q2330 : (Jvm.Cond.code ({ cls := "DanceNotation$Dance$Inspector", name := "<init>", desc := "(LDanceNotation$Dance;)V" } : Jvm.MethodName) prog_5_method_1_code (2 : Nat) (Option.none : Option Jvm.ClassFile.FieldType)) ∈ lw_all := lw_g (lw_at lw_m10 53 rfl) rfl
theorem q2331 : (Jvm.Cond.methodLink "DanceNotation$Dance$Inspector" (9 : Nat) ({ cls := "java/lang/Object", name := "<init>", desc := "()V" } : Jvm.MethodName)) ∈ lw_all := lw_g (lw_at lw_m10 54 rfl) rfl
theorem q2332 : (Jvm.Cond.classLink "DanceNotation$Dance$Inspector" (15 : Nat) "java/util/ArrayList") ∈ lw_all := lw_g (lw_at lw_m10 55 rfl) rfl
theorem q2333 : (Jvm.Cond.methodLink "DanceNotation$Dance$Inspector" (17 : Nat) ({ cls := "java/util/ArrayList", name := "<init>", desc := "()V" } : Jvm.MethodName)) ∈ lw_all := lw_g (lw_at lw_m10 56 rfl) rfl
theorem q2334 : (Jvm.Cond.fieldLink "DanceNotation$Dance$Inspector" (18 : Nat) "DanceNotation$Dance$Inspector" "problems" "Ljava/util/ArrayList;") ∈ lw_all := lw_g (lw_at lw_m10 57 rfl) rfl
theorem q2335 : (Jvm.Cond.fieldLink "DanceNotation$Dance$Inspector" (22 : Nat) "DanceNotation$Dance$Inspector" "rowOf" "[I") ∈ lw_all := lw_g (lw_at lw_m10 58 rfl) rfl
theorem q2336 : (Jvm.Cond.fieldLink "DanceNotation$Dance$Inspector" (26 : Nat) "DanceNotation$Dance$Inspector" "columnOf" "[I") ∈ lw_all := lw_g (lw_at lw_m10 59 rfl) rfl
theorem q2337 : (Jvm.Cond.fieldLink "DanceNotation$Dance$Inspector" (29 : Nat) "DanceNotation$Dance$Inspector" "rowBefore" "[I") ∈ lw_all := lw_g (lw_at lw_m10 60 rfl) rfl
theorem q2338 : (Jvm.Cond.fieldLink "DanceNotation$Dance$Inspector" (32 : Nat) "DanceNotation$Dance$Inspector" "columnBefore" "[I") ∈ lw_all := lw_g (lw_at lw_m10 61 rfl) rfl
theorem q2339 : (Jvm.Cond.fieldLink "DanceNotation$Dance$Inspector" (3 : Nat) "DanceNotation$Dance$Inspector" "this$0" "LDanceNotation$Dance;") ∈ lw_all := lw_g (lw_at lw_m10 62 rfl) rfl
theorem q2340 : (Jvm.Cond.laysFinal "DanceNotation$Dance$Inspector" "DanceNotation$Dance$Inspector" "problems" "Ljava/util/ArrayList;") ∈ lw_all := lw_g (lw_at lw_m10 63 rfl) rfl
theorem q2341 : (Jvm.Cond.soleField "DanceNotation$Dance$Inspector" "problems") ∈ lw_all := lw_g (lw_at lw_m10 64 rfl) rfl
theorem q2342 : (Jvm.Cond.laysFinal "DanceNotation$Dance$Inspector" "DanceNotation$Dance$Inspector" "rowOf" "[I") ∈ lw_all := lw_g (lw_at lw_m10 65 rfl) rfl
theorem q2343 : (Jvm.Cond.soleField "DanceNotation$Dance$Inspector" "rowOf") ∈ lw_all := lw_g (lw_at lw_m10 66 rfl) rfl
theorem q2344 : (Jvm.Cond.laysFinal "DanceNotation$Dance$Inspector" "DanceNotation$Dance$Inspector" "columnOf" "[I") ∈ lw_all := lw_g (lw_at lw_m10 67 rfl) rfl
theorem q2345 : (Jvm.Cond.soleField "DanceNotation$Dance$Inspector" "columnOf") ∈ lw_all := lw_g (lw_at lw_m10 68 rfl) rfl
theorem q2346 : (Jvm.Cond.laysFinal "DanceNotation$Dance$Inspector" "DanceNotation$Dance$Inspector" "rowBefore" "[I") ∈ lw_all := lw_g (lw_at lw_m10 69 rfl) rfl
theorem q2347 : (Jvm.Cond.soleField "DanceNotation$Dance$Inspector" "rowBefore") ∈ lw_all := lw_g (lw_at lw_m10 70 rfl) rfl
theorem q2348 : (Jvm.Cond.laysFinal "DanceNotation$Dance$Inspector" "DanceNotation$Dance$Inspector" "columnBefore" "[I") ∈ lw_all := lw_g (lw_at lw_m10 71 rfl) rfl
theorem q2349 : (Jvm.Cond.soleField "DanceNotation$Dance$Inspector" "columnBefore") ∈ lw_all := lw_g (lw_at lw_m10 72 rfl) rfl
theorem q2350 : (Jvm.Cond.laysFinal "DanceNotation$Dance$Inspector" "DanceNotation$Dance$Inspector" "this$0" "LDanceNotation$Dance;") ∈ lw_all := lw_g (lw_at lw_m10 73 rfl) rfl
theorem q2351 : (Jvm.Cond.soleField "DanceNotation$Dance$Inspector" "this$0") ∈ lw_all := lw_g (lw_at lw_m10 74 rfl) rfl
theorem q2352 : (Jvm.Cond.superclass "DanceNotation$Dance$Inspector" "java/lang/Object") ∈ lw_all := lw_g (lw_at lw_m10 75 rfl) rfl
theorem q2354 : (Jvm.Cond.instanceMethod ({ cls := "DanceNotation$Dance$Inspector", name := "inspect", desc := "()Ljava/util/ArrayList;" } : Jvm.MethodName)) ∈ lw_all := lw_g (lw_at lw_m10 77 rfl) rfl
theorem q2355 : (Jvm.Cond.selects "DanceNotation$Dance$Inspector" ({ cls := "DanceNotation$Dance$Inspector", name := "inspect", desc := "()Ljava/util/ArrayList;" } : Jvm.MethodName) ({ cls := "DanceNotation$Dance$Inspector", name := "inspect", desc := "()Ljava/util/ArrayList;" } : Jvm.MethodName)) ∈ lw_all := lw_g (lw_at lw_m10 78 rfl) rfl
theorem q2356 : (Jvm.Cond.code ({ cls := "DanceNotation$Dance$Inspector", name := "inspect", desc := "()Ljava/util/ArrayList;" } : Jvm.MethodName) prog_5_method_9_code (3 : Nat) (Option.some (Jvm.ClassFile.FieldType.object "java/util/ArrayList"))) ∈ lw_all := lw_g (lw_at lw_m10 79 rfl) rfl
theorem q2357 : (Jvm.Cond.methodLink "DanceNotation$Dance$Inspector" (93 : Nat) ({ cls := "DanceNotation$Dance$Inspector", name := "move", desc := "(I)V" } : Jvm.MethodName)) ∈ lw_all := lw_g (lw_at lw_m10 80 rfl) rfl
theorem q2358 : (Jvm.Cond.privateMethod ({ cls := "DanceNotation$Dance$Inspector", name := "move", desc := "(I)V" } : Jvm.MethodName)) ∈ lw_tbl := lw_at lw_m10 81 rfl
theorem q2359 : (Jvm.Cond.instanceMethod ({ cls := "DanceNotation$Dance$Inspector", name := "move", desc := "(I)V" } : Jvm.MethodName)) ∈ lw_all := lw_g (lw_at lw_m10 82 rfl) rfl
theorem q2360 : (Jvm.Cond.code ({ cls := "DanceNotation$Dance$Inspector", name := "move", desc := "(I)V" } : Jvm.MethodName) prog_5_method_8_code (3 : Nat) (Option.none : Option Jvm.ClassFile.FieldType)) ∈ lw_all := lw_g (lw_at lw_m10 83 rfl) rfl
theorem q2361 : (Jvm.Cond.methodLinkNest "DanceNotation$Dance$Inspector" (83 : Nat) ({ cls := "DanceNotation", name := "rowsOf", desc := "(C)I" } : Jvm.MethodName) "DanceNotation") ∈ lw_tbl := lw_at lw_m10 84 rfl
theorem q2362 : (Jvm.Cond.methodLinkNest "DanceNotation$Dance$Inspector" (87 : Nat) ({ cls := "DanceNotation", name := "columnsOf", desc := "(C)I" } : Jvm.MethodName) "DanceNotation") ∈ lw_tbl := lw_at lw_m10 85 rfl
theorem q2363 : (Jvm.Cond.methodLink "DanceNotation$Dance$Inspector" (59 : Nat) ({ cls := "DanceNotation$Dance", name := "takesPart", desc := "(I)Z" } : Jvm.MethodName)) ∈ lw_all := lw_g (lw_at lw_m10 86 rfl) rfl
theorem q2364 : (Jvm.Cond.methodLink "DanceNotation$Dance$Inspector" (97 : Nat) ({ cls := "DanceNotation$Dance$Inspector", name := "isOff", desc := "(I)Z" } : Jvm.MethodName)) ∈ lw_all := lw_g (lw_at lw_m10 87 rfl) rfl
theorem q2365 : (Jvm.Cond.privateMethod ({ cls := "DanceNotation$Dance$Inspector", name := "isOff", desc := "(I)Z" } : Jvm.MethodName)) ∈ lw_tbl := lw_at lw_m10 88 rfl
theorem q2366 : (Jvm.Cond.instanceMethod ({ cls := "DanceNotation$Dance$Inspector", name := "isOff", desc := "(I)Z" } : Jvm.MethodName)) ∈ lw_all := lw_g (lw_at lw_m10 89 rfl) rfl
theorem q2367 : (Jvm.Cond.code ({ cls := "DanceNotation$Dance$Inspector", name := "isOff", desc := "(I)Z" } : Jvm.MethodName) prog_5_method_3_code (2 : Nat) (Option.some Jvm.ClassFile.FieldType.boolean)) ∈ lw_all := lw_g (lw_at lw_m10 90 rfl) rfl
theorem q2368 : (Jvm.Cond.methodLinkNest "DanceNotation$Dance$Inspector" (45 : Nat) ({ cls := "DanceNotation", name := "inRange", desc := "(JJJ)Z" } : Jvm.MethodName) "DanceNotation") ∈ lw_tbl := lw_at lw_m10 91 rfl
theorem q2369 : (Jvm.Cond.methodLink "DanceNotation$Dance$Inspector" (66 : Nat) ({ cls := "DanceNotation$Dance$Inspector", name := "tell", desc := "(IIII)V" } : Jvm.MethodName)) ∈ lw_all := lw_g (lw_at lw_m10 92 rfl) rfl
theorem q2370 : (Jvm.Cond.privateMethod ({ cls := "DanceNotation$Dance$Inspector", name := "tell", desc := "(IIII)V" } : Jvm.MethodName)) ∈ lw_tbl := lw_at lw_m10 93 rfl
theorem q2371 : (Jvm.Cond.instanceMethod ({ cls := "DanceNotation$Dance$Inspector", name := "tell", desc := "(IIII)V" } : Jvm.MethodName)) ∈ lw_all := lw_g (lw_at lw_m10 94 rfl) rfl
theorem q2372 : (Jvm.Cond.code ({ cls := "DanceNotation$Dance$Inspector", name := "tell", desc := "(IIII)V" } : Jvm.MethodName) prog_5_method_2_code (6 : Nat) (Option.none : Option Jvm.ClassFile.FieldType)) ∈ lw_all := lw_g (lw_at lw_m10 95 rfl) rfl
theorem q2373 : (Jvm.Cond.methodLink "DanceNotation$Dance$Inspector" (35 : Nat) ({ cls := "java/util/ArrayList", name := "add", desc := "(Ljava/lang/Object;)Z" } : Jvm.MethodName)) ∈ lw_all := lw_g (lw_at lw_m10 96 rfl) rfl
theorem q2374 : (Jvm.Cond.methodLink "DanceNotation$Dance$Inspector" (100 : Nat) ({ cls := "DanceNotation$Dance$Inspector", name := "inspectPairs", desc := "(II)V" } : Jvm.MethodName)) ∈ lw_all := lw_g (lw_at lw_m10 97 rfl) rfl
theorem q2375 : (Jvm.Cond.privateMethod ({ cls := "DanceNotation$Dance$Inspector", name := "inspectPairs", desc := "(II)V" } : Jvm.MethodName)) ∈ lw_tbl := lw_at lw_m10 98 rfl
theorem q2376 : (Jvm.Cond.instanceMethod ({ cls := "DanceNotation$Dance$Inspector", name := "inspectPairs", desc := "(II)V" } : Jvm.MethodName)) ∈ lw_all := lw_g (lw_at lw_m10 99 rfl) rfl
theorem q2377 : (Jvm.Cond.code ({ cls := "DanceNotation$Dance$Inspector", name := "inspectPairs", desc := "(II)V" } : Jvm.MethodName) prog_5_method_7_code (6 : Nat) (Option.none : Option Jvm.ClassFile.FieldType)) ∈ lw_all := lw_g (lw_at lw_m10 100 rfl) rfl
theorem q2378 : (Jvm.Cond.methodLink "DanceNotation$Dance$Inspector" (56 : Nat) ({ cls := "DanceNotation$Dance$Inspector", name := "isTogether", desc := "(II)Z" } : Jvm.MethodName)) ∈ lw_all := lw_g (lw_at lw_m10 101 rfl) rfl
theorem q2379 : (Jvm.Cond.privateMethod ({ cls := "DanceNotation$Dance$Inspector", name := "isTogether", desc := "(II)Z" } : Jvm.MethodName)) ∈ lw_tbl := lw_at lw_m10 102 rfl
theorem q2380 : (Jvm.Cond.instanceMethod ({ cls := "DanceNotation$Dance$Inspector", name := "isTogether", desc := "(II)Z" } : Jvm.MethodName)) ∈ lw_all := lw_g (lw_at lw_m10 103 rfl) rfl
theorem q2381 : (Jvm.Cond.code ({ cls := "DanceNotation$Dance$Inspector", name := "isTogether", desc := "(II)Z" } : Jvm.MethodName) prog_5_method_4_code (3 : Nat) (Option.some Jvm.ClassFile.FieldType.boolean)) ∈ lw_all := lw_g (lw_at lw_m10 104 rfl) rfl
theorem q2382 : (Jvm.Cond.methodLink "DanceNotation$Dance$Inspector" (63 : Nat) ({ cls := "DanceNotation$Dance$Inspector", name := "haveExchanged", desc := "(II)Z" } : Jvm.MethodName)) ∈ lw_all := lw_g (lw_at lw_m10 105 rfl) rfl
theorem q2383 : (Jvm.Cond.privateMethod ({ cls := "DanceNotation$Dance$Inspector", name := "haveExchanged", desc := "(II)Z" } : Jvm.MethodName)) ∈ lw_tbl := lw_at lw_m10 106 rfl
theorem q2384 : (Jvm.Cond.instanceMethod ({ cls := "DanceNotation$Dance$Inspector", name := "haveExchanged", desc := "(II)Z" } : Jvm.MethodName)) ∈ lw_all := lw_g (lw_at lw_m10 107 rfl) rfl
theorem q2385 : (Jvm.Cond.code ({ cls := "DanceNotation$Dance$Inspector", name := "haveExchanged", desc := "(II)Z" } : Jvm.MethodName) prog_5_method_6_code (3 : Nat) (Option.some Jvm.ClassFile.FieldType.boolean)) ∈ lw_all := lw_g (lw_at lw_m10 108 rfl) rfl
theorem q2386 : (Jvm.Cond.methodLink "DanceNotation$Dance$Inspector" (52 : Nat) ({ cls := "DanceNotation$Dance$Inspector", name := "isWhere", desc := "(II)Z" } : Jvm.MethodName)) ∈ lw_all := lw_g (lw_at lw_m10 109 rfl) rfl
theorem q2387 : (Jvm.Cond.privateMethod ({ cls := "DanceNotation$Dance$Inspector", name := "isWhere", desc := "(II)Z" } : Jvm.MethodName)) ∈ lw_tbl := lw_at lw_m10 110 rfl
theorem q2388 : (Jvm.Cond.instanceMethod ({ cls := "DanceNotation$Dance$Inspector", name := "isWhere", desc := "(II)Z" } : Jvm.MethodName)) ∈ lw_all := lw_g (lw_at lw_m10 111 rfl) rfl
theorem q2389 : (Jvm.Cond.code ({ cls := "DanceNotation$Dance$Inspector", name := "isWhere", desc := "(II)Z" } : Jvm.MethodName) prog_5_method_5_code (3 : Nat) (Option.some Jvm.ClassFile.FieldType.boolean)) ∈ lw_all := lw_g (lw_at lw_m10 112 rfl) rfl
theorem q3342 : (Jvm.Cond.castable "DanceNotation$Dance$Inspector" "java/lang/Object") ∈ lw_tbl := lw_at lw_m14 105 rfl
theorem in_X19 : ∀ w ∈ wsX190, w ∈ lw_all := lw_in wsX190 [2340, 2342, 2344, 2346, 2348, 2350] (by decide +kernel) (by decide +kernel)

/-! DanceNotation$Dance$Planner -/
set_option maxRecDepth 100000
def RX20 : String := "DanceNotation$Dance$Planner"
def TX20 : u_T := fun k => match k with
  | 0 => ("DanceNotation$Dance$Planner", "paths", "[[I", true)
  | 1 => ("DanceNotation$Dance$Planner", "phrases", "Ljava/util/ArrayList;", true)
  | _ => ("DanceNotation$Dance$Planner", "this$0", "LDanceNotation$Dance;", true)
def tyX20 : Nat → FieldType := fun k => match k with
  | 0 => .array (.array .int)
  | 1 => .object "java/util/ArrayList"
  | _ => .object "DanceNotation$Dance"
abbrev wsX200 : List Cond := u_ws RX20 TX20 3
theorem nmX20 : ∀ a, a < 3 → ∀ b, b < 3 → a ≠ b → (TX20 a).2.1 ≠ (TX20 b).2.1 := by decide +kernel
theorem tyX20_ok : ∀ k, k < 3 → parseFieldDescriptor (TX20 k).2.2.1 = some (tyX20 k) := by decide +kernel
abbrev cX20_init : ByteArray := prog_6_method_1_code
def yX20_init : MethodName := ⟨RX20, "<init>", "(LDanceNotation$Dance;)V"⟩
def dkwX20_init_1 : List UInt8 := [183, 0, 23, 181, 0, 24, 177]
abbrev dktX20_init_1 : List UInt8 := dkwX20_init_1 ++ []
def dkwX20_init_0 : List UInt8 := [42, 43, 181, 0, 3, 42, 183, 0, 9, 42, 16, 8, 189, 0, 15, 181, 0, 17, 42, 187, 0, 21, 89]
abbrev dktX20_init_0 : List UInt8 := dkwX20_init_0 ++ dktX20_init_1
theorem dksX20_init_0 : cX20_init.data.toList.drop 0 = dktX20_init_0 := by decide +kernel
theorem dksX20_init_1 : cX20_init.data.toList.drop 23 = dktX20_init_1 := dk_seg dksX20_init_0 23 rfl rfl
theorem dX20_init_0 : decode cX20_init 0 = .ok (.aload_n 0, 1) := dk_42 (dk_at dksX20_init_0 0 rfl rfl)
theorem dX20_init_1 : decode cX20_init 1 = .ok (.aload_n 1, 1) := dk_43 (dk_at dksX20_init_0 1 rfl rfl)
theorem dX20_init_2 : decode cX20_init 2 = .ok (.putfield 3, 3) := dk_181 0 3 (dk_at dksX20_init_0 2 rfl rfl)
theorem dX20_init_5 : decode cX20_init 5 = .ok (.aload_n 0, 1) := dk_42 (dk_at dksX20_init_0 5 rfl rfl)
theorem dX20_init_6 : decode cX20_init 6 = .ok (.invokespecial 9, 3) := dk_183 0 9 (dk_at dksX20_init_0 6 rfl rfl)
theorem dX20_init_9 : decode cX20_init 9 = .ok (.aload_n 0, 1) := dk_42 (dk_at dksX20_init_0 9 rfl rfl)
theorem dX20_init_10 : decode cX20_init 10 = .ok (.bipush 8, 2) := dk_16 8 (dk_at dksX20_init_0 10 rfl rfl)
theorem dX20_init_12 : decode cX20_init 12 = .ok (.anewarray 15, 3) := dk_189 0 15 (dk_at dksX20_init_0 12 rfl rfl)
theorem dX20_init_15 : decode cX20_init 15 = .ok (.putfield 17, 3) := dk_181 0 17 (dk_at dksX20_init_0 15 rfl rfl)
theorem dX20_init_18 : decode cX20_init 18 = .ok (.aload_n 0, 1) := dk_42 (dk_at dksX20_init_0 18 rfl rfl)
theorem dX20_init_19 : decode cX20_init 19 = .ok (.new 21, 3) := dk_187 0 21 (dk_at dksX20_init_0 19 rfl rfl)
theorem dX20_init_22 : decode cX20_init 22 = .ok (.dup, 1) := dk_89 (dk_at dksX20_init_0 22 rfl rfl)
theorem dX20_init_23 : decode cX20_init 23 = .ok (.invokespecial 23, 3) := dk_183 0 23 (dk_at dksX20_init_1 0 rfl rfl)
theorem dX20_init_26 : decode cX20_init 26 = .ok (.putfield 24, 3) := dk_181 0 24 (dk_at dksX20_init_1 3 rfl rfl)
theorem dX20_init_29 : decode cX20_init 29 = .ok (.return_, 1) := dk_177 (dk_at dksX20_init_1 6 rfl rfl)
abbrev cX20_plan : ByteArray := prog_6_method_12_code
def yX20_plan : MethodName := ⟨RX20, "plan", "([I)Ljava/util/ArrayList;"⟩
def dkwX20_plan_6 : List UInt8 := [132, 2, 1, 167, 255, 159, 42, 180, 0, 24, 176]
abbrev dktX20_plan_6 : List UInt8 := dkwX20_plan_6 ++ []
def dkwX20_plan_5 : List UInt8 := [4, 188, 10, 89, 3, 28, 79, 183, 0, 140, 182, 0, 143, 153, 0, 7, 4, 167, 0, 4, 3, 54, 4]
abbrev dktX20_plan_5 : List UInt8 := dkwX20_plan_5 ++ dktX20_plan_6
def dkwX20_plan_4 : List UInt8 := [182, 0, 120, 45, 182, 0, 126, 45, 182, 0, 134, 154, 0, 33, 42, 180, 0, 24, 187, 0, 138, 89, 3, 45]
abbrev dktX20_plan_4 : List UInt8 := dkwX20_plan_4 ++ dktX20_plan_5
def dkwX20_plan_3 : List UInt8 := [42, 28, 182, 0, 120, 43, 28, 46, 182, 0, 130, 78, 45, 199, 0, 5, 1, 176, 42, 28, 42, 28]
abbrev dktX20_plan_3 : List UInt8 := dkwX20_plan_3 ++ dktX20_plan_4
def dkwX20_plan_2 : List UInt8 := [16, 8, 162, 0, 97, 42, 180, 0, 3, 28, 182, 0, 116, 153, 0, 80, 43, 28, 46, 2, 159, 0, 73, 42]
abbrev dktX20_plan_2 : List UInt8 := dkwX20_plan_2 ++ dktX20_plan_3
def dkwX20_plan_1 : List UInt8 := [160, 0, 15, 42, 28, 42, 28, 182, 0, 120, 18, 124, 182, 0, 126, 132, 2, 1, 167, 255, 217, 3, 61, 28]
abbrev dktX20_plan_1 : List UInt8 := dkwX20_plan_1 ++ dktX20_plan_2
def dkwX20_plan_0 : List UInt8 := [3, 61, 28, 16, 8, 162, 0, 39, 42, 180, 0, 3, 28, 182, 0, 116, 153, 0, 22, 43, 28, 46, 2]
abbrev dktX20_plan_0 : List UInt8 := dkwX20_plan_0 ++ dktX20_plan_1
theorem dksX20_plan_0 : cX20_plan.data.toList.drop 0 = dktX20_plan_0 := by decide +kernel
theorem dksX20_plan_1 : cX20_plan.data.toList.drop 23 = dktX20_plan_1 := dk_seg dksX20_plan_0 23 rfl rfl
theorem dksX20_plan_2 : cX20_plan.data.toList.drop 47 = dktX20_plan_2 := dk_seg dksX20_plan_1 24 rfl rfl
theorem dksX20_plan_3 : cX20_plan.data.toList.drop 71 = dktX20_plan_3 := dk_seg dksX20_plan_2 24 rfl rfl
theorem dksX20_plan_4 : cX20_plan.data.toList.drop 93 = dktX20_plan_4 := dk_seg dksX20_plan_3 22 rfl rfl
theorem dksX20_plan_5 : cX20_plan.data.toList.drop 117 = dktX20_plan_5 := dk_seg dksX20_plan_4 24 rfl rfl
theorem dksX20_plan_6 : cX20_plan.data.toList.drop 140 = dktX20_plan_6 := dk_seg dksX20_plan_5 23 rfl rfl
theorem dX20_plan_0 : decode cX20_plan 0 = .ok (.iconst 0, 1) := dk_3 (dk_at dksX20_plan_0 0 rfl rfl)
theorem dX20_plan_1 : decode cX20_plan 1 = .ok (.istore_n 2, 1) := dk_61 (dk_at dksX20_plan_0 1 rfl rfl)
theorem dX20_plan_2 : decode cX20_plan 2 = .ok (.iload_n 2, 1) := dk_28 (dk_at dksX20_plan_0 2 rfl rfl)
theorem dX20_plan_3 : decode cX20_plan 3 = .ok (.bipush 8, 2) := dk_16 8 (dk_at dksX20_plan_0 3 rfl rfl)
theorem dX20_plan_5 : decode cX20_plan 5 = .ok (.if_icmp .ge 39, 3) := dk_162 0 39 (dk_at dksX20_plan_0 5 rfl rfl)
theorem dX20_plan_8 : decode cX20_plan 8 = .ok (.aload_n 0, 1) := dk_42 (dk_at dksX20_plan_0 8 rfl rfl)
theorem dX20_plan_9 : decode cX20_plan 9 = .ok (.getfield 3, 3) := dk_180 0 3 (dk_at dksX20_plan_0 9 rfl rfl)
theorem dX20_plan_12 : decode cX20_plan 12 = .ok (.iload_n 2, 1) := dk_28 (dk_at dksX20_plan_0 12 rfl rfl)
theorem dX20_plan_13 : decode cX20_plan 13 = .ok (.invokevirtual 116, 3) := dk_182 0 116 (dk_at dksX20_plan_0 13 rfl rfl)
theorem dX20_plan_16 : decode cX20_plan 16 = .ok (.ifCond .eq 22, 3) := dk_153 0 22 (dk_at dksX20_plan_0 16 rfl rfl)
theorem dX20_plan_19 : decode cX20_plan 19 = .ok (.aload_n 1, 1) := dk_43 (dk_at dksX20_plan_0 19 rfl rfl)
theorem dX20_plan_20 : decode cX20_plan 20 = .ok (.iload_n 2, 1) := dk_28 (dk_at dksX20_plan_0 20 rfl rfl)
theorem dX20_plan_21 : decode cX20_plan 21 = .ok (.iaload, 1) := dk_46 (dk_at dksX20_plan_0 21 rfl rfl)
theorem dX20_plan_22 : decode cX20_plan 22 = .ok (.iconst (-1), 1) := dk_2 (dk_at dksX20_plan_0 22 rfl rfl)
theorem dX20_plan_23 : decode cX20_plan 23 = .ok (.if_icmp .ne 15, 3) := dk_160 0 15 (dk_at dksX20_plan_1 0 rfl rfl)
theorem dX20_plan_26 : decode cX20_plan 26 = .ok (.aload_n 0, 1) := dk_42 (dk_at dksX20_plan_1 3 rfl rfl)
theorem dX20_plan_27 : decode cX20_plan 27 = .ok (.iload_n 2, 1) := dk_28 (dk_at dksX20_plan_1 4 rfl rfl)
theorem dX20_plan_28 : decode cX20_plan 28 = .ok (.aload_n 0, 1) := dk_42 (dk_at dksX20_plan_1 5 rfl rfl)
theorem dX20_plan_29 : decode cX20_plan 29 = .ok (.iload_n 2, 1) := dk_28 (dk_at dksX20_plan_1 6 rfl rfl)
theorem dX20_plan_30 : decode cX20_plan 30 = .ok (.invokevirtual 120, 3) := dk_182 0 120 (dk_at dksX20_plan_1 7 rfl rfl)
theorem dX20_plan_33 : decode cX20_plan 33 = .ok (.ldc 124, 2) := dk_18 124 (dk_at dksX20_plan_1 10 rfl rfl)
theorem dX20_plan_35 : decode cX20_plan 35 = .ok (.invokevirtual 126, 3) := dk_182 0 126 (dk_at dksX20_plan_1 12 rfl rfl)
theorem dX20_plan_38 : decode cX20_plan 38 = .ok (.iinc 2 1, 3) := dk_132 2 1 (dk_at dksX20_plan_1 15 rfl rfl)
theorem dX20_plan_41 : decode cX20_plan 41 = .ok (.goto (-39), 3) := dk_167 255 217 (dk_at dksX20_plan_1 18 rfl rfl)
theorem dX20_plan_44 : decode cX20_plan 44 = .ok (.iconst 0, 1) := dk_3 (dk_at dksX20_plan_1 21 rfl rfl)
theorem dX20_plan_45 : decode cX20_plan 45 = .ok (.istore_n 2, 1) := dk_61 (dk_at dksX20_plan_1 22 rfl rfl)
theorem dX20_plan_46 : decode cX20_plan 46 = .ok (.iload_n 2, 1) := dk_28 (dk_at dksX20_plan_1 23 rfl rfl)
theorem dX20_plan_47 : decode cX20_plan 47 = .ok (.bipush 8, 2) := dk_16 8 (dk_at dksX20_plan_2 0 rfl rfl)
theorem dX20_plan_49 : decode cX20_plan 49 = .ok (.if_icmp .ge 97, 3) := dk_162 0 97 (dk_at dksX20_plan_2 2 rfl rfl)
theorem dX20_plan_52 : decode cX20_plan 52 = .ok (.aload_n 0, 1) := dk_42 (dk_at dksX20_plan_2 5 rfl rfl)
theorem dX20_plan_53 : decode cX20_plan 53 = .ok (.getfield 3, 3) := dk_180 0 3 (dk_at dksX20_plan_2 6 rfl rfl)
theorem dX20_plan_56 : decode cX20_plan 56 = .ok (.iload_n 2, 1) := dk_28 (dk_at dksX20_plan_2 9 rfl rfl)
theorem dX20_plan_57 : decode cX20_plan 57 = .ok (.invokevirtual 116, 3) := dk_182 0 116 (dk_at dksX20_plan_2 10 rfl rfl)
theorem dX20_plan_60 : decode cX20_plan 60 = .ok (.ifCond .eq 80, 3) := dk_153 0 80 (dk_at dksX20_plan_2 13 rfl rfl)
theorem dX20_plan_63 : decode cX20_plan 63 = .ok (.aload_n 1, 1) := dk_43 (dk_at dksX20_plan_2 16 rfl rfl)
theorem dX20_plan_64 : decode cX20_plan 64 = .ok (.iload_n 2, 1) := dk_28 (dk_at dksX20_plan_2 17 rfl rfl)
theorem dX20_plan_65 : decode cX20_plan 65 = .ok (.iaload, 1) := dk_46 (dk_at dksX20_plan_2 18 rfl rfl)
theorem dX20_plan_66 : decode cX20_plan 66 = .ok (.iconst (-1), 1) := dk_2 (dk_at dksX20_plan_2 19 rfl rfl)
theorem dX20_plan_67 : decode cX20_plan 67 = .ok (.if_icmp .eq 73, 3) := dk_159 0 73 (dk_at dksX20_plan_2 20 rfl rfl)
theorem dX20_plan_70 : decode cX20_plan 70 = .ok (.aload_n 0, 1) := dk_42 (dk_at dksX20_plan_2 23 rfl rfl)
theorem dX20_plan_71 : decode cX20_plan 71 = .ok (.aload_n 0, 1) := dk_42 (dk_at dksX20_plan_3 0 rfl rfl)
theorem dX20_plan_72 : decode cX20_plan 72 = .ok (.iload_n 2, 1) := dk_28 (dk_at dksX20_plan_3 1 rfl rfl)
theorem dX20_plan_73 : decode cX20_plan 73 = .ok (.invokevirtual 120, 3) := dk_182 0 120 (dk_at dksX20_plan_3 2 rfl rfl)
theorem dX20_plan_76 : decode cX20_plan 76 = .ok (.aload_n 1, 1) := dk_43 (dk_at dksX20_plan_3 5 rfl rfl)
theorem dX20_plan_77 : decode cX20_plan 77 = .ok (.iload_n 2, 1) := dk_28 (dk_at dksX20_plan_3 6 rfl rfl)
theorem dX20_plan_78 : decode cX20_plan 78 = .ok (.iaload, 1) := dk_46 (dk_at dksX20_plan_3 7 rfl rfl)
theorem dX20_plan_79 : decode cX20_plan 79 = .ok (.invokevirtual 130, 3) := dk_182 0 130 (dk_at dksX20_plan_3 8 rfl rfl)
theorem dX20_plan_82 : decode cX20_plan 82 = .ok (.astore_n 3, 1) := dk_78 (dk_at dksX20_plan_3 11 rfl rfl)
theorem dX20_plan_83 : decode cX20_plan 83 = .ok (.aload_n 3, 1) := dk_45 (dk_at dksX20_plan_3 12 rfl rfl)
theorem dX20_plan_84 : decode cX20_plan 84 = .ok (.ifnonnull 5, 3) := dk_199 0 5 (dk_at dksX20_plan_3 13 rfl rfl)
theorem dX20_plan_87 : decode cX20_plan 87 = .ok (.aconst_null, 1) := dk_1 (dk_at dksX20_plan_3 16 rfl rfl)
theorem dX20_plan_88 : decode cX20_plan 88 = .ok (.areturn, 1) := dk_176 (dk_at dksX20_plan_3 17 rfl rfl)
theorem dX20_plan_89 : decode cX20_plan 89 = .ok (.aload_n 0, 1) := dk_42 (dk_at dksX20_plan_3 18 rfl rfl)
theorem dX20_plan_90 : decode cX20_plan 90 = .ok (.iload_n 2, 1) := dk_28 (dk_at dksX20_plan_3 19 rfl rfl)
theorem dX20_plan_91 : decode cX20_plan 91 = .ok (.aload_n 0, 1) := dk_42 (dk_at dksX20_plan_3 20 rfl rfl)
theorem dX20_plan_92 : decode cX20_plan 92 = .ok (.iload_n 2, 1) := dk_28 (dk_at dksX20_plan_3 21 rfl rfl)
theorem dX20_plan_93 : decode cX20_plan 93 = .ok (.invokevirtual 120, 3) := dk_182 0 120 (dk_at dksX20_plan_4 0 rfl rfl)
theorem dX20_plan_96 : decode cX20_plan 96 = .ok (.aload_n 3, 1) := dk_45 (dk_at dksX20_plan_4 3 rfl rfl)
theorem dX20_plan_97 : decode cX20_plan 97 = .ok (.invokevirtual 126, 3) := dk_182 0 126 (dk_at dksX20_plan_4 4 rfl rfl)
theorem dX20_plan_100 : decode cX20_plan 100 = .ok (.aload_n 3, 1) := dk_45 (dk_at dksX20_plan_4 7 rfl rfl)
theorem dX20_plan_101 : decode cX20_plan 101 = .ok (.invokevirtual 134, 3) := dk_182 0 134 (dk_at dksX20_plan_4 8 rfl rfl)
theorem dX20_plan_104 : decode cX20_plan 104 = .ok (.ifCond .ne 33, 3) := dk_154 0 33 (dk_at dksX20_plan_4 11 rfl rfl)
theorem dX20_plan_107 : decode cX20_plan 107 = .ok (.aload_n 0, 1) := dk_42 (dk_at dksX20_plan_4 14 rfl rfl)
theorem dX20_plan_108 : decode cX20_plan 108 = .ok (.getfield 24, 3) := dk_180 0 24 (dk_at dksX20_plan_4 15 rfl rfl)
theorem dX20_plan_111 : decode cX20_plan 111 = .ok (.new 138, 3) := dk_187 0 138 (dk_at dksX20_plan_4 18 rfl rfl)
theorem dX20_plan_114 : decode cX20_plan 114 = .ok (.dup, 1) := dk_89 (dk_at dksX20_plan_4 21 rfl rfl)
theorem dX20_plan_115 : decode cX20_plan 115 = .ok (.iconst 0, 1) := dk_3 (dk_at dksX20_plan_4 22 rfl rfl)
theorem dX20_plan_116 : decode cX20_plan 116 = .ok (.aload_n 3, 1) := dk_45 (dk_at dksX20_plan_4 23 rfl rfl)
theorem dX20_plan_117 : decode cX20_plan 117 = .ok (.iconst 1, 1) := dk_4 (dk_at dksX20_plan_5 0 rfl rfl)
theorem dX20_plan_118 : decode cX20_plan 118 = .ok (.newarray .int, 2) := dk_188_10 (dk_at dksX20_plan_5 1 rfl rfl)
theorem dX20_plan_120 : decode cX20_plan 120 = .ok (.dup, 1) := dk_89 (dk_at dksX20_plan_5 3 rfl rfl)
theorem dX20_plan_121 : decode cX20_plan 121 = .ok (.iconst 0, 1) := dk_3 (dk_at dksX20_plan_5 4 rfl rfl)
theorem dX20_plan_122 : decode cX20_plan 122 = .ok (.iload_n 2, 1) := dk_28 (dk_at dksX20_plan_5 5 rfl rfl)
theorem dX20_plan_123 : decode cX20_plan 123 = .ok (.iastore, 1) := dk_79 (dk_at dksX20_plan_5 6 rfl rfl)
theorem dX20_plan_124 : decode cX20_plan 124 = .ok (.invokespecial 140, 3) := dk_183 0 140 (dk_at dksX20_plan_5 7 rfl rfl)
theorem dX20_plan_127 : decode cX20_plan 127 = .ok (.invokevirtual 143, 3) := dk_182 0 143 (dk_at dksX20_plan_5 10 rfl rfl)
theorem dX20_plan_130 : decode cX20_plan 130 = .ok (.ifCond .eq 7, 3) := dk_153 0 7 (dk_at dksX20_plan_5 13 rfl rfl)
theorem dX20_plan_133 : decode cX20_plan 133 = .ok (.iconst 1, 1) := dk_4 (dk_at dksX20_plan_5 16 rfl rfl)
theorem dX20_plan_134 : decode cX20_plan 134 = .ok (.goto 4, 3) := dk_167 0 4 (dk_at dksX20_plan_5 17 rfl rfl)
theorem dX20_plan_137 : decode cX20_plan 137 = .ok (.iconst 0, 1) := dk_3 (dk_at dksX20_plan_5 20 rfl rfl)
theorem dX20_plan_138 : decode cX20_plan 138 = .ok (.istore 4, 2) := dk_54 4 (dk_at dksX20_plan_5 21 rfl rfl)
theorem dX20_plan_140 : decode cX20_plan 140 = .ok (.iinc 2 1, 3) := dk_132 2 1 (dk_at dksX20_plan_6 0 rfl rfl)
theorem dX20_plan_143 : decode cX20_plan 143 = .ok (.goto (-97), 3) := dk_167 255 159 (dk_at dksX20_plan_6 3 rfl rfl)
theorem dX20_plan_146 : decode cX20_plan 146 = .ok (.aload_n 0, 1) := dk_42 (dk_at dksX20_plan_6 6 rfl rfl)
theorem dX20_plan_147 : decode cX20_plan 147 = .ok (.getfield 24, 3) := dk_180 0 24 (dk_at dksX20_plan_6 7 rfl rfl)
theorem dX20_plan_150 : decode cX20_plan 150 = .ok (.areturn, 1) := dk_176 (dk_at dksX20_plan_6 10 rfl rfl)
abbrev cX20_end : ByteArray := prog_6_method_2_code
def yX20_end : MethodName := ⟨RX20, "end", "(I)I"⟩
def dkwX20_end_2 : List UInt8 := [172]
abbrev dktX20_end_2 : List UInt8 := dkwX20_end_2 ++ []
def dkwX20_end_1 : List UInt8 := [182, 0, 43, 104, 42, 180, 0, 3, 27, 42, 180, 0, 3, 180, 0, 34, 180, 0, 38, 3, 182, 0, 43, 96]
abbrev dktX20_end_1 : List UInt8 := dkwX20_end_1 ++ dktX20_end_2
def dkwX20_end_0 : List UInt8 := [42, 180, 0, 3, 180, 0, 28, 42, 180, 0, 3, 27, 42, 180, 0, 3, 180, 0, 34, 180, 0, 38, 4]
abbrev dktX20_end_0 : List UInt8 := dkwX20_end_0 ++ dktX20_end_1
theorem dksX20_end_0 : cX20_end.data.toList.drop 0 = dktX20_end_0 := by decide +kernel
theorem dksX20_end_1 : cX20_end.data.toList.drop 23 = dktX20_end_1 := dk_seg dksX20_end_0 23 rfl rfl
theorem dksX20_end_2 : cX20_end.data.toList.drop 47 = dktX20_end_2 := dk_seg dksX20_end_1 24 rfl rfl
theorem dX20_end_0 : decode cX20_end 0 = .ok (.aload_n 0, 1) := dk_42 (dk_at dksX20_end_0 0 rfl rfl)
theorem dX20_end_1 : decode cX20_end 1 = .ok (.getfield 3, 3) := dk_180 0 3 (dk_at dksX20_end_0 1 rfl rfl)
theorem dX20_end_4 : decode cX20_end 4 = .ok (.getfield 28, 3) := dk_180 0 28 (dk_at dksX20_end_0 4 rfl rfl)
theorem dX20_end_7 : decode cX20_end 7 = .ok (.aload_n 0, 1) := dk_42 (dk_at dksX20_end_0 7 rfl rfl)
theorem dX20_end_8 : decode cX20_end 8 = .ok (.getfield 3, 3) := dk_180 0 3 (dk_at dksX20_end_0 8 rfl rfl)
theorem dX20_end_11 : decode cX20_end 11 = .ok (.iload_n 1, 1) := dk_27 (dk_at dksX20_end_0 11 rfl rfl)
theorem dX20_end_12 : decode cX20_end 12 = .ok (.aload_n 0, 1) := dk_42 (dk_at dksX20_end_0 12 rfl rfl)
theorem dX20_end_13 : decode cX20_end 13 = .ok (.getfield 3, 3) := dk_180 0 3 (dk_at dksX20_end_0 13 rfl rfl)
theorem dX20_end_16 : decode cX20_end 16 = .ok (.getfield 34, 3) := dk_180 0 34 (dk_at dksX20_end_0 16 rfl rfl)
theorem dX20_end_19 : decode cX20_end 19 = .ok (.getfield 38, 3) := dk_180 0 38 (dk_at dksX20_end_0 19 rfl rfl)
theorem dX20_end_22 : decode cX20_end 22 = .ok (.iconst 1, 1) := dk_4 (dk_at dksX20_end_0 22 rfl rfl)
theorem dX20_end_23 : decode cX20_end 23 = .ok (.invokevirtual 43, 3) := dk_182 0 43 (dk_at dksX20_end_1 0 rfl rfl)
theorem dX20_end_26 : decode cX20_end 26 = .ok (.imul, 1) := dk_104 (dk_at dksX20_end_1 3 rfl rfl)
theorem dX20_end_27 : decode cX20_end 27 = .ok (.aload_n 0, 1) := dk_42 (dk_at dksX20_end_1 4 rfl rfl)
theorem dX20_end_28 : decode cX20_end 28 = .ok (.getfield 3, 3) := dk_180 0 3 (dk_at dksX20_end_1 5 rfl rfl)
theorem dX20_end_31 : decode cX20_end 31 = .ok (.iload_n 1, 1) := dk_27 (dk_at dksX20_end_1 8 rfl rfl)
theorem dX20_end_32 : decode cX20_end 32 = .ok (.aload_n 0, 1) := dk_42 (dk_at dksX20_end_1 9 rfl rfl)
theorem dX20_end_33 : decode cX20_end 33 = .ok (.getfield 3, 3) := dk_180 0 3 (dk_at dksX20_end_1 10 rfl rfl)
theorem dX20_end_36 : decode cX20_end 36 = .ok (.getfield 34, 3) := dk_180 0 34 (dk_at dksX20_end_1 13 rfl rfl)
theorem dX20_end_39 : decode cX20_end 39 = .ok (.getfield 38, 3) := dk_180 0 38 (dk_at dksX20_end_1 16 rfl rfl)
theorem dX20_end_42 : decode cX20_end 42 = .ok (.iconst 0, 1) := dk_3 (dk_at dksX20_end_1 19 rfl rfl)
theorem dX20_end_43 : decode cX20_end 43 = .ok (.invokevirtual 43, 3) := dk_182 0 43 (dk_at dksX20_end_1 20 rfl rfl)
theorem dX20_end_46 : decode cX20_end 46 = .ok (.iadd, 1) := dk_96 (dk_at dksX20_end_1 23 rfl rfl)
theorem dX20_end_47 : decode cX20_end 47 = .ok (.ireturn, 1) := dk_172 (dk_at dksX20_end_2 0 rfl rfl)
abbrev cX20_keep : ByteArray := prog_6_method_11_code
def yX20_keep : MethodName := ⟨RX20, "keep", "(IILjava/lang/String;)V"⟩
def dkwX20_keep_3 : List UInt8 := [180, 0, 17, 27, 25, 4, 83, 177]
abbrev dktX20_keep_3 : List UInt8 := dkwX20_keep_3 ++ []
def dkwX20_keep_2 : List UInt8 := [182, 0, 77, 182, 0, 81, 167, 0, 10, 25, 4, 21, 5, 4, 100, 46, 79, 132, 5, 1, 167, 255, 203, 42]
abbrev dktX20_keep_2 : List UInt8 := dkwX20_keep_2 ++ dktX20_keep_3
def dkwX20_keep_1 : List UInt8 := [21, 5, 21, 5, 45, 182, 0, 73, 163, 0, 25, 42, 25, 4, 21, 5, 4, 100, 46, 45, 21, 5, 4, 100]
abbrev dktX20_keep_1 : List UInt8 := dkwX20_keep_1 ++ dktX20_keep_2
def dkwX20_keep_0 : List UInt8 := [16, 21, 188, 10, 58, 4, 25, 4, 3, 28, 79, 4, 54, 5, 21, 5, 16, 20, 163, 0, 52, 25, 4]
abbrev dktX20_keep_0 : List UInt8 := dkwX20_keep_0 ++ dktX20_keep_1
theorem dksX20_keep_0 : cX20_keep.data.toList.drop 0 = dktX20_keep_0 := by decide +kernel
theorem dksX20_keep_1 : cX20_keep.data.toList.drop 23 = dktX20_keep_1 := dk_seg dksX20_keep_0 23 rfl rfl
theorem dksX20_keep_2 : cX20_keep.data.toList.drop 47 = dktX20_keep_2 := dk_seg dksX20_keep_1 24 rfl rfl
theorem dksX20_keep_3 : cX20_keep.data.toList.drop 71 = dktX20_keep_3 := dk_seg dksX20_keep_2 24 rfl rfl
theorem dX20_keep_0 : decode cX20_keep 0 = .ok (.bipush 21, 2) := dk_16 21 (dk_at dksX20_keep_0 0 rfl rfl)
theorem dX20_keep_2 : decode cX20_keep 2 = .ok (.newarray .int, 2) := dk_188_10 (dk_at dksX20_keep_0 2 rfl rfl)
theorem dX20_keep_4 : decode cX20_keep 4 = .ok (.astore 4, 2) := dk_58 4 (dk_at dksX20_keep_0 4 rfl rfl)
theorem dX20_keep_6 : decode cX20_keep 6 = .ok (.aload 4, 2) := dk_25 4 (dk_at dksX20_keep_0 6 rfl rfl)
theorem dX20_keep_8 : decode cX20_keep 8 = .ok (.iconst 0, 1) := dk_3 (dk_at dksX20_keep_0 8 rfl rfl)
theorem dX20_keep_9 : decode cX20_keep 9 = .ok (.iload_n 2, 1) := dk_28 (dk_at dksX20_keep_0 9 rfl rfl)
theorem dX20_keep_10 : decode cX20_keep 10 = .ok (.iastore, 1) := dk_79 (dk_at dksX20_keep_0 10 rfl rfl)
theorem dX20_keep_11 : decode cX20_keep 11 = .ok (.iconst 1, 1) := dk_4 (dk_at dksX20_keep_0 11 rfl rfl)
theorem dX20_keep_12 : decode cX20_keep 12 = .ok (.istore 5, 2) := dk_54 5 (dk_at dksX20_keep_0 12 rfl rfl)
theorem dX20_keep_14 : decode cX20_keep 14 = .ok (.iload 5, 2) := dk_21 5 (dk_at dksX20_keep_0 14 rfl rfl)
theorem dX20_keep_16 : decode cX20_keep 16 = .ok (.bipush 20, 2) := dk_16 20 (dk_at dksX20_keep_0 16 rfl rfl)
theorem dX20_keep_18 : decode cX20_keep 18 = .ok (.if_icmp .gt 52, 3) := dk_163 0 52 (dk_at dksX20_keep_0 18 rfl rfl)
theorem dX20_keep_21 : decode cX20_keep 21 = .ok (.aload 4, 2) := dk_25 4 (dk_at dksX20_keep_0 21 rfl rfl)
theorem dX20_keep_23 : decode cX20_keep 23 = .ok (.iload 5, 2) := dk_21 5 (dk_at dksX20_keep_1 0 rfl rfl)
theorem dX20_keep_25 : decode cX20_keep 25 = .ok (.iload 5, 2) := dk_21 5 (dk_at dksX20_keep_1 2 rfl rfl)
theorem dX20_keep_27 : decode cX20_keep 27 = .ok (.aload_n 3, 1) := dk_45 (dk_at dksX20_keep_1 4 rfl rfl)
theorem dX20_keep_28 : decode cX20_keep 28 = .ok (.invokevirtual 73, 3) := dk_182 0 73 (dk_at dksX20_keep_1 5 rfl rfl)
theorem dX20_keep_31 : decode cX20_keep 31 = .ok (.if_icmp .gt 25, 3) := dk_163 0 25 (dk_at dksX20_keep_1 8 rfl rfl)
theorem dX20_keep_34 : decode cX20_keep 34 = .ok (.aload_n 0, 1) := dk_42 (dk_at dksX20_keep_1 11 rfl rfl)
theorem dX20_keep_35 : decode cX20_keep 35 = .ok (.aload 4, 2) := dk_25 4 (dk_at dksX20_keep_1 12 rfl rfl)
theorem dX20_keep_37 : decode cX20_keep 37 = .ok (.iload 5, 2) := dk_21 5 (dk_at dksX20_keep_1 14 rfl rfl)
theorem dX20_keep_39 : decode cX20_keep 39 = .ok (.iconst 1, 1) := dk_4 (dk_at dksX20_keep_1 16 rfl rfl)
theorem dX20_keep_40 : decode cX20_keep 40 = .ok (.isub, 1) := dk_100 (dk_at dksX20_keep_1 17 rfl rfl)
theorem dX20_keep_41 : decode cX20_keep 41 = .ok (.iaload, 1) := dk_46 (dk_at dksX20_keep_1 18 rfl rfl)
theorem dX20_keep_42 : decode cX20_keep 42 = .ok (.aload_n 3, 1) := dk_45 (dk_at dksX20_keep_1 19 rfl rfl)
theorem dX20_keep_43 : decode cX20_keep 43 = .ok (.iload 5, 2) := dk_21 5 (dk_at dksX20_keep_1 20 rfl rfl)
theorem dX20_keep_45 : decode cX20_keep 45 = .ok (.iconst 1, 1) := dk_4 (dk_at dksX20_keep_1 22 rfl rfl)
theorem dX20_keep_46 : decode cX20_keep 46 = .ok (.isub, 1) := dk_100 (dk_at dksX20_keep_1 23 rfl rfl)
theorem dX20_keep_47 : decode cX20_keep 47 = .ok (.invokevirtual 77, 3) := dk_182 0 77 (dk_at dksX20_keep_2 0 rfl rfl)
theorem dX20_keep_50 : decode cX20_keep 50 = .ok (.invokevirtual 81, 3) := dk_182 0 81 (dk_at dksX20_keep_2 3 rfl rfl)
theorem dX20_keep_53 : decode cX20_keep 53 = .ok (.goto 10, 3) := dk_167 0 10 (dk_at dksX20_keep_2 6 rfl rfl)
theorem dX20_keep_56 : decode cX20_keep 56 = .ok (.aload 4, 2) := dk_25 4 (dk_at dksX20_keep_2 9 rfl rfl)
theorem dX20_keep_58 : decode cX20_keep 58 = .ok (.iload 5, 2) := dk_21 5 (dk_at dksX20_keep_2 11 rfl rfl)
theorem dX20_keep_60 : decode cX20_keep 60 = .ok (.iconst 1, 1) := dk_4 (dk_at dksX20_keep_2 13 rfl rfl)
theorem dX20_keep_61 : decode cX20_keep 61 = .ok (.isub, 1) := dk_100 (dk_at dksX20_keep_2 14 rfl rfl)
theorem dX20_keep_62 : decode cX20_keep 62 = .ok (.iaload, 1) := dk_46 (dk_at dksX20_keep_2 15 rfl rfl)
theorem dX20_keep_63 : decode cX20_keep 63 = .ok (.iastore, 1) := dk_79 (dk_at dksX20_keep_2 16 rfl rfl)
theorem dX20_keep_64 : decode cX20_keep 64 = .ok (.iinc 5 1, 3) := dk_132 5 1 (dk_at dksX20_keep_2 17 rfl rfl)
theorem dX20_keep_67 : decode cX20_keep 67 = .ok (.goto (-53), 3) := dk_167 255 203 (dk_at dksX20_keep_2 20 rfl rfl)
theorem dX20_keep_70 : decode cX20_keep 70 = .ok (.aload_n 0, 1) := dk_42 (dk_at dksX20_keep_2 23 rfl rfl)
theorem dX20_keep_71 : decode cX20_keep 71 = .ok (.getfield 17, 3) := dk_180 0 17 (dk_at dksX20_keep_3 0 rfl rfl)
theorem dX20_keep_74 : decode cX20_keep 74 = .ok (.iload_n 1, 1) := dk_27 (dk_at dksX20_keep_3 3 rfl rfl)
theorem dX20_keep_75 : decode cX20_keep 75 = .ok (.aload 4, 2) := dk_25 4 (dk_at dksX20_keep_3 4 rfl rfl)
theorem dX20_keep_77 : decode cX20_keep 77 = .ok (.aastore, 1) := dk_83 (dk_at dksX20_keep_3 6 rfl rfl)
theorem dX20_keep_78 : decode cX20_keep 78 = .ok (.return_, 1) := dk_177 (dk_at dksX20_keep_3 7 rfl rfl)
abbrev cX20_neighbor : ByteArray := prog_6_method_3_code
def yX20_neighbor : MethodName := ⟨RX20, "neighbor", "(IC)I"⟩
def dkwX20_neighbor_3 : List UInt8 := [42, 180, 0, 3, 180, 0, 28, 104, 21, 4, 96, 167, 0, 4, 2, 172]
abbrev dktX20_neighbor_3 : List UInt8 := dkwX20_neighbor_3 ++ []
def dkwX20_neighbor_2 : List UInt8 := [153, 0, 38, 21, 4, 133, 9, 42, 180, 0, 3, 180, 0, 28, 4, 100, 133, 184, 0, 57, 153, 0, 18, 29]
abbrev dktX20_neighbor_2 : List UInt8 := dkwX20_neighbor_2 ++ dktX20_neighbor_3
def dkwX20_neighbor_1 : List UInt8 := [28, 184, 0, 51, 96, 54, 4, 29, 133, 9, 42, 180, 0, 3, 180, 0, 54, 4, 100, 133, 184, 0, 57]
abbrev dktX20_neighbor_1 : List UInt8 := dkwX20_neighbor_1 ++ dktX20_neighbor_2
def dkwX20_neighbor_0 : List UInt8 := [27, 42, 180, 0, 3, 180, 0, 28, 108, 28, 184, 0, 47, 96, 62, 27, 42, 180, 0, 3, 180, 0, 28, 112]
abbrev dktX20_neighbor_0 : List UInt8 := dkwX20_neighbor_0 ++ dktX20_neighbor_1
theorem dksX20_neighbor_0 : cX20_neighbor.data.toList.drop 0 = dktX20_neighbor_0 := by decide +kernel
theorem dksX20_neighbor_1 : cX20_neighbor.data.toList.drop 24 = dktX20_neighbor_1 := dk_seg dksX20_neighbor_0 24 rfl rfl
theorem dksX20_neighbor_2 : cX20_neighbor.data.toList.drop 47 = dktX20_neighbor_2 := dk_seg dksX20_neighbor_1 23 rfl rfl
theorem dksX20_neighbor_3 : cX20_neighbor.data.toList.drop 71 = dktX20_neighbor_3 := dk_seg dksX20_neighbor_2 24 rfl rfl
theorem dX20_neighbor_0 : decode cX20_neighbor 0 = .ok (.iload_n 1, 1) := dk_27 (dk_at dksX20_neighbor_0 0 rfl rfl)
theorem dX20_neighbor_1 : decode cX20_neighbor 1 = .ok (.aload_n 0, 1) := dk_42 (dk_at dksX20_neighbor_0 1 rfl rfl)
theorem dX20_neighbor_2 : decode cX20_neighbor 2 = .ok (.getfield 3, 3) := dk_180 0 3 (dk_at dksX20_neighbor_0 2 rfl rfl)
theorem dX20_neighbor_5 : decode cX20_neighbor 5 = .ok (.getfield 28, 3) := dk_180 0 28 (dk_at dksX20_neighbor_0 5 rfl rfl)
theorem dX20_neighbor_8 : decode cX20_neighbor 8 = .ok (.idiv, 1) := dk_108 (dk_at dksX20_neighbor_0 8 rfl rfl)
theorem dX20_neighbor_9 : decode cX20_neighbor 9 = .ok (.iload_n 2, 1) := dk_28 (dk_at dksX20_neighbor_0 9 rfl rfl)
theorem dX20_neighbor_10 : decode cX20_neighbor 10 = .ok (.invokestatic 47, 3) := dk_184 0 47 (dk_at dksX20_neighbor_0 10 rfl rfl)
theorem dX20_neighbor_13 : decode cX20_neighbor 13 = .ok (.iadd, 1) := dk_96 (dk_at dksX20_neighbor_0 13 rfl rfl)
theorem dX20_neighbor_14 : decode cX20_neighbor 14 = .ok (.istore_n 3, 1) := dk_62 (dk_at dksX20_neighbor_0 14 rfl rfl)
theorem dX20_neighbor_15 : decode cX20_neighbor 15 = .ok (.iload_n 1, 1) := dk_27 (dk_at dksX20_neighbor_0 15 rfl rfl)
theorem dX20_neighbor_16 : decode cX20_neighbor 16 = .ok (.aload_n 0, 1) := dk_42 (dk_at dksX20_neighbor_0 16 rfl rfl)
theorem dX20_neighbor_17 : decode cX20_neighbor 17 = .ok (.getfield 3, 3) := dk_180 0 3 (dk_at dksX20_neighbor_0 17 rfl rfl)
theorem dX20_neighbor_20 : decode cX20_neighbor 20 = .ok (.getfield 28, 3) := dk_180 0 28 (dk_at dksX20_neighbor_0 20 rfl rfl)
theorem dX20_neighbor_23 : decode cX20_neighbor 23 = .ok (.irem, 1) := dk_112 (dk_at dksX20_neighbor_0 23 rfl rfl)
theorem dX20_neighbor_24 : decode cX20_neighbor 24 = .ok (.iload_n 2, 1) := dk_28 (dk_at dksX20_neighbor_1 0 rfl rfl)
theorem dX20_neighbor_25 : decode cX20_neighbor 25 = .ok (.invokestatic 51, 3) := dk_184 0 51 (dk_at dksX20_neighbor_1 1 rfl rfl)
theorem dX20_neighbor_28 : decode cX20_neighbor 28 = .ok (.iadd, 1) := dk_96 (dk_at dksX20_neighbor_1 4 rfl rfl)
theorem dX20_neighbor_29 : decode cX20_neighbor 29 = .ok (.istore 4, 2) := dk_54 4 (dk_at dksX20_neighbor_1 5 rfl rfl)
theorem dX20_neighbor_31 : decode cX20_neighbor 31 = .ok (.iload_n 3, 1) := dk_29 (dk_at dksX20_neighbor_1 7 rfl rfl)
theorem dX20_neighbor_32 : decode cX20_neighbor 32 = .ok (.i2l, 1) := dk_133 (dk_at dksX20_neighbor_1 8 rfl rfl)
theorem dX20_neighbor_33 : decode cX20_neighbor 33 = .ok (.lconst 0, 1) := dk_9 (dk_at dksX20_neighbor_1 9 rfl rfl)
theorem dX20_neighbor_34 : decode cX20_neighbor 34 = .ok (.aload_n 0, 1) := dk_42 (dk_at dksX20_neighbor_1 10 rfl rfl)
theorem dX20_neighbor_35 : decode cX20_neighbor 35 = .ok (.getfield 3, 3) := dk_180 0 3 (dk_at dksX20_neighbor_1 11 rfl rfl)
theorem dX20_neighbor_38 : decode cX20_neighbor 38 = .ok (.getfield 54, 3) := dk_180 0 54 (dk_at dksX20_neighbor_1 14 rfl rfl)
theorem dX20_neighbor_41 : decode cX20_neighbor 41 = .ok (.iconst 1, 1) := dk_4 (dk_at dksX20_neighbor_1 17 rfl rfl)
theorem dX20_neighbor_42 : decode cX20_neighbor 42 = .ok (.isub, 1) := dk_100 (dk_at dksX20_neighbor_1 18 rfl rfl)
theorem dX20_neighbor_43 : decode cX20_neighbor 43 = .ok (.i2l, 1) := dk_133 (dk_at dksX20_neighbor_1 19 rfl rfl)
theorem dX20_neighbor_44 : decode cX20_neighbor 44 = .ok (.invokestatic 57, 3) := dk_184 0 57 (dk_at dksX20_neighbor_1 20 rfl rfl)
theorem dX20_neighbor_47 : decode cX20_neighbor 47 = .ok (.ifCond .eq 38, 3) := dk_153 0 38 (dk_at dksX20_neighbor_2 0 rfl rfl)
theorem dX20_neighbor_50 : decode cX20_neighbor 50 = .ok (.iload 4, 2) := dk_21 4 (dk_at dksX20_neighbor_2 3 rfl rfl)
theorem dX20_neighbor_52 : decode cX20_neighbor 52 = .ok (.i2l, 1) := dk_133 (dk_at dksX20_neighbor_2 5 rfl rfl)
theorem dX20_neighbor_53 : decode cX20_neighbor 53 = .ok (.lconst 0, 1) := dk_9 (dk_at dksX20_neighbor_2 6 rfl rfl)
theorem dX20_neighbor_54 : decode cX20_neighbor 54 = .ok (.aload_n 0, 1) := dk_42 (dk_at dksX20_neighbor_2 7 rfl rfl)
theorem dX20_neighbor_55 : decode cX20_neighbor 55 = .ok (.getfield 3, 3) := dk_180 0 3 (dk_at dksX20_neighbor_2 8 rfl rfl)
theorem dX20_neighbor_58 : decode cX20_neighbor 58 = .ok (.getfield 28, 3) := dk_180 0 28 (dk_at dksX20_neighbor_2 11 rfl rfl)
theorem dX20_neighbor_61 : decode cX20_neighbor 61 = .ok (.iconst 1, 1) := dk_4 (dk_at dksX20_neighbor_2 14 rfl rfl)
theorem dX20_neighbor_62 : decode cX20_neighbor 62 = .ok (.isub, 1) := dk_100 (dk_at dksX20_neighbor_2 15 rfl rfl)
theorem dX20_neighbor_63 : decode cX20_neighbor 63 = .ok (.i2l, 1) := dk_133 (dk_at dksX20_neighbor_2 16 rfl rfl)
theorem dX20_neighbor_64 : decode cX20_neighbor 64 = .ok (.invokestatic 57, 3) := dk_184 0 57 (dk_at dksX20_neighbor_2 17 rfl rfl)
theorem dX20_neighbor_67 : decode cX20_neighbor 67 = .ok (.ifCond .eq 18, 3) := dk_153 0 18 (dk_at dksX20_neighbor_2 20 rfl rfl)
theorem dX20_neighbor_70 : decode cX20_neighbor 70 = .ok (.iload_n 3, 1) := dk_29 (dk_at dksX20_neighbor_2 23 rfl rfl)
theorem dX20_neighbor_71 : decode cX20_neighbor 71 = .ok (.aload_n 0, 1) := dk_42 (dk_at dksX20_neighbor_3 0 rfl rfl)
theorem dX20_neighbor_72 : decode cX20_neighbor 72 = .ok (.getfield 3, 3) := dk_180 0 3 (dk_at dksX20_neighbor_3 1 rfl rfl)
theorem dX20_neighbor_75 : decode cX20_neighbor 75 = .ok (.getfield 28, 3) := dk_180 0 28 (dk_at dksX20_neighbor_3 4 rfl rfl)
theorem dX20_neighbor_78 : decode cX20_neighbor 78 = .ok (.imul, 1) := dk_104 (dk_at dksX20_neighbor_3 7 rfl rfl)
theorem dX20_neighbor_79 : decode cX20_neighbor 79 = .ok (.iload 4, 2) := dk_21 4 (dk_at dksX20_neighbor_3 8 rfl rfl)
theorem dX20_neighbor_81 : decode cX20_neighbor 81 = .ok (.iadd, 1) := dk_96 (dk_at dksX20_neighbor_3 10 rfl rfl)
theorem dX20_neighbor_82 : decode cX20_neighbor 82 = .ok (.goto 4, 3) := dk_167 0 4 (dk_at dksX20_neighbor_3 11 rfl rfl)
theorem dX20_neighbor_85 : decode cX20_neighbor 85 = .ok (.iconst (-1), 1) := dk_2 (dk_at dksX20_neighbor_3 14 rfl rfl)
theorem dX20_neighbor_86 : decode cX20_neighbor 86 = .ok (.ireturn, 1) := dk_172 (dk_at dksX20_neighbor_3 15 rfl rfl)
abbrev cX20_find : ByteArray := prog_6_method_8_code
def yX20_find : MethodName := ⟨RX20, "find", "(II)Ljava/lang/String;"⟩
def dkwX20_find_2 : List UInt8 := [164, 0, 7, 1, 167, 0, 15, 42, 27, 42, 28, 21, 4, 182, 0, 93, 182, 0, 97, 176]
abbrev dktX20_find_2 : List UInt8 := dkwX20_find_2 ++ []
def dkwX20_find_1 : List UInt8 := [153, 0, 13, 42, 28, 21, 4, 182, 0, 89, 154, 0, 9, 132, 4, 1, 167, 255, 227, 21, 4, 16, 20]
abbrev dktX20_find_1 : List UInt8 := dkwX20_find_1 ++ dktX20_find_2
def dkwX20_find_0 : List UInt8 := [42, 27, 182, 0, 85, 78, 3, 54, 4, 21, 4, 16, 20, 163, 0, 28, 45, 21, 4, 50, 28, 51]
abbrev dktX20_find_0 : List UInt8 := dkwX20_find_0 ++ dktX20_find_1
theorem dksX20_find_0 : cX20_find.data.toList.drop 0 = dktX20_find_0 := by decide +kernel
theorem dksX20_find_1 : cX20_find.data.toList.drop 22 = dktX20_find_1 := dk_seg dksX20_find_0 22 rfl rfl
theorem dksX20_find_2 : cX20_find.data.toList.drop 45 = dktX20_find_2 := dk_seg dksX20_find_1 23 rfl rfl
theorem dX20_find_0 : decode cX20_find 0 = .ok (.aload_n 0, 1) := dk_42 (dk_at dksX20_find_0 0 rfl rfl)
theorem dX20_find_1 : decode cX20_find 1 = .ok (.iload_n 1, 1) := dk_27 (dk_at dksX20_find_0 1 rfl rfl)
theorem dX20_find_2 : decode cX20_find 2 = .ok (.invokevirtual 85, 3) := dk_182 0 85 (dk_at dksX20_find_0 2 rfl rfl)
theorem dX20_find_5 : decode cX20_find 5 = .ok (.astore_n 3, 1) := dk_78 (dk_at dksX20_find_0 5 rfl rfl)
theorem dX20_find_6 : decode cX20_find 6 = .ok (.iconst 0, 1) := dk_3 (dk_at dksX20_find_0 6 rfl rfl)
theorem dX20_find_7 : decode cX20_find 7 = .ok (.istore 4, 2) := dk_54 4 (dk_at dksX20_find_0 7 rfl rfl)
theorem dX20_find_9 : decode cX20_find 9 = .ok (.iload 4, 2) := dk_21 4 (dk_at dksX20_find_0 9 rfl rfl)
theorem dX20_find_11 : decode cX20_find 11 = .ok (.bipush 20, 2) := dk_16 20 (dk_at dksX20_find_0 11 rfl rfl)
theorem dX20_find_13 : decode cX20_find 13 = .ok (.if_icmp .gt 28, 3) := dk_163 0 28 (dk_at dksX20_find_0 13 rfl rfl)
theorem dX20_find_16 : decode cX20_find 16 = .ok (.aload_n 3, 1) := dk_45 (dk_at dksX20_find_0 16 rfl rfl)
theorem dX20_find_17 : decode cX20_find 17 = .ok (.iload 4, 2) := dk_21 4 (dk_at dksX20_find_0 17 rfl rfl)
theorem dX20_find_19 : decode cX20_find 19 = .ok (.aaload, 1) := dk_50 (dk_at dksX20_find_0 19 rfl rfl)
theorem dX20_find_20 : decode cX20_find 20 = .ok (.iload_n 2, 1) := dk_28 (dk_at dksX20_find_0 20 rfl rfl)
theorem dX20_find_21 : decode cX20_find 21 = .ok (.baload, 1) := dk_51 (dk_at dksX20_find_0 21 rfl rfl)
theorem dX20_find_22 : decode cX20_find 22 = .ok (.ifCond .eq 13, 3) := dk_153 0 13 (dk_at dksX20_find_1 0 rfl rfl)
theorem dX20_find_25 : decode cX20_find 25 = .ok (.aload_n 0, 1) := dk_42 (dk_at dksX20_find_1 3 rfl rfl)
theorem dX20_find_26 : decode cX20_find 26 = .ok (.iload_n 2, 1) := dk_28 (dk_at dksX20_find_1 4 rfl rfl)
theorem dX20_find_27 : decode cX20_find 27 = .ok (.iload 4, 2) := dk_21 4 (dk_at dksX20_find_1 5 rfl rfl)
theorem dX20_find_29 : decode cX20_find 29 = .ok (.invokevirtual 89, 3) := dk_182 0 89 (dk_at dksX20_find_1 7 rfl rfl)
theorem dX20_find_32 : decode cX20_find 32 = .ok (.ifCond .ne 9, 3) := dk_154 0 9 (dk_at dksX20_find_1 10 rfl rfl)
theorem dX20_find_35 : decode cX20_find 35 = .ok (.iinc 4 1, 3) := dk_132 4 1 (dk_at dksX20_find_1 13 rfl rfl)
theorem dX20_find_38 : decode cX20_find 38 = .ok (.goto (-29), 3) := dk_167 255 227 (dk_at dksX20_find_1 16 rfl rfl)
theorem dX20_find_41 : decode cX20_find 41 = .ok (.iload 4, 2) := dk_21 4 (dk_at dksX20_find_1 19 rfl rfl)
theorem dX20_find_43 : decode cX20_find 43 = .ok (.bipush 20, 2) := dk_16 20 (dk_at dksX20_find_1 21 rfl rfl)
theorem dX20_find_45 : decode cX20_find 45 = .ok (.if_icmp .le 7, 3) := dk_164 0 7 (dk_at dksX20_find_2 0 rfl rfl)
theorem dX20_find_48 : decode cX20_find 48 = .ok (.aconst_null, 1) := dk_1 (dk_at dksX20_find_2 3 rfl rfl)
theorem dX20_find_49 : decode cX20_find 49 = .ok (.goto 15, 3) := dk_167 0 15 (dk_at dksX20_find_2 4 rfl rfl)
theorem dX20_find_52 : decode cX20_find 52 = .ok (.aload_n 0, 1) := dk_42 (dk_at dksX20_find_2 7 rfl rfl)
theorem dX20_find_53 : decode cX20_find 53 = .ok (.iload_n 1, 1) := dk_27 (dk_at dksX20_find_2 8 rfl rfl)
theorem dX20_find_54 : decode cX20_find 54 = .ok (.aload_n 0, 1) := dk_42 (dk_at dksX20_find_2 9 rfl rfl)
theorem dX20_find_55 : decode cX20_find 55 = .ok (.iload_n 2, 1) := dk_28 (dk_at dksX20_find_2 10 rfl rfl)
theorem dX20_find_56 : decode cX20_find 56 = .ok (.iload 4, 2) := dk_21 4 (dk_at dksX20_find_2 11 rfl rfl)
theorem dX20_find_58 : decode cX20_find 58 = .ok (.invokevirtual 93, 3) := dk_182 0 93 (dk_at dksX20_find_2 13 rfl rfl)
theorem dX20_find_61 : decode cX20_find 61 = .ok (.invokevirtual 97, 3) := dk_182 0 97 (dk_at dksX20_find_2 16 rfl rfl)
theorem dX20_find_64 : decode cX20_find 64 = .ok (.areturn, 1) := dk_176 (dk_at dksX20_find_2 19 rfl rfl)
abbrev cX20_reachable : ByteArray := prog_6_method_7_code
def yX20_reachable : MethodName := ⟨RX20, "reachable", "(I)[[Z"⟩
def dkwX20_reachable_5 : List UInt8 := [167, 255, 162, 44, 176]
abbrev dktX20_reachable_5 : List UInt8 := dkwX20_reachable_5 ++ []
def dkwX20_reachable_4 : List UInt8 := [44, 29, 50, 21, 6, 4, 84, 132, 5, 1, 167, 255, 198, 132, 4, 1, 167, 255, 177, 132, 3, 1]
abbrev dktX20_reachable_4 : List UInt8 := dkwX20_reachable_4 ++ dktX20_reachable_5
def dkwX20_reachable_3 : List UInt8 := [18, 71, 21, 5, 182, 0, 77, 182, 0, 81, 54, 6, 42, 21, 4, 21, 6, 29, 182, 0, 61, 153, 0, 10]
abbrev dktX20_reachable_3 : List UInt8 := dkwX20_reachable_3 ++ dktX20_reachable_4
def dkwX20_reachable_2 : List UInt8 := [21, 5, 18, 71, 182, 0, 73, 162, 0, 54, 44, 29, 4, 100, 50, 21, 4, 51, 153, 0, 43, 42, 21, 4]
abbrev dktX20_reachable_2 : List UInt8 := dkwX20_reachable_2 ++ dktX20_reachable_3
def dkwX20_reachable_1 : List UInt8 := [16, 20, 163, 0, 94, 3, 54, 4, 21, 4, 42, 180, 0, 3, 182, 0, 65, 162, 0, 73, 3, 54, 5]
abbrev dktX20_reachable_1 : List UInt8 := dkwX20_reachable_1 ++ dktX20_reachable_2
def dkwX20_reachable_0 : List UInt8 := [16, 21, 42, 180, 0, 3, 182, 0, 65, 197, 0, 69, 2, 77, 44, 3, 50, 27, 4, 84, 4, 62, 29]
abbrev dktX20_reachable_0 : List UInt8 := dkwX20_reachable_0 ++ dktX20_reachable_1
theorem dksX20_reachable_0 : cX20_reachable.data.toList.drop 0 = dktX20_reachable_0 := by decide +kernel
theorem dksX20_reachable_1 : cX20_reachable.data.toList.drop 23 = dktX20_reachable_1 := dk_seg dksX20_reachable_0 23 rfl rfl
theorem dksX20_reachable_2 : cX20_reachable.data.toList.drop 46 = dktX20_reachable_2 := dk_seg dksX20_reachable_1 23 rfl rfl
theorem dksX20_reachable_3 : cX20_reachable.data.toList.drop 70 = dktX20_reachable_3 := dk_seg dksX20_reachable_2 24 rfl rfl
theorem dksX20_reachable_4 : cX20_reachable.data.toList.drop 94 = dktX20_reachable_4 := dk_seg dksX20_reachable_3 24 rfl rfl
theorem dksX20_reachable_5 : cX20_reachable.data.toList.drop 116 = dktX20_reachable_5 := dk_seg dksX20_reachable_4 22 rfl rfl
theorem dX20_reachable_0 : decode cX20_reachable 0 = .ok (.bipush 21, 2) := dk_16 21 (dk_at dksX20_reachable_0 0 rfl rfl)
theorem dX20_reachable_2 : decode cX20_reachable 2 = .ok (.aload_n 0, 1) := dk_42 (dk_at dksX20_reachable_0 2 rfl rfl)
theorem dX20_reachable_3 : decode cX20_reachable 3 = .ok (.getfield 3, 3) := dk_180 0 3 (dk_at dksX20_reachable_0 3 rfl rfl)
theorem dX20_reachable_6 : decode cX20_reachable 6 = .ok (.invokevirtual 65, 3) := dk_182 0 65 (dk_at dksX20_reachable_0 6 rfl rfl)
theorem dX20_reachable_9 : decode cX20_reachable 9 = .ok (.multianewarray 69 2, 4) := by decide +kernel
theorem dX20_reachable_13 : decode cX20_reachable 13 = .ok (.astore_n 2, 1) := dk_77 (dk_at dksX20_reachable_0 13 rfl rfl)
theorem dX20_reachable_14 : decode cX20_reachable 14 = .ok (.aload_n 2, 1) := dk_44 (dk_at dksX20_reachable_0 14 rfl rfl)
theorem dX20_reachable_15 : decode cX20_reachable 15 = .ok (.iconst 0, 1) := dk_3 (dk_at dksX20_reachable_0 15 rfl rfl)
theorem dX20_reachable_16 : decode cX20_reachable 16 = .ok (.aaload, 1) := dk_50 (dk_at dksX20_reachable_0 16 rfl rfl)
theorem dX20_reachable_17 : decode cX20_reachable 17 = .ok (.iload_n 1, 1) := dk_27 (dk_at dksX20_reachable_0 17 rfl rfl)
theorem dX20_reachable_18 : decode cX20_reachable 18 = .ok (.iconst 1, 1) := dk_4 (dk_at dksX20_reachable_0 18 rfl rfl)
theorem dX20_reachable_19 : decode cX20_reachable 19 = .ok (.bastore, 1) := dk_84 (dk_at dksX20_reachable_0 19 rfl rfl)
theorem dX20_reachable_20 : decode cX20_reachable 20 = .ok (.iconst 1, 1) := dk_4 (dk_at dksX20_reachable_0 20 rfl rfl)
theorem dX20_reachable_21 : decode cX20_reachable 21 = .ok (.istore_n 3, 1) := dk_62 (dk_at dksX20_reachable_0 21 rfl rfl)
theorem dX20_reachable_22 : decode cX20_reachable 22 = .ok (.iload_n 3, 1) := dk_29 (dk_at dksX20_reachable_0 22 rfl rfl)
theorem dX20_reachable_23 : decode cX20_reachable 23 = .ok (.bipush 20, 2) := dk_16 20 (dk_at dksX20_reachable_1 0 rfl rfl)
theorem dX20_reachable_25 : decode cX20_reachable 25 = .ok (.if_icmp .gt 94, 3) := dk_163 0 94 (dk_at dksX20_reachable_1 2 rfl rfl)
theorem dX20_reachable_28 : decode cX20_reachable 28 = .ok (.iconst 0, 1) := dk_3 (dk_at dksX20_reachable_1 5 rfl rfl)
theorem dX20_reachable_29 : decode cX20_reachable 29 = .ok (.istore 4, 2) := dk_54 4 (dk_at dksX20_reachable_1 6 rfl rfl)
theorem dX20_reachable_31 : decode cX20_reachable 31 = .ok (.iload 4, 2) := dk_21 4 (dk_at dksX20_reachable_1 8 rfl rfl)
theorem dX20_reachable_33 : decode cX20_reachable 33 = .ok (.aload_n 0, 1) := dk_42 (dk_at dksX20_reachable_1 10 rfl rfl)
theorem dX20_reachable_34 : decode cX20_reachable 34 = .ok (.getfield 3, 3) := dk_180 0 3 (dk_at dksX20_reachable_1 11 rfl rfl)
theorem dX20_reachable_37 : decode cX20_reachable 37 = .ok (.invokevirtual 65, 3) := dk_182 0 65 (dk_at dksX20_reachable_1 14 rfl rfl)
theorem dX20_reachable_40 : decode cX20_reachable 40 = .ok (.if_icmp .ge 73, 3) := dk_162 0 73 (dk_at dksX20_reachable_1 17 rfl rfl)
theorem dX20_reachable_43 : decode cX20_reachable 43 = .ok (.iconst 0, 1) := dk_3 (dk_at dksX20_reachable_1 20 rfl rfl)
theorem dX20_reachable_44 : decode cX20_reachable 44 = .ok (.istore 5, 2) := dk_54 5 (dk_at dksX20_reachable_1 21 rfl rfl)
theorem dX20_reachable_46 : decode cX20_reachable 46 = .ok (.iload 5, 2) := dk_21 5 (dk_at dksX20_reachable_2 0 rfl rfl)
theorem dX20_reachable_48 : decode cX20_reachable 48 = .ok (.ldc 71, 2) := dk_18 71 (dk_at dksX20_reachable_2 2 rfl rfl)
theorem dX20_reachable_50 : decode cX20_reachable 50 = .ok (.invokevirtual 73, 3) := dk_182 0 73 (dk_at dksX20_reachable_2 4 rfl rfl)
theorem dX20_reachable_53 : decode cX20_reachable 53 = .ok (.if_icmp .ge 54, 3) := dk_162 0 54 (dk_at dksX20_reachable_2 7 rfl rfl)
theorem dX20_reachable_56 : decode cX20_reachable 56 = .ok (.aload_n 2, 1) := dk_44 (dk_at dksX20_reachable_2 10 rfl rfl)
theorem dX20_reachable_57 : decode cX20_reachable 57 = .ok (.iload_n 3, 1) := dk_29 (dk_at dksX20_reachable_2 11 rfl rfl)
theorem dX20_reachable_58 : decode cX20_reachable 58 = .ok (.iconst 1, 1) := dk_4 (dk_at dksX20_reachable_2 12 rfl rfl)
theorem dX20_reachable_59 : decode cX20_reachable 59 = .ok (.isub, 1) := dk_100 (dk_at dksX20_reachable_2 13 rfl rfl)
theorem dX20_reachable_60 : decode cX20_reachable 60 = .ok (.aaload, 1) := dk_50 (dk_at dksX20_reachable_2 14 rfl rfl)
theorem dX20_reachable_61 : decode cX20_reachable 61 = .ok (.iload 4, 2) := dk_21 4 (dk_at dksX20_reachable_2 15 rfl rfl)
theorem dX20_reachable_63 : decode cX20_reachable 63 = .ok (.baload, 1) := dk_51 (dk_at dksX20_reachable_2 17 rfl rfl)
theorem dX20_reachable_64 : decode cX20_reachable 64 = .ok (.ifCond .eq 43, 3) := dk_153 0 43 (dk_at dksX20_reachable_2 18 rfl rfl)
theorem dX20_reachable_67 : decode cX20_reachable 67 = .ok (.aload_n 0, 1) := dk_42 (dk_at dksX20_reachable_2 21 rfl rfl)
theorem dX20_reachable_68 : decode cX20_reachable 68 = .ok (.iload 4, 2) := dk_21 4 (dk_at dksX20_reachable_2 22 rfl rfl)
theorem dX20_reachable_70 : decode cX20_reachable 70 = .ok (.ldc 71, 2) := dk_18 71 (dk_at dksX20_reachable_3 0 rfl rfl)
theorem dX20_reachable_72 : decode cX20_reachable 72 = .ok (.iload 5, 2) := dk_21 5 (dk_at dksX20_reachable_3 2 rfl rfl)
theorem dX20_reachable_74 : decode cX20_reachable 74 = .ok (.invokevirtual 77, 3) := dk_182 0 77 (dk_at dksX20_reachable_3 4 rfl rfl)
theorem dX20_reachable_77 : decode cX20_reachable 77 = .ok (.invokevirtual 81, 3) := dk_182 0 81 (dk_at dksX20_reachable_3 7 rfl rfl)
theorem dX20_reachable_80 : decode cX20_reachable 80 = .ok (.istore 6, 2) := dk_54 6 (dk_at dksX20_reachable_3 10 rfl rfl)
theorem dX20_reachable_82 : decode cX20_reachable 82 = .ok (.aload_n 0, 1) := dk_42 (dk_at dksX20_reachable_3 12 rfl rfl)
theorem dX20_reachable_83 : decode cX20_reachable 83 = .ok (.iload 4, 2) := dk_21 4 (dk_at dksX20_reachable_3 13 rfl rfl)
theorem dX20_reachable_85 : decode cX20_reachable 85 = .ok (.iload 6, 2) := dk_21 6 (dk_at dksX20_reachable_3 15 rfl rfl)
theorem dX20_reachable_87 : decode cX20_reachable 87 = .ok (.iload_n 3, 1) := dk_29 (dk_at dksX20_reachable_3 17 rfl rfl)
theorem dX20_reachable_88 : decode cX20_reachable 88 = .ok (.invokevirtual 61, 3) := dk_182 0 61 (dk_at dksX20_reachable_3 18 rfl rfl)
theorem dX20_reachable_91 : decode cX20_reachable 91 = .ok (.ifCond .eq 10, 3) := dk_153 0 10 (dk_at dksX20_reachable_3 21 rfl rfl)
theorem dX20_reachable_94 : decode cX20_reachable 94 = .ok (.aload_n 2, 1) := dk_44 (dk_at dksX20_reachable_4 0 rfl rfl)
theorem dX20_reachable_95 : decode cX20_reachable 95 = .ok (.iload_n 3, 1) := dk_29 (dk_at dksX20_reachable_4 1 rfl rfl)
theorem dX20_reachable_96 : decode cX20_reachable 96 = .ok (.aaload, 1) := dk_50 (dk_at dksX20_reachable_4 2 rfl rfl)
theorem dX20_reachable_97 : decode cX20_reachable 97 = .ok (.iload 6, 2) := dk_21 6 (dk_at dksX20_reachable_4 3 rfl rfl)
theorem dX20_reachable_99 : decode cX20_reachable 99 = .ok (.iconst 1, 1) := dk_4 (dk_at dksX20_reachable_4 5 rfl rfl)
theorem dX20_reachable_100 : decode cX20_reachable 100 = .ok (.bastore, 1) := dk_84 (dk_at dksX20_reachable_4 6 rfl rfl)
theorem dX20_reachable_101 : decode cX20_reachable 101 = .ok (.iinc 5 1, 3) := dk_132 5 1 (dk_at dksX20_reachable_4 7 rfl rfl)
theorem dX20_reachable_104 : decode cX20_reachable 104 = .ok (.goto (-58), 3) := dk_167 255 198 (dk_at dksX20_reachable_4 10 rfl rfl)
theorem dX20_reachable_107 : decode cX20_reachable 107 = .ok (.iinc 4 1, 3) := dk_132 4 1 (dk_at dksX20_reachable_4 13 rfl rfl)
theorem dX20_reachable_110 : decode cX20_reachable 110 = .ok (.goto (-79), 3) := dk_167 255 177 (dk_at dksX20_reachable_4 16 rfl rfl)
theorem dX20_reachable_113 : decode cX20_reachable 113 = .ok (.iinc 3 1, 3) := dk_132 3 1 (dk_at dksX20_reachable_4 19 rfl rfl)
theorem dX20_reachable_116 : decode cX20_reachable 116 = .ok (.goto (-94), 3) := dk_167 255 162 (dk_at dksX20_reachable_5 0 rfl rfl)
theorem dX20_reachable_119 : decode cX20_reachable 119 = .ok (.aload_n 2, 1) := dk_44 (dk_at dksX20_reachable_5 3 rfl rfl)
theorem dX20_reachable_120 : decode cX20_reachable 120 = .ok (.areturn, 1) := dk_176 (dk_at dksX20_reachable_5 4 rfl rfl)
abbrev cX20_canGo : ByteArray := prog_6_method_4_code
def yX20_canGo : MethodName := ⟨RX20, "canGo", "(III)Z"⟩
def dkwX20_canGo_5 : List UInt8 := [167, 255, 167, 21, 4, 172]
abbrev dktX20_canGo_5 : List UInt8 := dkwX20_canGo_5 ++ []
def dkwX20_canGo_4 : List UInt8 := [54, 10, 21, 9, 154, 0, 12, 21, 10, 154, 0, 7, 4, 167, 0, 4, 3, 54, 4, 132, 7, 1]
abbrev dktX20_canGo_4 : List UInt8 := dkwX20_canGo_4 ++ dktX20_canGo_5
def dkwX20_canGo_3 : List UInt8 := [160, 0, 22, 25, 8, 29, 4, 100, 46, 28, 160, 0, 12, 27, 28, 159, 0, 7, 4, 167, 0, 4, 3]
abbrev dktX20_canGo_3 : List UInt8 := dkwX20_canGo_3 ++ dktX20_canGo_4
def dkwX20_canGo_2 : List UInt8 := [153, 0, 65, 25, 8, 29, 46, 28, 160, 0, 7, 4, 167, 0, 4, 3, 54, 9, 25, 8, 29, 46, 27]
abbrev dktX20_canGo_2 : List UInt8 := dkwX20_canGo_2 ++ dktX20_canGo_3
def dkwX20_canGo_1 : List UInt8 := [54, 7, 21, 7, 21, 6, 162, 0, 88, 25, 5, 21, 7, 50, 58, 8, 25, 8, 198, 0, 70, 21, 4]
abbrev dktX20_canGo_1 : List UInt8 := dkwX20_canGo_1 ++ dktX20_canGo_2
def dkwX20_canGo_0 : List UInt8 := [28, 2, 159, 0, 7, 4, 167, 0, 4, 3, 54, 4, 42, 180, 0, 17, 58, 5, 25, 5, 190, 54, 6, 3]
abbrev dktX20_canGo_0 : List UInt8 := dkwX20_canGo_0 ++ dktX20_canGo_1
theorem dksX20_canGo_0 : cX20_canGo.data.toList.drop 0 = dktX20_canGo_0 := by decide +kernel
theorem dksX20_canGo_1 : cX20_canGo.data.toList.drop 24 = dktX20_canGo_1 := dk_seg dksX20_canGo_0 24 rfl rfl
theorem dksX20_canGo_2 : cX20_canGo.data.toList.drop 47 = dktX20_canGo_2 := dk_seg dksX20_canGo_1 23 rfl rfl
theorem dksX20_canGo_3 : cX20_canGo.data.toList.drop 70 = dktX20_canGo_3 := dk_seg dksX20_canGo_2 23 rfl rfl
theorem dksX20_canGo_4 : cX20_canGo.data.toList.drop 93 = dktX20_canGo_4 := dk_seg dksX20_canGo_3 23 rfl rfl
theorem dksX20_canGo_5 : cX20_canGo.data.toList.drop 115 = dktX20_canGo_5 := dk_seg dksX20_canGo_4 22 rfl rfl
theorem dX20_canGo_0 : decode cX20_canGo 0 = .ok (.iload_n 2, 1) := dk_28 (dk_at dksX20_canGo_0 0 rfl rfl)
theorem dX20_canGo_1 : decode cX20_canGo 1 = .ok (.iconst (-1), 1) := dk_2 (dk_at dksX20_canGo_0 1 rfl rfl)
theorem dX20_canGo_2 : decode cX20_canGo 2 = .ok (.if_icmp .eq 7, 3) := dk_159 0 7 (dk_at dksX20_canGo_0 2 rfl rfl)
theorem dX20_canGo_5 : decode cX20_canGo 5 = .ok (.iconst 1, 1) := dk_4 (dk_at dksX20_canGo_0 5 rfl rfl)
theorem dX20_canGo_6 : decode cX20_canGo 6 = .ok (.goto 4, 3) := dk_167 0 4 (dk_at dksX20_canGo_0 6 rfl rfl)
theorem dX20_canGo_9 : decode cX20_canGo 9 = .ok (.iconst 0, 1) := dk_3 (dk_at dksX20_canGo_0 9 rfl rfl)
theorem dX20_canGo_10 : decode cX20_canGo 10 = .ok (.istore 4, 2) := dk_54 4 (dk_at dksX20_canGo_0 10 rfl rfl)
theorem dX20_canGo_12 : decode cX20_canGo 12 = .ok (.aload_n 0, 1) := dk_42 (dk_at dksX20_canGo_0 12 rfl rfl)
theorem dX20_canGo_13 : decode cX20_canGo 13 = .ok (.getfield 17, 3) := dk_180 0 17 (dk_at dksX20_canGo_0 13 rfl rfl)
theorem dX20_canGo_16 : decode cX20_canGo 16 = .ok (.astore 5, 2) := dk_58 5 (dk_at dksX20_canGo_0 16 rfl rfl)
theorem dX20_canGo_18 : decode cX20_canGo 18 = .ok (.aload 5, 2) := dk_25 5 (dk_at dksX20_canGo_0 18 rfl rfl)
theorem dX20_canGo_20 : decode cX20_canGo 20 = .ok (.arraylength, 1) := dk_190 (dk_at dksX20_canGo_0 20 rfl rfl)
theorem dX20_canGo_21 : decode cX20_canGo 21 = .ok (.istore 6, 2) := dk_54 6 (dk_at dksX20_canGo_0 21 rfl rfl)
theorem dX20_canGo_23 : decode cX20_canGo 23 = .ok (.iconst 0, 1) := dk_3 (dk_at dksX20_canGo_0 23 rfl rfl)
theorem dX20_canGo_24 : decode cX20_canGo 24 = .ok (.istore 7, 2) := dk_54 7 (dk_at dksX20_canGo_1 0 rfl rfl)
theorem dX20_canGo_26 : decode cX20_canGo 26 = .ok (.iload 7, 2) := dk_21 7 (dk_at dksX20_canGo_1 2 rfl rfl)
theorem dX20_canGo_28 : decode cX20_canGo 28 = .ok (.iload 6, 2) := dk_21 6 (dk_at dksX20_canGo_1 4 rfl rfl)
theorem dX20_canGo_30 : decode cX20_canGo 30 = .ok (.if_icmp .ge 88, 3) := dk_162 0 88 (dk_at dksX20_canGo_1 6 rfl rfl)
theorem dX20_canGo_33 : decode cX20_canGo 33 = .ok (.aload 5, 2) := dk_25 5 (dk_at dksX20_canGo_1 9 rfl rfl)
theorem dX20_canGo_35 : decode cX20_canGo 35 = .ok (.iload 7, 2) := dk_21 7 (dk_at dksX20_canGo_1 11 rfl rfl)
theorem dX20_canGo_37 : decode cX20_canGo 37 = .ok (.aaload, 1) := dk_50 (dk_at dksX20_canGo_1 13 rfl rfl)
theorem dX20_canGo_38 : decode cX20_canGo 38 = .ok (.astore 8, 2) := dk_58 8 (dk_at dksX20_canGo_1 14 rfl rfl)
theorem dX20_canGo_40 : decode cX20_canGo 40 = .ok (.aload 8, 2) := dk_25 8 (dk_at dksX20_canGo_1 16 rfl rfl)
theorem dX20_canGo_42 : decode cX20_canGo 42 = .ok (.ifnull 70, 3) := dk_198 0 70 (dk_at dksX20_canGo_1 18 rfl rfl)
theorem dX20_canGo_45 : decode cX20_canGo 45 = .ok (.iload 4, 2) := dk_21 4 (dk_at dksX20_canGo_1 21 rfl rfl)
theorem dX20_canGo_47 : decode cX20_canGo 47 = .ok (.ifCond .eq 65, 3) := dk_153 0 65 (dk_at dksX20_canGo_2 0 rfl rfl)
theorem dX20_canGo_50 : decode cX20_canGo 50 = .ok (.aload 8, 2) := dk_25 8 (dk_at dksX20_canGo_2 3 rfl rfl)
theorem dX20_canGo_52 : decode cX20_canGo 52 = .ok (.iload_n 3, 1) := dk_29 (dk_at dksX20_canGo_2 5 rfl rfl)
theorem dX20_canGo_53 : decode cX20_canGo 53 = .ok (.iaload, 1) := dk_46 (dk_at dksX20_canGo_2 6 rfl rfl)
theorem dX20_canGo_54 : decode cX20_canGo 54 = .ok (.iload_n 2, 1) := dk_28 (dk_at dksX20_canGo_2 7 rfl rfl)
theorem dX20_canGo_55 : decode cX20_canGo 55 = .ok (.if_icmp .ne 7, 3) := dk_160 0 7 (dk_at dksX20_canGo_2 8 rfl rfl)
theorem dX20_canGo_58 : decode cX20_canGo 58 = .ok (.iconst 1, 1) := dk_4 (dk_at dksX20_canGo_2 11 rfl rfl)
theorem dX20_canGo_59 : decode cX20_canGo 59 = .ok (.goto 4, 3) := dk_167 0 4 (dk_at dksX20_canGo_2 12 rfl rfl)
theorem dX20_canGo_62 : decode cX20_canGo 62 = .ok (.iconst 0, 1) := dk_3 (dk_at dksX20_canGo_2 15 rfl rfl)
theorem dX20_canGo_63 : decode cX20_canGo 63 = .ok (.istore 9, 2) := dk_54 9 (dk_at dksX20_canGo_2 16 rfl rfl)
theorem dX20_canGo_65 : decode cX20_canGo 65 = .ok (.aload 8, 2) := dk_25 8 (dk_at dksX20_canGo_2 18 rfl rfl)
theorem dX20_canGo_67 : decode cX20_canGo 67 = .ok (.iload_n 3, 1) := dk_29 (dk_at dksX20_canGo_2 20 rfl rfl)
theorem dX20_canGo_68 : decode cX20_canGo 68 = .ok (.iaload, 1) := dk_46 (dk_at dksX20_canGo_2 21 rfl rfl)
theorem dX20_canGo_69 : decode cX20_canGo 69 = .ok (.iload_n 1, 1) := dk_27 (dk_at dksX20_canGo_2 22 rfl rfl)
theorem dX20_canGo_70 : decode cX20_canGo 70 = .ok (.if_icmp .ne 22, 3) := dk_160 0 22 (dk_at dksX20_canGo_3 0 rfl rfl)
theorem dX20_canGo_73 : decode cX20_canGo 73 = .ok (.aload 8, 2) := dk_25 8 (dk_at dksX20_canGo_3 3 rfl rfl)
theorem dX20_canGo_75 : decode cX20_canGo 75 = .ok (.iload_n 3, 1) := dk_29 (dk_at dksX20_canGo_3 5 rfl rfl)
theorem dX20_canGo_76 : decode cX20_canGo 76 = .ok (.iconst 1, 1) := dk_4 (dk_at dksX20_canGo_3 6 rfl rfl)
theorem dX20_canGo_77 : decode cX20_canGo 77 = .ok (.isub, 1) := dk_100 (dk_at dksX20_canGo_3 7 rfl rfl)
theorem dX20_canGo_78 : decode cX20_canGo 78 = .ok (.iaload, 1) := dk_46 (dk_at dksX20_canGo_3 8 rfl rfl)
theorem dX20_canGo_79 : decode cX20_canGo 79 = .ok (.iload_n 2, 1) := dk_28 (dk_at dksX20_canGo_3 9 rfl rfl)
theorem dX20_canGo_80 : decode cX20_canGo 80 = .ok (.if_icmp .ne 12, 3) := dk_160 0 12 (dk_at dksX20_canGo_3 10 rfl rfl)
theorem dX20_canGo_83 : decode cX20_canGo 83 = .ok (.iload_n 1, 1) := dk_27 (dk_at dksX20_canGo_3 13 rfl rfl)
theorem dX20_canGo_84 : decode cX20_canGo 84 = .ok (.iload_n 2, 1) := dk_28 (dk_at dksX20_canGo_3 14 rfl rfl)
theorem dX20_canGo_85 : decode cX20_canGo 85 = .ok (.if_icmp .eq 7, 3) := dk_159 0 7 (dk_at dksX20_canGo_3 15 rfl rfl)
theorem dX20_canGo_88 : decode cX20_canGo 88 = .ok (.iconst 1, 1) := dk_4 (dk_at dksX20_canGo_3 18 rfl rfl)
theorem dX20_canGo_89 : decode cX20_canGo 89 = .ok (.goto 4, 3) := dk_167 0 4 (dk_at dksX20_canGo_3 19 rfl rfl)
theorem dX20_canGo_92 : decode cX20_canGo 92 = .ok (.iconst 0, 1) := dk_3 (dk_at dksX20_canGo_3 22 rfl rfl)
theorem dX20_canGo_93 : decode cX20_canGo 93 = .ok (.istore 10, 2) := dk_54 10 (dk_at dksX20_canGo_4 0 rfl rfl)
theorem dX20_canGo_95 : decode cX20_canGo 95 = .ok (.iload 9, 2) := dk_21 9 (dk_at dksX20_canGo_4 2 rfl rfl)
theorem dX20_canGo_97 : decode cX20_canGo 97 = .ok (.ifCond .ne 12, 3) := dk_154 0 12 (dk_at dksX20_canGo_4 4 rfl rfl)
theorem dX20_canGo_100 : decode cX20_canGo 100 = .ok (.iload 10, 2) := dk_21 10 (dk_at dksX20_canGo_4 7 rfl rfl)
theorem dX20_canGo_102 : decode cX20_canGo 102 = .ok (.ifCond .ne 7, 3) := dk_154 0 7 (dk_at dksX20_canGo_4 9 rfl rfl)
theorem dX20_canGo_105 : decode cX20_canGo 105 = .ok (.iconst 1, 1) := dk_4 (dk_at dksX20_canGo_4 12 rfl rfl)
theorem dX20_canGo_106 : decode cX20_canGo 106 = .ok (.goto 4, 3) := dk_167 0 4 (dk_at dksX20_canGo_4 13 rfl rfl)
theorem dX20_canGo_109 : decode cX20_canGo 109 = .ok (.iconst 0, 1) := dk_3 (dk_at dksX20_canGo_4 16 rfl rfl)
theorem dX20_canGo_110 : decode cX20_canGo 110 = .ok (.istore 4, 2) := dk_54 4 (dk_at dksX20_canGo_4 17 rfl rfl)
theorem dX20_canGo_112 : decode cX20_canGo 112 = .ok (.iinc 7 1, 3) := dk_132 7 1 (dk_at dksX20_canGo_4 19 rfl rfl)
theorem dX20_canGo_115 : decode cX20_canGo 115 = .ok (.goto (-89), 3) := dk_167 255 167 (dk_at dksX20_canGo_5 0 rfl rfl)
theorem dX20_canGo_118 : decode cX20_canGo 118 = .ok (.iload 4, 2) := dk_21 4 (dk_at dksX20_canGo_5 3 rfl rfl)
theorem dX20_canGo_120 : decode cX20_canGo 120 = .ok (.ireturn, 1) := dk_172 (dk_at dksX20_canGo_5 5 rfl rfl)
abbrev cX20_canStay : ByteArray := prog_6_method_5_code
def yX20_canStay : MethodName := ⟨RX20, "canStay", "(II)Z"⟩
def dkwX20_canStay_1 : List UInt8 := [62, 132, 4, 1, 167, 255, 235, 29, 172]
abbrev dktX20_canStay_1 : List UInt8 := dkwX20_canStay_1 ++ []
def dkwX20_canStay_0 : List UInt8 := [4, 62, 28, 4, 96, 54, 4, 21, 4, 16, 20, 163, 0, 20, 29, 42, 27, 27, 21, 4, 182, 0, 61, 126]
abbrev dktX20_canStay_0 : List UInt8 := dkwX20_canStay_0 ++ dktX20_canStay_1
theorem dksX20_canStay_0 : cX20_canStay.data.toList.drop 0 = dktX20_canStay_0 := by decide +kernel
theorem dksX20_canStay_1 : cX20_canStay.data.toList.drop 24 = dktX20_canStay_1 := dk_seg dksX20_canStay_0 24 rfl rfl
theorem dX20_canStay_0 : decode cX20_canStay 0 = .ok (.iconst 1, 1) := dk_4 (dk_at dksX20_canStay_0 0 rfl rfl)
theorem dX20_canStay_1 : decode cX20_canStay 1 = .ok (.istore_n 3, 1) := dk_62 (dk_at dksX20_canStay_0 1 rfl rfl)
theorem dX20_canStay_2 : decode cX20_canStay 2 = .ok (.iload_n 2, 1) := dk_28 (dk_at dksX20_canStay_0 2 rfl rfl)
theorem dX20_canStay_3 : decode cX20_canStay 3 = .ok (.iconst 1, 1) := dk_4 (dk_at dksX20_canStay_0 3 rfl rfl)
theorem dX20_canStay_4 : decode cX20_canStay 4 = .ok (.iadd, 1) := dk_96 (dk_at dksX20_canStay_0 4 rfl rfl)
theorem dX20_canStay_5 : decode cX20_canStay 5 = .ok (.istore 4, 2) := dk_54 4 (dk_at dksX20_canStay_0 5 rfl rfl)
theorem dX20_canStay_7 : decode cX20_canStay 7 = .ok (.iload 4, 2) := dk_21 4 (dk_at dksX20_canStay_0 7 rfl rfl)
theorem dX20_canStay_9 : decode cX20_canStay 9 = .ok (.bipush 20, 2) := dk_16 20 (dk_at dksX20_canStay_0 9 rfl rfl)
theorem dX20_canStay_11 : decode cX20_canStay 11 = .ok (.if_icmp .gt 20, 3) := dk_163 0 20 (dk_at dksX20_canStay_0 11 rfl rfl)
theorem dX20_canStay_14 : decode cX20_canStay 14 = .ok (.iload_n 3, 1) := dk_29 (dk_at dksX20_canStay_0 14 rfl rfl)
theorem dX20_canStay_15 : decode cX20_canStay 15 = .ok (.aload_n 0, 1) := dk_42 (dk_at dksX20_canStay_0 15 rfl rfl)
theorem dX20_canStay_16 : decode cX20_canStay 16 = .ok (.iload_n 1, 1) := dk_27 (dk_at dksX20_canStay_0 16 rfl rfl)
theorem dX20_canStay_17 : decode cX20_canStay 17 = .ok (.iload_n 1, 1) := dk_27 (dk_at dksX20_canStay_0 17 rfl rfl)
theorem dX20_canStay_18 : decode cX20_canStay 18 = .ok (.iload 4, 2) := dk_21 4 (dk_at dksX20_canStay_0 18 rfl rfl)
theorem dX20_canStay_20 : decode cX20_canStay 20 = .ok (.invokevirtual 61, 3) := dk_182 0 61 (dk_at dksX20_canStay_0 20 rfl rfl)
theorem dX20_canStay_23 : decode cX20_canStay 23 = .ok (.iand, 1) := dk_126 (dk_at dksX20_canStay_0 23 rfl rfl)
theorem dX20_canStay_24 : decode cX20_canStay 24 = .ok (.istore_n 3, 1) := dk_62 (dk_at dksX20_canStay_1 0 rfl rfl)
theorem dX20_canStay_25 : decode cX20_canStay 25 = .ok (.iinc 4 1, 3) := dk_132 4 1 (dk_at dksX20_canStay_1 1 rfl rfl)
theorem dX20_canStay_28 : decode cX20_canStay 28 = .ok (.goto (-21), 3) := dk_167 255 235 (dk_at dksX20_canStay_1 4 rfl rfl)
theorem dX20_canStay_31 : decode cX20_canStay 31 = .ok (.iload_n 3, 1) := dk_29 (dk_at dksX20_canStay_1 7 rfl rfl)
theorem dX20_canStay_32 : decode cX20_canStay 32 = .ok (.ireturn, 1) := dk_172 (dk_at dksX20_canStay_1 8 rfl rfl)
abbrev cX20_leadTo : ByteArray := prog_6_method_6_code
def yX20_leadTo : MethodName := ⟨RX20, "leadTo", "(II)[[Z"⟩
def dkwX20_leadTo_5 : List UInt8 := [132, 6, 1, 167, 255, 182, 132, 5, 1, 167, 255, 161, 132, 4, 255, 167, 255, 147, 45, 176]
abbrev dktX20_leadTo_5 : List UInt8 := dkwX20_leadTo_5 ++ []
def dkwX20_leadTo_4 : List UInt8 := [51, 153, 0, 20, 42, 21, 5, 21, 7, 21, 4, 182, 0, 61, 153, 0, 7, 4, 167, 0, 4, 3, 128, 84]
abbrev dktX20_leadTo_4 : List UInt8 := dkwX20_leadTo_4 ++ dktX20_leadTo_5
def dkwX20_leadTo_3 : List UInt8 := [54, 7, 45, 21, 4, 4, 100, 50, 21, 5, 92, 51, 21, 7, 2, 159, 0, 30, 45, 21, 4, 50, 21, 7]
abbrev dktX20_leadTo_3 : List UInt8 := dkwX20_leadTo_3 ++ dktX20_leadTo_4
def dkwX20_leadTo_2 : List UInt8 := [21, 6, 18, 71, 182, 0, 73, 162, 0, 70, 42, 21, 5, 18, 71, 21, 6, 182, 0, 77, 182, 0, 81]
abbrev dktX20_leadTo_2 : List UInt8 := dkwX20_leadTo_2 ++ dktX20_leadTo_3
def dkwX20_leadTo_1 : List UInt8 := [21, 4, 158, 0, 110, 3, 54, 5, 21, 5, 42, 180, 0, 3, 182, 0, 65, 162, 0, 89, 3, 54, 6]
abbrev dktX20_leadTo_1 : List UInt8 := dkwX20_leadTo_1 ++ dktX20_leadTo_2
def dkwX20_leadTo_0 : List UInt8 := [28, 4, 96, 42, 180, 0, 3, 182, 0, 65, 197, 0, 69, 2, 78, 45, 28, 50, 27, 4, 84, 28, 54, 4]
abbrev dktX20_leadTo_0 : List UInt8 := dkwX20_leadTo_0 ++ dktX20_leadTo_1
theorem dksX20_leadTo_0 : cX20_leadTo.data.toList.drop 0 = dktX20_leadTo_0 := by decide +kernel
theorem dksX20_leadTo_1 : cX20_leadTo.data.toList.drop 24 = dktX20_leadTo_1 := dk_seg dksX20_leadTo_0 24 rfl rfl
theorem dksX20_leadTo_2 : cX20_leadTo.data.toList.drop 47 = dktX20_leadTo_2 := dk_seg dksX20_leadTo_1 23 rfl rfl
theorem dksX20_leadTo_3 : cX20_leadTo.data.toList.drop 70 = dktX20_leadTo_3 := dk_seg dksX20_leadTo_2 23 rfl rfl
theorem dksX20_leadTo_4 : cX20_leadTo.data.toList.drop 94 = dktX20_leadTo_4 := dk_seg dksX20_leadTo_3 24 rfl rfl
theorem dksX20_leadTo_5 : cX20_leadTo.data.toList.drop 118 = dktX20_leadTo_5 := dk_seg dksX20_leadTo_4 24 rfl rfl
theorem dX20_leadTo_0 : decode cX20_leadTo 0 = .ok (.iload_n 2, 1) := dk_28 (dk_at dksX20_leadTo_0 0 rfl rfl)
theorem dX20_leadTo_1 : decode cX20_leadTo 1 = .ok (.iconst 1, 1) := dk_4 (dk_at dksX20_leadTo_0 1 rfl rfl)
theorem dX20_leadTo_2 : decode cX20_leadTo 2 = .ok (.iadd, 1) := dk_96 (dk_at dksX20_leadTo_0 2 rfl rfl)
theorem dX20_leadTo_3 : decode cX20_leadTo 3 = .ok (.aload_n 0, 1) := dk_42 (dk_at dksX20_leadTo_0 3 rfl rfl)
theorem dX20_leadTo_4 : decode cX20_leadTo 4 = .ok (.getfield 3, 3) := dk_180 0 3 (dk_at dksX20_leadTo_0 4 rfl rfl)
theorem dX20_leadTo_7 : decode cX20_leadTo 7 = .ok (.invokevirtual 65, 3) := dk_182 0 65 (dk_at dksX20_leadTo_0 7 rfl rfl)
theorem dX20_leadTo_10 : decode cX20_leadTo 10 = .ok (.multianewarray 69 2, 4) := by decide +kernel
theorem dX20_leadTo_14 : decode cX20_leadTo 14 = .ok (.astore_n 3, 1) := dk_78 (dk_at dksX20_leadTo_0 14 rfl rfl)
theorem dX20_leadTo_15 : decode cX20_leadTo 15 = .ok (.aload_n 3, 1) := dk_45 (dk_at dksX20_leadTo_0 15 rfl rfl)
theorem dX20_leadTo_16 : decode cX20_leadTo 16 = .ok (.iload_n 2, 1) := dk_28 (dk_at dksX20_leadTo_0 16 rfl rfl)
theorem dX20_leadTo_17 : decode cX20_leadTo 17 = .ok (.aaload, 1) := dk_50 (dk_at dksX20_leadTo_0 17 rfl rfl)
theorem dX20_leadTo_18 : decode cX20_leadTo 18 = .ok (.iload_n 1, 1) := dk_27 (dk_at dksX20_leadTo_0 18 rfl rfl)
theorem dX20_leadTo_19 : decode cX20_leadTo 19 = .ok (.iconst 1, 1) := dk_4 (dk_at dksX20_leadTo_0 19 rfl rfl)
theorem dX20_leadTo_20 : decode cX20_leadTo 20 = .ok (.bastore, 1) := dk_84 (dk_at dksX20_leadTo_0 20 rfl rfl)
theorem dX20_leadTo_21 : decode cX20_leadTo 21 = .ok (.iload_n 2, 1) := dk_28 (dk_at dksX20_leadTo_0 21 rfl rfl)
theorem dX20_leadTo_22 : decode cX20_leadTo 22 = .ok (.istore 4, 2) := dk_54 4 (dk_at dksX20_leadTo_0 22 rfl rfl)
theorem dX20_leadTo_24 : decode cX20_leadTo 24 = .ok (.iload 4, 2) := dk_21 4 (dk_at dksX20_leadTo_1 0 rfl rfl)
theorem dX20_leadTo_26 : decode cX20_leadTo 26 = .ok (.ifCond .le 110, 3) := dk_158 0 110 (dk_at dksX20_leadTo_1 2 rfl rfl)
theorem dX20_leadTo_29 : decode cX20_leadTo 29 = .ok (.iconst 0, 1) := dk_3 (dk_at dksX20_leadTo_1 5 rfl rfl)
theorem dX20_leadTo_30 : decode cX20_leadTo 30 = .ok (.istore 5, 2) := dk_54 5 (dk_at dksX20_leadTo_1 6 rfl rfl)
theorem dX20_leadTo_32 : decode cX20_leadTo 32 = .ok (.iload 5, 2) := dk_21 5 (dk_at dksX20_leadTo_1 8 rfl rfl)
theorem dX20_leadTo_34 : decode cX20_leadTo 34 = .ok (.aload_n 0, 1) := dk_42 (dk_at dksX20_leadTo_1 10 rfl rfl)
theorem dX20_leadTo_35 : decode cX20_leadTo 35 = .ok (.getfield 3, 3) := dk_180 0 3 (dk_at dksX20_leadTo_1 11 rfl rfl)
theorem dX20_leadTo_38 : decode cX20_leadTo 38 = .ok (.invokevirtual 65, 3) := dk_182 0 65 (dk_at dksX20_leadTo_1 14 rfl rfl)
theorem dX20_leadTo_41 : decode cX20_leadTo 41 = .ok (.if_icmp .ge 89, 3) := dk_162 0 89 (dk_at dksX20_leadTo_1 17 rfl rfl)
theorem dX20_leadTo_44 : decode cX20_leadTo 44 = .ok (.iconst 0, 1) := dk_3 (dk_at dksX20_leadTo_1 20 rfl rfl)
theorem dX20_leadTo_45 : decode cX20_leadTo 45 = .ok (.istore 6, 2) := dk_54 6 (dk_at dksX20_leadTo_1 21 rfl rfl)
theorem dX20_leadTo_47 : decode cX20_leadTo 47 = .ok (.iload 6, 2) := dk_21 6 (dk_at dksX20_leadTo_2 0 rfl rfl)
theorem dX20_leadTo_49 : decode cX20_leadTo 49 = .ok (.ldc 71, 2) := dk_18 71 (dk_at dksX20_leadTo_2 2 rfl rfl)
theorem dX20_leadTo_51 : decode cX20_leadTo 51 = .ok (.invokevirtual 73, 3) := dk_182 0 73 (dk_at dksX20_leadTo_2 4 rfl rfl)
theorem dX20_leadTo_54 : decode cX20_leadTo 54 = .ok (.if_icmp .ge 70, 3) := dk_162 0 70 (dk_at dksX20_leadTo_2 7 rfl rfl)
theorem dX20_leadTo_57 : decode cX20_leadTo 57 = .ok (.aload_n 0, 1) := dk_42 (dk_at dksX20_leadTo_2 10 rfl rfl)
theorem dX20_leadTo_58 : decode cX20_leadTo 58 = .ok (.iload 5, 2) := dk_21 5 (dk_at dksX20_leadTo_2 11 rfl rfl)
theorem dX20_leadTo_60 : decode cX20_leadTo 60 = .ok (.ldc 71, 2) := dk_18 71 (dk_at dksX20_leadTo_2 13 rfl rfl)
theorem dX20_leadTo_62 : decode cX20_leadTo 62 = .ok (.iload 6, 2) := dk_21 6 (dk_at dksX20_leadTo_2 15 rfl rfl)
theorem dX20_leadTo_64 : decode cX20_leadTo 64 = .ok (.invokevirtual 77, 3) := dk_182 0 77 (dk_at dksX20_leadTo_2 17 rfl rfl)
theorem dX20_leadTo_67 : decode cX20_leadTo 67 = .ok (.invokevirtual 81, 3) := dk_182 0 81 (dk_at dksX20_leadTo_2 20 rfl rfl)
theorem dX20_leadTo_70 : decode cX20_leadTo 70 = .ok (.istore 7, 2) := dk_54 7 (dk_at dksX20_leadTo_3 0 rfl rfl)
theorem dX20_leadTo_72 : decode cX20_leadTo 72 = .ok (.aload_n 3, 1) := dk_45 (dk_at dksX20_leadTo_3 2 rfl rfl)
theorem dX20_leadTo_73 : decode cX20_leadTo 73 = .ok (.iload 4, 2) := dk_21 4 (dk_at dksX20_leadTo_3 3 rfl rfl)
theorem dX20_leadTo_75 : decode cX20_leadTo 75 = .ok (.iconst 1, 1) := dk_4 (dk_at dksX20_leadTo_3 5 rfl rfl)
theorem dX20_leadTo_76 : decode cX20_leadTo 76 = .ok (.isub, 1) := dk_100 (dk_at dksX20_leadTo_3 6 rfl rfl)
theorem dX20_leadTo_77 : decode cX20_leadTo 77 = .ok (.aaload, 1) := dk_50 (dk_at dksX20_leadTo_3 7 rfl rfl)
theorem dX20_leadTo_78 : decode cX20_leadTo 78 = .ok (.iload 5, 2) := dk_21 5 (dk_at dksX20_leadTo_3 8 rfl rfl)
theorem dX20_leadTo_80 : decode cX20_leadTo 80 = .ok (.dup2, 1) := dk_92 (dk_at dksX20_leadTo_3 10 rfl rfl)
theorem dX20_leadTo_81 : decode cX20_leadTo 81 = .ok (.baload, 1) := dk_51 (dk_at dksX20_leadTo_3 11 rfl rfl)
theorem dX20_leadTo_82 : decode cX20_leadTo 82 = .ok (.iload 7, 2) := dk_21 7 (dk_at dksX20_leadTo_3 12 rfl rfl)
theorem dX20_leadTo_84 : decode cX20_leadTo 84 = .ok (.iconst (-1), 1) := dk_2 (dk_at dksX20_leadTo_3 14 rfl rfl)
theorem dX20_leadTo_85 : decode cX20_leadTo 85 = .ok (.if_icmp .eq 30, 3) := dk_159 0 30 (dk_at dksX20_leadTo_3 15 rfl rfl)
theorem dX20_leadTo_88 : decode cX20_leadTo 88 = .ok (.aload_n 3, 1) := dk_45 (dk_at dksX20_leadTo_3 18 rfl rfl)
theorem dX20_leadTo_89 : decode cX20_leadTo 89 = .ok (.iload 4, 2) := dk_21 4 (dk_at dksX20_leadTo_3 19 rfl rfl)
theorem dX20_leadTo_91 : decode cX20_leadTo 91 = .ok (.aaload, 1) := dk_50 (dk_at dksX20_leadTo_3 21 rfl rfl)
theorem dX20_leadTo_92 : decode cX20_leadTo 92 = .ok (.iload 7, 2) := dk_21 7 (dk_at dksX20_leadTo_3 22 rfl rfl)
theorem dX20_leadTo_94 : decode cX20_leadTo 94 = .ok (.baload, 1) := dk_51 (dk_at dksX20_leadTo_4 0 rfl rfl)
theorem dX20_leadTo_95 : decode cX20_leadTo 95 = .ok (.ifCond .eq 20, 3) := dk_153 0 20 (dk_at dksX20_leadTo_4 1 rfl rfl)
theorem dX20_leadTo_98 : decode cX20_leadTo 98 = .ok (.aload_n 0, 1) := dk_42 (dk_at dksX20_leadTo_4 4 rfl rfl)
theorem dX20_leadTo_99 : decode cX20_leadTo 99 = .ok (.iload 5, 2) := dk_21 5 (dk_at dksX20_leadTo_4 5 rfl rfl)
theorem dX20_leadTo_101 : decode cX20_leadTo 101 = .ok (.iload 7, 2) := dk_21 7 (dk_at dksX20_leadTo_4 7 rfl rfl)
theorem dX20_leadTo_103 : decode cX20_leadTo 103 = .ok (.iload 4, 2) := dk_21 4 (dk_at dksX20_leadTo_4 9 rfl rfl)
theorem dX20_leadTo_105 : decode cX20_leadTo 105 = .ok (.invokevirtual 61, 3) := dk_182 0 61 (dk_at dksX20_leadTo_4 11 rfl rfl)
theorem dX20_leadTo_108 : decode cX20_leadTo 108 = .ok (.ifCond .eq 7, 3) := dk_153 0 7 (dk_at dksX20_leadTo_4 14 rfl rfl)
theorem dX20_leadTo_111 : decode cX20_leadTo 111 = .ok (.iconst 1, 1) := dk_4 (dk_at dksX20_leadTo_4 17 rfl rfl)
theorem dX20_leadTo_112 : decode cX20_leadTo 112 = .ok (.goto 4, 3) := dk_167 0 4 (dk_at dksX20_leadTo_4 18 rfl rfl)
theorem dX20_leadTo_115 : decode cX20_leadTo 115 = .ok (.iconst 0, 1) := dk_3 (dk_at dksX20_leadTo_4 21 rfl rfl)
theorem dX20_leadTo_116 : decode cX20_leadTo 116 = .ok (.ior, 1) := dk_128 (dk_at dksX20_leadTo_4 22 rfl rfl)
theorem dX20_leadTo_117 : decode cX20_leadTo 117 = .ok (.bastore, 1) := dk_84 (dk_at dksX20_leadTo_4 23 rfl rfl)
theorem dX20_leadTo_118 : decode cX20_leadTo 118 = .ok (.iinc 6 1, 3) := dk_132 6 1 (dk_at dksX20_leadTo_5 0 rfl rfl)
theorem dX20_leadTo_121 : decode cX20_leadTo 121 = .ok (.goto (-74), 3) := dk_167 255 182 (dk_at dksX20_leadTo_5 3 rfl rfl)
theorem dX20_leadTo_124 : decode cX20_leadTo 124 = .ok (.iinc 5 1, 3) := dk_132 5 1 (dk_at dksX20_leadTo_5 6 rfl rfl)
theorem dX20_leadTo_127 : decode cX20_leadTo 127 = .ok (.goto (-95), 3) := dk_167 255 161 (dk_at dksX20_leadTo_5 9 rfl rfl)
theorem dX20_leadTo_130 : decode cX20_leadTo 130 = .ok (.iinc 4 (-1), 3) := dk_132 4 255 (dk_at dksX20_leadTo_5 12 rfl rfl)
theorem dX20_leadTo_133 : decode cX20_leadTo 133 = .ok (.goto (-109), 3) := dk_167 255 147 (dk_at dksX20_leadTo_5 15 rfl rfl)
theorem dX20_leadTo_136 : decode cX20_leadTo 136 = .ok (.aload_n 3, 1) := dk_45 (dk_at dksX20_leadTo_5 18 rfl rfl)
theorem dX20_leadTo_137 : decode cX20_leadTo 137 = .ok (.areturn, 1) := dk_176 (dk_at dksX20_leadTo_5 19 rfl rfl)
abbrev cX20_follow : ByteArray := prog_6_method_9_code
def yX20_follow : MethodName := ⟨RX20, "follow", "(I[[Z)Ljava/lang/String;"⟩
def dkwX20_follow_3 : List UInt8 := [182, 0, 77, 182, 0, 81, 54, 4, 132, 5, 1, 167, 255, 191, 45, 182, 0, 112, 176]
abbrev dktX20_follow_3 : List UInt8 := dkwX20_follow_3 ++ []
def dkwX20_follow_2 : List UInt8 := [167, 255, 234, 45, 18, 71, 21, 6, 182, 0, 77, 182, 0, 108, 87, 42, 21, 4, 18, 71, 21, 6]
abbrev dktX20_follow_2 : List UInt8 := dkwX20_follow_2 ++ dktX20_follow_3
def dkwX20_follow_1 : List UInt8 := [42, 21, 4, 18, 71, 21, 6, 182, 0, 77, 21, 5, 44, 182, 0, 104, 154, 0, 9, 132, 6, 1]
abbrev dktX20_follow_1 : List UInt8 := dkwX20_follow_1 ++ dktX20_follow_2
def dkwX20_follow_0 : List UInt8 := [187, 0, 101, 89, 183, 0, 103, 78, 27, 54, 4, 4, 54, 5, 21, 5, 44, 190, 162, 0, 64, 3, 54, 6]
abbrev dktX20_follow_0 : List UInt8 := dkwX20_follow_0 ++ dktX20_follow_1
theorem dksX20_follow_0 : cX20_follow.data.toList.drop 0 = dktX20_follow_0 := by decide +kernel
theorem dksX20_follow_1 : cX20_follow.data.toList.drop 24 = dktX20_follow_1 := dk_seg dksX20_follow_0 24 rfl rfl
theorem dksX20_follow_2 : cX20_follow.data.toList.drop 46 = dktX20_follow_2 := dk_seg dksX20_follow_1 22 rfl rfl
theorem dksX20_follow_3 : cX20_follow.data.toList.drop 68 = dktX20_follow_3 := dk_seg dksX20_follow_2 22 rfl rfl
theorem dX20_follow_0 : decode cX20_follow 0 = .ok (.new 101, 3) := dk_187 0 101 (dk_at dksX20_follow_0 0 rfl rfl)
theorem dX20_follow_3 : decode cX20_follow 3 = .ok (.dup, 1) := dk_89 (dk_at dksX20_follow_0 3 rfl rfl)
theorem dX20_follow_4 : decode cX20_follow 4 = .ok (.invokespecial 103, 3) := dk_183 0 103 (dk_at dksX20_follow_0 4 rfl rfl)
theorem dX20_follow_7 : decode cX20_follow 7 = .ok (.astore_n 3, 1) := dk_78 (dk_at dksX20_follow_0 7 rfl rfl)
theorem dX20_follow_8 : decode cX20_follow 8 = .ok (.iload_n 1, 1) := dk_27 (dk_at dksX20_follow_0 8 rfl rfl)
theorem dX20_follow_9 : decode cX20_follow 9 = .ok (.istore 4, 2) := dk_54 4 (dk_at dksX20_follow_0 9 rfl rfl)
theorem dX20_follow_11 : decode cX20_follow 11 = .ok (.iconst 1, 1) := dk_4 (dk_at dksX20_follow_0 11 rfl rfl)
theorem dX20_follow_12 : decode cX20_follow 12 = .ok (.istore 5, 2) := dk_54 5 (dk_at dksX20_follow_0 12 rfl rfl)
theorem dX20_follow_14 : decode cX20_follow 14 = .ok (.iload 5, 2) := dk_21 5 (dk_at dksX20_follow_0 14 rfl rfl)
theorem dX20_follow_16 : decode cX20_follow 16 = .ok (.aload_n 2, 1) := dk_44 (dk_at dksX20_follow_0 16 rfl rfl)
theorem dX20_follow_17 : decode cX20_follow 17 = .ok (.arraylength, 1) := dk_190 (dk_at dksX20_follow_0 17 rfl rfl)
theorem dX20_follow_18 : decode cX20_follow 18 = .ok (.if_icmp .ge 64, 3) := dk_162 0 64 (dk_at dksX20_follow_0 18 rfl rfl)
theorem dX20_follow_21 : decode cX20_follow 21 = .ok (.iconst 0, 1) := dk_3 (dk_at dksX20_follow_0 21 rfl rfl)
theorem dX20_follow_22 : decode cX20_follow 22 = .ok (.istore 6, 2) := dk_54 6 (dk_at dksX20_follow_0 22 rfl rfl)
theorem dX20_follow_24 : decode cX20_follow 24 = .ok (.aload_n 0, 1) := dk_42 (dk_at dksX20_follow_1 0 rfl rfl)
theorem dX20_follow_25 : decode cX20_follow 25 = .ok (.iload 4, 2) := dk_21 4 (dk_at dksX20_follow_1 1 rfl rfl)
theorem dX20_follow_27 : decode cX20_follow 27 = .ok (.ldc 71, 2) := dk_18 71 (dk_at dksX20_follow_1 3 rfl rfl)
theorem dX20_follow_29 : decode cX20_follow 29 = .ok (.iload 6, 2) := dk_21 6 (dk_at dksX20_follow_1 5 rfl rfl)
theorem dX20_follow_31 : decode cX20_follow 31 = .ok (.invokevirtual 77, 3) := dk_182 0 77 (dk_at dksX20_follow_1 7 rfl rfl)
theorem dX20_follow_34 : decode cX20_follow 34 = .ok (.iload 5, 2) := dk_21 5 (dk_at dksX20_follow_1 10 rfl rfl)
theorem dX20_follow_36 : decode cX20_follow 36 = .ok (.aload_n 2, 1) := dk_44 (dk_at dksX20_follow_1 12 rfl rfl)
theorem dX20_follow_37 : decode cX20_follow 37 = .ok (.invokevirtual 104, 3) := dk_182 0 104 (dk_at dksX20_follow_1 13 rfl rfl)
theorem dX20_follow_40 : decode cX20_follow 40 = .ok (.ifCond .ne 9, 3) := dk_154 0 9 (dk_at dksX20_follow_1 16 rfl rfl)
theorem dX20_follow_43 : decode cX20_follow 43 = .ok (.iinc 6 1, 3) := dk_132 6 1 (dk_at dksX20_follow_1 19 rfl rfl)
theorem dX20_follow_46 : decode cX20_follow 46 = .ok (.goto (-22), 3) := dk_167 255 234 (dk_at dksX20_follow_2 0 rfl rfl)
theorem dX20_follow_49 : decode cX20_follow 49 = .ok (.aload_n 3, 1) := dk_45 (dk_at dksX20_follow_2 3 rfl rfl)
theorem dX20_follow_50 : decode cX20_follow 50 = .ok (.ldc 71, 2) := dk_18 71 (dk_at dksX20_follow_2 4 rfl rfl)
theorem dX20_follow_52 : decode cX20_follow 52 = .ok (.iload 6, 2) := dk_21 6 (dk_at dksX20_follow_2 6 rfl rfl)
theorem dX20_follow_54 : decode cX20_follow 54 = .ok (.invokevirtual 77, 3) := dk_182 0 77 (dk_at dksX20_follow_2 8 rfl rfl)
theorem dX20_follow_57 : decode cX20_follow 57 = .ok (.invokevirtual 108, 3) := dk_182 0 108 (dk_at dksX20_follow_2 11 rfl rfl)
theorem dX20_follow_60 : decode cX20_follow 60 = .ok (.pop, 1) := dk_87 (dk_at dksX20_follow_2 14 rfl rfl)
theorem dX20_follow_61 : decode cX20_follow 61 = .ok (.aload_n 0, 1) := dk_42 (dk_at dksX20_follow_2 15 rfl rfl)
theorem dX20_follow_62 : decode cX20_follow 62 = .ok (.iload 4, 2) := dk_21 4 (dk_at dksX20_follow_2 16 rfl rfl)
theorem dX20_follow_64 : decode cX20_follow 64 = .ok (.ldc 71, 2) := dk_18 71 (dk_at dksX20_follow_2 18 rfl rfl)
theorem dX20_follow_66 : decode cX20_follow 66 = .ok (.iload 6, 2) := dk_21 6 (dk_at dksX20_follow_2 20 rfl rfl)
theorem dX20_follow_68 : decode cX20_follow 68 = .ok (.invokevirtual 77, 3) := dk_182 0 77 (dk_at dksX20_follow_3 0 rfl rfl)
theorem dX20_follow_71 : decode cX20_follow 71 = .ok (.invokevirtual 81, 3) := dk_182 0 81 (dk_at dksX20_follow_3 3 rfl rfl)
theorem dX20_follow_74 : decode cX20_follow 74 = .ok (.istore 4, 2) := dk_54 4 (dk_at dksX20_follow_3 6 rfl rfl)
theorem dX20_follow_76 : decode cX20_follow 76 = .ok (.iinc 5 1, 3) := dk_132 5 1 (dk_at dksX20_follow_3 8 rfl rfl)
theorem dX20_follow_79 : decode cX20_follow 79 = .ok (.goto (-65), 3) := dk_167 255 191 (dk_at dksX20_follow_3 11 rfl rfl)
theorem dX20_follow_82 : decode cX20_follow 82 = .ok (.aload_n 3, 1) := dk_45 (dk_at dksX20_follow_3 14 rfl rfl)
theorem dX20_follow_83 : decode cX20_follow 83 = .ok (.invokevirtual 112, 3) := dk_182 0 112 (dk_at dksX20_follow_3 15 rfl rfl)
theorem dX20_follow_86 : decode cX20_follow 86 = .ok (.areturn, 1) := dk_176 (dk_at dksX20_follow_3 18 rfl rfl)
abbrev cX20_isStep : ByteArray := prog_6_method_10_code
def yX20_isStep : MethodName := ⟨RX20, "isStep", "(ICI[[Z)Z"⟩
def dkwX20_isStep_1 : List UInt8 := [42, 27, 21, 5, 29, 182, 0, 61, 153, 0, 7, 4, 167, 0, 4, 3, 172]
abbrev dktX20_isStep_1 : List UInt8 := dkwX20_isStep_1 ++ []
def dkwX20_isStep_0 : List UInt8 := [42, 27, 28, 182, 0, 81, 54, 5, 21, 5, 2, 159, 0, 28, 25, 4, 29, 50, 21, 5, 51, 153, 0, 18]
abbrev dktX20_isStep_0 : List UInt8 := dkwX20_isStep_0 ++ dktX20_isStep_1
theorem dksX20_isStep_0 : cX20_isStep.data.toList.drop 0 = dktX20_isStep_0 := by decide +kernel
theorem dksX20_isStep_1 : cX20_isStep.data.toList.drop 24 = dktX20_isStep_1 := dk_seg dksX20_isStep_0 24 rfl rfl
theorem dX20_isStep_0 : decode cX20_isStep 0 = .ok (.aload_n 0, 1) := dk_42 (dk_at dksX20_isStep_0 0 rfl rfl)
theorem dX20_isStep_1 : decode cX20_isStep 1 = .ok (.iload_n 1, 1) := dk_27 (dk_at dksX20_isStep_0 1 rfl rfl)
theorem dX20_isStep_2 : decode cX20_isStep 2 = .ok (.iload_n 2, 1) := dk_28 (dk_at dksX20_isStep_0 2 rfl rfl)
theorem dX20_isStep_3 : decode cX20_isStep 3 = .ok (.invokevirtual 81, 3) := dk_182 0 81 (dk_at dksX20_isStep_0 3 rfl rfl)
theorem dX20_isStep_6 : decode cX20_isStep 6 = .ok (.istore 5, 2) := dk_54 5 (dk_at dksX20_isStep_0 6 rfl rfl)
theorem dX20_isStep_8 : decode cX20_isStep 8 = .ok (.iload 5, 2) := dk_21 5 (dk_at dksX20_isStep_0 8 rfl rfl)
theorem dX20_isStep_10 : decode cX20_isStep 10 = .ok (.iconst (-1), 1) := dk_2 (dk_at dksX20_isStep_0 10 rfl rfl)
theorem dX20_isStep_11 : decode cX20_isStep 11 = .ok (.if_icmp .eq 28, 3) := dk_159 0 28 (dk_at dksX20_isStep_0 11 rfl rfl)
theorem dX20_isStep_14 : decode cX20_isStep 14 = .ok (.aload 4, 2) := dk_25 4 (dk_at dksX20_isStep_0 14 rfl rfl)
theorem dX20_isStep_16 : decode cX20_isStep 16 = .ok (.iload_n 3, 1) := dk_29 (dk_at dksX20_isStep_0 16 rfl rfl)
theorem dX20_isStep_17 : decode cX20_isStep 17 = .ok (.aaload, 1) := dk_50 (dk_at dksX20_isStep_0 17 rfl rfl)
theorem dX20_isStep_18 : decode cX20_isStep 18 = .ok (.iload 5, 2) := dk_21 5 (dk_at dksX20_isStep_0 18 rfl rfl)
theorem dX20_isStep_20 : decode cX20_isStep 20 = .ok (.baload, 1) := dk_51 (dk_at dksX20_isStep_0 20 rfl rfl)
theorem dX20_isStep_21 : decode cX20_isStep 21 = .ok (.ifCond .eq 18, 3) := dk_153 0 18 (dk_at dksX20_isStep_0 21 rfl rfl)
theorem dX20_isStep_24 : decode cX20_isStep 24 = .ok (.aload_n 0, 1) := dk_42 (dk_at dksX20_isStep_1 0 rfl rfl)
theorem dX20_isStep_25 : decode cX20_isStep 25 = .ok (.iload_n 1, 1) := dk_27 (dk_at dksX20_isStep_1 1 rfl rfl)
theorem dX20_isStep_26 : decode cX20_isStep 26 = .ok (.iload 5, 2) := dk_21 5 (dk_at dksX20_isStep_1 2 rfl rfl)
theorem dX20_isStep_28 : decode cX20_isStep 28 = .ok (.iload_n 3, 1) := dk_29 (dk_at dksX20_isStep_1 4 rfl rfl)
theorem dX20_isStep_29 : decode cX20_isStep 29 = .ok (.invokevirtual 61, 3) := dk_182 0 61 (dk_at dksX20_isStep_1 5 rfl rfl)
theorem dX20_isStep_32 : decode cX20_isStep 32 = .ok (.ifCond .eq 7, 3) := dk_153 0 7 (dk_at dksX20_isStep_1 8 rfl rfl)
theorem dX20_isStep_35 : decode cX20_isStep 35 = .ok (.iconst 1, 1) := dk_4 (dk_at dksX20_isStep_1 11 rfl rfl)
theorem dX20_isStep_36 : decode cX20_isStep 36 = .ok (.goto 4, 3) := dk_167 0 4 (dk_at dksX20_isStep_1 12 rfl rfl)
theorem dX20_isStep_39 : decode cX20_isStep 39 = .ok (.iconst 0, 1) := dk_3 (dk_at dksX20_isStep_1 15 rfl rfl)
theorem dX20_isStep_40 : decode cX20_isStep 40 = .ok (.ireturn, 1) := dk_172 (dk_at dksX20_isStep_1 16 rfl rfl)
theorem q172 : (Jvm.Cond.initialized "DanceNotation$Dance$Planner") ∈ lw_all := lw_g (lw_at lw_m1 55 rfl) rfl
theorem q194 : (Jvm.Cond.fieldLinkNest "DanceNotation$Dance$Planner" (28 : Nat) "DanceNotation$Dance" "columns" "I" "DanceNotation") ∈ lw_tbl := lw_at lw_m1 77 rfl
theorem q199 : (Jvm.Cond.fieldLinkNest "DanceNotation$Dance$Planner" (54 : Nat) "DanceNotation$Dance" "rows" "I" "DanceNotation") ∈ lw_tbl := lw_at lw_m1 82 rfl
theorem q211 : (Jvm.Cond.fieldLinkNest "DanceNotation$Dance$Planner" (34 : Nat) "DanceNotation$Dance" "score" "LDanceNotation$Score;" "DanceNotation") ∈ lw_tbl := lw_at lw_m1 94 rfl
theorem q998 : (Jvm.Cond.selects "DanceNotation$Dance$Planner" ({ cls := "java/lang/Object", name := "getClass", desc := "()Ljava/lang/Class;" } : Jvm.MethodName) ({ cls := "java/lang/Object", name := "getClass", desc := "()Ljava/lang/Class;" } : Jvm.MethodName)) ∈ lw_all := lw_g (lw_at lw_m4 161 rfl) rfl
theorem q1164 : (Jvm.Cond.fieldLinkNest "DanceNotation$Dance$Planner" (38 : Nat) "DanceNotation$Score" "length" "I" "DanceNotation") ∈ lw_tbl := lw_at lw_m5 87 rfl
theorem q2544 : (Jvm.Cond.instantiable "DanceNotation$Dance$Planner" (3 : Nat)) ∈ lw_all := lw_g (lw_at lw_m11 27 rfl) rfl
theorem q2546 : (Jvm.Cond.instanceMethod ({ cls := "DanceNotation$Dance$Planner", name := "<init>", desc := "(LDanceNotation$Dance;)V" } : Jvm.MethodName)) ∈ lw_all := lw_g (lw_at lw_m11 29 rfl) rfl
theorem q2547 : (Jvm.Cond.code ({ cls := "DanceNotation$Dance$Planner", name := "<init>", desc := "(LDanceNotation$Dance;)V" } : Jvm.MethodName) prog_6_method_1_code (2 : Nat) (Option.none : Option Jvm.ClassFile.FieldType)) ∈ lw_all := lw_g (lw_at lw_m11 30 rfl) rfl
theorem q2548 : (Jvm.Cond.methodLink "DanceNotation$Dance$Planner" (9 : Nat) ({ cls := "java/lang/Object", name := "<init>", desc := "()V" } : Jvm.MethodName)) ∈ lw_all := lw_g (lw_at lw_m11 31 rfl) rfl
theorem q2549 : (Jvm.Cond.classLink "DanceNotation$Dance$Planner" (15 : Nat) "[I") ∈ lw_all := lw_g (lw_at lw_m11 32 rfl) rfl
theorem q2550 : (Jvm.Cond.classLink "DanceNotation$Dance$Planner" (21 : Nat) "java/util/ArrayList") ∈ lw_all := lw_g (lw_at lw_m11 33 rfl) rfl
theorem q2551 : (Jvm.Cond.methodLink "DanceNotation$Dance$Planner" (23 : Nat) ({ cls := "java/util/ArrayList", name := "<init>", desc := "()V" } : Jvm.MethodName)) ∈ lw_all := lw_g (lw_at lw_m11 34 rfl) rfl
theorem q2552 : (Jvm.Cond.fieldLink "DanceNotation$Dance$Planner" (17 : Nat) "DanceNotation$Dance$Planner" "paths" "[[I") ∈ lw_all := lw_g (lw_at lw_m11 35 rfl) rfl
theorem q2553 : (Jvm.Cond.fieldLink "DanceNotation$Dance$Planner" (24 : Nat) "DanceNotation$Dance$Planner" "phrases" "Ljava/util/ArrayList;") ∈ lw_all := lw_g (lw_at lw_m11 36 rfl) rfl
theorem q2554 : (Jvm.Cond.fieldLink "DanceNotation$Dance$Planner" (3 : Nat) "DanceNotation$Dance$Planner" "this$0" "LDanceNotation$Dance;") ∈ lw_all := lw_g (lw_at lw_m11 37 rfl) rfl
theorem q2555 : (Jvm.Cond.laysFinal "DanceNotation$Dance$Planner" "DanceNotation$Dance$Planner" "paths" "[[I") ∈ lw_all := lw_g (lw_at lw_m11 38 rfl) rfl
theorem q2556 : (Jvm.Cond.soleField "DanceNotation$Dance$Planner" "paths") ∈ lw_all := lw_g (lw_at lw_m11 39 rfl) rfl
theorem q2557 : (Jvm.Cond.laysFinal "DanceNotation$Dance$Planner" "DanceNotation$Dance$Planner" "phrases" "Ljava/util/ArrayList;") ∈ lw_all := lw_g (lw_at lw_m11 40 rfl) rfl
theorem q2558 : (Jvm.Cond.soleField "DanceNotation$Dance$Planner" "phrases") ∈ lw_all := lw_g (lw_at lw_m11 41 rfl) rfl
theorem q2559 : (Jvm.Cond.laysFinal "DanceNotation$Dance$Planner" "DanceNotation$Dance$Planner" "this$0" "LDanceNotation$Dance;") ∈ lw_all := lw_g (lw_at lw_m11 42 rfl) rfl
theorem q2560 : (Jvm.Cond.soleField "DanceNotation$Dance$Planner" "this$0") ∈ lw_all := lw_g (lw_at lw_m11 43 rfl) rfl
theorem q2561 : (Jvm.Cond.superclass "DanceNotation$Dance$Planner" "java/lang/Object") ∈ lw_all := lw_g (lw_at lw_m11 44 rfl) rfl
theorem q2563 : (Jvm.Cond.instanceMethod ({ cls := "DanceNotation$Dance$Planner", name := "plan", desc := "([I)Ljava/util/ArrayList;" } : Jvm.MethodName)) ∈ lw_all := lw_g (lw_at lw_m11 46 rfl) rfl
theorem q2564 : (Jvm.Cond.selects "DanceNotation$Dance$Planner" ({ cls := "DanceNotation$Dance$Planner", name := "plan", desc := "([I)Ljava/util/ArrayList;" } : Jvm.MethodName) ({ cls := "DanceNotation$Dance$Planner", name := "plan", desc := "([I)Ljava/util/ArrayList;" } : Jvm.MethodName)) ∈ lw_all := lw_g (lw_at lw_m11 47 rfl) rfl
theorem q2565 : (Jvm.Cond.code ({ cls := "DanceNotation$Dance$Planner", name := "plan", desc := "([I)Ljava/util/ArrayList;" } : Jvm.MethodName) prog_6_method_12_code (5 : Nat) (Option.some (Jvm.ClassFile.FieldType.object "java/util/ArrayList"))) ∈ lw_all := lw_g (lw_at lw_m11 48 rfl) rfl
theorem q2566 : (Jvm.Cond.methodLink "DanceNotation$Dance$Planner" (116 : Nat) ({ cls := "DanceNotation$Dance", name := "takesPart", desc := "(I)Z" } : Jvm.MethodName)) ∈ lw_all := lw_g (lw_at lw_m11 49 rfl) rfl
theorem q2567 : (Jvm.Cond.methodLink "DanceNotation$Dance$Planner" (120 : Nat) ({ cls := "DanceNotation$Dance$Planner", name := "end", desc := "(I)I" } : Jvm.MethodName)) ∈ lw_all := lw_g (lw_at lw_m11 50 rfl) rfl
theorem q2568 : (Jvm.Cond.privateMethod ({ cls := "DanceNotation$Dance$Planner", name := "end", desc := "(I)I" } : Jvm.MethodName)) ∈ lw_tbl := lw_at lw_m11 51 rfl
theorem q2569 : (Jvm.Cond.instanceMethod ({ cls := "DanceNotation$Dance$Planner", name := "end", desc := "(I)I" } : Jvm.MethodName)) ∈ lw_all := lw_g (lw_at lw_m11 52 rfl) rfl
theorem q2570 : (Jvm.Cond.code ({ cls := "DanceNotation$Dance$Planner", name := "end", desc := "(I)I" } : Jvm.MethodName) prog_6_method_2_code (2 : Nat) (Option.some Jvm.ClassFile.FieldType.int)) ∈ lw_all := lw_g (lw_at lw_m11 53 rfl) rfl
theorem q2571 : (Jvm.Cond.methodLink "DanceNotation$Dance$Planner" (43 : Nat) ({ cls := "DanceNotation$Dance", name := "position", desc := "(IIZ)I" } : Jvm.MethodName)) ∈ lw_all := lw_g (lw_at lw_m11 54 rfl) rfl
theorem q2572 : (Jvm.Cond.stringRef "DanceNotation$Dance$Planner" (124 : Nat) "") ∈ lw_tbl := lw_at lw_m11 55 rfl
theorem q2573 : (Jvm.Cond.methodLink "DanceNotation$Dance$Planner" (126 : Nat) ({ cls := "DanceNotation$Dance$Planner", name := "keep", desc := "(IILjava/lang/String;)V" } : Jvm.MethodName)) ∈ lw_all := lw_g (lw_at lw_m11 56 rfl) rfl
theorem q2574 : (Jvm.Cond.privateMethod ({ cls := "DanceNotation$Dance$Planner", name := "keep", desc := "(IILjava/lang/String;)V" } : Jvm.MethodName)) ∈ lw_tbl := lw_at lw_m11 57 rfl
theorem q2575 : (Jvm.Cond.instanceMethod ({ cls := "DanceNotation$Dance$Planner", name := "keep", desc := "(IILjava/lang/String;)V" } : Jvm.MethodName)) ∈ lw_all := lw_g (lw_at lw_m11 58 rfl) rfl
theorem q2576 : (Jvm.Cond.code ({ cls := "DanceNotation$Dance$Planner", name := "keep", desc := "(IILjava/lang/String;)V" } : Jvm.MethodName) prog_6_method_11_code (6 : Nat) (Option.none : Option Jvm.ClassFile.FieldType)) ∈ lw_all := lw_g (lw_at lw_m11 59 rfl) rfl
theorem q2577 : (Jvm.Cond.methodLink "DanceNotation$Dance$Planner" (73 : Nat) ({ cls := "java/lang/String", name := "length", desc := "()I" } : Jvm.MethodName)) ∈ lw_all := lw_g (lw_at lw_m11 60 rfl) rfl
theorem q2578 : (Jvm.Cond.methodLink "DanceNotation$Dance$Planner" (77 : Nat) ({ cls := "java/lang/String", name := "charAt", desc := "(I)C" } : Jvm.MethodName)) ∈ lw_all := lw_g (lw_at lw_m11 61 rfl) rfl
theorem q2579 : (Jvm.Cond.methodLink "DanceNotation$Dance$Planner" (81 : Nat) ({ cls := "DanceNotation$Dance$Planner", name := "neighbor", desc := "(IC)I" } : Jvm.MethodName)) ∈ lw_all := lw_g (lw_at lw_m11 62 rfl) rfl
theorem q2580 : (Jvm.Cond.privateMethod ({ cls := "DanceNotation$Dance$Planner", name := "neighbor", desc := "(IC)I" } : Jvm.MethodName)) ∈ lw_tbl := lw_at lw_m11 63 rfl
theorem q2581 : (Jvm.Cond.instanceMethod ({ cls := "DanceNotation$Dance$Planner", name := "neighbor", desc := "(IC)I" } : Jvm.MethodName)) ∈ lw_all := lw_g (lw_at lw_m11 64 rfl) rfl
theorem q2582 : (Jvm.Cond.code ({ cls := "DanceNotation$Dance$Planner", name := "neighbor", desc := "(IC)I" } : Jvm.MethodName) prog_6_method_3_code (5 : Nat) (Option.some Jvm.ClassFile.FieldType.int)) ∈ lw_all := lw_g (lw_at lw_m11 65 rfl) rfl
theorem q2583 : (Jvm.Cond.methodLinkNest "DanceNotation$Dance$Planner" (47 : Nat) ({ cls := "DanceNotation", name := "rowsOf", desc := "(C)I" } : Jvm.MethodName) "DanceNotation") ∈ lw_tbl := lw_at lw_m11 66 rfl
theorem q2584 : (Jvm.Cond.methodLinkNest "DanceNotation$Dance$Planner" (51 : Nat) ({ cls := "DanceNotation", name := "columnsOf", desc := "(C)I" } : Jvm.MethodName) "DanceNotation") ∈ lw_tbl := lw_at lw_m11 67 rfl
theorem q2585 : (Jvm.Cond.methodLinkNest "DanceNotation$Dance$Planner" (57 : Nat) ({ cls := "DanceNotation", name := "inRange", desc := "(JJJ)Z" } : Jvm.MethodName) "DanceNotation") ∈ lw_tbl := lw_at lw_m11 68 rfl
theorem q2586 : (Jvm.Cond.methodLink "DanceNotation$Dance$Planner" (130 : Nat) ({ cls := "DanceNotation$Dance$Planner", name := "find", desc := "(II)Ljava/lang/String;" } : Jvm.MethodName)) ∈ lw_all := lw_g (lw_at lw_m11 69 rfl) rfl
theorem q2587 : (Jvm.Cond.privateMethod ({ cls := "DanceNotation$Dance$Planner", name := "find", desc := "(II)Ljava/lang/String;" } : Jvm.MethodName)) ∈ lw_tbl := lw_at lw_m11 70 rfl
theorem q2588 : (Jvm.Cond.instanceMethod ({ cls := "DanceNotation$Dance$Planner", name := "find", desc := "(II)Ljava/lang/String;" } : Jvm.MethodName)) ∈ lw_all := lw_g (lw_at lw_m11 71 rfl) rfl
theorem q2589 : (Jvm.Cond.code ({ cls := "DanceNotation$Dance$Planner", name := "find", desc := "(II)Ljava/lang/String;" } : Jvm.MethodName) prog_6_method_8_code (5 : Nat) (Option.some (Jvm.ClassFile.FieldType.object "java/lang/String"))) ∈ lw_all := lw_g (lw_at lw_m11 72 rfl) rfl
theorem q2590 : (Jvm.Cond.methodLink "DanceNotation$Dance$Planner" (85 : Nat) ({ cls := "DanceNotation$Dance$Planner", name := "reachable", desc := "(I)[[Z" } : Jvm.MethodName)) ∈ lw_all := lw_g (lw_at lw_m11 73 rfl) rfl
theorem q2591 : (Jvm.Cond.privateMethod ({ cls := "DanceNotation$Dance$Planner", name := "reachable", desc := "(I)[[Z" } : Jvm.MethodName)) ∈ lw_tbl := lw_at lw_m11 74 rfl
theorem q2592 : (Jvm.Cond.instanceMethod ({ cls := "DanceNotation$Dance$Planner", name := "reachable", desc := "(I)[[Z" } : Jvm.MethodName)) ∈ lw_all := lw_g (lw_at lw_m11 75 rfl) rfl
theorem q2593 : (Jvm.Cond.code ({ cls := "DanceNotation$Dance$Planner", name := "reachable", desc := "(I)[[Z" } : Jvm.MethodName) prog_6_method_7_code (7 : Nat) (Option.some (Jvm.ClassFile.FieldType.array (Jvm.ClassFile.FieldType.array Jvm.ClassFile.FieldType.boolean)))) ∈ lw_all := lw_g (lw_at lw_m11 76 rfl) rfl
theorem q2594 : (Jvm.Cond.methodLink "DanceNotation$Dance$Planner" (65 : Nat) ({ cls := "DanceNotation$Dance", name := "places", desc := "()I" } : Jvm.MethodName)) ∈ lw_all := lw_g (lw_at lw_m11 77 rfl) rfl
theorem q2595 : (Jvm.Cond.classLink "DanceNotation$Dance$Planner" (69 : Nat) "[[Z") ∈ lw_all := lw_g (lw_at lw_m11 78 rfl) rfl
theorem q2597 : (Jvm.Cond.stringRef "DanceNotation$Dance$Planner" (71 : Nat) "nesw.") ∈ lw_tbl := lw_at lw_m11 80 rfl
theorem q2598 : (Jvm.Cond.methodLink "DanceNotation$Dance$Planner" (61 : Nat) ({ cls := "DanceNotation$Dance$Planner", name := "canGo", desc := "(III)Z" } : Jvm.MethodName)) ∈ lw_all := lw_g (lw_at lw_m11 81 rfl) rfl
theorem q2599 : (Jvm.Cond.privateMethod ({ cls := "DanceNotation$Dance$Planner", name := "canGo", desc := "(III)Z" } : Jvm.MethodName)) ∈ lw_tbl := lw_at lw_m11 82 rfl
theorem q2600 : (Jvm.Cond.instanceMethod ({ cls := "DanceNotation$Dance$Planner", name := "canGo", desc := "(III)Z" } : Jvm.MethodName)) ∈ lw_all := lw_g (lw_at lw_m11 83 rfl) rfl
theorem q2601 : (Jvm.Cond.code ({ cls := "DanceNotation$Dance$Planner", name := "canGo", desc := "(III)Z" } : Jvm.MethodName) prog_6_method_4_code (11 : Nat) (Option.some Jvm.ClassFile.FieldType.boolean)) ∈ lw_all := lw_g (lw_at lw_m11 84 rfl) rfl
theorem q2602 : (Jvm.Cond.methodLink "DanceNotation$Dance$Planner" (89 : Nat) ({ cls := "DanceNotation$Dance$Planner", name := "canStay", desc := "(II)Z" } : Jvm.MethodName)) ∈ lw_all := lw_g (lw_at lw_m11 85 rfl) rfl
theorem q2603 : (Jvm.Cond.privateMethod ({ cls := "DanceNotation$Dance$Planner", name := "canStay", desc := "(II)Z" } : Jvm.MethodName)) ∈ lw_tbl := lw_at lw_m11 86 rfl
theorem q2604 : (Jvm.Cond.instanceMethod ({ cls := "DanceNotation$Dance$Planner", name := "canStay", desc := "(II)Z" } : Jvm.MethodName)) ∈ lw_all := lw_g (lw_at lw_m11 87 rfl) rfl
theorem q2605 : (Jvm.Cond.code ({ cls := "DanceNotation$Dance$Planner", name := "canStay", desc := "(II)Z" } : Jvm.MethodName) prog_6_method_5_code (5 : Nat) (Option.some Jvm.ClassFile.FieldType.boolean)) ∈ lw_all := lw_g (lw_at lw_m11 88 rfl) rfl
theorem q2606 : (Jvm.Cond.methodLink "DanceNotation$Dance$Planner" (93 : Nat) ({ cls := "DanceNotation$Dance$Planner", name := "leadTo", desc := "(II)[[Z" } : Jvm.MethodName)) ∈ lw_all := lw_g (lw_at lw_m11 89 rfl) rfl
theorem q2607 : (Jvm.Cond.privateMethod ({ cls := "DanceNotation$Dance$Planner", name := "leadTo", desc := "(II)[[Z" } : Jvm.MethodName)) ∈ lw_tbl := lw_at lw_m11 90 rfl
theorem q2608 : (Jvm.Cond.instanceMethod ({ cls := "DanceNotation$Dance$Planner", name := "leadTo", desc := "(II)[[Z" } : Jvm.MethodName)) ∈ lw_all := lw_g (lw_at lw_m11 91 rfl) rfl
theorem q2609 : (Jvm.Cond.code ({ cls := "DanceNotation$Dance$Planner", name := "leadTo", desc := "(II)[[Z" } : Jvm.MethodName) prog_6_method_6_code (8 : Nat) (Option.some (Jvm.ClassFile.FieldType.array (Jvm.ClassFile.FieldType.array Jvm.ClassFile.FieldType.boolean)))) ∈ lw_all := lw_g (lw_at lw_m11 92 rfl) rfl
theorem q2610 : (Jvm.Cond.methodLink "DanceNotation$Dance$Planner" (97 : Nat) ({ cls := "DanceNotation$Dance$Planner", name := "follow", desc := "(I[[Z)Ljava/lang/String;" } : Jvm.MethodName)) ∈ lw_all := lw_g (lw_at lw_m11 93 rfl) rfl
theorem q2611 : (Jvm.Cond.privateMethod ({ cls := "DanceNotation$Dance$Planner", name := "follow", desc := "(I[[Z)Ljava/lang/String;" } : Jvm.MethodName)) ∈ lw_tbl := lw_at lw_m11 94 rfl
theorem q2612 : (Jvm.Cond.instanceMethod ({ cls := "DanceNotation$Dance$Planner", name := "follow", desc := "(I[[Z)Ljava/lang/String;" } : Jvm.MethodName)) ∈ lw_all := lw_g (lw_at lw_m11 95 rfl) rfl
theorem q2613 : (Jvm.Cond.code ({ cls := "DanceNotation$Dance$Planner", name := "follow", desc := "(I[[Z)Ljava/lang/String;" } : Jvm.MethodName) prog_6_method_9_code (7 : Nat) (Option.some (Jvm.ClassFile.FieldType.object "java/lang/String"))) ∈ lw_all := lw_g (lw_at lw_m11 96 rfl) rfl
theorem q2614 : (Jvm.Cond.classLink "DanceNotation$Dance$Planner" (101 : Nat) "java/lang/StringBuilder") ∈ lw_all := lw_g (lw_at lw_m11 97 rfl) rfl
theorem q2615 : (Jvm.Cond.methodLink "DanceNotation$Dance$Planner" (103 : Nat) ({ cls := "java/lang/StringBuilder", name := "<init>", desc := "()V" } : Jvm.MethodName)) ∈ lw_all := lw_g (lw_at lw_m11 98 rfl) rfl
theorem q2616 : (Jvm.Cond.methodLink "DanceNotation$Dance$Planner" (104 : Nat) ({ cls := "DanceNotation$Dance$Planner", name := "isStep", desc := "(ICI[[Z)Z" } : Jvm.MethodName)) ∈ lw_all := lw_g (lw_at lw_m11 99 rfl) rfl
theorem q2617 : (Jvm.Cond.privateMethod ({ cls := "DanceNotation$Dance$Planner", name := "isStep", desc := "(ICI[[Z)Z" } : Jvm.MethodName)) ∈ lw_tbl := lw_at lw_m11 100 rfl
theorem q2618 : (Jvm.Cond.instanceMethod ({ cls := "DanceNotation$Dance$Planner", name := "isStep", desc := "(ICI[[Z)Z" } : Jvm.MethodName)) ∈ lw_all := lw_g (lw_at lw_m11 101 rfl) rfl
theorem q2619 : (Jvm.Cond.code ({ cls := "DanceNotation$Dance$Planner", name := "isStep", desc := "(ICI[[Z)Z" } : Jvm.MethodName) prog_6_method_10_code (6 : Nat) (Option.some Jvm.ClassFile.FieldType.boolean)) ∈ lw_all := lw_g (lw_at lw_m11 102 rfl) rfl
theorem q2620 : (Jvm.Cond.methodLink "DanceNotation$Dance$Planner" (108 : Nat) ({ cls := "java/lang/StringBuilder", name := "append", desc := "(C)Ljava/lang/StringBuilder;" } : Jvm.MethodName)) ∈ lw_all := lw_g (lw_at lw_m11 103 rfl) rfl
theorem q2621 : (Jvm.Cond.methodLink "DanceNotation$Dance$Planner" (112 : Nat) ({ cls := "java/lang/StringBuilder", name := "toString", desc := "()Ljava/lang/String;" } : Jvm.MethodName)) ∈ lw_all := lw_g (lw_at lw_m11 104 rfl) rfl
theorem q2622 : (Jvm.Cond.methodLink "DanceNotation$Dance$Planner" (134 : Nat) ({ cls := "java/lang/String", name := "isEmpty", desc := "()Z" } : Jvm.MethodName)) ∈ lw_all := lw_g (lw_at lw_m11 105 rfl) rfl
theorem q2626 : (Jvm.Cond.classLink "DanceNotation$Dance$Planner" (138 : Nat) "DanceNotation$Phrase") ∈ lw_all := lw_g (lw_at lw_m11 109 rfl) rfl
theorem q2627 : (Jvm.Cond.methodLink "DanceNotation$Dance$Planner" (140 : Nat) ({ cls := "DanceNotation$Phrase", name := "<init>", desc := "(ILjava/lang/String;[I)V" } : Jvm.MethodName)) ∈ lw_all := lw_g (lw_at lw_m11 110 rfl) rfl
theorem q2628 : (Jvm.Cond.methodLink "DanceNotation$Dance$Planner" (143 : Nat) ({ cls := "java/util/ArrayList", name := "add", desc := "(Ljava/lang/Object;)Z" } : Jvm.MethodName)) ∈ lw_all := lw_g (lw_at lw_m11 111 rfl) rfl
theorem q3345 : (Jvm.Cond.castable "DanceNotation$Dance$Planner" "java/lang/Object") ∈ lw_tbl := lw_at lw_m14 108 rfl
theorem in_X20 : ∀ w ∈ wsX200, w ∈ lw_all := lw_in wsX200 [2555, 2557, 2559] (by decide +kernel) (by decide +kernel)

/-! DanceNotation$Parts -/
set_option maxRecDepth 100000
def RX21 : String := "DanceNotation$Parts"
abbrev cX21_used : ByteArray := prog_12_method_5_code
def yX21_used : MethodName := ⟨RX21, "used", "()I"⟩
def dkwX21_used_1 : List UInt8 := [182, 0, 25, 128, 60, 132, 2, 1, 167, 255, 230, 27, 172]
abbrev dktX21_used_1 : List UInt8 := dkwX21_used_1 ++ []
def dkwX21_used_0 : List UInt8 := [3, 60, 3, 61, 28, 42, 185, 0, 1, 1, 0, 162, 0, 22, 27, 42, 28, 185, 0, 7, 2, 0]
abbrev dktX21_used_0 : List UInt8 := dkwX21_used_0 ++ dktX21_used_1
theorem dksX21_used_0 : cX21_used.data.toList.drop 0 = dktX21_used_0 := by decide +kernel
theorem dksX21_used_1 : cX21_used.data.toList.drop 22 = dktX21_used_1 := dk_seg dksX21_used_0 22 rfl rfl
theorem dX21_used_0 : decode cX21_used 0 = .ok (.iconst 0, 1) := dk_3 (dk_at dksX21_used_0 0 rfl rfl)
theorem dX21_used_1 : decode cX21_used 1 = .ok (.istore_n 1, 1) := dk_60 (dk_at dksX21_used_0 1 rfl rfl)
theorem dX21_used_2 : decode cX21_used 2 = .ok (.iconst 0, 1) := dk_3 (dk_at dksX21_used_0 2 rfl rfl)
theorem dX21_used_3 : decode cX21_used 3 = .ok (.istore_n 2, 1) := dk_61 (dk_at dksX21_used_0 3 rfl rfl)
theorem dX21_used_4 : decode cX21_used 4 = .ok (.iload_n 2, 1) := dk_28 (dk_at dksX21_used_0 4 rfl rfl)
theorem dX21_used_5 : decode cX21_used 5 = .ok (.aload_n 0, 1) := dk_42 (dk_at dksX21_used_0 5 rfl rfl)
theorem dX21_used_6 : decode cX21_used 6 = .ok (.invokeinterface 1 1, 5) := by decide +kernel
theorem dX21_used_11 : decode cX21_used 11 = .ok (.if_icmp .ge 22, 3) := dk_162 0 22 (dk_at dksX21_used_0 11 rfl rfl)
theorem dX21_used_14 : decode cX21_used 14 = .ok (.iload_n 1, 1) := dk_27 (dk_at dksX21_used_0 14 rfl rfl)
theorem dX21_used_15 : decode cX21_used 15 = .ok (.aload_n 0, 1) := dk_42 (dk_at dksX21_used_0 15 rfl rfl)
theorem dX21_used_16 : decode cX21_used 16 = .ok (.iload_n 2, 1) := dk_28 (dk_at dksX21_used_0 16 rfl rfl)
theorem dX21_used_17 : decode cX21_used 17 = .ok (.invokeinterface 7 2, 5) := by decide +kernel
theorem dX21_used_22 : decode cX21_used 22 = .ok (.invokevirtual 25, 3) := dk_182 0 25 (dk_at dksX21_used_1 0 rfl rfl)
theorem dX21_used_25 : decode cX21_used 25 = .ok (.ior, 1) := dk_128 (dk_at dksX21_used_1 3 rfl rfl)
theorem dX21_used_26 : decode cX21_used 26 = .ok (.istore_n 1, 1) := dk_60 (dk_at dksX21_used_1 4 rfl rfl)
theorem dX21_used_27 : decode cX21_used 27 = .ok (.iinc 2 1, 3) := dk_132 2 1 (dk_at dksX21_used_1 5 rfl rfl)
theorem dX21_used_30 : decode cX21_used 30 = .ok (.goto (-26), 3) := dk_167 255 230 (dk_at dksX21_used_1 8 rfl rfl)
theorem dX21_used_33 : decode cX21_used 33 = .ok (.iload_n 1, 1) := dk_27 (dk_at dksX21_used_1 11 rfl rfl)
theorem dX21_used_34 : decode cX21_used 34 = .ok (.ireturn, 1) := dk_172 (dk_at dksX21_used_1 12 rfl rfl)
abbrev cX21_depth : ByteArray := prog_12_method_3_code
def yX21_depth : MethodName := ⟨RX21, "depth", "()I"⟩
def dkwX21_depth_1 : List UInt8 := [182, 0, 11, 184, 0, 16, 60, 132, 2, 1, 167, 255, 228, 4, 27, 96, 172]
abbrev dktX21_depth_1 : List UInt8 := dkwX21_depth_1 ++ []
def dkwX21_depth_0 : List UInt8 := [3, 60, 3, 61, 28, 42, 185, 0, 1, 1, 0, 162, 0, 24, 27, 42, 28, 185, 0, 7, 2, 0]
abbrev dktX21_depth_0 : List UInt8 := dkwX21_depth_0 ++ dktX21_depth_1
theorem dksX21_depth_0 : cX21_depth.data.toList.drop 0 = dktX21_depth_0 := by decide +kernel
theorem dksX21_depth_1 : cX21_depth.data.toList.drop 22 = dktX21_depth_1 := dk_seg dksX21_depth_0 22 rfl rfl
theorem dX21_depth_0 : decode cX21_depth 0 = .ok (.iconst 0, 1) := dk_3 (dk_at dksX21_depth_0 0 rfl rfl)
theorem dX21_depth_1 : decode cX21_depth 1 = .ok (.istore_n 1, 1) := dk_60 (dk_at dksX21_depth_0 1 rfl rfl)
theorem dX21_depth_2 : decode cX21_depth 2 = .ok (.iconst 0, 1) := dk_3 (dk_at dksX21_depth_0 2 rfl rfl)
theorem dX21_depth_3 : decode cX21_depth 3 = .ok (.istore_n 2, 1) := dk_61 (dk_at dksX21_depth_0 3 rfl rfl)
theorem dX21_depth_4 : decode cX21_depth 4 = .ok (.iload_n 2, 1) := dk_28 (dk_at dksX21_depth_0 4 rfl rfl)
theorem dX21_depth_5 : decode cX21_depth 5 = .ok (.aload_n 0, 1) := dk_42 (dk_at dksX21_depth_0 5 rfl rfl)
theorem dX21_depth_6 : decode cX21_depth 6 = .ok (.invokeinterface 1 1, 5) := by decide +kernel
theorem dX21_depth_11 : decode cX21_depth 11 = .ok (.if_icmp .ge 24, 3) := dk_162 0 24 (dk_at dksX21_depth_0 11 rfl rfl)
theorem dX21_depth_14 : decode cX21_depth 14 = .ok (.iload_n 1, 1) := dk_27 (dk_at dksX21_depth_0 14 rfl rfl)
theorem dX21_depth_15 : decode cX21_depth 15 = .ok (.aload_n 0, 1) := dk_42 (dk_at dksX21_depth_0 15 rfl rfl)
theorem dX21_depth_16 : decode cX21_depth 16 = .ok (.iload_n 2, 1) := dk_28 (dk_at dksX21_depth_0 16 rfl rfl)
theorem dX21_depth_17 : decode cX21_depth 17 = .ok (.invokeinterface 7 2, 5) := by decide +kernel
theorem dX21_depth_22 : decode cX21_depth 22 = .ok (.invokevirtual 11, 3) := dk_182 0 11 (dk_at dksX21_depth_1 0 rfl rfl)
theorem dX21_depth_25 : decode cX21_depth 25 = .ok (.invokestatic 16, 3) := dk_184 0 16 (dk_at dksX21_depth_1 3 rfl rfl)
theorem dX21_depth_28 : decode cX21_depth 28 = .ok (.istore_n 1, 1) := dk_60 (dk_at dksX21_depth_1 6 rfl rfl)
theorem dX21_depth_29 : decode cX21_depth 29 = .ok (.iinc 2 1, 3) := dk_132 2 1 (dk_at dksX21_depth_1 7 rfl rfl)
theorem dX21_depth_32 : decode cX21_depth 32 = .ok (.goto (-28), 3) := dk_167 255 228 (dk_at dksX21_depth_1 10 rfl rfl)
theorem dX21_depth_35 : decode cX21_depth 35 = .ok (.iconst 1, 1) := dk_4 (dk_at dksX21_depth_1 13 rfl rfl)
theorem dX21_depth_36 : decode cX21_depth 36 = .ok (.iload_n 1, 1) := dk_27 (dk_at dksX21_depth_1 14 rfl rfl)
theorem dX21_depth_37 : decode cX21_depth 37 = .ok (.iadd, 1) := dk_96 (dk_at dksX21_depth_1 15 rfl rfl)
theorem dX21_depth_38 : decode cX21_depth 38 = .ok (.ireturn, 1) := dk_172 (dk_at dksX21_depth_1 16 rfl rfl)
abbrev cX21_nodes : ByteArray := prog_12_method_4_code
def yX21_nodes : MethodName := ⟨RX21, "nodes", "()I"⟩
def dkwX21_nodes_1 : List UInt8 := [182, 0, 22, 96, 60, 132, 2, 1, 167, 255, 230, 27, 172]
abbrev dktX21_nodes_1 : List UInt8 := dkwX21_nodes_1 ++ []
def dkwX21_nodes_0 : List UInt8 := [4, 60, 3, 61, 28, 42, 185, 0, 1, 1, 0, 162, 0, 22, 27, 42, 28, 185, 0, 7, 2, 0]
abbrev dktX21_nodes_0 : List UInt8 := dkwX21_nodes_0 ++ dktX21_nodes_1
theorem dksX21_nodes_0 : cX21_nodes.data.toList.drop 0 = dktX21_nodes_0 := by decide +kernel
theorem dksX21_nodes_1 : cX21_nodes.data.toList.drop 22 = dktX21_nodes_1 := dk_seg dksX21_nodes_0 22 rfl rfl
theorem dX21_nodes_0 : decode cX21_nodes 0 = .ok (.iconst 1, 1) := dk_4 (dk_at dksX21_nodes_0 0 rfl rfl)
theorem dX21_nodes_1 : decode cX21_nodes 1 = .ok (.istore_n 1, 1) := dk_60 (dk_at dksX21_nodes_0 1 rfl rfl)
theorem dX21_nodes_2 : decode cX21_nodes 2 = .ok (.iconst 0, 1) := dk_3 (dk_at dksX21_nodes_0 2 rfl rfl)
theorem dX21_nodes_3 : decode cX21_nodes 3 = .ok (.istore_n 2, 1) := dk_61 (dk_at dksX21_nodes_0 3 rfl rfl)
theorem dX21_nodes_4 : decode cX21_nodes 4 = .ok (.iload_n 2, 1) := dk_28 (dk_at dksX21_nodes_0 4 rfl rfl)
theorem dX21_nodes_5 : decode cX21_nodes 5 = .ok (.aload_n 0, 1) := dk_42 (dk_at dksX21_nodes_0 5 rfl rfl)
theorem dX21_nodes_6 : decode cX21_nodes 6 = .ok (.invokeinterface 1 1, 5) := by decide +kernel
theorem dX21_nodes_11 : decode cX21_nodes 11 = .ok (.if_icmp .ge 22, 3) := dk_162 0 22 (dk_at dksX21_nodes_0 11 rfl rfl)
theorem dX21_nodes_14 : decode cX21_nodes 14 = .ok (.iload_n 1, 1) := dk_27 (dk_at dksX21_nodes_0 14 rfl rfl)
theorem dX21_nodes_15 : decode cX21_nodes 15 = .ok (.aload_n 0, 1) := dk_42 (dk_at dksX21_nodes_0 15 rfl rfl)
theorem dX21_nodes_16 : decode cX21_nodes 16 = .ok (.iload_n 2, 1) := dk_28 (dk_at dksX21_nodes_0 16 rfl rfl)
theorem dX21_nodes_17 : decode cX21_nodes 17 = .ok (.invokeinterface 7 2, 5) := by decide +kernel
theorem dX21_nodes_22 : decode cX21_nodes 22 = .ok (.invokevirtual 22, 3) := dk_182 0 22 (dk_at dksX21_nodes_1 0 rfl rfl)
theorem dX21_nodes_25 : decode cX21_nodes 25 = .ok (.iadd, 1) := dk_96 (dk_at dksX21_nodes_1 3 rfl rfl)
theorem dX21_nodes_26 : decode cX21_nodes 26 = .ok (.istore_n 1, 1) := dk_60 (dk_at dksX21_nodes_1 4 rfl rfl)
theorem dX21_nodes_27 : decode cX21_nodes 27 = .ok (.iinc 2 1, 3) := dk_132 2 1 (dk_at dksX21_nodes_1 5 rfl rfl)
theorem dX21_nodes_30 : decode cX21_nodes 30 = .ok (.goto (-26), 3) := dk_167 255 230 (dk_at dksX21_nodes_1 8 rfl rfl)
theorem dX21_nodes_33 : decode cX21_nodes 33 = .ok (.iload_n 1, 1) := dk_27 (dk_at dksX21_nodes_1 11 rfl rfl)
theorem dX21_nodes_34 : decode cX21_nodes 34 = .ok (.ireturn, 1) := dk_172 (dk_at dksX21_nodes_1 12 rfl rfl)
theorem q862 : (Jvm.Cond.declares ({ cls := "DanceNotation$Parts", name := "partCount", desc := "()I" } : Jvm.MethodName)) ∈ lw_tbl := lw_at lw_m4 25 rfl
theorem q876 : (Jvm.Cond.declares ({ cls := "DanceNotation$Parts", name := "part", desc := "(I)LDanceNotation$Node;" } : Jvm.MethodName)) ∈ lw_tbl := lw_at lw_m4 39 rfl
theorem q2044 : (Jvm.Cond.declares ({ cls := "DanceNotation$Parts", name := "used", desc := "()I" } : Jvm.MethodName)) ∈ lw_tbl := lw_at lw_m9 7 rfl
theorem q2050 : (Jvm.Cond.instanceMethod ({ cls := "DanceNotation$Parts", name := "used", desc := "()I" } : Jvm.MethodName)) ∈ lw_all := lw_g (lw_at lw_m9 13 rfl) rfl
theorem q2051 : (Jvm.Cond.code ({ cls := "DanceNotation$Parts", name := "used", desc := "()I" } : Jvm.MethodName) prog_12_method_5_code (3 : Nat) (Option.some Jvm.ClassFile.FieldType.int)) ∈ lw_all := lw_g (lw_at lw_m9 14 rfl) rfl
theorem q2052 : (Jvm.Cond.interfaceEntry "DanceNotation$Parts" (1 : Nat)) ∈ lw_tbl := lw_at lw_m9 15 rfl
theorem q2053 : (Jvm.Cond.methodLink "DanceNotation$Parts" (1 : Nat) ({ cls := "DanceNotation$Parts", name := "partCount", desc := "()I" } : Jvm.MethodName)) ∈ lw_all := lw_g (lw_at lw_m9 16 rfl) rfl
theorem q2054 : (Jvm.Cond.interfaceMethod "DanceNotation$Parts" "DanceNotation$Parts" "partCount" "()I") ∈ lw_tbl := lw_at lw_m9 17 rfl
theorem q2070 : (Jvm.Cond.interfaceEntry "DanceNotation$Parts" (7 : Nat)) ∈ lw_tbl := lw_at lw_m9 33 rfl
theorem q2071 : (Jvm.Cond.methodLink "DanceNotation$Parts" (7 : Nat) ({ cls := "DanceNotation$Parts", name := "part", desc := "(I)LDanceNotation$Node;" } : Jvm.MethodName)) ∈ lw_all := lw_g (lw_at lw_m9 34 rfl) rfl
theorem q2072 : (Jvm.Cond.interfaceMethod "DanceNotation$Parts" "DanceNotation$Parts" "part" "(I)LDanceNotation$Node;") ∈ lw_tbl := lw_at lw_m9 35 rfl
theorem q2085 : (Jvm.Cond.publicMethod ({ cls := "DanceNotation$Parts", name := "used", desc := "()I" } : Jvm.MethodName)) ∈ lw_tbl := lw_at lw_m9 48 rfl
theorem q2161 : (Jvm.Cond.declares ({ cls := "DanceNotation$Parts", name := "depth", desc := "()I" } : Jvm.MethodName)) ∈ lw_tbl := lw_at lw_m9 124 rfl
theorem q2168 : (Jvm.Cond.instanceMethod ({ cls := "DanceNotation$Parts", name := "depth", desc := "()I" } : Jvm.MethodName)) ∈ lw_all := lw_g (lw_at lw_m9 131 rfl) rfl
theorem q2169 : (Jvm.Cond.publicMethod ({ cls := "DanceNotation$Parts", name := "depth", desc := "()I" } : Jvm.MethodName)) ∈ lw_tbl := lw_at lw_m9 132 rfl
theorem q2170 : (Jvm.Cond.code ({ cls := "DanceNotation$Parts", name := "depth", desc := "()I" } : Jvm.MethodName) prog_12_method_3_code (3 : Nat) (Option.some Jvm.ClassFile.FieldType.int)) ∈ lw_all := lw_g (lw_at lw_m9 133 rfl) rfl
theorem q2171 : (Jvm.Cond.methodLink "DanceNotation$Parts" (16 : Nat) ({ cls := "java/lang/Math", name := "max", desc := "(II)I" } : Jvm.MethodName)) ∈ lw_all := lw_g (lw_at lw_m9 134 rfl) rfl
theorem q2172 : (Jvm.Cond.declares ({ cls := "DanceNotation$Parts", name := "nodes", desc := "()I" } : Jvm.MethodName)) ∈ lw_tbl := lw_at lw_m9 135 rfl
theorem q2179 : (Jvm.Cond.instanceMethod ({ cls := "DanceNotation$Parts", name := "nodes", desc := "()I" } : Jvm.MethodName)) ∈ lw_all := lw_g (lw_at lw_m9 142 rfl) rfl
theorem q2180 : (Jvm.Cond.publicMethod ({ cls := "DanceNotation$Parts", name := "nodes", desc := "()I" } : Jvm.MethodName)) ∈ lw_tbl := lw_at lw_m9 143 rfl
theorem q2181 : (Jvm.Cond.code ({ cls := "DanceNotation$Parts", name := "nodes", desc := "()I" } : Jvm.MethodName) prog_12_method_4_code (3 : Nat) (Option.some Jvm.ClassFile.FieldType.int)) ∈ lw_all := lw_g (lw_at lw_m9 144 rfl) rfl
theorem q3304 : (Jvm.Cond.initialized "DanceNotation$Parts") ∈ lw_all := lw_g (lw_at lw_m14 67 rfl) rfl

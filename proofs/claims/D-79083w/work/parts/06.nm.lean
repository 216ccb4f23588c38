/-! DanceNotationModel -/
set_option maxRecDepth 100000
def RX3 : String := "DanceNotationModel"
def TX3 : u_T := fun k => match k with
  | 0 => ("DanceNotationModel", "thrown", "I", false)
  | 1 => ("DanceNotationModel", "s", "[I", true)
  | 2 => ("DanceNotationModel", "saved", "[I", true)
  | 3 => ("DanceNotationModel", "frame", "[I", true)
  | 4 => ("DanceNotationModel", "history", "[I", true)
  | 5 => ("DanceNotationModel", "kept", "I", false)
  | 6 => ("DanceNotationModel", "hasSaved", "Z", false)
  | 7 => ("DanceNotationModel", "reason", "I", false)
  | 8 => ("DanceNotationModel", "refused", "I", false)
  | 9 => ("DanceNotationModel", "input", "[I", true)
  | 10 => ("DanceNotationModel", "length", "I", false)
  | 11 => ("DanceNotationModel", "errorAt", "I", false)
  | 12 => ("DanceNotationModel", "out", "[I", true)
  | 13 => ("DanceNotationModel", "outLength", "I", false)
  | 14 => ("DanceNotationModel", "isKnown", "Z", false)
  | 15 => ("DanceNotationModel", "why", "I", false)
  | 16 => ("DanceNotationModel", "whyDancer", "I", false)
  | 17 => ("DanceNotationModel", "size", "I", false)
  | 18 => ("DanceNotationModel", "used", "I", false)
  | 19 => ("DanceNotationModel", "depth", "I", false)
  | 20 => ("DanceNotationModel", "cues", "I", false)
  | 21 => ("DanceNotationModel", "steps", "[I", true)
  | 22 => ("DanceNotationModel", "cuesAt", "[I", true)
  | 23 => ("DanceNotationModel", "open", "I", false)
  | 24 => ("DanceNotationModel", "opKind", "[I", true)
  | 25 => ("DanceNotationModel", "opValue", "[I", true)
  | 26 => ("DanceNotationModel", "opLeft", "[I", true)
  | 27 => ("DanceNotationModel", "opSize", "[I", true)
  | 28 => ("DanceNotationModel", "opUsed", "[I", true)
  | 29 => ("DanceNotationModel", "opDepth", "[I", true)
  | 30 => ("DanceNotationModel", "opCues", "[I", true)
  | 31 => ("DanceNotationModel", "opTwice", "[I", true)
  | 32 => ("DanceNotationModel", "opLong", "[Z", true)
  | 33 => ("DanceNotationModel", "opSteps", "[I", true)
  | 34 => ("DanceNotationModel", "opCuesAt", "[I", true)
  | 35 => ("DanceNotationModel", "spot", "I", false)
  | 36 => ("DanceNotationModel", "isRight", "Z", false)
  | 37 => ("DanceNotationModel", "levels", "I", false)
  | 38 => ("DanceNotationModel", "seriesOf", "[I", true)
  | 39 => ("DanceNotationModel", "layerOf", "[I", true)
  | 40 => ("DanceNotationModel", "columnAt", "[I", true)
  | 41 => ("DanceNotationModel", "rowAt", "[I", true)
  | 42 => ("DanceNotationModel", "found", "I", false)
  | 43 => ("DanceNotationModel", "foundCount", "I", false)
  | 44 => ("DanceNotationModel", "foundKind", "I", false)
  | 45 => ("DanceNotationModel", "foundOne", "I", false)
  | 46 => ("DanceNotationModel", "foundOther", "I", false)
  | 47 => ("DanceNotationModel", "paths", "[I", true)
  | 48 => ("DanceNotationModel", "arrival", "[I", true)
  | 49 => ("DanceNotationModel", "pathSteps", "[I", true)
  | 50 => ("DanceNotationModel", "hasPath", "[Z", true)
  | 51 => ("DanceNotationModel", "isReached", "[Z", true)
  | _ => ("DanceNotationModel", "canCome", "[Z", true)
def tyX3 : Nat → FieldType := fun k => match k with
  | 0 => .int
  | 1 => .array .int
  | 2 => .array .int
  | 3 => .array .int
  | 4 => .array .int
  | 5 => .int
  | 6 => .boolean
  | 7 => .int
  | 8 => .int
  | 9 => .array .int
  | 10 => .int
  | 11 => .int
  | 12 => .array .int
  | 13 => .int
  | 14 => .boolean
  | 15 => .int
  | 16 => .int
  | 17 => .int
  | 18 => .int
  | 19 => .int
  | 20 => .int
  | 21 => .array .int
  | 22 => .array .int
  | 23 => .int
  | 24 => .array .int
  | 25 => .array .int
  | 26 => .array .int
  | 27 => .array .int
  | 28 => .array .int
  | 29 => .array .int
  | 30 => .array .int
  | 31 => .array .int
  | 32 => .array .boolean
  | 33 => .array .int
  | 34 => .array .int
  | 35 => .int
  | 36 => .boolean
  | 37 => .int
  | 38 => .array .int
  | 39 => .array .int
  | 40 => .array .int
  | 41 => .array .int
  | 42 => .int
  | 43 => .int
  | 44 => .int
  | 45 => .int
  | 46 => .int
  | 47 => .array .int
  | 48 => .array .int
  | 49 => .array .int
  | 50 => .array .boolean
  | 51 => .array .boolean
  | _ => .array .boolean
abbrev wsX30 : List Cond := u_ws RX3 TX3 53
set_option maxRecDepth 100000 in
theorem nmX3 : ∀ a, a < 53 → ∀ b, b < 53 → a ≠ b → (TX3 a).2.1 ≠ (TX3 b).2.1 := by decide +kernel
set_option maxRecDepth 100000 in
theorem tyX3_ok : ∀ k, k < 53 → parseFieldDescriptor (TX3 k).2.2.1 = some (tyX3 k) := by decide +kernel
abbrev cX3_init : ByteArray := prog_24_method_1_code
def yX3_init : MethodName := ⟨RX3, "<init>", "()V"⟩
def dkwX3_init_11 : List UInt8 := [8, 8, 182, 0, 107, 177]
abbrev dktX3_init_11 : List UInt8 := dkwX3_init_11 ++ []
def dkwX3_init_10 : List UInt8 := [188, 4, 181, 0, 98, 42, 17, 6, 165, 188, 4, 181, 0, 101, 42, 17, 6, 165, 188, 4, 181, 0, 104, 42]
abbrev dktX3_init_10 : List UInt8 := dkwX3_init_10 ++ dktX3_init_11
def dkwX3_init_9 : List UInt8 := [181, 0, 89, 42, 16, 8, 188, 10, 181, 0, 92, 42, 17, 0, 160, 188, 10, 181, 0, 95, 42, 16, 8]
abbrev dktX3_init_9 : List UInt8 := dkwX3_init_9 ++ dktX3_init_10
def dkwX3_init_8 : List UInt8 := [42, 17, 3, 32, 188, 10, 181, 0, 83, 42, 17, 3, 32, 188, 10, 181, 0, 86, 42, 17, 0, 168, 188, 10]
abbrev dktX3_init_8 : List UInt8 := dkwX3_init_8 ++ dktX3_init_9
def dkwX3_init_7 : List UInt8 := [17, 31, 64, 188, 10, 181, 0, 74, 42, 16, 12, 188, 10, 181, 0, 77, 42, 16, 12, 188, 10, 181, 0, 80]
abbrev dktX3_init_7 : List UInt8 := dkwX3_init_7 ++ dktX3_init_8
def dkwX3_init_6 : List UInt8 := [188, 10, 181, 0, 63, 42, 16, 80, 188, 4, 181, 0, 66, 42, 18, 70, 188, 10, 181, 0, 71, 42]
abbrev dktX3_init_6 : List UInt8 := dkwX3_init_6 ++ dktX3_init_7
def dkwX3_init_5 : List UInt8 := [188, 10, 181, 0, 54, 42, 16, 80, 188, 10, 181, 0, 57, 42, 16, 80, 188, 10, 181, 0, 60, 42, 16, 80]
abbrev dktX3_init_5 : List UInt8 := dkwX3_init_5 ++ dktX3_init_6
def dkwX3_init_4 : List UInt8 := [188, 10, 181, 0, 45, 42, 16, 80, 188, 10, 181, 0, 48, 42, 16, 80, 188, 10, 181, 0, 51, 42, 16, 80]
abbrev dktX3_init_4 : List UInt8 := dkwX3_init_4 ++ dktX3_init_5
def dkwX3_init_3 : List UInt8 := [188, 10, 181, 0, 36, 42, 16, 100, 188, 10, 181, 0, 39, 42, 16, 80, 188, 10, 181, 0, 42, 42, 16, 80]
abbrev dktX3_init_3 : List UInt8 := dkwX3_init_3 ++ dktX3_init_4
def dkwX3_init_2 : List UInt8 := [188, 10, 181, 0, 27, 42, 2, 181, 0, 30, 42, 17, 46, 224, 188, 10, 181, 0, 33, 42, 17, 3, 32]
abbrev dktX3_init_2 : List UInt8 := dkwX3_init_2 ++ dktX3_init_3
def dkwX3_init_1 : List UInt8 := [17, 33, 197, 188, 10, 181, 0, 16, 42, 18, 19, 188, 10, 181, 0, 20, 42, 2, 181, 0, 23, 42, 16, 100]
abbrev dktX3_init_1 : List UInt8 := dkwX3_init_1 ++ dktX3_init_2
def dkwX3_init_0 : List UInt8 := [42, 183, 0, 1, 42, 17, 33, 197, 188, 10, 181, 0, 7, 42, 17, 33, 197, 188, 10, 181, 0, 13, 42]
abbrev dktX3_init_0 : List UInt8 := dkwX3_init_0 ++ dktX3_init_1
theorem dksX3_init_0 : cX3_init.data.toList.drop 0 = dktX3_init_0 := by decide +kernel
theorem dksX3_init_1 : cX3_init.data.toList.drop 23 = dktX3_init_1 := dk_seg dksX3_init_0 23 rfl rfl
theorem dksX3_init_2 : cX3_init.data.toList.drop 47 = dktX3_init_2 := dk_seg dksX3_init_1 24 rfl rfl
theorem dksX3_init_3 : cX3_init.data.toList.drop 70 = dktX3_init_3 := dk_seg dksX3_init_2 23 rfl rfl
theorem dksX3_init_4 : cX3_init.data.toList.drop 94 = dktX3_init_4 := dk_seg dksX3_init_3 24 rfl rfl
theorem dksX3_init_5 : cX3_init.data.toList.drop 118 = dktX3_init_5 := dk_seg dksX3_init_4 24 rfl rfl
theorem dksX3_init_6 : cX3_init.data.toList.drop 142 = dktX3_init_6 := dk_seg dksX3_init_5 24 rfl rfl
theorem dksX3_init_7 : cX3_init.data.toList.drop 164 = dktX3_init_7 := dk_seg dksX3_init_6 22 rfl rfl
theorem dksX3_init_8 : cX3_init.data.toList.drop 188 = dktX3_init_8 := dk_seg dksX3_init_7 24 rfl rfl
theorem dksX3_init_9 : cX3_init.data.toList.drop 212 = dktX3_init_9 := dk_seg dksX3_init_8 24 rfl rfl
theorem dksX3_init_10 : cX3_init.data.toList.drop 235 = dktX3_init_10 := dk_seg dksX3_init_9 23 rfl rfl
theorem dksX3_init_11 : cX3_init.data.toList.drop 259 = dktX3_init_11 := dk_seg dksX3_init_10 24 rfl rfl
theorem dX3_init_0 : decode cX3_init 0 = .ok (.aload_n 0, 1) := dk_42 (dk_at dksX3_init_0 0 rfl rfl)
theorem dX3_init_1 : decode cX3_init 1 = .ok (.invokespecial 1, 3) := dk_183 0 1 (dk_at dksX3_init_0 1 rfl rfl)
theorem dX3_init_4 : decode cX3_init 4 = .ok (.aload_n 0, 1) := dk_42 (dk_at dksX3_init_0 4 rfl rfl)
theorem dX3_init_5 : decode cX3_init 5 = .ok (.sipush 8645, 3) := dk_17 33 197 (dk_at dksX3_init_0 5 rfl rfl)
theorem dX3_init_8 : decode cX3_init 8 = .ok (.newarray .int, 2) := dk_188_10 (dk_at dksX3_init_0 8 rfl rfl)
theorem dX3_init_10 : decode cX3_init 10 = .ok (.putfield 7, 3) := dk_181 0 7 (dk_at dksX3_init_0 10 rfl rfl)
theorem dX3_init_13 : decode cX3_init 13 = .ok (.aload_n 0, 1) := dk_42 (dk_at dksX3_init_0 13 rfl rfl)
theorem dX3_init_14 : decode cX3_init 14 = .ok (.sipush 8645, 3) := dk_17 33 197 (dk_at dksX3_init_0 14 rfl rfl)
theorem dX3_init_17 : decode cX3_init 17 = .ok (.newarray .int, 2) := dk_188_10 (dk_at dksX3_init_0 17 rfl rfl)
theorem dX3_init_19 : decode cX3_init 19 = .ok (.putfield 13, 3) := dk_181 0 13 (dk_at dksX3_init_0 19 rfl rfl)
theorem dX3_init_22 : decode cX3_init 22 = .ok (.aload_n 0, 1) := dk_42 (dk_at dksX3_init_0 22 rfl rfl)
theorem dX3_init_23 : decode cX3_init 23 = .ok (.sipush 8645, 3) := dk_17 33 197 (dk_at dksX3_init_1 0 rfl rfl)
theorem dX3_init_26 : decode cX3_init 26 = .ok (.newarray .int, 2) := dk_188_10 (dk_at dksX3_init_1 3 rfl rfl)
theorem dX3_init_28 : decode cX3_init 28 = .ok (.putfield 16, 3) := dk_181 0 16 (dk_at dksX3_init_1 5 rfl rfl)
theorem dX3_init_31 : decode cX3_init 31 = .ok (.aload_n 0, 1) := dk_42 (dk_at dksX3_init_1 8 rfl rfl)
theorem dX3_init_32 : decode cX3_init 32 = .ok (.ldc 19, 2) := dk_18 19 (dk_at dksX3_init_1 9 rfl rfl)
theorem dX3_init_34 : decode cX3_init 34 = .ok (.newarray .int, 2) := dk_188_10 (dk_at dksX3_init_1 11 rfl rfl)
theorem dX3_init_36 : decode cX3_init 36 = .ok (.putfield 20, 3) := dk_181 0 20 (dk_at dksX3_init_1 13 rfl rfl)
theorem dX3_init_39 : decode cX3_init 39 = .ok (.aload_n 0, 1) := dk_42 (dk_at dksX3_init_1 16 rfl rfl)
theorem dX3_init_40 : decode cX3_init 40 = .ok (.iconst (-1), 1) := dk_2 (dk_at dksX3_init_1 17 rfl rfl)
theorem dX3_init_41 : decode cX3_init 41 = .ok (.putfield 23, 3) := dk_181 0 23 (dk_at dksX3_init_1 18 rfl rfl)
theorem dX3_init_44 : decode cX3_init 44 = .ok (.aload_n 0, 1) := dk_42 (dk_at dksX3_init_1 21 rfl rfl)
theorem dX3_init_45 : decode cX3_init 45 = .ok (.bipush 100, 2) := dk_16 100 (dk_at dksX3_init_1 22 rfl rfl)
theorem dX3_init_47 : decode cX3_init 47 = .ok (.newarray .int, 2) := dk_188_10 (dk_at dksX3_init_2 0 rfl rfl)
theorem dX3_init_49 : decode cX3_init 49 = .ok (.putfield 27, 3) := dk_181 0 27 (dk_at dksX3_init_2 2 rfl rfl)
theorem dX3_init_52 : decode cX3_init 52 = .ok (.aload_n 0, 1) := dk_42 (dk_at dksX3_init_2 5 rfl rfl)
theorem dX3_init_53 : decode cX3_init 53 = .ok (.iconst (-1), 1) := dk_2 (dk_at dksX3_init_2 6 rfl rfl)
theorem dX3_init_54 : decode cX3_init 54 = .ok (.putfield 30, 3) := dk_181 0 30 (dk_at dksX3_init_2 7 rfl rfl)
theorem dX3_init_57 : decode cX3_init 57 = .ok (.aload_n 0, 1) := dk_42 (dk_at dksX3_init_2 10 rfl rfl)
theorem dX3_init_58 : decode cX3_init 58 = .ok (.sipush 12000, 3) := dk_17 46 224 (dk_at dksX3_init_2 11 rfl rfl)
theorem dX3_init_61 : decode cX3_init 61 = .ok (.newarray .int, 2) := dk_188_10 (dk_at dksX3_init_2 14 rfl rfl)
theorem dX3_init_63 : decode cX3_init 63 = .ok (.putfield 33, 3) := dk_181 0 33 (dk_at dksX3_init_2 16 rfl rfl)
theorem dX3_init_66 : decode cX3_init 66 = .ok (.aload_n 0, 1) := dk_42 (dk_at dksX3_init_2 19 rfl rfl)
theorem dX3_init_67 : decode cX3_init 67 = .ok (.sipush 800, 3) := dk_17 3 32 (dk_at dksX3_init_2 20 rfl rfl)
theorem dX3_init_70 : decode cX3_init 70 = .ok (.newarray .int, 2) := dk_188_10 (dk_at dksX3_init_3 0 rfl rfl)
theorem dX3_init_72 : decode cX3_init 72 = .ok (.putfield 36, 3) := dk_181 0 36 (dk_at dksX3_init_3 2 rfl rfl)
theorem dX3_init_75 : decode cX3_init 75 = .ok (.aload_n 0, 1) := dk_42 (dk_at dksX3_init_3 5 rfl rfl)
theorem dX3_init_76 : decode cX3_init 76 = .ok (.bipush 100, 2) := dk_16 100 (dk_at dksX3_init_3 6 rfl rfl)
theorem dX3_init_78 : decode cX3_init 78 = .ok (.newarray .int, 2) := dk_188_10 (dk_at dksX3_init_3 8 rfl rfl)
theorem dX3_init_80 : decode cX3_init 80 = .ok (.putfield 39, 3) := dk_181 0 39 (dk_at dksX3_init_3 10 rfl rfl)
theorem dX3_init_83 : decode cX3_init 83 = .ok (.aload_n 0, 1) := dk_42 (dk_at dksX3_init_3 13 rfl rfl)
theorem dX3_init_84 : decode cX3_init 84 = .ok (.bipush 80, 2) := dk_16 80 (dk_at dksX3_init_3 14 rfl rfl)
theorem dX3_init_86 : decode cX3_init 86 = .ok (.newarray .int, 2) := dk_188_10 (dk_at dksX3_init_3 16 rfl rfl)
theorem dX3_init_88 : decode cX3_init 88 = .ok (.putfield 42, 3) := dk_181 0 42 (dk_at dksX3_init_3 18 rfl rfl)
theorem dX3_init_91 : decode cX3_init 91 = .ok (.aload_n 0, 1) := dk_42 (dk_at dksX3_init_3 21 rfl rfl)
theorem dX3_init_92 : decode cX3_init 92 = .ok (.bipush 80, 2) := dk_16 80 (dk_at dksX3_init_3 22 rfl rfl)
theorem dX3_init_94 : decode cX3_init 94 = .ok (.newarray .int, 2) := dk_188_10 (dk_at dksX3_init_4 0 rfl rfl)
theorem dX3_init_96 : decode cX3_init 96 = .ok (.putfield 45, 3) := dk_181 0 45 (dk_at dksX3_init_4 2 rfl rfl)
theorem dX3_init_99 : decode cX3_init 99 = .ok (.aload_n 0, 1) := dk_42 (dk_at dksX3_init_4 5 rfl rfl)
theorem dX3_init_100 : decode cX3_init 100 = .ok (.bipush 80, 2) := dk_16 80 (dk_at dksX3_init_4 6 rfl rfl)
theorem dX3_init_102 : decode cX3_init 102 = .ok (.newarray .int, 2) := dk_188_10 (dk_at dksX3_init_4 8 rfl rfl)
theorem dX3_init_104 : decode cX3_init 104 = .ok (.putfield 48, 3) := dk_181 0 48 (dk_at dksX3_init_4 10 rfl rfl)
theorem dX3_init_107 : decode cX3_init 107 = .ok (.aload_n 0, 1) := dk_42 (dk_at dksX3_init_4 13 rfl rfl)
theorem dX3_init_108 : decode cX3_init 108 = .ok (.bipush 80, 2) := dk_16 80 (dk_at dksX3_init_4 14 rfl rfl)
theorem dX3_init_110 : decode cX3_init 110 = .ok (.newarray .int, 2) := dk_188_10 (dk_at dksX3_init_4 16 rfl rfl)
theorem dX3_init_112 : decode cX3_init 112 = .ok (.putfield 51, 3) := dk_181 0 51 (dk_at dksX3_init_4 18 rfl rfl)
theorem dX3_init_115 : decode cX3_init 115 = .ok (.aload_n 0, 1) := dk_42 (dk_at dksX3_init_4 21 rfl rfl)
theorem dX3_init_116 : decode cX3_init 116 = .ok (.bipush 80, 2) := dk_16 80 (dk_at dksX3_init_4 22 rfl rfl)
theorem dX3_init_118 : decode cX3_init 118 = .ok (.newarray .int, 2) := dk_188_10 (dk_at dksX3_init_5 0 rfl rfl)
theorem dX3_init_120 : decode cX3_init 120 = .ok (.putfield 54, 3) := dk_181 0 54 (dk_at dksX3_init_5 2 rfl rfl)
theorem dX3_init_123 : decode cX3_init 123 = .ok (.aload_n 0, 1) := dk_42 (dk_at dksX3_init_5 5 rfl rfl)
theorem dX3_init_124 : decode cX3_init 124 = .ok (.bipush 80, 2) := dk_16 80 (dk_at dksX3_init_5 6 rfl rfl)
theorem dX3_init_126 : decode cX3_init 126 = .ok (.newarray .int, 2) := dk_188_10 (dk_at dksX3_init_5 8 rfl rfl)
theorem dX3_init_128 : decode cX3_init 128 = .ok (.putfield 57, 3) := dk_181 0 57 (dk_at dksX3_init_5 10 rfl rfl)
theorem dX3_init_131 : decode cX3_init 131 = .ok (.aload_n 0, 1) := dk_42 (dk_at dksX3_init_5 13 rfl rfl)
theorem dX3_init_132 : decode cX3_init 132 = .ok (.bipush 80, 2) := dk_16 80 (dk_at dksX3_init_5 14 rfl rfl)
theorem dX3_init_134 : decode cX3_init 134 = .ok (.newarray .int, 2) := dk_188_10 (dk_at dksX3_init_5 16 rfl rfl)
theorem dX3_init_136 : decode cX3_init 136 = .ok (.putfield 60, 3) := dk_181 0 60 (dk_at dksX3_init_5 18 rfl rfl)
theorem dX3_init_139 : decode cX3_init 139 = .ok (.aload_n 0, 1) := dk_42 (dk_at dksX3_init_5 21 rfl rfl)
theorem dX3_init_140 : decode cX3_init 140 = .ok (.bipush 80, 2) := dk_16 80 (dk_at dksX3_init_5 22 rfl rfl)
theorem dX3_init_142 : decode cX3_init 142 = .ok (.newarray .int, 2) := dk_188_10 (dk_at dksX3_init_6 0 rfl rfl)
theorem dX3_init_144 : decode cX3_init 144 = .ok (.putfield 63, 3) := dk_181 0 63 (dk_at dksX3_init_6 2 rfl rfl)
theorem dX3_init_147 : decode cX3_init 147 = .ok (.aload_n 0, 1) := dk_42 (dk_at dksX3_init_6 5 rfl rfl)
theorem dX3_init_148 : decode cX3_init 148 = .ok (.bipush 80, 2) := dk_16 80 (dk_at dksX3_init_6 6 rfl rfl)
theorem dX3_init_150 : decode cX3_init 150 = .ok (.newarray .boolean, 2) := dk_188_4 (dk_at dksX3_init_6 8 rfl rfl)
theorem dX3_init_152 : decode cX3_init 152 = .ok (.putfield 66, 3) := dk_181 0 66 (dk_at dksX3_init_6 10 rfl rfl)
theorem dX3_init_155 : decode cX3_init 155 = .ok (.aload_n 0, 1) := dk_42 (dk_at dksX3_init_6 13 rfl rfl)
theorem dX3_init_156 : decode cX3_init 156 = .ok (.ldc 70, 2) := dk_18 70 (dk_at dksX3_init_6 14 rfl rfl)
theorem dX3_init_158 : decode cX3_init 158 = .ok (.newarray .int, 2) := dk_188_10 (dk_at dksX3_init_6 16 rfl rfl)
theorem dX3_init_160 : decode cX3_init 160 = .ok (.putfield 71, 3) := dk_181 0 71 (dk_at dksX3_init_6 18 rfl rfl)
theorem dX3_init_163 : decode cX3_init 163 = .ok (.aload_n 0, 1) := dk_42 (dk_at dksX3_init_6 21 rfl rfl)
theorem dX3_init_164 : decode cX3_init 164 = .ok (.sipush 8000, 3) := dk_17 31 64 (dk_at dksX3_init_7 0 rfl rfl)
theorem dX3_init_167 : decode cX3_init 167 = .ok (.newarray .int, 2) := dk_188_10 (dk_at dksX3_init_7 3 rfl rfl)
theorem dX3_init_169 : decode cX3_init 169 = .ok (.putfield 74, 3) := dk_181 0 74 (dk_at dksX3_init_7 5 rfl rfl)
theorem dX3_init_172 : decode cX3_init 172 = .ok (.aload_n 0, 1) := dk_42 (dk_at dksX3_init_7 8 rfl rfl)
theorem dX3_init_173 : decode cX3_init 173 = .ok (.bipush 12, 2) := dk_16 12 (dk_at dksX3_init_7 9 rfl rfl)
theorem dX3_init_175 : decode cX3_init 175 = .ok (.newarray .int, 2) := dk_188_10 (dk_at dksX3_init_7 11 rfl rfl)
theorem dX3_init_177 : decode cX3_init 177 = .ok (.putfield 77, 3) := dk_181 0 77 (dk_at dksX3_init_7 13 rfl rfl)
theorem dX3_init_180 : decode cX3_init 180 = .ok (.aload_n 0, 1) := dk_42 (dk_at dksX3_init_7 16 rfl rfl)
theorem dX3_init_181 : decode cX3_init 181 = .ok (.bipush 12, 2) := dk_16 12 (dk_at dksX3_init_7 17 rfl rfl)
theorem dX3_init_183 : decode cX3_init 183 = .ok (.newarray .int, 2) := dk_188_10 (dk_at dksX3_init_7 19 rfl rfl)
theorem dX3_init_185 : decode cX3_init 185 = .ok (.putfield 80, 3) := dk_181 0 80 (dk_at dksX3_init_7 21 rfl rfl)
theorem dX3_init_188 : decode cX3_init 188 = .ok (.aload_n 0, 1) := dk_42 (dk_at dksX3_init_8 0 rfl rfl)
theorem dX3_init_189 : decode cX3_init 189 = .ok (.sipush 800, 3) := dk_17 3 32 (dk_at dksX3_init_8 1 rfl rfl)
theorem dX3_init_192 : decode cX3_init 192 = .ok (.newarray .int, 2) := dk_188_10 (dk_at dksX3_init_8 4 rfl rfl)
theorem dX3_init_194 : decode cX3_init 194 = .ok (.putfield 83, 3) := dk_181 0 83 (dk_at dksX3_init_8 6 rfl rfl)
theorem dX3_init_197 : decode cX3_init 197 = .ok (.aload_n 0, 1) := dk_42 (dk_at dksX3_init_8 9 rfl rfl)
theorem dX3_init_198 : decode cX3_init 198 = .ok (.sipush 800, 3) := dk_17 3 32 (dk_at dksX3_init_8 10 rfl rfl)
theorem dX3_init_201 : decode cX3_init 201 = .ok (.newarray .int, 2) := dk_188_10 (dk_at dksX3_init_8 13 rfl rfl)
theorem dX3_init_203 : decode cX3_init 203 = .ok (.putfield 86, 3) := dk_181 0 86 (dk_at dksX3_init_8 15 rfl rfl)
theorem dX3_init_206 : decode cX3_init 206 = .ok (.aload_n 0, 1) := dk_42 (dk_at dksX3_init_8 18 rfl rfl)
theorem dX3_init_207 : decode cX3_init 207 = .ok (.sipush 168, 3) := dk_17 0 168 (dk_at dksX3_init_8 19 rfl rfl)
theorem dX3_init_210 : decode cX3_init 210 = .ok (.newarray .int, 2) := dk_188_10 (dk_at dksX3_init_8 22 rfl rfl)
theorem dX3_init_212 : decode cX3_init 212 = .ok (.putfield 89, 3) := dk_181 0 89 (dk_at dksX3_init_9 0 rfl rfl)
theorem dX3_init_215 : decode cX3_init 215 = .ok (.aload_n 0, 1) := dk_42 (dk_at dksX3_init_9 3 rfl rfl)
theorem dX3_init_216 : decode cX3_init 216 = .ok (.bipush 8, 2) := dk_16 8 (dk_at dksX3_init_9 4 rfl rfl)
theorem dX3_init_218 : decode cX3_init 218 = .ok (.newarray .int, 2) := dk_188_10 (dk_at dksX3_init_9 6 rfl rfl)
theorem dX3_init_220 : decode cX3_init 220 = .ok (.putfield 92, 3) := dk_181 0 92 (dk_at dksX3_init_9 8 rfl rfl)
theorem dX3_init_223 : decode cX3_init 223 = .ok (.aload_n 0, 1) := dk_42 (dk_at dksX3_init_9 11 rfl rfl)
theorem dX3_init_224 : decode cX3_init 224 = .ok (.sipush 160, 3) := dk_17 0 160 (dk_at dksX3_init_9 12 rfl rfl)
theorem dX3_init_227 : decode cX3_init 227 = .ok (.newarray .int, 2) := dk_188_10 (dk_at dksX3_init_9 15 rfl rfl)
theorem dX3_init_229 : decode cX3_init 229 = .ok (.putfield 95, 3) := dk_181 0 95 (dk_at dksX3_init_9 17 rfl rfl)
theorem dX3_init_232 : decode cX3_init 232 = .ok (.aload_n 0, 1) := dk_42 (dk_at dksX3_init_9 20 rfl rfl)
theorem dX3_init_233 : decode cX3_init 233 = .ok (.bipush 8, 2) := dk_16 8 (dk_at dksX3_init_9 21 rfl rfl)
theorem dX3_init_235 : decode cX3_init 235 = .ok (.newarray .boolean, 2) := dk_188_4 (dk_at dksX3_init_10 0 rfl rfl)
theorem dX3_init_237 : decode cX3_init 237 = .ok (.putfield 98, 3) := dk_181 0 98 (dk_at dksX3_init_10 2 rfl rfl)
theorem dX3_init_240 : decode cX3_init 240 = .ok (.aload_n 0, 1) := dk_42 (dk_at dksX3_init_10 5 rfl rfl)
theorem dX3_init_241 : decode cX3_init 241 = .ok (.sipush 1701, 3) := dk_17 6 165 (dk_at dksX3_init_10 6 rfl rfl)
theorem dX3_init_244 : decode cX3_init 244 = .ok (.newarray .boolean, 2) := dk_188_4 (dk_at dksX3_init_10 9 rfl rfl)
theorem dX3_init_246 : decode cX3_init 246 = .ok (.putfield 101, 3) := dk_181 0 101 (dk_at dksX3_init_10 11 rfl rfl)
theorem dX3_init_249 : decode cX3_init 249 = .ok (.aload_n 0, 1) := dk_42 (dk_at dksX3_init_10 14 rfl rfl)
theorem dX3_init_250 : decode cX3_init 250 = .ok (.sipush 1701, 3) := dk_17 6 165 (dk_at dksX3_init_10 15 rfl rfl)
theorem dX3_init_253 : decode cX3_init 253 = .ok (.newarray .boolean, 2) := dk_188_4 (dk_at dksX3_init_10 18 rfl rfl)
theorem dX3_init_255 : decode cX3_init 255 = .ok (.putfield 104, 3) := dk_181 0 104 (dk_at dksX3_init_10 20 rfl rfl)
theorem dX3_init_258 : decode cX3_init 258 = .ok (.aload_n 0, 1) := dk_42 (dk_at dksX3_init_10 23 rfl rfl)
theorem dX3_init_259 : decode cX3_init 259 = .ok (.iconst 5, 1) := dk_8 (dk_at dksX3_init_11 0 rfl rfl)
theorem dX3_init_260 : decode cX3_init 260 = .ok (.iconst 5, 1) := dk_8 (dk_at dksX3_init_11 1 rfl rfl)
theorem dX3_init_261 : decode cX3_init 261 = .ok (.invokevirtual 107, 3) := dk_182 0 107 (dk_at dksX3_init_11 2 rfl rfl)
theorem dX3_init_264 : decode cX3_init 264 = .ok (.return_, 1) := dk_177 (dk_at dksX3_init_11 5 rfl rfl)
abbrev cX3_begins : ByteArray := prog_24_method_8_code
def yX3_begins : MethodName := ⟨RX3, "begins", "(II)V"⟩
def dkwX3_begins_2 : List UInt8 := [180, 0, 7, 29, 2, 79, 132, 3, 1, 167, 255, 240, 42, 3, 181, 0, 125, 42, 3, 181, 0, 128, 177]
abbrev dktX3_begins_2 : List UInt8 := dkwX3_begins_2 ++ []
def dkwX3_begins_1 : List UInt8 := [180, 0, 7, 3, 27, 79, 42, 180, 0, 7, 4, 28, 79, 5, 62, 29, 16, 42, 162, 0, 16, 42]
abbrev dktX3_begins_1 : List UInt8 := dkwX3_begins_1 ++ dktX3_begins_2
def dkwX3_begins_0 : List UInt8 := [3, 62, 29, 17, 33, 197, 162, 0, 16, 42, 180, 0, 7, 29, 3, 79, 132, 3, 1, 167, 255, 239, 42]
abbrev dktX3_begins_0 : List UInt8 := dkwX3_begins_0 ++ dktX3_begins_1
theorem dksX3_begins_0 : cX3_begins.data.toList.drop 0 = dktX3_begins_0 := by decide +kernel
theorem dksX3_begins_1 : cX3_begins.data.toList.drop 23 = dktX3_begins_1 := dk_seg dksX3_begins_0 23 rfl rfl
theorem dksX3_begins_2 : cX3_begins.data.toList.drop 45 = dktX3_begins_2 := dk_seg dksX3_begins_1 22 rfl rfl
theorem dX3_begins_0 : decode cX3_begins 0 = .ok (.iconst 0, 1) := dk_3 (dk_at dksX3_begins_0 0 rfl rfl)
theorem dX3_begins_1 : decode cX3_begins 1 = .ok (.istore_n 3, 1) := dk_62 (dk_at dksX3_begins_0 1 rfl rfl)
theorem dX3_begins_2 : decode cX3_begins 2 = .ok (.iload_n 3, 1) := dk_29 (dk_at dksX3_begins_0 2 rfl rfl)
theorem dX3_begins_3 : decode cX3_begins 3 = .ok (.sipush 8645, 3) := dk_17 33 197 (dk_at dksX3_begins_0 3 rfl rfl)
theorem dX3_begins_6 : decode cX3_begins 6 = .ok (.if_icmp .ge 16, 3) := dk_162 0 16 (dk_at dksX3_begins_0 6 rfl rfl)
theorem dX3_begins_9 : decode cX3_begins 9 = .ok (.aload_n 0, 1) := dk_42 (dk_at dksX3_begins_0 9 rfl rfl)
theorem dX3_begins_10 : decode cX3_begins 10 = .ok (.getfield 7, 3) := dk_180 0 7 (dk_at dksX3_begins_0 10 rfl rfl)
theorem dX3_begins_13 : decode cX3_begins 13 = .ok (.iload_n 3, 1) := dk_29 (dk_at dksX3_begins_0 13 rfl rfl)
theorem dX3_begins_14 : decode cX3_begins 14 = .ok (.iconst 0, 1) := dk_3 (dk_at dksX3_begins_0 14 rfl rfl)
theorem dX3_begins_15 : decode cX3_begins 15 = .ok (.iastore, 1) := dk_79 (dk_at dksX3_begins_0 15 rfl rfl)
theorem dX3_begins_16 : decode cX3_begins 16 = .ok (.iinc 3 1, 3) := dk_132 3 1 (dk_at dksX3_begins_0 16 rfl rfl)
theorem dX3_begins_19 : decode cX3_begins 19 = .ok (.goto (-17), 3) := dk_167 255 239 (dk_at dksX3_begins_0 19 rfl rfl)
theorem dX3_begins_22 : decode cX3_begins 22 = .ok (.aload_n 0, 1) := dk_42 (dk_at dksX3_begins_0 22 rfl rfl)
theorem dX3_begins_23 : decode cX3_begins 23 = .ok (.getfield 7, 3) := dk_180 0 7 (dk_at dksX3_begins_1 0 rfl rfl)
theorem dX3_begins_26 : decode cX3_begins 26 = .ok (.iconst 0, 1) := dk_3 (dk_at dksX3_begins_1 3 rfl rfl)
theorem dX3_begins_27 : decode cX3_begins 27 = .ok (.iload_n 1, 1) := dk_27 (dk_at dksX3_begins_1 4 rfl rfl)
theorem dX3_begins_28 : decode cX3_begins 28 = .ok (.iastore, 1) := dk_79 (dk_at dksX3_begins_1 5 rfl rfl)
theorem dX3_begins_29 : decode cX3_begins 29 = .ok (.aload_n 0, 1) := dk_42 (dk_at dksX3_begins_1 6 rfl rfl)
theorem dX3_begins_30 : decode cX3_begins 30 = .ok (.getfield 7, 3) := dk_180 0 7 (dk_at dksX3_begins_1 7 rfl rfl)
theorem dX3_begins_33 : decode cX3_begins 33 = .ok (.iconst 1, 1) := dk_4 (dk_at dksX3_begins_1 10 rfl rfl)
theorem dX3_begins_34 : decode cX3_begins 34 = .ok (.iload_n 2, 1) := dk_28 (dk_at dksX3_begins_1 11 rfl rfl)
theorem dX3_begins_35 : decode cX3_begins 35 = .ok (.iastore, 1) := dk_79 (dk_at dksX3_begins_1 12 rfl rfl)
theorem dX3_begins_36 : decode cX3_begins 36 = .ok (.iconst 2, 1) := dk_5 (dk_at dksX3_begins_1 13 rfl rfl)
theorem dX3_begins_37 : decode cX3_begins 37 = .ok (.istore_n 3, 1) := dk_62 (dk_at dksX3_begins_1 14 rfl rfl)
theorem dX3_begins_38 : decode cX3_begins 38 = .ok (.iload_n 3, 1) := dk_29 (dk_at dksX3_begins_1 15 rfl rfl)
theorem dX3_begins_39 : decode cX3_begins 39 = .ok (.bipush 42, 2) := dk_16 42 (dk_at dksX3_begins_1 16 rfl rfl)
theorem dX3_begins_41 : decode cX3_begins 41 = .ok (.if_icmp .ge 16, 3) := dk_162 0 16 (dk_at dksX3_begins_1 18 rfl rfl)
theorem dX3_begins_44 : decode cX3_begins 44 = .ok (.aload_n 0, 1) := dk_42 (dk_at dksX3_begins_1 21 rfl rfl)
theorem dX3_begins_45 : decode cX3_begins 45 = .ok (.getfield 7, 3) := dk_180 0 7 (dk_at dksX3_begins_2 0 rfl rfl)
theorem dX3_begins_48 : decode cX3_begins 48 = .ok (.iload_n 3, 1) := dk_29 (dk_at dksX3_begins_2 3 rfl rfl)
theorem dX3_begins_49 : decode cX3_begins 49 = .ok (.iconst (-1), 1) := dk_2 (dk_at dksX3_begins_2 4 rfl rfl)
theorem dX3_begins_50 : decode cX3_begins 50 = .ok (.iastore, 1) := dk_79 (dk_at dksX3_begins_2 5 rfl rfl)
theorem dX3_begins_51 : decode cX3_begins 51 = .ok (.iinc 3 1, 3) := dk_132 3 1 (dk_at dksX3_begins_2 6 rfl rfl)
theorem dX3_begins_54 : decode cX3_begins 54 = .ok (.goto (-16), 3) := dk_167 255 240 (dk_at dksX3_begins_2 9 rfl rfl)
theorem dX3_begins_57 : decode cX3_begins 57 = .ok (.aload_n 0, 1) := dk_42 (dk_at dksX3_begins_2 12 rfl rfl)
theorem dX3_begins_58 : decode cX3_begins 58 = .ok (.iconst 0, 1) := dk_3 (dk_at dksX3_begins_2 13 rfl rfl)
theorem dX3_begins_59 : decode cX3_begins 59 = .ok (.putfield 125, 3) := dk_181 0 125 (dk_at dksX3_begins_2 14 rfl rfl)
theorem dX3_begins_62 : decode cX3_begins 62 = .ok (.aload_n 0, 1) := dk_42 (dk_at dksX3_begins_2 17 rfl rfl)
theorem dX3_begins_63 : decode cX3_begins 63 = .ok (.iconst 0, 1) := dk_3 (dk_at dksX3_begins_2 18 rfl rfl)
theorem dX3_begins_64 : decode cX3_begins 64 = .ok (.putfield 128, 3) := dk_181 0 128 (dk_at dksX3_begins_2 19 rfl rfl)
theorem dX3_begins_67 : decode cX3_begins 67 = .ok (.return_, 1) := dk_177 (dk_at dksX3_begins_2 22 rfl rfl)
abbrev cX3_thrown : ByteArray := prog_24_method_2_code
def yX3_thrown : MethodName := ⟨RX3, "thrown", "()I"⟩
theorem dX3_thrown_0 : decode cX3_thrown 0 = .ok (.aload_n 0, 1) := by decide +kernel
theorem dX3_thrown_1 : decode cX3_thrown 1 = .ok (.getfield 111, 3) := by decide +kernel
theorem dX3_thrown_4 : decode cX3_thrown 4 = .ok (.ireturn, 1) := by decide +kernel
abbrev cX3_stage : ByteArray := prog_24_method_33_code
def yX3_stage : MethodName := ⟨RX3, "stage", "(II)I"⟩
def dkwX3_stage_1 : List UInt8 := [154, 0, 9, 42, 4, 182, 0, 117, 172, 42, 27, 28, 182, 0, 107, 27, 28, 104, 172]
abbrev dktX3_stage_1 : List UInt8 := dkwX3_stage_1 ++ []
def dkwX3_stage_0 : List UInt8 := [42, 3, 181, 0, 111, 27, 5, 16, 9, 184, 0, 121, 153, 0, 13, 28, 5, 16, 9, 184, 0, 121]
abbrev dktX3_stage_0 : List UInt8 := dkwX3_stage_0 ++ dktX3_stage_1
theorem dksX3_stage_0 : cX3_stage.data.toList.drop 0 = dktX3_stage_0 := by decide +kernel
theorem dksX3_stage_1 : cX3_stage.data.toList.drop 22 = dktX3_stage_1 := dk_seg dksX3_stage_0 22 rfl rfl
theorem dX3_stage_0 : decode cX3_stage 0 = .ok (.aload_n 0, 1) := dk_42 (dk_at dksX3_stage_0 0 rfl rfl)
theorem dX3_stage_1 : decode cX3_stage 1 = .ok (.iconst 0, 1) := dk_3 (dk_at dksX3_stage_0 1 rfl rfl)
theorem dX3_stage_2 : decode cX3_stage 2 = .ok (.putfield 111, 3) := dk_181 0 111 (dk_at dksX3_stage_0 2 rfl rfl)
theorem dX3_stage_5 : decode cX3_stage 5 = .ok (.iload_n 1, 1) := dk_27 (dk_at dksX3_stage_0 5 rfl rfl)
theorem dX3_stage_6 : decode cX3_stage 6 = .ok (.iconst 2, 1) := dk_5 (dk_at dksX3_stage_0 6 rfl rfl)
theorem dX3_stage_7 : decode cX3_stage 7 = .ok (.bipush 9, 2) := dk_16 9 (dk_at dksX3_stage_0 7 rfl rfl)
theorem dX3_stage_9 : decode cX3_stage 9 = .ok (.invokestatic 121, 3) := dk_184 0 121 (dk_at dksX3_stage_0 9 rfl rfl)
theorem dX3_stage_12 : decode cX3_stage 12 = .ok (.ifCond .eq 13, 3) := dk_153 0 13 (dk_at dksX3_stage_0 12 rfl rfl)
theorem dX3_stage_15 : decode cX3_stage 15 = .ok (.iload_n 2, 1) := dk_28 (dk_at dksX3_stage_0 15 rfl rfl)
theorem dX3_stage_16 : decode cX3_stage 16 = .ok (.iconst 2, 1) := dk_5 (dk_at dksX3_stage_0 16 rfl rfl)
theorem dX3_stage_17 : decode cX3_stage 17 = .ok (.bipush 9, 2) := dk_16 9 (dk_at dksX3_stage_0 17 rfl rfl)
theorem dX3_stage_19 : decode cX3_stage 19 = .ok (.invokestatic 121, 3) := dk_184 0 121 (dk_at dksX3_stage_0 19 rfl rfl)
theorem dX3_stage_22 : decode cX3_stage 22 = .ok (.ifCond .ne 9, 3) := dk_154 0 9 (dk_at dksX3_stage_1 0 rfl rfl)
theorem dX3_stage_25 : decode cX3_stage 25 = .ok (.aload_n 0, 1) := dk_42 (dk_at dksX3_stage_1 3 rfl rfl)
theorem dX3_stage_26 : decode cX3_stage 26 = .ok (.iconst 1, 1) := dk_4 (dk_at dksX3_stage_1 4 rfl rfl)
theorem dX3_stage_27 : decode cX3_stage 27 = .ok (.invokevirtual 117, 3) := dk_182 0 117 (dk_at dksX3_stage_1 5 rfl rfl)
theorem dX3_stage_30 : decode cX3_stage 30 = .ok (.ireturn, 1) := dk_172 (dk_at dksX3_stage_1 8 rfl rfl)
theorem dX3_stage_31 : decode cX3_stage 31 = .ok (.aload_n 0, 1) := dk_42 (dk_at dksX3_stage_1 9 rfl rfl)
theorem dX3_stage_32 : decode cX3_stage 32 = .ok (.iload_n 1, 1) := dk_27 (dk_at dksX3_stage_1 10 rfl rfl)
theorem dX3_stage_33 : decode cX3_stage 33 = .ok (.iload_n 2, 1) := dk_28 (dk_at dksX3_stage_1 11 rfl rfl)
theorem dX3_stage_34 : decode cX3_stage 34 = .ok (.invokevirtual 107, 3) := dk_182 0 107 (dk_at dksX3_stage_1 12 rfl rfl)
theorem dX3_stage_37 : decode cX3_stage 37 = .ok (.iload_n 1, 1) := dk_27 (dk_at dksX3_stage_1 15 rfl rfl)
theorem dX3_stage_38 : decode cX3_stage 38 = .ok (.iload_n 2, 1) := dk_28 (dk_at dksX3_stage_1 16 rfl rfl)
theorem dX3_stage_39 : decode cX3_stage 39 = .ok (.imul, 1) := dk_104 (dk_at dksX3_stage_1 17 rfl rfl)
theorem dX3_stage_40 : decode cX3_stage 40 = .ok (.ireturn, 1) := dk_172 (dk_at dksX3_stage_1 18 rfl rfl)
abbrev cX3_in : ByteArray := prog_24_method_5_code
def yX3_in : MethodName := ⟨RX3, "in", "(III)Z"⟩
def dkwX3_in_0 : List UInt8 := [26, 27, 161, 0, 12, 26, 28, 163, 0, 7, 4, 167, 0, 4, 3, 172]
abbrev dktX3_in_0 : List UInt8 := dkwX3_in_0 ++ []
theorem dksX3_in_0 : cX3_in.data.toList.drop 0 = dktX3_in_0 := by decide +kernel
theorem dX3_in_0 : decode cX3_in 0 = .ok (.iload_n 0, 1) := dk_26 (dk_at dksX3_in_0 0 rfl rfl)
theorem dX3_in_1 : decode cX3_in 1 = .ok (.iload_n 1, 1) := dk_27 (dk_at dksX3_in_0 1 rfl rfl)
theorem dX3_in_2 : decode cX3_in 2 = .ok (.if_icmp .lt 12, 3) := dk_161 0 12 (dk_at dksX3_in_0 2 rfl rfl)
theorem dX3_in_5 : decode cX3_in 5 = .ok (.iload_n 0, 1) := dk_26 (dk_at dksX3_in_0 5 rfl rfl)
theorem dX3_in_6 : decode cX3_in 6 = .ok (.iload_n 2, 1) := dk_28 (dk_at dksX3_in_0 6 rfl rfl)
theorem dX3_in_7 : decode cX3_in 7 = .ok (.if_icmp .gt 7, 3) := dk_163 0 7 (dk_at dksX3_in_0 7 rfl rfl)
theorem dX3_in_10 : decode cX3_in 10 = .ok (.iconst 1, 1) := dk_4 (dk_at dksX3_in_0 10 rfl rfl)
theorem dX3_in_11 : decode cX3_in 11 = .ok (.goto 4, 3) := dk_167 0 4 (dk_at dksX3_in_0 11 rfl rfl)
theorem dX3_in_14 : decode cX3_in 14 = .ok (.iconst 0, 1) := dk_3 (dk_at dksX3_in_0 14 rfl rfl)
theorem dX3_in_15 : decode cX3_in 15 = .ok (.ireturn, 1) := dk_172 (dk_at dksX3_in_0 15 rfl rfl)
abbrev cX3_fails : ByteArray := prog_24_method_3_code
def yX3_fails : MethodName := ⟨RX3, "fails", "(I)I"⟩
def dkwX3_fails_0 : List UInt8 := [42, 27, 181, 0, 111, 3, 172]
abbrev dktX3_fails_0 : List UInt8 := dkwX3_fails_0 ++ []
theorem dksX3_fails_0 : cX3_fails.data.toList.drop 0 = dktX3_fails_0 := by decide +kernel
theorem dX3_fails_0 : decode cX3_fails 0 = .ok (.aload_n 0, 1) := dk_42 (dk_at dksX3_fails_0 0 rfl rfl)
theorem dX3_fails_1 : decode cX3_fails 1 = .ok (.iload_n 1, 1) := dk_27 (dk_at dksX3_fails_0 1 rfl rfl)
theorem dX3_fails_2 : decode cX3_fails 2 = .ok (.putfield 111, 3) := dk_181 0 111 (dk_at dksX3_fails_0 2 rfl rfl)
theorem dX3_fails_5 : decode cX3_fails 5 = .ok (.iconst 0, 1) := dk_3 (dk_at dksX3_fails_0 5 rfl rfl)
theorem dX3_fails_6 : decode cX3_fails 6 = .ok (.ireturn, 1) := dk_172 (dk_at dksX3_fails_0 6 rfl rfl)
abbrev cX3_place : ByteArray := prog_24_method_36_code
def yX3_place : MethodName := ⟨RX3, "place", "(II)I"⟩
def dkwX3_place_1 : List UInt8 := [154, 0, 9, 42, 4, 182, 0, 117, 172, 42, 5, 27, 28, 182, 0, 221, 172]
abbrev dktX3_place_1 : List UInt8 := dkwX3_place_1 ++ []
def dkwX3_place_0 : List UInt8 := [42, 3, 181, 0, 111, 27, 184, 0, 214, 153, 0, 16, 28, 2, 159, 0, 17, 42, 28, 182, 0, 218]
abbrev dktX3_place_0 : List UInt8 := dkwX3_place_0 ++ dktX3_place_1
theorem dksX3_place_0 : cX3_place.data.toList.drop 0 = dktX3_place_0 := by decide +kernel
theorem dksX3_place_1 : cX3_place.data.toList.drop 22 = dktX3_place_1 := dk_seg dksX3_place_0 22 rfl rfl
theorem dX3_place_0 : decode cX3_place 0 = .ok (.aload_n 0, 1) := dk_42 (dk_at dksX3_place_0 0 rfl rfl)
theorem dX3_place_1 : decode cX3_place 1 = .ok (.iconst 0, 1) := dk_3 (dk_at dksX3_place_0 1 rfl rfl)
theorem dX3_place_2 : decode cX3_place 2 = .ok (.putfield 111, 3) := dk_181 0 111 (dk_at dksX3_place_0 2 rfl rfl)
theorem dX3_place_5 : decode cX3_place 5 = .ok (.iload_n 1, 1) := dk_27 (dk_at dksX3_place_0 5 rfl rfl)
theorem dX3_place_6 : decode cX3_place 6 = .ok (.invokestatic 214, 3) := dk_184 0 214 (dk_at dksX3_place_0 6 rfl rfl)
theorem dX3_place_9 : decode cX3_place 9 = .ok (.ifCond .eq 16, 3) := dk_153 0 16 (dk_at dksX3_place_0 9 rfl rfl)
theorem dX3_place_12 : decode cX3_place 12 = .ok (.iload_n 2, 1) := dk_28 (dk_at dksX3_place_0 12 rfl rfl)
theorem dX3_place_13 : decode cX3_place 13 = .ok (.iconst (-1), 1) := dk_2 (dk_at dksX3_place_0 13 rfl rfl)
theorem dX3_place_14 : decode cX3_place 14 = .ok (.if_icmp .eq 17, 3) := dk_159 0 17 (dk_at dksX3_place_0 14 rfl rfl)
theorem dX3_place_17 : decode cX3_place 17 = .ok (.aload_n 0, 1) := dk_42 (dk_at dksX3_place_0 17 rfl rfl)
theorem dX3_place_18 : decode cX3_place 18 = .ok (.iload_n 2, 1) := dk_28 (dk_at dksX3_place_0 18 rfl rfl)
theorem dX3_place_19 : decode cX3_place 19 = .ok (.invokevirtual 218, 3) := dk_182 0 218 (dk_at dksX3_place_0 19 rfl rfl)
theorem dX3_place_22 : decode cX3_place 22 = .ok (.ifCond .ne 9, 3) := dk_154 0 9 (dk_at dksX3_place_1 0 rfl rfl)
theorem dX3_place_25 : decode cX3_place 25 = .ok (.aload_n 0, 1) := dk_42 (dk_at dksX3_place_1 3 rfl rfl)
theorem dX3_place_26 : decode cX3_place 26 = .ok (.iconst 1, 1) := dk_4 (dk_at dksX3_place_1 4 rfl rfl)
theorem dX3_place_27 : decode cX3_place 27 = .ok (.invokevirtual 117, 3) := dk_182 0 117 (dk_at dksX3_place_1 5 rfl rfl)
theorem dX3_place_30 : decode cX3_place 30 = .ok (.ireturn, 1) := dk_172 (dk_at dksX3_place_1 8 rfl rfl)
theorem dX3_place_31 : decode cX3_place 31 = .ok (.aload_n 0, 1) := dk_42 (dk_at dksX3_place_1 9 rfl rfl)
theorem dX3_place_32 : decode cX3_place 32 = .ok (.iconst 2, 1) := dk_5 (dk_at dksX3_place_1 10 rfl rfl)
theorem dX3_place_33 : decode cX3_place 33 = .ok (.iload_n 1, 1) := dk_27 (dk_at dksX3_place_1 11 rfl rfl)
theorem dX3_place_34 : decode cX3_place 34 = .ok (.iload_n 2, 1) := dk_28 (dk_at dksX3_place_1 12 rfl rfl)
theorem dX3_place_35 : decode cX3_place 35 = .ok (.invokevirtual 221, 3) := dk_182 0 221 (dk_at dksX3_place_1 13 rfl rfl)
theorem dX3_place_38 : decode cX3_place 38 = .ok (.ireturn, 1) := dk_172 (dk_at dksX3_place_1 16 rfl rfl)
abbrev cX3_isDancer : ByteArray := prog_24_method_6_code
def yX3_isDancer : MethodName := ⟨RX3, "isDancer", "(I)Z"⟩
def dkwX3_isDancer_0 : List UInt8 := [26, 3, 16, 7, 184, 0, 121, 172]
abbrev dktX3_isDancer_0 : List UInt8 := dkwX3_isDancer_0 ++ []
theorem dksX3_isDancer_0 : cX3_isDancer.data.toList.drop 0 = dktX3_isDancer_0 := by decide +kernel
theorem dX3_isDancer_0 : decode cX3_isDancer 0 = .ok (.iload_n 0, 1) := dk_26 (dk_at dksX3_isDancer_0 0 rfl rfl)
theorem dX3_isDancer_1 : decode cX3_isDancer 1 = .ok (.iconst 0, 1) := dk_3 (dk_at dksX3_isDancer_0 1 rfl rfl)
theorem dX3_isDancer_2 : decode cX3_isDancer 2 = .ok (.bipush 7, 2) := dk_16 7 (dk_at dksX3_isDancer_0 2 rfl rfl)
theorem dX3_isDancer_4 : decode cX3_isDancer 4 = .ok (.invokestatic 121, 3) := dk_184 0 121 (dk_at dksX3_isDancer_0 4 rfl rfl)
theorem dX3_isDancer_7 : decode cX3_isDancer 7 = .ok (.ireturn, 1) := dk_172 (dk_at dksX3_isDancer_0 7 rfl rfl)
abbrev cX3_isPlace : ByteArray := prog_24_method_7_code
def yX3_isPlace : MethodName := ⟨RX3, "isPlace", "(I)Z"⟩
def dkwX3_isPlace_0 : List UInt8 := [27, 3, 42, 180, 0, 7, 3, 46, 42, 180, 0, 7, 4, 46, 104, 4, 100, 184, 0, 121, 172]
abbrev dktX3_isPlace_0 : List UInt8 := dkwX3_isPlace_0 ++ []
theorem dksX3_isPlace_0 : cX3_isPlace.data.toList.drop 0 = dktX3_isPlace_0 := by decide +kernel
theorem dX3_isPlace_0 : decode cX3_isPlace 0 = .ok (.iload_n 1, 1) := dk_27 (dk_at dksX3_isPlace_0 0 rfl rfl)
theorem dX3_isPlace_1 : decode cX3_isPlace 1 = .ok (.iconst 0, 1) := dk_3 (dk_at dksX3_isPlace_0 1 rfl rfl)
theorem dX3_isPlace_2 : decode cX3_isPlace 2 = .ok (.aload_n 0, 1) := dk_42 (dk_at dksX3_isPlace_0 2 rfl rfl)
theorem dX3_isPlace_3 : decode cX3_isPlace 3 = .ok (.getfield 7, 3) := dk_180 0 7 (dk_at dksX3_isPlace_0 3 rfl rfl)
theorem dX3_isPlace_6 : decode cX3_isPlace 6 = .ok (.iconst 0, 1) := dk_3 (dk_at dksX3_isPlace_0 6 rfl rfl)
theorem dX3_isPlace_7 : decode cX3_isPlace 7 = .ok (.iaload, 1) := dk_46 (dk_at dksX3_isPlace_0 7 rfl rfl)
theorem dX3_isPlace_8 : decode cX3_isPlace 8 = .ok (.aload_n 0, 1) := dk_42 (dk_at dksX3_isPlace_0 8 rfl rfl)
theorem dX3_isPlace_9 : decode cX3_isPlace 9 = .ok (.getfield 7, 3) := dk_180 0 7 (dk_at dksX3_isPlace_0 9 rfl rfl)
theorem dX3_isPlace_12 : decode cX3_isPlace 12 = .ok (.iconst 1, 1) := dk_4 (dk_at dksX3_isPlace_0 12 rfl rfl)
theorem dX3_isPlace_13 : decode cX3_isPlace 13 = .ok (.iaload, 1) := dk_46 (dk_at dksX3_isPlace_0 13 rfl rfl)
theorem dX3_isPlace_14 : decode cX3_isPlace 14 = .ok (.imul, 1) := dk_104 (dk_at dksX3_isPlace_0 14 rfl rfl)
theorem dX3_isPlace_15 : decode cX3_isPlace 15 = .ok (.iconst 1, 1) := dk_4 (dk_at dksX3_isPlace_0 15 rfl rfl)
theorem dX3_isPlace_16 : decode cX3_isPlace 16 = .ok (.isub, 1) := dk_100 (dk_at dksX3_isPlace_0 16 rfl rfl)
theorem dX3_isPlace_17 : decode cX3_isPlace 17 = .ok (.invokestatic 121, 3) := dk_184 0 121 (dk_at dksX3_isPlace_0 17 rfl rfl)
theorem dX3_isPlace_20 : decode cX3_isPlace 20 = .ok (.ireturn, 1) := dk_172 (dk_at dksX3_isPlace_0 20 rfl rfl)
abbrev cX3_sets : ByteArray := prog_24_method_35_code
def yX3_sets : MethodName := ⟨RX3, "sets", "(III)I"⟩
def dkwX3_sets_1 : List UInt8 := [27, 28, 96, 46, 54, 4, 42, 180, 0, 7, 27, 28, 96, 29, 79, 42, 182, 0, 211, 21, 4, 172]
abbrev dktX3_sets_1 : List UInt8 := dkwX3_sets_1 ++ []
def dkwX3_sets_0 : List UInt8 := [42, 27, 28, 29, 182, 0, 205, 153, 0, 9, 42, 5, 182, 0, 117, 172, 42, 182, 0, 208, 42, 180, 0, 7]
abbrev dktX3_sets_0 : List UInt8 := dkwX3_sets_0 ++ dktX3_sets_1
theorem dksX3_sets_0 : cX3_sets.data.toList.drop 0 = dktX3_sets_0 := by decide +kernel
theorem dksX3_sets_1 : cX3_sets.data.toList.drop 24 = dktX3_sets_1 := dk_seg dksX3_sets_0 24 rfl rfl
theorem dX3_sets_0 : decode cX3_sets 0 = .ok (.aload_n 0, 1) := dk_42 (dk_at dksX3_sets_0 0 rfl rfl)
theorem dX3_sets_1 : decode cX3_sets 1 = .ok (.iload_n 1, 1) := dk_27 (dk_at dksX3_sets_0 1 rfl rfl)
theorem dX3_sets_2 : decode cX3_sets 2 = .ok (.iload_n 2, 1) := dk_28 (dk_at dksX3_sets_0 2 rfl rfl)
theorem dX3_sets_3 : decode cX3_sets 3 = .ok (.iload_n 3, 1) := dk_29 (dk_at dksX3_sets_0 3 rfl rfl)
theorem dX3_sets_4 : decode cX3_sets 4 = .ok (.invokevirtual 205, 3) := dk_182 0 205 (dk_at dksX3_sets_0 4 rfl rfl)
theorem dX3_sets_7 : decode cX3_sets 7 = .ok (.ifCond .eq 9, 3) := dk_153 0 9 (dk_at dksX3_sets_0 7 rfl rfl)
theorem dX3_sets_10 : decode cX3_sets 10 = .ok (.aload_n 0, 1) := dk_42 (dk_at dksX3_sets_0 10 rfl rfl)
theorem dX3_sets_11 : decode cX3_sets 11 = .ok (.iconst 2, 1) := dk_5 (dk_at dksX3_sets_0 11 rfl rfl)
theorem dX3_sets_12 : decode cX3_sets 12 = .ok (.invokevirtual 117, 3) := dk_182 0 117 (dk_at dksX3_sets_0 12 rfl rfl)
theorem dX3_sets_15 : decode cX3_sets 15 = .ok (.ireturn, 1) := dk_172 (dk_at dksX3_sets_0 15 rfl rfl)
theorem dX3_sets_16 : decode cX3_sets 16 = .ok (.aload_n 0, 1) := dk_42 (dk_at dksX3_sets_0 16 rfl rfl)
theorem dX3_sets_17 : decode cX3_sets 17 = .ok (.invokevirtual 208, 3) := dk_182 0 208 (dk_at dksX3_sets_0 17 rfl rfl)
theorem dX3_sets_20 : decode cX3_sets 20 = .ok (.aload_n 0, 1) := dk_42 (dk_at dksX3_sets_0 20 rfl rfl)
theorem dX3_sets_21 : decode cX3_sets 21 = .ok (.getfield 7, 3) := dk_180 0 7 (dk_at dksX3_sets_0 21 rfl rfl)
theorem dX3_sets_24 : decode cX3_sets 24 = .ok (.iload_n 1, 1) := dk_27 (dk_at dksX3_sets_1 0 rfl rfl)
theorem dX3_sets_25 : decode cX3_sets 25 = .ok (.iload_n 2, 1) := dk_28 (dk_at dksX3_sets_1 1 rfl rfl)
theorem dX3_sets_26 : decode cX3_sets 26 = .ok (.iadd, 1) := dk_96 (dk_at dksX3_sets_1 2 rfl rfl)
theorem dX3_sets_27 : decode cX3_sets 27 = .ok (.iaload, 1) := dk_46 (dk_at dksX3_sets_1 3 rfl rfl)
theorem dX3_sets_28 : decode cX3_sets 28 = .ok (.istore 4, 2) := dk_54 4 (dk_at dksX3_sets_1 4 rfl rfl)
theorem dX3_sets_30 : decode cX3_sets 30 = .ok (.aload_n 0, 1) := dk_42 (dk_at dksX3_sets_1 6 rfl rfl)
theorem dX3_sets_31 : decode cX3_sets 31 = .ok (.getfield 7, 3) := dk_180 0 7 (dk_at dksX3_sets_1 7 rfl rfl)
theorem dX3_sets_34 : decode cX3_sets 34 = .ok (.iload_n 1, 1) := dk_27 (dk_at dksX3_sets_1 10 rfl rfl)
theorem dX3_sets_35 : decode cX3_sets 35 = .ok (.iload_n 2, 1) := dk_28 (dk_at dksX3_sets_1 11 rfl rfl)
theorem dX3_sets_36 : decode cX3_sets 36 = .ok (.iadd, 1) := dk_96 (dk_at dksX3_sets_1 12 rfl rfl)
theorem dX3_sets_37 : decode cX3_sets 37 = .ok (.iload_n 3, 1) := dk_29 (dk_at dksX3_sets_1 13 rfl rfl)
theorem dX3_sets_38 : decode cX3_sets 38 = .ok (.iastore, 1) := dk_79 (dk_at dksX3_sets_1 14 rfl rfl)
theorem dX3_sets_39 : decode cX3_sets 39 = .ok (.aload_n 0, 1) := dk_42 (dk_at dksX3_sets_1 15 rfl rfl)
theorem dX3_sets_40 : decode cX3_sets 40 = .ok (.invokevirtual 211, 3) := dk_182 0 211 (dk_at dksX3_sets_1 16 rfl rfl)
theorem dX3_sets_43 : decode cX3_sets 43 = .ok (.iload 4, 2) := dk_21 4 (dk_at dksX3_sets_1 19 rfl rfl)
theorem dX3_sets_45 : decode cX3_sets 45 = .ok (.ireturn, 1) := dk_172 (dk_at dksX3_sets_1 21 rfl rfl)
abbrev cX3_isTaken : ByteArray := prog_24_method_34_code
def yX3_isTaken : MethodName := ⟨RX3, "isTaken", "(III)Z"⟩
def dkwX3_isTaken_2 : List UInt8 := [54, 4, 132, 5, 1, 167, 255, 210, 21, 4, 172]
abbrev dktX3_isTaken_2 : List UInt8 := dkwX3_isTaken_2 ++ []
def dkwX3_isTaken_1 : List UInt8 := [29, 2, 159, 0, 20, 42, 180, 0, 7, 27, 21, 5, 96, 46, 29, 160, 0, 7, 4, 167, 0, 4, 3]
abbrev dktX3_isTaken_1 : List UInt8 := dkwX3_isTaken_1 ++ dktX3_isTaken_2
def dkwX3_isTaken_0 : List UInt8 := [3, 54, 4, 3, 54, 5, 21, 5, 16, 8, 162, 0, 45, 21, 4, 154, 0, 27, 21, 5, 28, 159, 0, 25]
abbrev dktX3_isTaken_0 : List UInt8 := dkwX3_isTaken_0 ++ dktX3_isTaken_1
theorem dksX3_isTaken_0 : cX3_isTaken.data.toList.drop 0 = dktX3_isTaken_0 := by decide +kernel
theorem dksX3_isTaken_1 : cX3_isTaken.data.toList.drop 24 = dktX3_isTaken_1 := dk_seg dksX3_isTaken_0 24 rfl rfl
theorem dksX3_isTaken_2 : cX3_isTaken.data.toList.drop 47 = dktX3_isTaken_2 := dk_seg dksX3_isTaken_1 23 rfl rfl
theorem dX3_isTaken_0 : decode cX3_isTaken 0 = .ok (.iconst 0, 1) := dk_3 (dk_at dksX3_isTaken_0 0 rfl rfl)
theorem dX3_isTaken_1 : decode cX3_isTaken 1 = .ok (.istore 4, 2) := dk_54 4 (dk_at dksX3_isTaken_0 1 rfl rfl)
theorem dX3_isTaken_3 : decode cX3_isTaken 3 = .ok (.iconst 0, 1) := dk_3 (dk_at dksX3_isTaken_0 3 rfl rfl)
theorem dX3_isTaken_4 : decode cX3_isTaken 4 = .ok (.istore 5, 2) := dk_54 5 (dk_at dksX3_isTaken_0 4 rfl rfl)
theorem dX3_isTaken_6 : decode cX3_isTaken 6 = .ok (.iload 5, 2) := dk_21 5 (dk_at dksX3_isTaken_0 6 rfl rfl)
theorem dX3_isTaken_8 : decode cX3_isTaken 8 = .ok (.bipush 8, 2) := dk_16 8 (dk_at dksX3_isTaken_0 8 rfl rfl)
theorem dX3_isTaken_10 : decode cX3_isTaken 10 = .ok (.if_icmp .ge 45, 3) := dk_162 0 45 (dk_at dksX3_isTaken_0 10 rfl rfl)
theorem dX3_isTaken_13 : decode cX3_isTaken 13 = .ok (.iload 4, 2) := dk_21 4 (dk_at dksX3_isTaken_0 13 rfl rfl)
theorem dX3_isTaken_15 : decode cX3_isTaken 15 = .ok (.ifCond .ne 27, 3) := dk_154 0 27 (dk_at dksX3_isTaken_0 15 rfl rfl)
theorem dX3_isTaken_18 : decode cX3_isTaken 18 = .ok (.iload 5, 2) := dk_21 5 (dk_at dksX3_isTaken_0 18 rfl rfl)
theorem dX3_isTaken_20 : decode cX3_isTaken 20 = .ok (.iload_n 2, 1) := dk_28 (dk_at dksX3_isTaken_0 20 rfl rfl)
theorem dX3_isTaken_21 : decode cX3_isTaken 21 = .ok (.if_icmp .eq 25, 3) := dk_159 0 25 (dk_at dksX3_isTaken_0 21 rfl rfl)
theorem dX3_isTaken_24 : decode cX3_isTaken 24 = .ok (.iload_n 3, 1) := dk_29 (dk_at dksX3_isTaken_1 0 rfl rfl)
theorem dX3_isTaken_25 : decode cX3_isTaken 25 = .ok (.iconst (-1), 1) := dk_2 (dk_at dksX3_isTaken_1 1 rfl rfl)
theorem dX3_isTaken_26 : decode cX3_isTaken 26 = .ok (.if_icmp .eq 20, 3) := dk_159 0 20 (dk_at dksX3_isTaken_1 2 rfl rfl)
theorem dX3_isTaken_29 : decode cX3_isTaken 29 = .ok (.aload_n 0, 1) := dk_42 (dk_at dksX3_isTaken_1 5 rfl rfl)
theorem dX3_isTaken_30 : decode cX3_isTaken 30 = .ok (.getfield 7, 3) := dk_180 0 7 (dk_at dksX3_isTaken_1 6 rfl rfl)
theorem dX3_isTaken_33 : decode cX3_isTaken 33 = .ok (.iload_n 1, 1) := dk_27 (dk_at dksX3_isTaken_1 9 rfl rfl)
theorem dX3_isTaken_34 : decode cX3_isTaken 34 = .ok (.iload 5, 2) := dk_21 5 (dk_at dksX3_isTaken_1 10 rfl rfl)
theorem dX3_isTaken_36 : decode cX3_isTaken 36 = .ok (.iadd, 1) := dk_96 (dk_at dksX3_isTaken_1 12 rfl rfl)
theorem dX3_isTaken_37 : decode cX3_isTaken 37 = .ok (.iaload, 1) := dk_46 (dk_at dksX3_isTaken_1 13 rfl rfl)
theorem dX3_isTaken_38 : decode cX3_isTaken 38 = .ok (.iload_n 3, 1) := dk_29 (dk_at dksX3_isTaken_1 14 rfl rfl)
theorem dX3_isTaken_39 : decode cX3_isTaken 39 = .ok (.if_icmp .ne 7, 3) := dk_160 0 7 (dk_at dksX3_isTaken_1 15 rfl rfl)
theorem dX3_isTaken_42 : decode cX3_isTaken 42 = .ok (.iconst 1, 1) := dk_4 (dk_at dksX3_isTaken_1 18 rfl rfl)
theorem dX3_isTaken_43 : decode cX3_isTaken 43 = .ok (.goto 4, 3) := dk_167 0 4 (dk_at dksX3_isTaken_1 19 rfl rfl)
theorem dX3_isTaken_46 : decode cX3_isTaken 46 = .ok (.iconst 0, 1) := dk_3 (dk_at dksX3_isTaken_1 22 rfl rfl)
theorem dX3_isTaken_47 : decode cX3_isTaken 47 = .ok (.istore 4, 2) := dk_54 4 (dk_at dksX3_isTaken_2 0 rfl rfl)
theorem dX3_isTaken_49 : decode cX3_isTaken 49 = .ok (.iinc 5 1, 3) := dk_132 5 1 (dk_at dksX3_isTaken_2 2 rfl rfl)
theorem dX3_isTaken_52 : decode cX3_isTaken 52 = .ok (.goto (-46), 3) := dk_167 255 210 (dk_at dksX3_isTaken_2 5 rfl rfl)
theorem dX3_isTaken_55 : decode cX3_isTaken 55 = .ok (.iload 4, 2) := dk_21 4 (dk_at dksX3_isTaken_2 8 rfl rfl)
theorem dX3_isTaken_57 : decode cX3_isTaken 57 = .ok (.ireturn, 1) := dk_172 (dk_at dksX3_isTaken_2 10 rfl rfl)
abbrev cX3_frames : ByteArray := prog_24_method_9_code
def yX3_frames : MethodName := ⟨RX3, "frames", "()V"⟩
def dkwX3_frames_1 : List UInt8 := [167, 255, 234, 177]
abbrev dktX3_frames_1 : List UInt8 := dkwX3_frames_1 ++ []
def dkwX3_frames_0 : List UInt8 := [3, 60, 27, 17, 33, 197, 162, 0, 21, 42, 180, 0, 16, 27, 42, 180, 0, 7, 27, 46, 79, 132, 1, 1]
abbrev dktX3_frames_0 : List UInt8 := dkwX3_frames_0 ++ dktX3_frames_1
theorem dksX3_frames_0 : cX3_frames.data.toList.drop 0 = dktX3_frames_0 := by decide +kernel
theorem dksX3_frames_1 : cX3_frames.data.toList.drop 24 = dktX3_frames_1 := dk_seg dksX3_frames_0 24 rfl rfl
theorem dX3_frames_0 : decode cX3_frames 0 = .ok (.iconst 0, 1) := dk_3 (dk_at dksX3_frames_0 0 rfl rfl)
theorem dX3_frames_1 : decode cX3_frames 1 = .ok (.istore_n 1, 1) := dk_60 (dk_at dksX3_frames_0 1 rfl rfl)
theorem dX3_frames_2 : decode cX3_frames 2 = .ok (.iload_n 1, 1) := dk_27 (dk_at dksX3_frames_0 2 rfl rfl)
theorem dX3_frames_3 : decode cX3_frames 3 = .ok (.sipush 8645, 3) := dk_17 33 197 (dk_at dksX3_frames_0 3 rfl rfl)
theorem dX3_frames_6 : decode cX3_frames 6 = .ok (.if_icmp .ge 21, 3) := dk_162 0 21 (dk_at dksX3_frames_0 6 rfl rfl)
theorem dX3_frames_9 : decode cX3_frames 9 = .ok (.aload_n 0, 1) := dk_42 (dk_at dksX3_frames_0 9 rfl rfl)
theorem dX3_frames_10 : decode cX3_frames 10 = .ok (.getfield 16, 3) := dk_180 0 16 (dk_at dksX3_frames_0 10 rfl rfl)
theorem dX3_frames_13 : decode cX3_frames 13 = .ok (.iload_n 1, 1) := dk_27 (dk_at dksX3_frames_0 13 rfl rfl)
theorem dX3_frames_14 : decode cX3_frames 14 = .ok (.aload_n 0, 1) := dk_42 (dk_at dksX3_frames_0 14 rfl rfl)
theorem dX3_frames_15 : decode cX3_frames 15 = .ok (.getfield 7, 3) := dk_180 0 7 (dk_at dksX3_frames_0 15 rfl rfl)
theorem dX3_frames_18 : decode cX3_frames 18 = .ok (.iload_n 1, 1) := dk_27 (dk_at dksX3_frames_0 18 rfl rfl)
theorem dX3_frames_19 : decode cX3_frames 19 = .ok (.iaload, 1) := dk_46 (dk_at dksX3_frames_0 19 rfl rfl)
theorem dX3_frames_20 : decode cX3_frames 20 = .ok (.iastore, 1) := dk_79 (dk_at dksX3_frames_0 20 rfl rfl)
theorem dX3_frames_21 : decode cX3_frames 21 = .ok (.iinc 1 1, 3) := dk_132 1 1 (dk_at dksX3_frames_0 21 rfl rfl)
theorem dX3_frames_24 : decode cX3_frames 24 = .ok (.goto (-22), 3) := dk_167 255 234 (dk_at dksX3_frames_1 0 rfl rfl)
theorem dX3_frames_27 : decode cX3_frames 27 = .ok (.return_, 1) := dk_177 (dk_at dksX3_frames_1 3 rfl rfl)
abbrev cX3_keeps : ByteArray := prog_24_method_11_code
def yX3_keeps : MethodName := ⟨RX3, "keeps", "()V"⟩
def dkwX3_keeps_4 : List UInt8 := [181, 0, 128, 177]
abbrev dktX3_keeps_4 : List UInt8 := dkwX3_keeps_4 ++ []
def dkwX3_keeps_3 : List UInt8 := [180, 0, 125, 4, 100, 104, 27, 96, 42, 180, 0, 16, 27, 46, 79, 132, 1, 1, 167, 255, 223, 42, 3]
abbrev dktX3_keeps_3 : List UInt8 := dkwX3_keeps_3 ++ dktX3_keeps_4
def dkwX3_keeps_2 : List UInt8 := [4, 96, 181, 0, 125, 3, 60, 27, 17, 33, 197, 162, 0, 32, 42, 180, 0, 20, 17, 33, 197, 42]
abbrev dktX3_keeps_2 : List UInt8 := dkwX3_keeps_2 ++ dktX3_keeps_3
def dkwX3_keeps_1 : List UInt8 := [180, 0, 20, 27, 17, 33, 197, 96, 46, 79, 132, 1, 1, 167, 255, 231, 167, 0, 13, 42, 89, 180, 0, 125]
abbrev dktX3_keeps_1 : List UInt8 := dkwX3_keeps_1 ++ dktX3_keeps_2
def dkwX3_keeps_0 : List UInt8 := [42, 180, 0, 125, 16, 8, 160, 0, 36, 3, 60, 27, 18, 132, 162, 0, 25, 42, 180, 0, 20, 27, 42]
abbrev dktX3_keeps_0 : List UInt8 := dkwX3_keeps_0 ++ dktX3_keeps_1
theorem dksX3_keeps_0 : cX3_keeps.data.toList.drop 0 = dktX3_keeps_0 := by decide +kernel
theorem dksX3_keeps_1 : cX3_keeps.data.toList.drop 23 = dktX3_keeps_1 := dk_seg dksX3_keeps_0 23 rfl rfl
theorem dksX3_keeps_2 : cX3_keeps.data.toList.drop 47 = dktX3_keeps_2 := dk_seg dksX3_keeps_1 24 rfl rfl
theorem dksX3_keeps_3 : cX3_keeps.data.toList.drop 69 = dktX3_keeps_3 := dk_seg dksX3_keeps_2 22 rfl rfl
theorem dksX3_keeps_4 : cX3_keeps.data.toList.drop 92 = dktX3_keeps_4 := dk_seg dksX3_keeps_3 23 rfl rfl
theorem dX3_keeps_0 : decode cX3_keeps 0 = .ok (.aload_n 0, 1) := dk_42 (dk_at dksX3_keeps_0 0 rfl rfl)
theorem dX3_keeps_1 : decode cX3_keeps 1 = .ok (.getfield 125, 3) := dk_180 0 125 (dk_at dksX3_keeps_0 1 rfl rfl)
theorem dX3_keeps_4 : decode cX3_keeps 4 = .ok (.bipush 8, 2) := dk_16 8 (dk_at dksX3_keeps_0 4 rfl rfl)
theorem dX3_keeps_6 : decode cX3_keeps 6 = .ok (.if_icmp .ne 36, 3) := dk_160 0 36 (dk_at dksX3_keeps_0 6 rfl rfl)
theorem dX3_keeps_9 : decode cX3_keeps 9 = .ok (.iconst 0, 1) := dk_3 (dk_at dksX3_keeps_0 9 rfl rfl)
theorem dX3_keeps_10 : decode cX3_keeps 10 = .ok (.istore_n 1, 1) := dk_60 (dk_at dksX3_keeps_0 10 rfl rfl)
theorem dX3_keeps_11 : decode cX3_keeps 11 = .ok (.iload_n 1, 1) := dk_27 (dk_at dksX3_keeps_0 11 rfl rfl)
theorem dX3_keeps_12 : decode cX3_keeps 12 = .ok (.ldc 132, 2) := dk_18 132 (dk_at dksX3_keeps_0 12 rfl rfl)
theorem dX3_keeps_14 : decode cX3_keeps 14 = .ok (.if_icmp .ge 25, 3) := dk_162 0 25 (dk_at dksX3_keeps_0 14 rfl rfl)
theorem dX3_keeps_17 : decode cX3_keeps 17 = .ok (.aload_n 0, 1) := dk_42 (dk_at dksX3_keeps_0 17 rfl rfl)
theorem dX3_keeps_18 : decode cX3_keeps 18 = .ok (.getfield 20, 3) := dk_180 0 20 (dk_at dksX3_keeps_0 18 rfl rfl)
theorem dX3_keeps_21 : decode cX3_keeps 21 = .ok (.iload_n 1, 1) := dk_27 (dk_at dksX3_keeps_0 21 rfl rfl)
theorem dX3_keeps_22 : decode cX3_keeps 22 = .ok (.aload_n 0, 1) := dk_42 (dk_at dksX3_keeps_0 22 rfl rfl)
theorem dX3_keeps_23 : decode cX3_keeps 23 = .ok (.getfield 20, 3) := dk_180 0 20 (dk_at dksX3_keeps_1 0 rfl rfl)
theorem dX3_keeps_26 : decode cX3_keeps 26 = .ok (.iload_n 1, 1) := dk_27 (dk_at dksX3_keeps_1 3 rfl rfl)
theorem dX3_keeps_27 : decode cX3_keeps 27 = .ok (.sipush 8645, 3) := dk_17 33 197 (dk_at dksX3_keeps_1 4 rfl rfl)
theorem dX3_keeps_30 : decode cX3_keeps 30 = .ok (.iadd, 1) := dk_96 (dk_at dksX3_keeps_1 7 rfl rfl)
theorem dX3_keeps_31 : decode cX3_keeps 31 = .ok (.iaload, 1) := dk_46 (dk_at dksX3_keeps_1 8 rfl rfl)
theorem dX3_keeps_32 : decode cX3_keeps 32 = .ok (.iastore, 1) := dk_79 (dk_at dksX3_keeps_1 9 rfl rfl)
theorem dX3_keeps_33 : decode cX3_keeps 33 = .ok (.iinc 1 1, 3) := dk_132 1 1 (dk_at dksX3_keeps_1 10 rfl rfl)
theorem dX3_keeps_36 : decode cX3_keeps 36 = .ok (.goto (-25), 3) := dk_167 255 231 (dk_at dksX3_keeps_1 13 rfl rfl)
theorem dX3_keeps_39 : decode cX3_keeps 39 = .ok (.goto 13, 3) := dk_167 0 13 (dk_at dksX3_keeps_1 16 rfl rfl)
theorem dX3_keeps_42 : decode cX3_keeps 42 = .ok (.aload_n 0, 1) := dk_42 (dk_at dksX3_keeps_1 19 rfl rfl)
theorem dX3_keeps_43 : decode cX3_keeps 43 = .ok (.dup, 1) := dk_89 (dk_at dksX3_keeps_1 20 rfl rfl)
theorem dX3_keeps_44 : decode cX3_keeps 44 = .ok (.getfield 125, 3) := dk_180 0 125 (dk_at dksX3_keeps_1 21 rfl rfl)
theorem dX3_keeps_47 : decode cX3_keeps 47 = .ok (.iconst 1, 1) := dk_4 (dk_at dksX3_keeps_2 0 rfl rfl)
theorem dX3_keeps_48 : decode cX3_keeps 48 = .ok (.iadd, 1) := dk_96 (dk_at dksX3_keeps_2 1 rfl rfl)
theorem dX3_keeps_49 : decode cX3_keeps 49 = .ok (.putfield 125, 3) := dk_181 0 125 (dk_at dksX3_keeps_2 2 rfl rfl)
theorem dX3_keeps_52 : decode cX3_keeps 52 = .ok (.iconst 0, 1) := dk_3 (dk_at dksX3_keeps_2 5 rfl rfl)
theorem dX3_keeps_53 : decode cX3_keeps 53 = .ok (.istore_n 1, 1) := dk_60 (dk_at dksX3_keeps_2 6 rfl rfl)
theorem dX3_keeps_54 : decode cX3_keeps 54 = .ok (.iload_n 1, 1) := dk_27 (dk_at dksX3_keeps_2 7 rfl rfl)
theorem dX3_keeps_55 : decode cX3_keeps 55 = .ok (.sipush 8645, 3) := dk_17 33 197 (dk_at dksX3_keeps_2 8 rfl rfl)
theorem dX3_keeps_58 : decode cX3_keeps 58 = .ok (.if_icmp .ge 32, 3) := dk_162 0 32 (dk_at dksX3_keeps_2 11 rfl rfl)
theorem dX3_keeps_61 : decode cX3_keeps 61 = .ok (.aload_n 0, 1) := dk_42 (dk_at dksX3_keeps_2 14 rfl rfl)
theorem dX3_keeps_62 : decode cX3_keeps 62 = .ok (.getfield 20, 3) := dk_180 0 20 (dk_at dksX3_keeps_2 15 rfl rfl)
theorem dX3_keeps_65 : decode cX3_keeps 65 = .ok (.sipush 8645, 3) := dk_17 33 197 (dk_at dksX3_keeps_2 18 rfl rfl)
theorem dX3_keeps_68 : decode cX3_keeps 68 = .ok (.aload_n 0, 1) := dk_42 (dk_at dksX3_keeps_2 21 rfl rfl)
theorem dX3_keeps_69 : decode cX3_keeps 69 = .ok (.getfield 125, 3) := dk_180 0 125 (dk_at dksX3_keeps_3 0 rfl rfl)
theorem dX3_keeps_72 : decode cX3_keeps 72 = .ok (.iconst 1, 1) := dk_4 (dk_at dksX3_keeps_3 3 rfl rfl)
theorem dX3_keeps_73 : decode cX3_keeps 73 = .ok (.isub, 1) := dk_100 (dk_at dksX3_keeps_3 4 rfl rfl)
theorem dX3_keeps_74 : decode cX3_keeps 74 = .ok (.imul, 1) := dk_104 (dk_at dksX3_keeps_3 5 rfl rfl)
theorem dX3_keeps_75 : decode cX3_keeps 75 = .ok (.iload_n 1, 1) := dk_27 (dk_at dksX3_keeps_3 6 rfl rfl)
theorem dX3_keeps_76 : decode cX3_keeps 76 = .ok (.iadd, 1) := dk_96 (dk_at dksX3_keeps_3 7 rfl rfl)
theorem dX3_keeps_77 : decode cX3_keeps 77 = .ok (.aload_n 0, 1) := dk_42 (dk_at dksX3_keeps_3 8 rfl rfl)
theorem dX3_keeps_78 : decode cX3_keeps 78 = .ok (.getfield 16, 3) := dk_180 0 16 (dk_at dksX3_keeps_3 9 rfl rfl)
theorem dX3_keeps_81 : decode cX3_keeps 81 = .ok (.iload_n 1, 1) := dk_27 (dk_at dksX3_keeps_3 12 rfl rfl)
theorem dX3_keeps_82 : decode cX3_keeps 82 = .ok (.iaload, 1) := dk_46 (dk_at dksX3_keeps_3 13 rfl rfl)
theorem dX3_keeps_83 : decode cX3_keeps 83 = .ok (.iastore, 1) := dk_79 (dk_at dksX3_keeps_3 14 rfl rfl)
theorem dX3_keeps_84 : decode cX3_keeps 84 = .ok (.iinc 1 1, 3) := dk_132 1 1 (dk_at dksX3_keeps_3 15 rfl rfl)
theorem dX3_keeps_87 : decode cX3_keeps 87 = .ok (.goto (-33), 3) := dk_167 255 223 (dk_at dksX3_keeps_3 18 rfl rfl)
theorem dX3_keeps_90 : decode cX3_keeps 90 = .ok (.aload_n 0, 1) := dk_42 (dk_at dksX3_keeps_3 21 rfl rfl)
theorem dX3_keeps_91 : decode cX3_keeps 91 = .ok (.iconst 0, 1) := dk_3 (dk_at dksX3_keeps_3 22 rfl rfl)
theorem dX3_keeps_92 : decode cX3_keeps 92 = .ok (.putfield 128, 3) := dk_181 0 128 (dk_at dksX3_keeps_4 0 rfl rfl)
theorem dX3_keeps_95 : decode cX3_keeps 95 = .ok (.return_, 1) := dk_177 (dk_at dksX3_keeps_4 3 rfl rfl)
abbrev cX3_append : ByteArray := prog_24_method_37_code
def yX3_append : MethodName := ⟨RX3, "append", "(C)I"⟩
def dkwX3_append_2 : List UInt8 := [42, 89, 180, 0, 225, 4, 96, 181, 0, 225, 42, 180, 0, 225, 172]
abbrev dktX3_append_2 : List UInt8 := dkwX3_append_2 ++ []
def dkwX3_append_1 : List UInt8 := [180, 0, 225, 16, 100, 160, 0, 9, 42, 5, 182, 0, 117, 172, 42, 180, 0, 27, 42, 180, 0, 225, 27, 79]
abbrev dktX3_append_1 : List UInt8 := dkwX3_append_1 ++ dktX3_append_2
def dkwX3_append_0 : List UInt8 := [42, 3, 181, 0, 111, 27, 16, 32, 16, 126, 184, 0, 121, 154, 0, 9, 42, 4, 182, 0, 117, 172, 42]
abbrev dktX3_append_0 : List UInt8 := dkwX3_append_0 ++ dktX3_append_1
theorem dksX3_append_0 : cX3_append.data.toList.drop 0 = dktX3_append_0 := by decide +kernel
theorem dksX3_append_1 : cX3_append.data.toList.drop 23 = dktX3_append_1 := dk_seg dksX3_append_0 23 rfl rfl
theorem dksX3_append_2 : cX3_append.data.toList.drop 47 = dktX3_append_2 := dk_seg dksX3_append_1 24 rfl rfl
theorem dX3_append_0 : decode cX3_append 0 = .ok (.aload_n 0, 1) := dk_42 (dk_at dksX3_append_0 0 rfl rfl)
theorem dX3_append_1 : decode cX3_append 1 = .ok (.iconst 0, 1) := dk_3 (dk_at dksX3_append_0 1 rfl rfl)
theorem dX3_append_2 : decode cX3_append 2 = .ok (.putfield 111, 3) := dk_181 0 111 (dk_at dksX3_append_0 2 rfl rfl)
theorem dX3_append_5 : decode cX3_append 5 = .ok (.iload_n 1, 1) := dk_27 (dk_at dksX3_append_0 5 rfl rfl)
theorem dX3_append_6 : decode cX3_append 6 = .ok (.bipush 32, 2) := dk_16 32 (dk_at dksX3_append_0 6 rfl rfl)
theorem dX3_append_8 : decode cX3_append 8 = .ok (.bipush 126, 2) := dk_16 126 (dk_at dksX3_append_0 8 rfl rfl)
theorem dX3_append_10 : decode cX3_append 10 = .ok (.invokestatic 121, 3) := dk_184 0 121 (dk_at dksX3_append_0 10 rfl rfl)
theorem dX3_append_13 : decode cX3_append 13 = .ok (.ifCond .ne 9, 3) := dk_154 0 9 (dk_at dksX3_append_0 13 rfl rfl)
theorem dX3_append_16 : decode cX3_append 16 = .ok (.aload_n 0, 1) := dk_42 (dk_at dksX3_append_0 16 rfl rfl)
theorem dX3_append_17 : decode cX3_append 17 = .ok (.iconst 1, 1) := dk_4 (dk_at dksX3_append_0 17 rfl rfl)
theorem dX3_append_18 : decode cX3_append 18 = .ok (.invokevirtual 117, 3) := dk_182 0 117 (dk_at dksX3_append_0 18 rfl rfl)
theorem dX3_append_21 : decode cX3_append 21 = .ok (.ireturn, 1) := dk_172 (dk_at dksX3_append_0 21 rfl rfl)
theorem dX3_append_22 : decode cX3_append 22 = .ok (.aload_n 0, 1) := dk_42 (dk_at dksX3_append_0 22 rfl rfl)
theorem dX3_append_23 : decode cX3_append 23 = .ok (.getfield 225, 3) := dk_180 0 225 (dk_at dksX3_append_1 0 rfl rfl)
theorem dX3_append_26 : decode cX3_append 26 = .ok (.bipush 100, 2) := dk_16 100 (dk_at dksX3_append_1 3 rfl rfl)
theorem dX3_append_28 : decode cX3_append 28 = .ok (.if_icmp .ne 9, 3) := dk_160 0 9 (dk_at dksX3_append_1 5 rfl rfl)
theorem dX3_append_31 : decode cX3_append 31 = .ok (.aload_n 0, 1) := dk_42 (dk_at dksX3_append_1 8 rfl rfl)
theorem dX3_append_32 : decode cX3_append 32 = .ok (.iconst 2, 1) := dk_5 (dk_at dksX3_append_1 9 rfl rfl)
theorem dX3_append_33 : decode cX3_append 33 = .ok (.invokevirtual 117, 3) := dk_182 0 117 (dk_at dksX3_append_1 10 rfl rfl)
theorem dX3_append_36 : decode cX3_append 36 = .ok (.ireturn, 1) := dk_172 (dk_at dksX3_append_1 13 rfl rfl)
theorem dX3_append_37 : decode cX3_append 37 = .ok (.aload_n 0, 1) := dk_42 (dk_at dksX3_append_1 14 rfl rfl)
theorem dX3_append_38 : decode cX3_append 38 = .ok (.getfield 27, 3) := dk_180 0 27 (dk_at dksX3_append_1 15 rfl rfl)
theorem dX3_append_41 : decode cX3_append 41 = .ok (.aload_n 0, 1) := dk_42 (dk_at dksX3_append_1 18 rfl rfl)
theorem dX3_append_42 : decode cX3_append 42 = .ok (.getfield 225, 3) := dk_180 0 225 (dk_at dksX3_append_1 19 rfl rfl)
theorem dX3_append_45 : decode cX3_append 45 = .ok (.iload_n 1, 1) := dk_27 (dk_at dksX3_append_1 22 rfl rfl)
theorem dX3_append_46 : decode cX3_append 46 = .ok (.iastore, 1) := dk_79 (dk_at dksX3_append_1 23 rfl rfl)
theorem dX3_append_47 : decode cX3_append 47 = .ok (.aload_n 0, 1) := dk_42 (dk_at dksX3_append_2 0 rfl rfl)
theorem dX3_append_48 : decode cX3_append 48 = .ok (.dup, 1) := dk_89 (dk_at dksX3_append_2 1 rfl rfl)
theorem dX3_append_49 : decode cX3_append 49 = .ok (.getfield 225, 3) := dk_180 0 225 (dk_at dksX3_append_2 2 rfl rfl)
theorem dX3_append_52 : decode cX3_append 52 = .ok (.iconst 1, 1) := dk_4 (dk_at dksX3_append_2 5 rfl rfl)
theorem dX3_append_53 : decode cX3_append 53 = .ok (.iadd, 1) := dk_96 (dk_at dksX3_append_2 6 rfl rfl)
theorem dX3_append_54 : decode cX3_append 54 = .ok (.putfield 225, 3) := dk_181 0 225 (dk_at dksX3_append_2 7 rfl rfl)
theorem dX3_append_57 : decode cX3_append 57 = .ok (.aload_n 0, 1) := dk_42 (dk_at dksX3_append_2 10 rfl rfl)
theorem dX3_append_58 : decode cX3_append 58 = .ok (.getfield 225, 3) := dk_180 0 225 (dk_at dksX3_append_2 11 rfl rfl)
theorem dX3_append_61 : decode cX3_append 61 = .ok (.ireturn, 1) := dk_172 (dk_at dksX3_append_2 14 rfl rfl)
abbrev cX3_read : ByteArray := prog_24_method_50_code
def yX3_read : MethodName := ⟨RX3, "read", "()I"⟩
def dkwX3_read_4 : List UInt8 := [180, 0, 156, 167, 0, 7, 42, 180, 0, 23, 181, 0, 23, 42, 182, 1, 26, 42, 5, 182, 0, 117, 172]
abbrev dktX3_read_4 : List UInt8 := dkwX3_read_4 ++ []
def dkwX3_read_3 : List UInt8 := [180, 0, 141, 172, 42, 42, 180, 0, 153, 181, 0, 114, 42, 42, 180, 0, 153, 4, 160, 0, 10, 42]
abbrev dktX3_read_3 : List UInt8 := dkwX3_read_3 ++ dktX3_read_4
def dkwX3_read_2 : List UInt8 := [181, 0, 128, 42, 182, 0, 199, 42, 180, 0, 153, 154, 0, 16, 42, 182, 0, 211, 42, 182, 0, 199, 42]
abbrev dktX3_read_2 : List UInt8 := dkwX3_read_2 ++ dktX3_read_3
def dkwX3_read_1 : List UInt8 := [42, 180, 0, 228, 181, 0, 30, 42, 182, 1, 26, 42, 4, 182, 0, 117, 172, 42, 182, 1, 29, 42, 3]
abbrev dktX3_read_1 : List UInt8 := dkwX3_read_1 ++ dktX3_read_2
def dkwX3_read_0 : List UInt8 := [42, 3, 181, 0, 111, 42, 182, 0, 208, 42, 182, 1, 23, 60, 42, 3, 181, 0, 225, 27, 154, 0, 21, 42]
abbrev dktX3_read_0 : List UInt8 := dkwX3_read_0 ++ dktX3_read_1
theorem dksX3_read_0 : cX3_read.data.toList.drop 0 = dktX3_read_0 := by decide +kernel
theorem dksX3_read_1 : cX3_read.data.toList.drop 24 = dktX3_read_1 := dk_seg dksX3_read_0 24 rfl rfl
theorem dksX3_read_2 : cX3_read.data.toList.drop 47 = dktX3_read_2 := dk_seg dksX3_read_1 23 rfl rfl
theorem dksX3_read_3 : cX3_read.data.toList.drop 70 = dktX3_read_3 := dk_seg dksX3_read_2 23 rfl rfl
theorem dksX3_read_4 : cX3_read.data.toList.drop 92 = dktX3_read_4 := dk_seg dksX3_read_3 22 rfl rfl
theorem dX3_read_0 : decode cX3_read 0 = .ok (.aload_n 0, 1) := dk_42 (dk_at dksX3_read_0 0 rfl rfl)
theorem dX3_read_1 : decode cX3_read 1 = .ok (.iconst 0, 1) := dk_3 (dk_at dksX3_read_0 1 rfl rfl)
theorem dX3_read_2 : decode cX3_read 2 = .ok (.putfield 111, 3) := dk_181 0 111 (dk_at dksX3_read_0 2 rfl rfl)
theorem dX3_read_5 : decode cX3_read 5 = .ok (.aload_n 0, 1) := dk_42 (dk_at dksX3_read_0 5 rfl rfl)
theorem dX3_read_6 : decode cX3_read 6 = .ok (.invokevirtual 208, 3) := dk_182 0 208 (dk_at dksX3_read_0 6 rfl rfl)
theorem dX3_read_9 : decode cX3_read 9 = .ok (.aload_n 0, 1) := dk_42 (dk_at dksX3_read_0 9 rfl rfl)
theorem dX3_read_10 : decode cX3_read 10 = .ok (.invokevirtual 279, 3) := dk_182 1 23 (dk_at dksX3_read_0 10 rfl rfl)
theorem dX3_read_13 : decode cX3_read 13 = .ok (.istore_n 1, 1) := dk_60 (dk_at dksX3_read_0 13 rfl rfl)
theorem dX3_read_14 : decode cX3_read 14 = .ok (.aload_n 0, 1) := dk_42 (dk_at dksX3_read_0 14 rfl rfl)
theorem dX3_read_15 : decode cX3_read 15 = .ok (.iconst 0, 1) := dk_3 (dk_at dksX3_read_0 15 rfl rfl)
theorem dX3_read_16 : decode cX3_read 16 = .ok (.putfield 225, 3) := dk_181 0 225 (dk_at dksX3_read_0 16 rfl rfl)
theorem dX3_read_19 : decode cX3_read 19 = .ok (.iload_n 1, 1) := dk_27 (dk_at dksX3_read_0 19 rfl rfl)
theorem dX3_read_20 : decode cX3_read 20 = .ok (.ifCond .ne 21, 3) := dk_154 0 21 (dk_at dksX3_read_0 20 rfl rfl)
theorem dX3_read_23 : decode cX3_read 23 = .ok (.aload_n 0, 1) := dk_42 (dk_at dksX3_read_0 23 rfl rfl)
theorem dX3_read_24 : decode cX3_read 24 = .ok (.aload_n 0, 1) := dk_42 (dk_at dksX3_read_1 0 rfl rfl)
theorem dX3_read_25 : decode cX3_read 25 = .ok (.getfield 228, 3) := dk_180 0 228 (dk_at dksX3_read_1 1 rfl rfl)
theorem dX3_read_28 : decode cX3_read 28 = .ok (.putfield 30, 3) := dk_181 0 30 (dk_at dksX3_read_1 4 rfl rfl)
theorem dX3_read_31 : decode cX3_read 31 = .ok (.aload_n 0, 1) := dk_42 (dk_at dksX3_read_1 7 rfl rfl)
theorem dX3_read_32 : decode cX3_read 32 = .ok (.invokevirtual 282, 3) := dk_182 1 26 (dk_at dksX3_read_1 8 rfl rfl)
theorem dX3_read_35 : decode cX3_read 35 = .ok (.aload_n 0, 1) := dk_42 (dk_at dksX3_read_1 11 rfl rfl)
theorem dX3_read_36 : decode cX3_read 36 = .ok (.iconst 1, 1) := dk_4 (dk_at dksX3_read_1 12 rfl rfl)
theorem dX3_read_37 : decode cX3_read 37 = .ok (.invokevirtual 117, 3) := dk_182 0 117 (dk_at dksX3_read_1 13 rfl rfl)
theorem dX3_read_40 : decode cX3_read 40 = .ok (.ireturn, 1) := dk_172 (dk_at dksX3_read_1 16 rfl rfl)
theorem dX3_read_41 : decode cX3_read 41 = .ok (.aload_n 0, 1) := dk_42 (dk_at dksX3_read_1 17 rfl rfl)
theorem dX3_read_42 : decode cX3_read 42 = .ok (.invokevirtual 285, 3) := dk_182 1 29 (dk_at dksX3_read_1 18 rfl rfl)
theorem dX3_read_45 : decode cX3_read 45 = .ok (.aload_n 0, 1) := dk_42 (dk_at dksX3_read_1 21 rfl rfl)
theorem dX3_read_46 : decode cX3_read 46 = .ok (.iconst 0, 1) := dk_3 (dk_at dksX3_read_1 22 rfl rfl)
theorem dX3_read_47 : decode cX3_read 47 = .ok (.putfield 128, 3) := dk_181 0 128 (dk_at dksX3_read_2 0 rfl rfl)
theorem dX3_read_50 : decode cX3_read 50 = .ok (.aload_n 0, 1) := dk_42 (dk_at dksX3_read_2 3 rfl rfl)
theorem dX3_read_51 : decode cX3_read 51 = .ok (.invokevirtual 199, 3) := dk_182 0 199 (dk_at dksX3_read_2 4 rfl rfl)
theorem dX3_read_54 : decode cX3_read 54 = .ok (.aload_n 0, 1) := dk_42 (dk_at dksX3_read_2 7 rfl rfl)
theorem dX3_read_55 : decode cX3_read 55 = .ok (.getfield 153, 3) := dk_180 0 153 (dk_at dksX3_read_2 8 rfl rfl)
theorem dX3_read_58 : decode cX3_read 58 = .ok (.ifCond .ne 16, 3) := dk_154 0 16 (dk_at dksX3_read_2 11 rfl rfl)
theorem dX3_read_61 : decode cX3_read 61 = .ok (.aload_n 0, 1) := dk_42 (dk_at dksX3_read_2 14 rfl rfl)
theorem dX3_read_62 : decode cX3_read 62 = .ok (.invokevirtual 211, 3) := dk_182 0 211 (dk_at dksX3_read_2 15 rfl rfl)
theorem dX3_read_65 : decode cX3_read 65 = .ok (.aload_n 0, 1) := dk_42 (dk_at dksX3_read_2 18 rfl rfl)
theorem dX3_read_66 : decode cX3_read 66 = .ok (.invokevirtual 199, 3) := dk_182 0 199 (dk_at dksX3_read_2 19 rfl rfl)
theorem dX3_read_69 : decode cX3_read 69 = .ok (.aload_n 0, 1) := dk_42 (dk_at dksX3_read_2 22 rfl rfl)
theorem dX3_read_70 : decode cX3_read 70 = .ok (.getfield 141, 3) := dk_180 0 141 (dk_at dksX3_read_3 0 rfl rfl)
theorem dX3_read_73 : decode cX3_read 73 = .ok (.ireturn, 1) := dk_172 (dk_at dksX3_read_3 3 rfl rfl)
theorem dX3_read_74 : decode cX3_read 74 = .ok (.aload_n 0, 1) := dk_42 (dk_at dksX3_read_3 4 rfl rfl)
theorem dX3_read_75 : decode cX3_read 75 = .ok (.aload_n 0, 1) := dk_42 (dk_at dksX3_read_3 5 rfl rfl)
theorem dX3_read_76 : decode cX3_read 76 = .ok (.getfield 153, 3) := dk_180 0 153 (dk_at dksX3_read_3 6 rfl rfl)
theorem dX3_read_79 : decode cX3_read 79 = .ok (.putfield 114, 3) := dk_181 0 114 (dk_at dksX3_read_3 9 rfl rfl)
theorem dX3_read_82 : decode cX3_read 82 = .ok (.aload_n 0, 1) := dk_42 (dk_at dksX3_read_3 12 rfl rfl)
theorem dX3_read_83 : decode cX3_read 83 = .ok (.aload_n 0, 1) := dk_42 (dk_at dksX3_read_3 13 rfl rfl)
theorem dX3_read_84 : decode cX3_read 84 = .ok (.getfield 153, 3) := dk_180 0 153 (dk_at dksX3_read_3 14 rfl rfl)
theorem dX3_read_87 : decode cX3_read 87 = .ok (.iconst 1, 1) := dk_4 (dk_at dksX3_read_3 17 rfl rfl)
theorem dX3_read_88 : decode cX3_read 88 = .ok (.if_icmp .ne 10, 3) := dk_160 0 10 (dk_at dksX3_read_3 18 rfl rfl)
theorem dX3_read_91 : decode cX3_read 91 = .ok (.aload_n 0, 1) := dk_42 (dk_at dksX3_read_3 21 rfl rfl)
theorem dX3_read_92 : decode cX3_read 92 = .ok (.getfield 156, 3) := dk_180 0 156 (dk_at dksX3_read_4 0 rfl rfl)
theorem dX3_read_95 : decode cX3_read 95 = .ok (.goto 7, 3) := dk_167 0 7 (dk_at dksX3_read_4 3 rfl rfl)
theorem dX3_read_98 : decode cX3_read 98 = .ok (.aload_n 0, 1) := dk_42 (dk_at dksX3_read_4 6 rfl rfl)
theorem dX3_read_99 : decode cX3_read 99 = .ok (.getfield 23, 3) := dk_180 0 23 (dk_at dksX3_read_4 7 rfl rfl)
theorem dX3_read_102 : decode cX3_read 102 = .ok (.putfield 23, 3) := dk_181 0 23 (dk_at dksX3_read_4 10 rfl rfl)
theorem dX3_read_105 : decode cX3_read 105 = .ok (.aload_n 0, 1) := dk_42 (dk_at dksX3_read_4 13 rfl rfl)
theorem dX3_read_106 : decode cX3_read 106 = .ok (.invokevirtual 282, 3) := dk_182 1 26 (dk_at dksX3_read_4 14 rfl rfl)
theorem dX3_read_109 : decode cX3_read 109 = .ok (.aload_n 0, 1) := dk_42 (dk_at dksX3_read_4 17 rfl rfl)
theorem dX3_read_110 : decode cX3_read 110 = .ok (.iconst 2, 1) := dk_5 (dk_at dksX3_read_4 18 rfl rfl)
theorem dX3_read_111 : decode cX3_read 111 = .ok (.invokevirtual 117, 3) := dk_182 0 117 (dk_at dksX3_read_4 19 rfl rfl)
theorem dX3_read_114 : decode cX3_read 114 = .ok (.ireturn, 1) := dk_172 (dk_at dksX3_read_4 22 rfl rfl)
abbrev cX3_isText : ByteArray := prog_24_method_48_code
def yX3_isText : MethodName := ⟨RX3, "isText", "()Z"⟩
def dkwX3_isText_3 : List UInt8 := [42, 182, 1, 20, 153, 0, 7, 4, 167, 0, 4, 3, 60, 167, 255, 218, 42, 180, 0, 231, 172]
abbrev dktX3_isText_3 : List UInt8 := dkwX3_isText_3 ++ []
def dkwX3_isText_2 : List UInt8 := [153, 0, 40, 42, 180, 0, 231, 153, 0, 33, 42, 182, 1, 16, 154, 0, 17, 42, 180, 0, 231, 153, 0, 14]
abbrev dktX3_isText_2 : List UInt8 := dkwX3_isText_2 ++ dktX3_isText_3
def dkwX3_isText_1 : List UInt8 := [180, 0, 7, 16, 43, 3, 79, 42, 180, 0, 7, 16, 44, 3, 79, 42, 182, 1, 7, 4, 60, 27]
abbrev dktX3_isText_1 : List UInt8 := dkwX3_isText_1 ++ dktX3_isText_2
def dkwX3_isText_0 : List UInt8 := [42, 3, 181, 0, 228, 42, 4, 181, 0, 231, 42, 3, 181, 0, 238, 42, 180, 0, 7, 16, 42, 4, 79, 42]
abbrev dktX3_isText_0 : List UInt8 := dkwX3_isText_0 ++ dktX3_isText_1
theorem dksX3_isText_0 : cX3_isText.data.toList.drop 0 = dktX3_isText_0 := by decide +kernel
theorem dksX3_isText_1 : cX3_isText.data.toList.drop 24 = dktX3_isText_1 := dk_seg dksX3_isText_0 24 rfl rfl
theorem dksX3_isText_2 : cX3_isText.data.toList.drop 46 = dktX3_isText_2 := dk_seg dksX3_isText_1 22 rfl rfl
theorem dksX3_isText_3 : cX3_isText.data.toList.drop 70 = dktX3_isText_3 := dk_seg dksX3_isText_2 24 rfl rfl
theorem dX3_isText_0 : decode cX3_isText 0 = .ok (.aload_n 0, 1) := dk_42 (dk_at dksX3_isText_0 0 rfl rfl)
theorem dX3_isText_1 : decode cX3_isText 1 = .ok (.iconst 0, 1) := dk_3 (dk_at dksX3_isText_0 1 rfl rfl)
theorem dX3_isText_2 : decode cX3_isText 2 = .ok (.putfield 228, 3) := dk_181 0 228 (dk_at dksX3_isText_0 2 rfl rfl)
theorem dX3_isText_5 : decode cX3_isText 5 = .ok (.aload_n 0, 1) := dk_42 (dk_at dksX3_isText_0 5 rfl rfl)
theorem dX3_isText_6 : decode cX3_isText 6 = .ok (.iconst 1, 1) := dk_4 (dk_at dksX3_isText_0 6 rfl rfl)
theorem dX3_isText_7 : decode cX3_isText 7 = .ok (.putfield 231, 3) := dk_181 0 231 (dk_at dksX3_isText_0 7 rfl rfl)
theorem dX3_isText_10 : decode cX3_isText 10 = .ok (.aload_n 0, 1) := dk_42 (dk_at dksX3_isText_0 10 rfl rfl)
theorem dX3_isText_11 : decode cX3_isText 11 = .ok (.iconst 0, 1) := dk_3 (dk_at dksX3_isText_0 11 rfl rfl)
theorem dX3_isText_12 : decode cX3_isText 12 = .ok (.putfield 238, 3) := dk_181 0 238 (dk_at dksX3_isText_0 12 rfl rfl)
theorem dX3_isText_15 : decode cX3_isText 15 = .ok (.aload_n 0, 1) := dk_42 (dk_at dksX3_isText_0 15 rfl rfl)
theorem dX3_isText_16 : decode cX3_isText 16 = .ok (.getfield 7, 3) := dk_180 0 7 (dk_at dksX3_isText_0 16 rfl rfl)
theorem dX3_isText_19 : decode cX3_isText 19 = .ok (.bipush 42, 2) := dk_16 42 (dk_at dksX3_isText_0 19 rfl rfl)
theorem dX3_isText_21 : decode cX3_isText 21 = .ok (.iconst 1, 1) := dk_4 (dk_at dksX3_isText_0 21 rfl rfl)
theorem dX3_isText_22 : decode cX3_isText 22 = .ok (.iastore, 1) := dk_79 (dk_at dksX3_isText_0 22 rfl rfl)
theorem dX3_isText_23 : decode cX3_isText 23 = .ok (.aload_n 0, 1) := dk_42 (dk_at dksX3_isText_0 23 rfl rfl)
theorem dX3_isText_24 : decode cX3_isText 24 = .ok (.getfield 7, 3) := dk_180 0 7 (dk_at dksX3_isText_1 0 rfl rfl)
theorem dX3_isText_27 : decode cX3_isText 27 = .ok (.bipush 43, 2) := dk_16 43 (dk_at dksX3_isText_1 3 rfl rfl)
theorem dX3_isText_29 : decode cX3_isText 29 = .ok (.iconst 0, 1) := dk_3 (dk_at dksX3_isText_1 5 rfl rfl)
theorem dX3_isText_30 : decode cX3_isText 30 = .ok (.iastore, 1) := dk_79 (dk_at dksX3_isText_1 6 rfl rfl)
theorem dX3_isText_31 : decode cX3_isText 31 = .ok (.aload_n 0, 1) := dk_42 (dk_at dksX3_isText_1 7 rfl rfl)
theorem dX3_isText_32 : decode cX3_isText 32 = .ok (.getfield 7, 3) := dk_180 0 7 (dk_at dksX3_isText_1 8 rfl rfl)
theorem dX3_isText_35 : decode cX3_isText 35 = .ok (.bipush 44, 2) := dk_16 44 (dk_at dksX3_isText_1 11 rfl rfl)
theorem dX3_isText_37 : decode cX3_isText 37 = .ok (.iconst 0, 1) := dk_3 (dk_at dksX3_isText_1 13 rfl rfl)
theorem dX3_isText_38 : decode cX3_isText 38 = .ok (.iastore, 1) := dk_79 (dk_at dksX3_isText_1 14 rfl rfl)
theorem dX3_isText_39 : decode cX3_isText 39 = .ok (.aload_n 0, 1) := dk_42 (dk_at dksX3_isText_1 15 rfl rfl)
theorem dX3_isText_40 : decode cX3_isText 40 = .ok (.invokevirtual 263, 3) := dk_182 1 7 (dk_at dksX3_isText_1 16 rfl rfl)
theorem dX3_isText_43 : decode cX3_isText 43 = .ok (.iconst 1, 1) := dk_4 (dk_at dksX3_isText_1 19 rfl rfl)
theorem dX3_isText_44 : decode cX3_isText 44 = .ok (.istore_n 1, 1) := dk_60 (dk_at dksX3_isText_1 20 rfl rfl)
theorem dX3_isText_45 : decode cX3_isText 45 = .ok (.iload_n 1, 1) := dk_27 (dk_at dksX3_isText_1 21 rfl rfl)
theorem dX3_isText_46 : decode cX3_isText 46 = .ok (.ifCond .eq 40, 3) := dk_153 0 40 (dk_at dksX3_isText_2 0 rfl rfl)
theorem dX3_isText_49 : decode cX3_isText 49 = .ok (.aload_n 0, 1) := dk_42 (dk_at dksX3_isText_2 3 rfl rfl)
theorem dX3_isText_50 : decode cX3_isText 50 = .ok (.getfield 231, 3) := dk_180 0 231 (dk_at dksX3_isText_2 4 rfl rfl)
theorem dX3_isText_53 : decode cX3_isText 53 = .ok (.ifCond .eq 33, 3) := dk_153 0 33 (dk_at dksX3_isText_2 7 rfl rfl)
theorem dX3_isText_56 : decode cX3_isText 56 = .ok (.aload_n 0, 1) := dk_42 (dk_at dksX3_isText_2 10 rfl rfl)
theorem dX3_isText_57 : decode cX3_isText 57 = .ok (.invokevirtual 272, 3) := dk_182 1 16 (dk_at dksX3_isText_2 11 rfl rfl)
theorem dX3_isText_60 : decode cX3_isText 60 = .ok (.ifCond .ne 17, 3) := dk_154 0 17 (dk_at dksX3_isText_2 14 rfl rfl)
theorem dX3_isText_63 : decode cX3_isText 63 = .ok (.aload_n 0, 1) := dk_42 (dk_at dksX3_isText_2 17 rfl rfl)
theorem dX3_isText_64 : decode cX3_isText 64 = .ok (.getfield 231, 3) := dk_180 0 231 (dk_at dksX3_isText_2 18 rfl rfl)
theorem dX3_isText_67 : decode cX3_isText 67 = .ok (.ifCond .eq 14, 3) := dk_153 0 14 (dk_at dksX3_isText_2 21 rfl rfl)
theorem dX3_isText_70 : decode cX3_isText 70 = .ok (.aload_n 0, 1) := dk_42 (dk_at dksX3_isText_3 0 rfl rfl)
theorem dX3_isText_71 : decode cX3_isText 71 = .ok (.invokevirtual 276, 3) := dk_182 1 20 (dk_at dksX3_isText_3 1 rfl rfl)
theorem dX3_isText_74 : decode cX3_isText 74 = .ok (.ifCond .eq 7, 3) := dk_153 0 7 (dk_at dksX3_isText_3 4 rfl rfl)
theorem dX3_isText_77 : decode cX3_isText 77 = .ok (.iconst 1, 1) := dk_4 (dk_at dksX3_isText_3 7 rfl rfl)
theorem dX3_isText_78 : decode cX3_isText 78 = .ok (.goto 4, 3) := dk_167 0 4 (dk_at dksX3_isText_3 8 rfl rfl)
theorem dX3_isText_81 : decode cX3_isText 81 = .ok (.iconst 0, 1) := dk_3 (dk_at dksX3_isText_3 11 rfl rfl)
theorem dX3_isText_82 : decode cX3_isText 82 = .ok (.istore_n 1, 1) := dk_60 (dk_at dksX3_isText_3 12 rfl rfl)
theorem dX3_isText_83 : decode cX3_isText 83 = .ok (.goto (-38), 3) := dk_167 255 218 (dk_at dksX3_isText_3 13 rfl rfl)
theorem dX3_isText_86 : decode cX3_isText 86 = .ok (.aload_n 0, 1) := dk_42 (dk_at dksX3_isText_3 16 rfl rfl)
theorem dX3_isText_87 : decode cX3_isText 87 = .ok (.getfield 231, 3) := dk_180 0 231 (dk_at dksX3_isText_3 17 rfl rfl)
theorem dX3_isText_90 : decode cX3_isText 90 = .ok (.ireturn, 1) := dk_172 (dk_at dksX3_isText_3 20 rfl rfl)
abbrev cX3_beginsSeries : ByteArray := prog_24_method_41_code
def yX3_beginsSeries : MethodName := ⟨RX3, "beginsSeries", "()V"⟩
def dkwX3_beginsSeries_1 : List UInt8 := [42, 89, 180, 0, 238, 4, 96, 181, 0, 238, 42, 182, 0, 244, 177]
abbrev dktX3_beginsSeries_1 : List UInt8 := dkwX3_beginsSeries_1 ++ []
def dkwX3_beginsSeries_0 : List UInt8 := [42, 180, 0, 77, 42, 180, 0, 238, 42, 180, 0, 7, 16, 43, 46, 79, 42, 16, 7, 3, 3, 182, 0, 241]
abbrev dktX3_beginsSeries_0 : List UInt8 := dkwX3_beginsSeries_0 ++ dktX3_beginsSeries_1
theorem dksX3_beginsSeries_0 : cX3_beginsSeries.data.toList.drop 0 = dktX3_beginsSeries_0 := by decide +kernel
theorem dksX3_beginsSeries_1 : cX3_beginsSeries.data.toList.drop 24 = dktX3_beginsSeries_1 := dk_seg dksX3_beginsSeries_0 24 rfl rfl
theorem dX3_beginsSeries_0 : decode cX3_beginsSeries 0 = .ok (.aload_n 0, 1) := dk_42 (dk_at dksX3_beginsSeries_0 0 rfl rfl)
theorem dX3_beginsSeries_1 : decode cX3_beginsSeries 1 = .ok (.getfield 77, 3) := dk_180 0 77 (dk_at dksX3_beginsSeries_0 1 rfl rfl)
theorem dX3_beginsSeries_4 : decode cX3_beginsSeries 4 = .ok (.aload_n 0, 1) := dk_42 (dk_at dksX3_beginsSeries_0 4 rfl rfl)
theorem dX3_beginsSeries_5 : decode cX3_beginsSeries 5 = .ok (.getfield 238, 3) := dk_180 0 238 (dk_at dksX3_beginsSeries_0 5 rfl rfl)
theorem dX3_beginsSeries_8 : decode cX3_beginsSeries 8 = .ok (.aload_n 0, 1) := dk_42 (dk_at dksX3_beginsSeries_0 8 rfl rfl)
theorem dX3_beginsSeries_9 : decode cX3_beginsSeries 9 = .ok (.getfield 7, 3) := dk_180 0 7 (dk_at dksX3_beginsSeries_0 9 rfl rfl)
theorem dX3_beginsSeries_12 : decode cX3_beginsSeries 12 = .ok (.bipush 43, 2) := dk_16 43 (dk_at dksX3_beginsSeries_0 12 rfl rfl)
theorem dX3_beginsSeries_14 : decode cX3_beginsSeries 14 = .ok (.iaload, 1) := dk_46 (dk_at dksX3_beginsSeries_0 14 rfl rfl)
theorem dX3_beginsSeries_15 : decode cX3_beginsSeries 15 = .ok (.iastore, 1) := dk_79 (dk_at dksX3_beginsSeries_0 15 rfl rfl)
theorem dX3_beginsSeries_16 : decode cX3_beginsSeries 16 = .ok (.aload_n 0, 1) := dk_42 (dk_at dksX3_beginsSeries_0 16 rfl rfl)
theorem dX3_beginsSeries_17 : decode cX3_beginsSeries 17 = .ok (.bipush 7, 2) := dk_16 7 (dk_at dksX3_beginsSeries_0 17 rfl rfl)
theorem dX3_beginsSeries_19 : decode cX3_beginsSeries 19 = .ok (.iconst 0, 1) := dk_3 (dk_at dksX3_beginsSeries_0 19 rfl rfl)
theorem dX3_beginsSeries_20 : decode cX3_beginsSeries 20 = .ok (.iconst 0, 1) := dk_3 (dk_at dksX3_beginsSeries_0 20 rfl rfl)
theorem dX3_beginsSeries_21 : decode cX3_beginsSeries 21 = .ok (.invokevirtual 241, 3) := dk_182 0 241 (dk_at dksX3_beginsSeries_0 21 rfl rfl)
theorem dX3_beginsSeries_24 : decode cX3_beginsSeries 24 = .ok (.aload_n 0, 1) := dk_42 (dk_at dksX3_beginsSeries_1 0 rfl rfl)
theorem dX3_beginsSeries_25 : decode cX3_beginsSeries 25 = .ok (.dup, 1) := dk_89 (dk_at dksX3_beginsSeries_1 1 rfl rfl)
theorem dX3_beginsSeries_26 : decode cX3_beginsSeries 26 = .ok (.getfield 238, 3) := dk_180 0 238 (dk_at dksX3_beginsSeries_1 2 rfl rfl)
theorem dX3_beginsSeries_29 : decode cX3_beginsSeries 29 = .ok (.iconst 1, 1) := dk_4 (dk_at dksX3_beginsSeries_1 5 rfl rfl)
theorem dX3_beginsSeries_30 : decode cX3_beginsSeries 30 = .ok (.iadd, 1) := dk_96 (dk_at dksX3_beginsSeries_1 6 rfl rfl)
theorem dX3_beginsSeries_31 : decode cX3_beginsSeries 31 = .ok (.putfield 238, 3) := dk_181 0 238 (dk_at dksX3_beginsSeries_1 7 rfl rfl)
theorem dX3_beginsSeries_34 : decode cX3_beginsSeries 34 = .ok (.aload_n 0, 1) := dk_42 (dk_at dksX3_beginsSeries_1 10 rfl rfl)
theorem dX3_beginsSeries_35 : decode cX3_beginsSeries 35 = .ok (.invokevirtual 244, 3) := dk_182 0 244 (dk_at dksX3_beginsSeries_1 11 rfl rfl)
theorem dX3_beginsSeries_38 : decode cX3_beginsSeries 38 = .ok (.return_, 1) := dk_177 (dk_at dksX3_beginsSeries_1 14 rfl rfl)
abbrev cX3_appends : ByteArray := prog_24_method_18_code
def yX3_appends : MethodName := ⟨RX3, "appends", "(III)V"⟩
def dkwX3_appends_3 : List UInt8 := [182, 0, 137, 177]
abbrev dktX3_appends_3 : List UInt8 := dkwX3_appends_3 ++ []
def dkwX3_appends_2 : List UInt8 := [42, 180, 0, 7, 16, 44, 46, 182, 0, 137, 42, 21, 4, 7, 3, 182, 0, 137, 42, 21, 4, 8, 3]
abbrev dktX3_appends_2 : List UInt8 := dkwX3_appends_2 ++ dktX3_appends_3
def dkwX3_appends_1 : List UInt8 := [27, 182, 0, 137, 42, 21, 4, 4, 28, 182, 0, 137, 42, 21, 4, 5, 29, 182, 0, 137, 42, 21, 4, 6]
abbrev dktX3_appends_1 : List UInt8 := dkwX3_appends_1 ++ dktX3_appends_2
def dkwX3_appends_0 : List UInt8 := [42, 180, 0, 7, 16, 43, 46, 54, 4, 42, 180, 0, 7, 16, 43, 92, 46, 4, 96, 79, 42, 21, 4, 3]
abbrev dktX3_appends_0 : List UInt8 := dkwX3_appends_0 ++ dktX3_appends_1
theorem dksX3_appends_0 : cX3_appends.data.toList.drop 0 = dktX3_appends_0 := by decide +kernel
theorem dksX3_appends_1 : cX3_appends.data.toList.drop 24 = dktX3_appends_1 := dk_seg dksX3_appends_0 24 rfl rfl
theorem dksX3_appends_2 : cX3_appends.data.toList.drop 48 = dktX3_appends_2 := dk_seg dksX3_appends_1 24 rfl rfl
theorem dksX3_appends_3 : cX3_appends.data.toList.drop 71 = dktX3_appends_3 := dk_seg dksX3_appends_2 23 rfl rfl
theorem dX3_appends_0 : decode cX3_appends 0 = .ok (.aload_n 0, 1) := dk_42 (dk_at dksX3_appends_0 0 rfl rfl)
theorem dX3_appends_1 : decode cX3_appends 1 = .ok (.getfield 7, 3) := dk_180 0 7 (dk_at dksX3_appends_0 1 rfl rfl)
theorem dX3_appends_4 : decode cX3_appends 4 = .ok (.bipush 43, 2) := dk_16 43 (dk_at dksX3_appends_0 4 rfl rfl)
theorem dX3_appends_6 : decode cX3_appends 6 = .ok (.iaload, 1) := dk_46 (dk_at dksX3_appends_0 6 rfl rfl)
theorem dX3_appends_7 : decode cX3_appends 7 = .ok (.istore 4, 2) := dk_54 4 (dk_at dksX3_appends_0 7 rfl rfl)
theorem dX3_appends_9 : decode cX3_appends 9 = .ok (.aload_n 0, 1) := dk_42 (dk_at dksX3_appends_0 9 rfl rfl)
theorem dX3_appends_10 : decode cX3_appends 10 = .ok (.getfield 7, 3) := dk_180 0 7 (dk_at dksX3_appends_0 10 rfl rfl)
theorem dX3_appends_13 : decode cX3_appends 13 = .ok (.bipush 43, 2) := dk_16 43 (dk_at dksX3_appends_0 13 rfl rfl)
theorem dX3_appends_15 : decode cX3_appends 15 = .ok (.dup2, 1) := dk_92 (dk_at dksX3_appends_0 15 rfl rfl)
theorem dX3_appends_16 : decode cX3_appends 16 = .ok (.iaload, 1) := dk_46 (dk_at dksX3_appends_0 16 rfl rfl)
theorem dX3_appends_17 : decode cX3_appends 17 = .ok (.iconst 1, 1) := dk_4 (dk_at dksX3_appends_0 17 rfl rfl)
theorem dX3_appends_18 : decode cX3_appends 18 = .ok (.iadd, 1) := dk_96 (dk_at dksX3_appends_0 18 rfl rfl)
theorem dX3_appends_19 : decode cX3_appends 19 = .ok (.iastore, 1) := dk_79 (dk_at dksX3_appends_0 19 rfl rfl)
theorem dX3_appends_20 : decode cX3_appends 20 = .ok (.aload_n 0, 1) := dk_42 (dk_at dksX3_appends_0 20 rfl rfl)
theorem dX3_appends_21 : decode cX3_appends 21 = .ok (.iload 4, 2) := dk_21 4 (dk_at dksX3_appends_0 21 rfl rfl)
theorem dX3_appends_23 : decode cX3_appends 23 = .ok (.iconst 0, 1) := dk_3 (dk_at dksX3_appends_0 23 rfl rfl)
theorem dX3_appends_24 : decode cX3_appends 24 = .ok (.iload_n 1, 1) := dk_27 (dk_at dksX3_appends_1 0 rfl rfl)
theorem dX3_appends_25 : decode cX3_appends 25 = .ok (.invokevirtual 137, 3) := dk_182 0 137 (dk_at dksX3_appends_1 1 rfl rfl)
theorem dX3_appends_28 : decode cX3_appends 28 = .ok (.aload_n 0, 1) := dk_42 (dk_at dksX3_appends_1 4 rfl rfl)
theorem dX3_appends_29 : decode cX3_appends 29 = .ok (.iload 4, 2) := dk_21 4 (dk_at dksX3_appends_1 5 rfl rfl)
theorem dX3_appends_31 : decode cX3_appends 31 = .ok (.iconst 1, 1) := dk_4 (dk_at dksX3_appends_1 7 rfl rfl)
theorem dX3_appends_32 : decode cX3_appends 32 = .ok (.iload_n 2, 1) := dk_28 (dk_at dksX3_appends_1 8 rfl rfl)
theorem dX3_appends_33 : decode cX3_appends 33 = .ok (.invokevirtual 137, 3) := dk_182 0 137 (dk_at dksX3_appends_1 9 rfl rfl)
theorem dX3_appends_36 : decode cX3_appends 36 = .ok (.aload_n 0, 1) := dk_42 (dk_at dksX3_appends_1 12 rfl rfl)
theorem dX3_appends_37 : decode cX3_appends 37 = .ok (.iload 4, 2) := dk_21 4 (dk_at dksX3_appends_1 13 rfl rfl)
theorem dX3_appends_39 : decode cX3_appends 39 = .ok (.iconst 2, 1) := dk_5 (dk_at dksX3_appends_1 15 rfl rfl)
theorem dX3_appends_40 : decode cX3_appends 40 = .ok (.iload_n 3, 1) := dk_29 (dk_at dksX3_appends_1 16 rfl rfl)
theorem dX3_appends_41 : decode cX3_appends 41 = .ok (.invokevirtual 137, 3) := dk_182 0 137 (dk_at dksX3_appends_1 17 rfl rfl)
theorem dX3_appends_44 : decode cX3_appends 44 = .ok (.aload_n 0, 1) := dk_42 (dk_at dksX3_appends_1 20 rfl rfl)
theorem dX3_appends_45 : decode cX3_appends 45 = .ok (.iload 4, 2) := dk_21 4 (dk_at dksX3_appends_1 21 rfl rfl)
theorem dX3_appends_47 : decode cX3_appends 47 = .ok (.iconst 3, 1) := dk_6 (dk_at dksX3_appends_1 23 rfl rfl)
theorem dX3_appends_48 : decode cX3_appends 48 = .ok (.aload_n 0, 1) := dk_42 (dk_at dksX3_appends_2 0 rfl rfl)
theorem dX3_appends_49 : decode cX3_appends 49 = .ok (.getfield 7, 3) := dk_180 0 7 (dk_at dksX3_appends_2 1 rfl rfl)
theorem dX3_appends_52 : decode cX3_appends 52 = .ok (.bipush 44, 2) := dk_16 44 (dk_at dksX3_appends_2 4 rfl rfl)
theorem dX3_appends_54 : decode cX3_appends 54 = .ok (.iaload, 1) := dk_46 (dk_at dksX3_appends_2 6 rfl rfl)
theorem dX3_appends_55 : decode cX3_appends 55 = .ok (.invokevirtual 137, 3) := dk_182 0 137 (dk_at dksX3_appends_2 7 rfl rfl)
theorem dX3_appends_58 : decode cX3_appends 58 = .ok (.aload_n 0, 1) := dk_42 (dk_at dksX3_appends_2 10 rfl rfl)
theorem dX3_appends_59 : decode cX3_appends 59 = .ok (.iload 4, 2) := dk_21 4 (dk_at dksX3_appends_2 11 rfl rfl)
theorem dX3_appends_61 : decode cX3_appends 61 = .ok (.iconst 4, 1) := dk_7 (dk_at dksX3_appends_2 13 rfl rfl)
theorem dX3_appends_62 : decode cX3_appends 62 = .ok (.iconst 0, 1) := dk_3 (dk_at dksX3_appends_2 14 rfl rfl)
theorem dX3_appends_63 : decode cX3_appends 63 = .ok (.invokevirtual 137, 3) := dk_182 0 137 (dk_at dksX3_appends_2 15 rfl rfl)
theorem dX3_appends_66 : decode cX3_appends 66 = .ok (.aload_n 0, 1) := dk_42 (dk_at dksX3_appends_2 18 rfl rfl)
theorem dX3_appends_67 : decode cX3_appends 67 = .ok (.iload 4, 2) := dk_21 4 (dk_at dksX3_appends_2 19 rfl rfl)
theorem dX3_appends_69 : decode cX3_appends 69 = .ok (.iconst 5, 1) := dk_8 (dk_at dksX3_appends_2 21 rfl rfl)
theorem dX3_appends_70 : decode cX3_appends 70 = .ok (.iconst 0, 1) := dk_3 (dk_at dksX3_appends_2 22 rfl rfl)
theorem dX3_appends_71 : decode cX3_appends 71 = .ok (.invokevirtual 137, 3) := dk_182 0 137 (dk_at dksX3_appends_3 0 rfl rfl)
theorem dX3_appends_74 : decode cX3_appends 74 = .ok (.return_, 1) := dk_177 (dk_at dksX3_appends_3 3 rfl rfl)
abbrev cX3_put : ByteArray := prog_24_method_14_code
def yX3_put : MethodName := ⟨RX3, "put", "(III)V"⟩
def dkwX3_put_0 : List UInt8 := [42, 180, 0, 7, 16, 45, 16, 6, 27, 104, 96, 28, 96, 29, 79, 177]
abbrev dktX3_put_0 : List UInt8 := dkwX3_put_0 ++ []
theorem dksX3_put_0 : cX3_put.data.toList.drop 0 = dktX3_put_0 := by decide +kernel
theorem dX3_put_0 : decode cX3_put 0 = .ok (.aload_n 0, 1) := dk_42 (dk_at dksX3_put_0 0 rfl rfl)
theorem dX3_put_1 : decode cX3_put 1 = .ok (.getfield 7, 3) := dk_180 0 7 (dk_at dksX3_put_0 1 rfl rfl)
theorem dX3_put_4 : decode cX3_put 4 = .ok (.bipush 45, 2) := dk_16 45 (dk_at dksX3_put_0 4 rfl rfl)
theorem dX3_put_6 : decode cX3_put 6 = .ok (.bipush 6, 2) := dk_16 6 (dk_at dksX3_put_0 6 rfl rfl)
theorem dX3_put_8 : decode cX3_put 8 = .ok (.iload_n 1, 1) := dk_27 (dk_at dksX3_put_0 8 rfl rfl)
theorem dX3_put_9 : decode cX3_put 9 = .ok (.imul, 1) := dk_104 (dk_at dksX3_put_0 9 rfl rfl)
theorem dX3_put_10 : decode cX3_put 10 = .ok (.iadd, 1) := dk_96 (dk_at dksX3_put_0 10 rfl rfl)
theorem dX3_put_11 : decode cX3_put 11 = .ok (.iload_n 2, 1) := dk_28 (dk_at dksX3_put_0 11 rfl rfl)
theorem dX3_put_12 : decode cX3_put 12 = .ok (.iadd, 1) := dk_96 (dk_at dksX3_put_0 12 rfl rfl)
theorem dX3_put_13 : decode cX3_put 13 = .ok (.iload_n 3, 1) := dk_29 (dk_at dksX3_put_0 13 rfl rfl)
theorem dX3_put_14 : decode cX3_put 14 = .ok (.iastore, 1) := dk_79 (dk_at dksX3_put_0 14 rfl rfl)
theorem dX3_put_15 : decode cX3_put 15 = .ok (.return_, 1) := dk_177 (dk_at dksX3_put_0 15 rfl rfl)
abbrev cX3_beginsLayer : ByteArray := prog_24_method_42_code
def yX3_beginsLayer : MethodName := ⟨RX3, "beginsLayer", "()V"⟩
def dkwX3_beginsLayer_2 : List UInt8 := [16, 43, 46, 79, 42, 16, 6, 3, 3, 182, 0, 241, 177]
abbrev dktX3_beginsLayer_2 : List UInt8 := dkwX3_beginsLayer_2 ++ []
def dkwX3_beginsLayer_1 : List UInt8 := [46, 5, 182, 0, 133, 4, 96, 182, 0, 137, 42, 180, 0, 80, 42, 180, 0, 238, 4, 100, 42, 180, 0, 7]
abbrev dktX3_beginsLayer_1 : List UInt8 := dkwX3_beginsLayer_1 ++ dktX3_beginsLayer_2
def dkwX3_beginsLayer_0 : List UInt8 := [42, 42, 180, 0, 77, 42, 180, 0, 238, 4, 100, 46, 5, 42, 42, 180, 0, 77, 42, 180, 0, 238, 4, 100]
abbrev dktX3_beginsLayer_0 : List UInt8 := dkwX3_beginsLayer_0 ++ dktX3_beginsLayer_1
theorem dksX3_beginsLayer_0 : cX3_beginsLayer.data.toList.drop 0 = dktX3_beginsLayer_0 := by decide +kernel
theorem dksX3_beginsLayer_1 : cX3_beginsLayer.data.toList.drop 24 = dktX3_beginsLayer_1 := dk_seg dksX3_beginsLayer_0 24 rfl rfl
theorem dksX3_beginsLayer_2 : cX3_beginsLayer.data.toList.drop 48 = dktX3_beginsLayer_2 := dk_seg dksX3_beginsLayer_1 24 rfl rfl
theorem dX3_beginsLayer_0 : decode cX3_beginsLayer 0 = .ok (.aload_n 0, 1) := dk_42 (dk_at dksX3_beginsLayer_0 0 rfl rfl)
theorem dX3_beginsLayer_1 : decode cX3_beginsLayer 1 = .ok (.aload_n 0, 1) := dk_42 (dk_at dksX3_beginsLayer_0 1 rfl rfl)
theorem dX3_beginsLayer_2 : decode cX3_beginsLayer 2 = .ok (.getfield 77, 3) := dk_180 0 77 (dk_at dksX3_beginsLayer_0 2 rfl rfl)
theorem dX3_beginsLayer_5 : decode cX3_beginsLayer 5 = .ok (.aload_n 0, 1) := dk_42 (dk_at dksX3_beginsLayer_0 5 rfl rfl)
theorem dX3_beginsLayer_6 : decode cX3_beginsLayer 6 = .ok (.getfield 238, 3) := dk_180 0 238 (dk_at dksX3_beginsLayer_0 6 rfl rfl)
theorem dX3_beginsLayer_9 : decode cX3_beginsLayer 9 = .ok (.iconst 1, 1) := dk_4 (dk_at dksX3_beginsLayer_0 9 rfl rfl)
theorem dX3_beginsLayer_10 : decode cX3_beginsLayer 10 = .ok (.isub, 1) := dk_100 (dk_at dksX3_beginsLayer_0 10 rfl rfl)
theorem dX3_beginsLayer_11 : decode cX3_beginsLayer 11 = .ok (.iaload, 1) := dk_46 (dk_at dksX3_beginsLayer_0 11 rfl rfl)
theorem dX3_beginsLayer_12 : decode cX3_beginsLayer 12 = .ok (.iconst 2, 1) := dk_5 (dk_at dksX3_beginsLayer_0 12 rfl rfl)
theorem dX3_beginsLayer_13 : decode cX3_beginsLayer 13 = .ok (.aload_n 0, 1) := dk_42 (dk_at dksX3_beginsLayer_0 13 rfl rfl)
theorem dX3_beginsLayer_14 : decode cX3_beginsLayer 14 = .ok (.aload_n 0, 1) := dk_42 (dk_at dksX3_beginsLayer_0 14 rfl rfl)
theorem dX3_beginsLayer_15 : decode cX3_beginsLayer 15 = .ok (.getfield 77, 3) := dk_180 0 77 (dk_at dksX3_beginsLayer_0 15 rfl rfl)
theorem dX3_beginsLayer_18 : decode cX3_beginsLayer 18 = .ok (.aload_n 0, 1) := dk_42 (dk_at dksX3_beginsLayer_0 18 rfl rfl)
theorem dX3_beginsLayer_19 : decode cX3_beginsLayer 19 = .ok (.getfield 238, 3) := dk_180 0 238 (dk_at dksX3_beginsLayer_0 19 rfl rfl)
theorem dX3_beginsLayer_22 : decode cX3_beginsLayer 22 = .ok (.iconst 1, 1) := dk_4 (dk_at dksX3_beginsLayer_0 22 rfl rfl)
theorem dX3_beginsLayer_23 : decode cX3_beginsLayer 23 = .ok (.isub, 1) := dk_100 (dk_at dksX3_beginsLayer_0 23 rfl rfl)
theorem dX3_beginsLayer_24 : decode cX3_beginsLayer 24 = .ok (.iaload, 1) := dk_46 (dk_at dksX3_beginsLayer_1 0 rfl rfl)
theorem dX3_beginsLayer_25 : decode cX3_beginsLayer 25 = .ok (.iconst 2, 1) := dk_5 (dk_at dksX3_beginsLayer_1 1 rfl rfl)
theorem dX3_beginsLayer_26 : decode cX3_beginsLayer 26 = .ok (.invokevirtual 133, 3) := dk_182 0 133 (dk_at dksX3_beginsLayer_1 2 rfl rfl)
theorem dX3_beginsLayer_29 : decode cX3_beginsLayer 29 = .ok (.iconst 1, 1) := dk_4 (dk_at dksX3_beginsLayer_1 5 rfl rfl)
theorem dX3_beginsLayer_30 : decode cX3_beginsLayer 30 = .ok (.iadd, 1) := dk_96 (dk_at dksX3_beginsLayer_1 6 rfl rfl)
theorem dX3_beginsLayer_31 : decode cX3_beginsLayer 31 = .ok (.invokevirtual 137, 3) := dk_182 0 137 (dk_at dksX3_beginsLayer_1 7 rfl rfl)
theorem dX3_beginsLayer_34 : decode cX3_beginsLayer 34 = .ok (.aload_n 0, 1) := dk_42 (dk_at dksX3_beginsLayer_1 10 rfl rfl)
theorem dX3_beginsLayer_35 : decode cX3_beginsLayer 35 = .ok (.getfield 80, 3) := dk_180 0 80 (dk_at dksX3_beginsLayer_1 11 rfl rfl)
theorem dX3_beginsLayer_38 : decode cX3_beginsLayer 38 = .ok (.aload_n 0, 1) := dk_42 (dk_at dksX3_beginsLayer_1 14 rfl rfl)
theorem dX3_beginsLayer_39 : decode cX3_beginsLayer 39 = .ok (.getfield 238, 3) := dk_180 0 238 (dk_at dksX3_beginsLayer_1 15 rfl rfl)
theorem dX3_beginsLayer_42 : decode cX3_beginsLayer 42 = .ok (.iconst 1, 1) := dk_4 (dk_at dksX3_beginsLayer_1 18 rfl rfl)
theorem dX3_beginsLayer_43 : decode cX3_beginsLayer 43 = .ok (.isub, 1) := dk_100 (dk_at dksX3_beginsLayer_1 19 rfl rfl)
theorem dX3_beginsLayer_44 : decode cX3_beginsLayer 44 = .ok (.aload_n 0, 1) := dk_42 (dk_at dksX3_beginsLayer_1 20 rfl rfl)
theorem dX3_beginsLayer_45 : decode cX3_beginsLayer 45 = .ok (.getfield 7, 3) := dk_180 0 7 (dk_at dksX3_beginsLayer_1 21 rfl rfl)
theorem dX3_beginsLayer_48 : decode cX3_beginsLayer 48 = .ok (.bipush 43, 2) := dk_16 43 (dk_at dksX3_beginsLayer_2 0 rfl rfl)
theorem dX3_beginsLayer_50 : decode cX3_beginsLayer 50 = .ok (.iaload, 1) := dk_46 (dk_at dksX3_beginsLayer_2 2 rfl rfl)
theorem dX3_beginsLayer_51 : decode cX3_beginsLayer 51 = .ok (.iastore, 1) := dk_79 (dk_at dksX3_beginsLayer_2 3 rfl rfl)
theorem dX3_beginsLayer_52 : decode cX3_beginsLayer 52 = .ok (.aload_n 0, 1) := dk_42 (dk_at dksX3_beginsLayer_2 4 rfl rfl)
theorem dX3_beginsLayer_53 : decode cX3_beginsLayer 53 = .ok (.bipush 6, 2) := dk_16 6 (dk_at dksX3_beginsLayer_2 5 rfl rfl)
theorem dX3_beginsLayer_55 : decode cX3_beginsLayer 55 = .ok (.iconst 0, 1) := dk_3 (dk_at dksX3_beginsLayer_2 7 rfl rfl)
theorem dX3_beginsLayer_56 : decode cX3_beginsLayer 56 = .ok (.iconst 0, 1) := dk_3 (dk_at dksX3_beginsLayer_2 8 rfl rfl)
theorem dX3_beginsLayer_57 : decode cX3_beginsLayer 57 = .ok (.invokevirtual 241, 3) := dk_182 0 241 (dk_at dksX3_beginsLayer_2 9 rfl rfl)
theorem dX3_beginsLayer_60 : decode cX3_beginsLayer 60 = .ok (.return_, 1) := dk_177 (dk_at dksX3_beginsLayer_2 12 rfl rfl)
abbrev cX3_of : ByteArray := prog_24_method_12_code
def yX3_of : MethodName := ⟨RX3, "of", "(II)I"⟩
def dkwX3_of_0 : List UInt8 := [42, 180, 0, 7, 16, 45, 16, 6, 27, 104, 96, 28, 96, 46, 172]
abbrev dktX3_of_0 : List UInt8 := dkwX3_of_0 ++ []
theorem dksX3_of_0 : cX3_of.data.toList.drop 0 = dktX3_of_0 := by decide +kernel
theorem dX3_of_0 : decode cX3_of 0 = .ok (.aload_n 0, 1) := dk_42 (dk_at dksX3_of_0 0 rfl rfl)
theorem dX3_of_1 : decode cX3_of 1 = .ok (.getfield 7, 3) := dk_180 0 7 (dk_at dksX3_of_0 1 rfl rfl)
theorem dX3_of_4 : decode cX3_of 4 = .ok (.bipush 45, 2) := dk_16 45 (dk_at dksX3_of_0 4 rfl rfl)
theorem dX3_of_6 : decode cX3_of 6 = .ok (.bipush 6, 2) := dk_16 6 (dk_at dksX3_of_0 6 rfl rfl)
theorem dX3_of_8 : decode cX3_of 8 = .ok (.iload_n 1, 1) := dk_27 (dk_at dksX3_of_0 8 rfl rfl)
theorem dX3_of_9 : decode cX3_of 9 = .ok (.imul, 1) := dk_104 (dk_at dksX3_of_0 9 rfl rfl)
theorem dX3_of_10 : decode cX3_of 10 = .ok (.iadd, 1) := dk_96 (dk_at dksX3_of_0 10 rfl rfl)
theorem dX3_of_11 : decode cX3_of 11 = .ok (.iload_n 2, 1) := dk_28 (dk_at dksX3_of_0 11 rfl rfl)
theorem dX3_of_12 : decode cX3_of 12 = .ok (.iadd, 1) := dk_96 (dk_at dksX3_of_0 12 rfl rfl)
theorem dX3_of_13 : decode cX3_of 13 = .ok (.iaload, 1) := dk_46 (dk_at dksX3_of_0 13 rfl rfl)
theorem dX3_of_14 : decode cX3_of 14 = .ok (.ireturn, 1) := dk_172 (dk_at dksX3_of_0 14 rfl rfl)
abbrev cX3_begun : ByteArray := prog_24_method_46_code
def yX3_begun : MethodName := ⟨RX3, "begun", "()Z"⟩
def dkwX3_begun_9 : List UInt8 := [159, 0, 11, 42, 3, 3, 182, 1, 10, 3, 172, 42, 182, 1, 13, 42, 180, 0, 231, 172]
abbrev dktX3_begun_9 : List UInt8 := dkwX3_begun_9 ++ []
def dkwX3_begun_8 : List UInt8 := [28, 16, 109, 160, 0, 7, 7, 167, 0, 4, 8, 3, 4, 182, 0, 241, 167, 0, 17, 28, 16, 40]
abbrev dktX3_begun_8 : List UInt8 := dkwX3_begun_8 ++ dktX3_begun_9
def dkwX3_begun_7 : List UInt8 := [3, 181, 0, 231, 42, 180, 0, 231, 154, 0, 5, 3, 172, 42, 89, 180, 0, 228, 4, 96, 181, 0, 228, 42]
abbrev dktX3_begun_7 : List UInt8 := dkwX3_begun_7 ++ dktX3_begun_8
def dkwX3_begun_6 : List UInt8 := [160, 0, 67, 42, 42, 180, 0, 231, 153, 0, 16, 42, 180, 0, 238, 16, 10, 163, 0, 7, 4, 167, 0, 4]
abbrev dktX3_begun_6 : List UInt8 := dkwX3_begun_6 ++ dktX3_begun_7
def dkwX3_begun_5 : List UInt8 := [167, 0, 4, 3, 62, 42, 4, 29, 182, 1, 10, 3, 172, 28, 16, 109, 159, 0, 9, 28, 16, 114]
abbrev dktX3_begun_5 : List UInt8 := dkwX3_begun_5 ++ dktX3_begun_6
def dkwX3_begun_4 : List UInt8 := [4, 96, 181, 0, 228, 42, 16, 49, 16, 57, 182, 0, 247, 153, 0, 13, 42, 182, 0, 251, 16, 48, 100]
abbrev dktX3_begun_4 : List UInt8 := dkwX3_begun_4 ++ dktX3_begun_5
def dkwX3_begun_3 : List UInt8 := [96, 181, 0, 228, 42, 5, 3, 3, 182, 0, 241, 3, 172, 28, 16, 99, 160, 0, 44, 42, 89, 180, 0, 228]
abbrev dktX3_begun_3 : List UInt8 := dkwX3_begun_3 ++ dktX3_begun_4
def dkwX3_begun_2 : List UInt8 := [16, 48, 100, 4, 182, 0, 241, 42, 182, 0, 234, 61, 28, 16, 33, 160, 0, 22, 42, 89, 180, 0, 228, 4]
abbrev dktX3_begun_2 : List UInt8 := dkwX3_begun_2 ++ dktX3_begun_3
def dkwX3_begun_1 : List UInt8 := [182, 0, 137, 42, 182, 0, 234, 16, 50, 16, 57, 184, 0, 121, 153, 0, 16, 42, 6, 42, 182, 0, 251]
abbrev dktX3_begun_1 : List UInt8 := dkwX3_begun_1 ++ dktX3_begun_2
def dkwX3_begun_0 : List UInt8 := [42, 180, 0, 80, 42, 180, 0, 238, 4, 100, 46, 60, 42, 27, 5, 42, 27, 5, 182, 0, 133, 4, 96]
abbrev dktX3_begun_0 : List UInt8 := dkwX3_begun_0 ++ dktX3_begun_1
theorem dksX3_begun_0 : cX3_begun.data.toList.drop 0 = dktX3_begun_0 := by decide +kernel
theorem dksX3_begun_1 : cX3_begun.data.toList.drop 23 = dktX3_begun_1 := dk_seg dksX3_begun_0 23 rfl rfl
theorem dksX3_begun_2 : cX3_begun.data.toList.drop 46 = dktX3_begun_2 := dk_seg dksX3_begun_1 23 rfl rfl
theorem dksX3_begun_3 : cX3_begun.data.toList.drop 70 = dktX3_begun_3 := dk_seg dksX3_begun_2 24 rfl rfl
theorem dksX3_begun_4 : cX3_begun.data.toList.drop 94 = dktX3_begun_4 := dk_seg dksX3_begun_3 24 rfl rfl
theorem dksX3_begun_5 : cX3_begun.data.toList.drop 117 = dktX3_begun_5 := dk_seg dksX3_begun_4 23 rfl rfl
theorem dksX3_begun_6 : cX3_begun.data.toList.drop 139 = dktX3_begun_6 := dk_seg dksX3_begun_5 22 rfl rfl
theorem dksX3_begun_7 : cX3_begun.data.toList.drop 163 = dktX3_begun_7 := dk_seg dksX3_begun_6 24 rfl rfl
theorem dksX3_begun_8 : cX3_begun.data.toList.drop 187 = dktX3_begun_8 := dk_seg dksX3_begun_7 24 rfl rfl
theorem dksX3_begun_9 : cX3_begun.data.toList.drop 209 = dktX3_begun_9 := dk_seg dksX3_begun_8 22 rfl rfl
theorem dX3_begun_0 : decode cX3_begun 0 = .ok (.aload_n 0, 1) := dk_42 (dk_at dksX3_begun_0 0 rfl rfl)
theorem dX3_begun_1 : decode cX3_begun 1 = .ok (.getfield 80, 3) := dk_180 0 80 (dk_at dksX3_begun_0 1 rfl rfl)
theorem dX3_begun_4 : decode cX3_begun 4 = .ok (.aload_n 0, 1) := dk_42 (dk_at dksX3_begun_0 4 rfl rfl)
theorem dX3_begun_5 : decode cX3_begun 5 = .ok (.getfield 238, 3) := dk_180 0 238 (dk_at dksX3_begun_0 5 rfl rfl)
theorem dX3_begun_8 : decode cX3_begun 8 = .ok (.iconst 1, 1) := dk_4 (dk_at dksX3_begun_0 8 rfl rfl)
theorem dX3_begun_9 : decode cX3_begun 9 = .ok (.isub, 1) := dk_100 (dk_at dksX3_begun_0 9 rfl rfl)
theorem dX3_begun_10 : decode cX3_begun 10 = .ok (.iaload, 1) := dk_46 (dk_at dksX3_begun_0 10 rfl rfl)
theorem dX3_begun_11 : decode cX3_begun 11 = .ok (.istore_n 1, 1) := dk_60 (dk_at dksX3_begun_0 11 rfl rfl)
theorem dX3_begun_12 : decode cX3_begun 12 = .ok (.aload_n 0, 1) := dk_42 (dk_at dksX3_begun_0 12 rfl rfl)
theorem dX3_begun_13 : decode cX3_begun 13 = .ok (.iload_n 1, 1) := dk_27 (dk_at dksX3_begun_0 13 rfl rfl)
theorem dX3_begun_14 : decode cX3_begun 14 = .ok (.iconst 2, 1) := dk_5 (dk_at dksX3_begun_0 14 rfl rfl)
theorem dX3_begun_15 : decode cX3_begun 15 = .ok (.aload_n 0, 1) := dk_42 (dk_at dksX3_begun_0 15 rfl rfl)
theorem dX3_begun_16 : decode cX3_begun 16 = .ok (.iload_n 1, 1) := dk_27 (dk_at dksX3_begun_0 16 rfl rfl)
theorem dX3_begun_17 : decode cX3_begun 17 = .ok (.iconst 2, 1) := dk_5 (dk_at dksX3_begun_0 17 rfl rfl)
theorem dX3_begun_18 : decode cX3_begun 18 = .ok (.invokevirtual 133, 3) := dk_182 0 133 (dk_at dksX3_begun_0 18 rfl rfl)
theorem dX3_begun_21 : decode cX3_begun 21 = .ok (.iconst 1, 1) := dk_4 (dk_at dksX3_begun_0 21 rfl rfl)
theorem dX3_begun_22 : decode cX3_begun 22 = .ok (.iadd, 1) := dk_96 (dk_at dksX3_begun_0 22 rfl rfl)
theorem dX3_begun_23 : decode cX3_begun 23 = .ok (.invokevirtual 137, 3) := dk_182 0 137 (dk_at dksX3_begun_1 0 rfl rfl)
theorem dX3_begun_26 : decode cX3_begun 26 = .ok (.aload_n 0, 1) := dk_42 (dk_at dksX3_begun_1 3 rfl rfl)
theorem dX3_begun_27 : decode cX3_begun 27 = .ok (.invokevirtual 234, 3) := dk_182 0 234 (dk_at dksX3_begun_1 4 rfl rfl)
theorem dX3_begun_30 : decode cX3_begun 30 = .ok (.bipush 50, 2) := dk_16 50 (dk_at dksX3_begun_1 7 rfl rfl)
theorem dX3_begun_32 : decode cX3_begun 32 = .ok (.bipush 57, 2) := dk_16 57 (dk_at dksX3_begun_1 9 rfl rfl)
theorem dX3_begun_34 : decode cX3_begun 34 = .ok (.invokestatic 121, 3) := dk_184 0 121 (dk_at dksX3_begun_1 11 rfl rfl)
theorem dX3_begun_37 : decode cX3_begun 37 = .ok (.ifCond .eq 16, 3) := dk_153 0 16 (dk_at dksX3_begun_1 14 rfl rfl)
theorem dX3_begun_40 : decode cX3_begun 40 = .ok (.aload_n 0, 1) := dk_42 (dk_at dksX3_begun_1 17 rfl rfl)
theorem dX3_begun_41 : decode cX3_begun 41 = .ok (.iconst 3, 1) := dk_6 (dk_at dksX3_begun_1 18 rfl rfl)
theorem dX3_begun_42 : decode cX3_begun 42 = .ok (.aload_n 0, 1) := dk_42 (dk_at dksX3_begun_1 19 rfl rfl)
theorem dX3_begun_43 : decode cX3_begun 43 = .ok (.invokevirtual 251, 3) := dk_182 0 251 (dk_at dksX3_begun_1 20 rfl rfl)
theorem dX3_begun_46 : decode cX3_begun 46 = .ok (.bipush 48, 2) := dk_16 48 (dk_at dksX3_begun_2 0 rfl rfl)
theorem dX3_begun_48 : decode cX3_begun 48 = .ok (.isub, 1) := dk_100 (dk_at dksX3_begun_2 2 rfl rfl)
theorem dX3_begun_49 : decode cX3_begun 49 = .ok (.iconst 1, 1) := dk_4 (dk_at dksX3_begun_2 3 rfl rfl)
theorem dX3_begun_50 : decode cX3_begun 50 = .ok (.invokevirtual 241, 3) := dk_182 0 241 (dk_at dksX3_begun_2 4 rfl rfl)
theorem dX3_begun_53 : decode cX3_begun 53 = .ok (.aload_n 0, 1) := dk_42 (dk_at dksX3_begun_2 7 rfl rfl)
theorem dX3_begun_54 : decode cX3_begun 54 = .ok (.invokevirtual 234, 3) := dk_182 0 234 (dk_at dksX3_begun_2 8 rfl rfl)
theorem dX3_begun_57 : decode cX3_begun 57 = .ok (.istore_n 2, 1) := dk_61 (dk_at dksX3_begun_2 11 rfl rfl)
theorem dX3_begun_58 : decode cX3_begun 58 = .ok (.iload_n 2, 1) := dk_28 (dk_at dksX3_begun_2 12 rfl rfl)
theorem dX3_begun_59 : decode cX3_begun 59 = .ok (.bipush 33, 2) := dk_16 33 (dk_at dksX3_begun_2 13 rfl rfl)
theorem dX3_begun_61 : decode cX3_begun 61 = .ok (.if_icmp .ne 22, 3) := dk_160 0 22 (dk_at dksX3_begun_2 15 rfl rfl)
theorem dX3_begun_64 : decode cX3_begun 64 = .ok (.aload_n 0, 1) := dk_42 (dk_at dksX3_begun_2 18 rfl rfl)
theorem dX3_begun_65 : decode cX3_begun 65 = .ok (.dup, 1) := dk_89 (dk_at dksX3_begun_2 19 rfl rfl)
theorem dX3_begun_66 : decode cX3_begun 66 = .ok (.getfield 228, 3) := dk_180 0 228 (dk_at dksX3_begun_2 20 rfl rfl)
theorem dX3_begun_69 : decode cX3_begun 69 = .ok (.iconst 1, 1) := dk_4 (dk_at dksX3_begun_2 23 rfl rfl)
theorem dX3_begun_70 : decode cX3_begun 70 = .ok (.iadd, 1) := dk_96 (dk_at dksX3_begun_3 0 rfl rfl)
theorem dX3_begun_71 : decode cX3_begun 71 = .ok (.putfield 228, 3) := dk_181 0 228 (dk_at dksX3_begun_3 1 rfl rfl)
theorem dX3_begun_74 : decode cX3_begun 74 = .ok (.aload_n 0, 1) := dk_42 (dk_at dksX3_begun_3 4 rfl rfl)
theorem dX3_begun_75 : decode cX3_begun 75 = .ok (.iconst 2, 1) := dk_5 (dk_at dksX3_begun_3 5 rfl rfl)
theorem dX3_begun_76 : decode cX3_begun 76 = .ok (.iconst 0, 1) := dk_3 (dk_at dksX3_begun_3 6 rfl rfl)
theorem dX3_begun_77 : decode cX3_begun 77 = .ok (.iconst 0, 1) := dk_3 (dk_at dksX3_begun_3 7 rfl rfl)
theorem dX3_begun_78 : decode cX3_begun 78 = .ok (.invokevirtual 241, 3) := dk_182 0 241 (dk_at dksX3_begun_3 8 rfl rfl)
theorem dX3_begun_81 : decode cX3_begun 81 = .ok (.iconst 0, 1) := dk_3 (dk_at dksX3_begun_3 11 rfl rfl)
theorem dX3_begun_82 : decode cX3_begun 82 = .ok (.ireturn, 1) := dk_172 (dk_at dksX3_begun_3 12 rfl rfl)
theorem dX3_begun_83 : decode cX3_begun 83 = .ok (.iload_n 2, 1) := dk_28 (dk_at dksX3_begun_3 13 rfl rfl)
theorem dX3_begun_84 : decode cX3_begun 84 = .ok (.bipush 99, 2) := dk_16 99 (dk_at dksX3_begun_3 14 rfl rfl)
theorem dX3_begun_86 : decode cX3_begun 86 = .ok (.if_icmp .ne 44, 3) := dk_160 0 44 (dk_at dksX3_begun_3 16 rfl rfl)
theorem dX3_begun_89 : decode cX3_begun 89 = .ok (.aload_n 0, 1) := dk_42 (dk_at dksX3_begun_3 19 rfl rfl)
theorem dX3_begun_90 : decode cX3_begun 90 = .ok (.dup, 1) := dk_89 (dk_at dksX3_begun_3 20 rfl rfl)
theorem dX3_begun_91 : decode cX3_begun 91 = .ok (.getfield 228, 3) := dk_180 0 228 (dk_at dksX3_begun_3 21 rfl rfl)
theorem dX3_begun_94 : decode cX3_begun 94 = .ok (.iconst 1, 1) := dk_4 (dk_at dksX3_begun_4 0 rfl rfl)
theorem dX3_begun_95 : decode cX3_begun 95 = .ok (.iadd, 1) := dk_96 (dk_at dksX3_begun_4 1 rfl rfl)
theorem dX3_begun_96 : decode cX3_begun 96 = .ok (.putfield 228, 3) := dk_181 0 228 (dk_at dksX3_begun_4 2 rfl rfl)
theorem dX3_begun_99 : decode cX3_begun 99 = .ok (.aload_n 0, 1) := dk_42 (dk_at dksX3_begun_4 5 rfl rfl)
theorem dX3_begun_100 : decode cX3_begun 100 = .ok (.bipush 49, 2) := dk_16 49 (dk_at dksX3_begun_4 6 rfl rfl)
theorem dX3_begun_102 : decode cX3_begun 102 = .ok (.bipush 57, 2) := dk_16 57 (dk_at dksX3_begun_4 8 rfl rfl)
theorem dX3_begun_104 : decode cX3_begun 104 = .ok (.invokevirtual 247, 3) := dk_182 0 247 (dk_at dksX3_begun_4 10 rfl rfl)
theorem dX3_begun_107 : decode cX3_begun 107 = .ok (.ifCond .eq 13, 3) := dk_153 0 13 (dk_at dksX3_begun_4 13 rfl rfl)
theorem dX3_begun_110 : decode cX3_begun 110 = .ok (.aload_n 0, 1) := dk_42 (dk_at dksX3_begun_4 16 rfl rfl)
theorem dX3_begun_111 : decode cX3_begun 111 = .ok (.invokevirtual 251, 3) := dk_182 0 251 (dk_at dksX3_begun_4 17 rfl rfl)
theorem dX3_begun_114 : decode cX3_begun 114 = .ok (.bipush 48, 2) := dk_16 48 (dk_at dksX3_begun_4 20 rfl rfl)
theorem dX3_begun_116 : decode cX3_begun 116 = .ok (.isub, 1) := dk_100 (dk_at dksX3_begun_4 22 rfl rfl)
theorem dX3_begun_117 : decode cX3_begun 117 = .ok (.goto 4, 3) := dk_167 0 4 (dk_at dksX3_begun_5 0 rfl rfl)
theorem dX3_begun_120 : decode cX3_begun 120 = .ok (.iconst 0, 1) := dk_3 (dk_at dksX3_begun_5 3 rfl rfl)
theorem dX3_begun_121 : decode cX3_begun 121 = .ok (.istore_n 3, 1) := dk_62 (dk_at dksX3_begun_5 4 rfl rfl)
theorem dX3_begun_122 : decode cX3_begun 122 = .ok (.aload_n 0, 1) := dk_42 (dk_at dksX3_begun_5 5 rfl rfl)
theorem dX3_begun_123 : decode cX3_begun 123 = .ok (.iconst 1, 1) := dk_4 (dk_at dksX3_begun_5 6 rfl rfl)
theorem dX3_begun_124 : decode cX3_begun 124 = .ok (.iload_n 3, 1) := dk_29 (dk_at dksX3_begun_5 7 rfl rfl)
theorem dX3_begun_125 : decode cX3_begun 125 = .ok (.invokevirtual 266, 3) := dk_182 1 10 (dk_at dksX3_begun_5 8 rfl rfl)
theorem dX3_begun_128 : decode cX3_begun 128 = .ok (.iconst 0, 1) := dk_3 (dk_at dksX3_begun_5 11 rfl rfl)
theorem dX3_begun_129 : decode cX3_begun 129 = .ok (.ireturn, 1) := dk_172 (dk_at dksX3_begun_5 12 rfl rfl)
theorem dX3_begun_130 : decode cX3_begun 130 = .ok (.iload_n 2, 1) := dk_28 (dk_at dksX3_begun_5 13 rfl rfl)
theorem dX3_begun_131 : decode cX3_begun 131 = .ok (.bipush 109, 2) := dk_16 109 (dk_at dksX3_begun_5 14 rfl rfl)
theorem dX3_begun_133 : decode cX3_begun 133 = .ok (.if_icmp .eq 9, 3) := dk_159 0 9 (dk_at dksX3_begun_5 16 rfl rfl)
theorem dX3_begun_136 : decode cX3_begun 136 = .ok (.iload_n 2, 1) := dk_28 (dk_at dksX3_begun_5 19 rfl rfl)
theorem dX3_begun_137 : decode cX3_begun 137 = .ok (.bipush 114, 2) := dk_16 114 (dk_at dksX3_begun_5 20 rfl rfl)
theorem dX3_begun_139 : decode cX3_begun 139 = .ok (.if_icmp .ne 67, 3) := dk_160 0 67 (dk_at dksX3_begun_6 0 rfl rfl)
theorem dX3_begun_142 : decode cX3_begun 142 = .ok (.aload_n 0, 1) := dk_42 (dk_at dksX3_begun_6 3 rfl rfl)
theorem dX3_begun_143 : decode cX3_begun 143 = .ok (.aload_n 0, 1) := dk_42 (dk_at dksX3_begun_6 4 rfl rfl)
theorem dX3_begun_144 : decode cX3_begun 144 = .ok (.getfield 231, 3) := dk_180 0 231 (dk_at dksX3_begun_6 5 rfl rfl)
theorem dX3_begun_147 : decode cX3_begun 147 = .ok (.ifCond .eq 16, 3) := dk_153 0 16 (dk_at dksX3_begun_6 8 rfl rfl)
theorem dX3_begun_150 : decode cX3_begun 150 = .ok (.aload_n 0, 1) := dk_42 (dk_at dksX3_begun_6 11 rfl rfl)
theorem dX3_begun_151 : decode cX3_begun 151 = .ok (.getfield 238, 3) := dk_180 0 238 (dk_at dksX3_begun_6 12 rfl rfl)
theorem dX3_begun_154 : decode cX3_begun 154 = .ok (.bipush 10, 2) := dk_16 10 (dk_at dksX3_begun_6 15 rfl rfl)
theorem dX3_begun_156 : decode cX3_begun 156 = .ok (.if_icmp .gt 7, 3) := dk_163 0 7 (dk_at dksX3_begun_6 17 rfl rfl)
theorem dX3_begun_159 : decode cX3_begun 159 = .ok (.iconst 1, 1) := dk_4 (dk_at dksX3_begun_6 20 rfl rfl)
theorem dX3_begun_160 : decode cX3_begun 160 = .ok (.goto 4, 3) := dk_167 0 4 (dk_at dksX3_begun_6 21 rfl rfl)
theorem dX3_begun_163 : decode cX3_begun 163 = .ok (.iconst 0, 1) := dk_3 (dk_at dksX3_begun_7 0 rfl rfl)
theorem dX3_begun_164 : decode cX3_begun 164 = .ok (.putfield 231, 3) := dk_181 0 231 (dk_at dksX3_begun_7 1 rfl rfl)
theorem dX3_begun_167 : decode cX3_begun 167 = .ok (.aload_n 0, 1) := dk_42 (dk_at dksX3_begun_7 4 rfl rfl)
theorem dX3_begun_168 : decode cX3_begun 168 = .ok (.getfield 231, 3) := dk_180 0 231 (dk_at dksX3_begun_7 5 rfl rfl)
theorem dX3_begun_171 : decode cX3_begun 171 = .ok (.ifCond .ne 5, 3) := dk_154 0 5 (dk_at dksX3_begun_7 8 rfl rfl)
theorem dX3_begun_174 : decode cX3_begun 174 = .ok (.iconst 0, 1) := dk_3 (dk_at dksX3_begun_7 11 rfl rfl)
theorem dX3_begun_175 : decode cX3_begun 175 = .ok (.ireturn, 1) := dk_172 (dk_at dksX3_begun_7 12 rfl rfl)
theorem dX3_begun_176 : decode cX3_begun 176 = .ok (.aload_n 0, 1) := dk_42 (dk_at dksX3_begun_7 13 rfl rfl)
theorem dX3_begun_177 : decode cX3_begun 177 = .ok (.dup, 1) := dk_89 (dk_at dksX3_begun_7 14 rfl rfl)
theorem dX3_begun_178 : decode cX3_begun 178 = .ok (.getfield 228, 3) := dk_180 0 228 (dk_at dksX3_begun_7 15 rfl rfl)
theorem dX3_begun_181 : decode cX3_begun 181 = .ok (.iconst 1, 1) := dk_4 (dk_at dksX3_begun_7 18 rfl rfl)
theorem dX3_begun_182 : decode cX3_begun 182 = .ok (.iadd, 1) := dk_96 (dk_at dksX3_begun_7 19 rfl rfl)
theorem dX3_begun_183 : decode cX3_begun 183 = .ok (.putfield 228, 3) := dk_181 0 228 (dk_at dksX3_begun_7 20 rfl rfl)
theorem dX3_begun_186 : decode cX3_begun 186 = .ok (.aload_n 0, 1) := dk_42 (dk_at dksX3_begun_7 23 rfl rfl)
theorem dX3_begun_187 : decode cX3_begun 187 = .ok (.iload_n 2, 1) := dk_28 (dk_at dksX3_begun_8 0 rfl rfl)
theorem dX3_begun_188 : decode cX3_begun 188 = .ok (.bipush 109, 2) := dk_16 109 (dk_at dksX3_begun_8 1 rfl rfl)
theorem dX3_begun_190 : decode cX3_begun 190 = .ok (.if_icmp .ne 7, 3) := dk_160 0 7 (dk_at dksX3_begun_8 3 rfl rfl)
theorem dX3_begun_193 : decode cX3_begun 193 = .ok (.iconst 4, 1) := dk_7 (dk_at dksX3_begun_8 6 rfl rfl)
theorem dX3_begun_194 : decode cX3_begun 194 = .ok (.goto 4, 3) := dk_167 0 4 (dk_at dksX3_begun_8 7 rfl rfl)
theorem dX3_begun_197 : decode cX3_begun 197 = .ok (.iconst 5, 1) := dk_8 (dk_at dksX3_begun_8 10 rfl rfl)
theorem dX3_begun_198 : decode cX3_begun 198 = .ok (.iconst 0, 1) := dk_3 (dk_at dksX3_begun_8 11 rfl rfl)
theorem dX3_begun_199 : decode cX3_begun 199 = .ok (.iconst 1, 1) := dk_4 (dk_at dksX3_begun_8 12 rfl rfl)
theorem dX3_begun_200 : decode cX3_begun 200 = .ok (.invokevirtual 241, 3) := dk_182 0 241 (dk_at dksX3_begun_8 13 rfl rfl)
theorem dX3_begun_203 : decode cX3_begun 203 = .ok (.goto 17, 3) := dk_167 0 17 (dk_at dksX3_begun_8 16 rfl rfl)
theorem dX3_begun_206 : decode cX3_begun 206 = .ok (.iload_n 2, 1) := dk_28 (dk_at dksX3_begun_8 19 rfl rfl)
theorem dX3_begun_207 : decode cX3_begun 207 = .ok (.bipush 40, 2) := dk_16 40 (dk_at dksX3_begun_8 20 rfl rfl)
theorem dX3_begun_209 : decode cX3_begun 209 = .ok (.if_icmp .eq 11, 3) := dk_159 0 11 (dk_at dksX3_begun_9 0 rfl rfl)
theorem dX3_begun_212 : decode cX3_begun 212 = .ok (.aload_n 0, 1) := dk_42 (dk_at dksX3_begun_9 3 rfl rfl)
theorem dX3_begun_213 : decode cX3_begun 213 = .ok (.iconst 0, 1) := dk_3 (dk_at dksX3_begun_9 4 rfl rfl)
theorem dX3_begun_214 : decode cX3_begun 214 = .ok (.iconst 0, 1) := dk_3 (dk_at dksX3_begun_9 5 rfl rfl)
theorem dX3_begun_215 : decode cX3_begun 215 = .ok (.invokevirtual 266, 3) := dk_182 1 10 (dk_at dksX3_begun_9 6 rfl rfl)
theorem dX3_begun_218 : decode cX3_begun 218 = .ok (.iconst 0, 1) := dk_3 (dk_at dksX3_begun_9 9 rfl rfl)
theorem dX3_begun_219 : decode cX3_begun 219 = .ok (.ireturn, 1) := dk_172 (dk_at dksX3_begun_9 10 rfl rfl)
theorem dX3_begun_220 : decode cX3_begun 220 = .ok (.aload_n 0, 1) := dk_42 (dk_at dksX3_begun_9 11 rfl rfl)
theorem dX3_begun_221 : decode cX3_begun 221 = .ok (.invokevirtual 269, 3) := dk_182 1 13 (dk_at dksX3_begun_9 12 rfl rfl)
theorem dX3_begun_224 : decode cX3_begun 224 = .ok (.aload_n 0, 1) := dk_42 (dk_at dksX3_begun_9 15 rfl rfl)
theorem dX3_begun_225 : decode cX3_begun 225 = .ok (.getfield 231, 3) := dk_180 0 231 (dk_at dksX3_begun_9 16 rfl rfl)
theorem dX3_begun_228 : decode cX3_begun 228 = .ok (.ireturn, 1) := dk_172 (dk_at dksX3_begun_9 19 rfl rfl)
abbrev cX3_here : ByteArray := prog_24_method_38_code
def yX3_here : MethodName := ⟨RX3, "here", "()I"⟩
def dkwX3_here_1 : List UInt8 := [172]
abbrev dktX3_here_1 : List UInt8 := dkwX3_here_1 ++ []
def dkwX3_here_0 : List UInt8 := [42, 180, 0, 228, 42, 180, 0, 225, 162, 0, 15, 42, 180, 0, 27, 42, 180, 0, 228, 46, 167, 0, 4, 2]
abbrev dktX3_here_0 : List UInt8 := dkwX3_here_0 ++ dktX3_here_1
theorem dksX3_here_0 : cX3_here.data.toList.drop 0 = dktX3_here_0 := by decide +kernel
theorem dksX3_here_1 : cX3_here.data.toList.drop 24 = dktX3_here_1 := dk_seg dksX3_here_0 24 rfl rfl
theorem dX3_here_0 : decode cX3_here 0 = .ok (.aload_n 0, 1) := dk_42 (dk_at dksX3_here_0 0 rfl rfl)
theorem dX3_here_1 : decode cX3_here 1 = .ok (.getfield 228, 3) := dk_180 0 228 (dk_at dksX3_here_0 1 rfl rfl)
theorem dX3_here_4 : decode cX3_here 4 = .ok (.aload_n 0, 1) := dk_42 (dk_at dksX3_here_0 4 rfl rfl)
theorem dX3_here_5 : decode cX3_here 5 = .ok (.getfield 225, 3) := dk_180 0 225 (dk_at dksX3_here_0 5 rfl rfl)
theorem dX3_here_8 : decode cX3_here 8 = .ok (.if_icmp .ge 15, 3) := dk_162 0 15 (dk_at dksX3_here_0 8 rfl rfl)
theorem dX3_here_11 : decode cX3_here 11 = .ok (.aload_n 0, 1) := dk_42 (dk_at dksX3_here_0 11 rfl rfl)
theorem dX3_here_12 : decode cX3_here 12 = .ok (.getfield 27, 3) := dk_180 0 27 (dk_at dksX3_here_0 12 rfl rfl)
theorem dX3_here_15 : decode cX3_here 15 = .ok (.aload_n 0, 1) := dk_42 (dk_at dksX3_here_0 15 rfl rfl)
theorem dX3_here_16 : decode cX3_here 16 = .ok (.getfield 228, 3) := dk_180 0 228 (dk_at dksX3_here_0 16 rfl rfl)
theorem dX3_here_19 : decode cX3_here 19 = .ok (.iaload, 1) := dk_46 (dk_at dksX3_here_0 19 rfl rfl)
theorem dX3_here_20 : decode cX3_here 20 = .ok (.goto 4, 3) := dk_167 0 4 (dk_at dksX3_here_0 20 rfl rfl)
theorem dX3_here_23 : decode cX3_here 23 = .ok (.iconst (-1), 1) := dk_2 (dk_at dksX3_here_0 23 rfl rfl)
theorem dX3_here_24 : decode cX3_here 24 = .ok (.ireturn, 1) := dk_172 (dk_at dksX3_here_1 0 rfl rfl)
abbrev cX3_next : ByteArray := prog_24_method_39_code
def yX3_next : MethodName := ⟨RX3, "next", "()I"⟩
def dkwX3_next_0 : List UInt8 := [42, 89, 180, 0, 228, 4, 96, 181, 0, 228, 42, 180, 0, 27, 42, 180, 0, 228, 4, 100, 46, 172]
abbrev dktX3_next_0 : List UInt8 := dkwX3_next_0 ++ []
theorem dksX3_next_0 : cX3_next.data.toList.drop 0 = dktX3_next_0 := by decide +kernel
theorem dX3_next_0 : decode cX3_next 0 = .ok (.aload_n 0, 1) := dk_42 (dk_at dksX3_next_0 0 rfl rfl)
theorem dX3_next_1 : decode cX3_next 1 = .ok (.dup, 1) := dk_89 (dk_at dksX3_next_0 1 rfl rfl)
theorem dX3_next_2 : decode cX3_next 2 = .ok (.getfield 228, 3) := dk_180 0 228 (dk_at dksX3_next_0 2 rfl rfl)
theorem dX3_next_5 : decode cX3_next 5 = .ok (.iconst 1, 1) := dk_4 (dk_at dksX3_next_0 5 rfl rfl)
theorem dX3_next_6 : decode cX3_next 6 = .ok (.iadd, 1) := dk_96 (dk_at dksX3_next_0 6 rfl rfl)
theorem dX3_next_7 : decode cX3_next 7 = .ok (.putfield 228, 3) := dk_181 0 228 (dk_at dksX3_next_0 7 rfl rfl)
theorem dX3_next_10 : decode cX3_next 10 = .ok (.aload_n 0, 1) := dk_42 (dk_at dksX3_next_0 10 rfl rfl)
theorem dX3_next_11 : decode cX3_next 11 = .ok (.getfield 27, 3) := dk_180 0 27 (dk_at dksX3_next_0 11 rfl rfl)
theorem dX3_next_14 : decode cX3_next 14 = .ok (.aload_n 0, 1) := dk_42 (dk_at dksX3_next_0 14 rfl rfl)
theorem dX3_next_15 : decode cX3_next 15 = .ok (.getfield 228, 3) := dk_180 0 228 (dk_at dksX3_next_0 15 rfl rfl)
theorem dX3_next_18 : decode cX3_next 18 = .ok (.iconst 1, 1) := dk_4 (dk_at dksX3_next_0 18 rfl rfl)
theorem dX3_next_19 : decode cX3_next 19 = .ok (.isub, 1) := dk_100 (dk_at dksX3_next_0 19 rfl rfl)
theorem dX3_next_20 : decode cX3_next 20 = .ok (.iaload, 1) := dk_46 (dk_at dksX3_next_0 20 rfl rfl)
theorem dX3_next_21 : decode cX3_next 21 = .ok (.ireturn, 1) := dk_172 (dk_at dksX3_next_0 21 rfl rfl)
abbrev cX3_isHere : ByteArray := prog_24_method_40_code
def yX3_isHere : MethodName := ⟨RX3, "isHere", "(CC)Z"⟩
def dkwX3_isHere_1 : List UInt8 := [3, 181, 0, 231, 42, 180, 0, 231, 172]
abbrev dktX3_isHere_1 : List UInt8 := dkwX3_isHere_1 ++ []
def dkwX3_isHere_0 : List UInt8 := [42, 42, 180, 0, 231, 153, 0, 19, 42, 182, 0, 234, 27, 28, 184, 0, 121, 153, 0, 7, 4, 167, 0, 4]
abbrev dktX3_isHere_0 : List UInt8 := dkwX3_isHere_0 ++ dktX3_isHere_1
theorem dksX3_isHere_0 : cX3_isHere.data.toList.drop 0 = dktX3_isHere_0 := by decide +kernel
theorem dksX3_isHere_1 : cX3_isHere.data.toList.drop 24 = dktX3_isHere_1 := dk_seg dksX3_isHere_0 24 rfl rfl
theorem dX3_isHere_0 : decode cX3_isHere 0 = .ok (.aload_n 0, 1) := dk_42 (dk_at dksX3_isHere_0 0 rfl rfl)
theorem dX3_isHere_1 : decode cX3_isHere 1 = .ok (.aload_n 0, 1) := dk_42 (dk_at dksX3_isHere_0 1 rfl rfl)
theorem dX3_isHere_2 : decode cX3_isHere 2 = .ok (.getfield 231, 3) := dk_180 0 231 (dk_at dksX3_isHere_0 2 rfl rfl)
theorem dX3_isHere_5 : decode cX3_isHere 5 = .ok (.ifCond .eq 19, 3) := dk_153 0 19 (dk_at dksX3_isHere_0 5 rfl rfl)
theorem dX3_isHere_8 : decode cX3_isHere 8 = .ok (.aload_n 0, 1) := dk_42 (dk_at dksX3_isHere_0 8 rfl rfl)
theorem dX3_isHere_9 : decode cX3_isHere 9 = .ok (.invokevirtual 234, 3) := dk_182 0 234 (dk_at dksX3_isHere_0 9 rfl rfl)
theorem dX3_isHere_12 : decode cX3_isHere 12 = .ok (.iload_n 1, 1) := dk_27 (dk_at dksX3_isHere_0 12 rfl rfl)
theorem dX3_isHere_13 : decode cX3_isHere 13 = .ok (.iload_n 2, 1) := dk_28 (dk_at dksX3_isHere_0 13 rfl rfl)
theorem dX3_isHere_14 : decode cX3_isHere 14 = .ok (.invokestatic 121, 3) := dk_184 0 121 (dk_at dksX3_isHere_0 14 rfl rfl)
theorem dX3_isHere_17 : decode cX3_isHere 17 = .ok (.ifCond .eq 7, 3) := dk_153 0 7 (dk_at dksX3_isHere_0 17 rfl rfl)
theorem dX3_isHere_20 : decode cX3_isHere 20 = .ok (.iconst 1, 1) := dk_4 (dk_at dksX3_isHere_0 20 rfl rfl)
theorem dX3_isHere_21 : decode cX3_isHere 21 = .ok (.goto 4, 3) := dk_167 0 4 (dk_at dksX3_isHere_0 21 rfl rfl)
theorem dX3_isHere_24 : decode cX3_isHere 24 = .ok (.iconst 0, 1) := dk_3 (dk_at dksX3_isHere_1 0 rfl rfl)
theorem dX3_isHere_25 : decode cX3_isHere 25 = .ok (.putfield 231, 3) := dk_181 0 231 (dk_at dksX3_isHere_1 1 rfl rfl)
theorem dX3_isHere_28 : decode cX3_isHere 28 = .ok (.aload_n 0, 1) := dk_42 (dk_at dksX3_isHere_1 4 rfl rfl)
theorem dX3_isHere_29 : decode cX3_isHere 29 = .ok (.getfield 231, 3) := dk_180 0 231 (dk_at dksX3_isHere_1 5 rfl rfl)
theorem dX3_isHere_32 : decode cX3_isHere 32 = .ok (.ireturn, 1) := dk_172 (dk_at dksX3_isHere_1 8 rfl rfl)
abbrev cX3_phrase : ByteArray := prog_24_method_44_code
def yX3_phrase : MethodName := ⟨RX3, "phrase", "(II)V"⟩
def dkwX3_phrase_5 : List UInt8 := [182, 0, 251, 184, 1, 1, 182, 1, 4, 167, 255, 227, 177]
abbrev dktX3_phrase_5 : List UInt8 := dkwX3_phrase_5 ++ []
def dkwX3_phrase_4 : List UInt8 := [181, 0, 231, 42, 180, 0, 231, 153, 0, 28, 42, 182, 0, 234, 184, 1, 1, 2, 159, 0, 17, 42, 42]
abbrev dktX3_phrase_4 : List UInt8 := dkwX3_phrase_4 ++ dktX3_phrase_5
def dkwX3_phrase_3 : List UInt8 := [180, 0, 231, 153, 0, 18, 42, 182, 0, 234, 184, 1, 1, 2, 159, 0, 7, 4, 167, 0, 4, 3]
abbrev dktX3_phrase_3 : List UInt8 := dkwX3_phrase_3 ++ dktX3_phrase_4
def dkwX3_phrase_2 : List UInt8 := [16, 58, 16, 58, 182, 0, 247, 153, 0, 13, 42, 89, 180, 0, 228, 4, 96, 181, 0, 228, 42, 42]
abbrev dktX3_phrase_2 : List UInt8 := dkwX3_phrase_2 ++ dktX3_phrase_3
def dkwX3_phrase_1 : List UInt8 := [16, 72, 184, 0, 121, 153, 0, 17, 42, 42, 182, 0, 251, 16, 65, 100, 182, 0, 254, 167, 255, 231, 42]
abbrev dktX3_phrase_1 : List UInt8 := dkwX3_phrase_1 ++ dktX3_phrase_2
def dkwX3_phrase_0 : List UInt8 := [42, 27, 28, 3, 182, 0, 241, 42, 16, 65, 16, 72, 182, 0, 247, 153, 0, 31, 42, 182, 0, 234, 16, 65]
abbrev dktX3_phrase_0 : List UInt8 := dkwX3_phrase_0 ++ dktX3_phrase_1
theorem dksX3_phrase_0 : cX3_phrase.data.toList.drop 0 = dktX3_phrase_0 := by decide +kernel
theorem dksX3_phrase_1 : cX3_phrase.data.toList.drop 24 = dktX3_phrase_1 := dk_seg dksX3_phrase_0 24 rfl rfl
theorem dksX3_phrase_2 : cX3_phrase.data.toList.drop 47 = dktX3_phrase_2 := dk_seg dksX3_phrase_1 23 rfl rfl
theorem dksX3_phrase_3 : cX3_phrase.data.toList.drop 69 = dktX3_phrase_3 := dk_seg dksX3_phrase_2 22 rfl rfl
theorem dksX3_phrase_4 : cX3_phrase.data.toList.drop 91 = dktX3_phrase_4 := dk_seg dksX3_phrase_3 22 rfl rfl
theorem dksX3_phrase_5 : cX3_phrase.data.toList.drop 114 = dktX3_phrase_5 := dk_seg dksX3_phrase_4 23 rfl rfl
theorem dX3_phrase_0 : decode cX3_phrase 0 = .ok (.aload_n 0, 1) := dk_42 (dk_at dksX3_phrase_0 0 rfl rfl)
theorem dX3_phrase_1 : decode cX3_phrase 1 = .ok (.iload_n 1, 1) := dk_27 (dk_at dksX3_phrase_0 1 rfl rfl)
theorem dX3_phrase_2 : decode cX3_phrase 2 = .ok (.iload_n 2, 1) := dk_28 (dk_at dksX3_phrase_0 2 rfl rfl)
theorem dX3_phrase_3 : decode cX3_phrase 3 = .ok (.iconst 0, 1) := dk_3 (dk_at dksX3_phrase_0 3 rfl rfl)
theorem dX3_phrase_4 : decode cX3_phrase 4 = .ok (.invokevirtual 241, 3) := dk_182 0 241 (dk_at dksX3_phrase_0 4 rfl rfl)
theorem dX3_phrase_7 : decode cX3_phrase 7 = .ok (.aload_n 0, 1) := dk_42 (dk_at dksX3_phrase_0 7 rfl rfl)
theorem dX3_phrase_8 : decode cX3_phrase 8 = .ok (.bipush 65, 2) := dk_16 65 (dk_at dksX3_phrase_0 8 rfl rfl)
theorem dX3_phrase_10 : decode cX3_phrase 10 = .ok (.bipush 72, 2) := dk_16 72 (dk_at dksX3_phrase_0 10 rfl rfl)
theorem dX3_phrase_12 : decode cX3_phrase 12 = .ok (.invokevirtual 247, 3) := dk_182 0 247 (dk_at dksX3_phrase_0 12 rfl rfl)
theorem dX3_phrase_15 : decode cX3_phrase 15 = .ok (.ifCond .eq 31, 3) := dk_153 0 31 (dk_at dksX3_phrase_0 15 rfl rfl)
theorem dX3_phrase_18 : decode cX3_phrase 18 = .ok (.aload_n 0, 1) := dk_42 (dk_at dksX3_phrase_0 18 rfl rfl)
theorem dX3_phrase_19 : decode cX3_phrase 19 = .ok (.invokevirtual 234, 3) := dk_182 0 234 (dk_at dksX3_phrase_0 19 rfl rfl)
theorem dX3_phrase_22 : decode cX3_phrase 22 = .ok (.bipush 65, 2) := dk_16 65 (dk_at dksX3_phrase_0 22 rfl rfl)
theorem dX3_phrase_24 : decode cX3_phrase 24 = .ok (.bipush 72, 2) := dk_16 72 (dk_at dksX3_phrase_1 0 rfl rfl)
theorem dX3_phrase_26 : decode cX3_phrase 26 = .ok (.invokestatic 121, 3) := dk_184 0 121 (dk_at dksX3_phrase_1 2 rfl rfl)
theorem dX3_phrase_29 : decode cX3_phrase 29 = .ok (.ifCond .eq 17, 3) := dk_153 0 17 (dk_at dksX3_phrase_1 5 rfl rfl)
theorem dX3_phrase_32 : decode cX3_phrase 32 = .ok (.aload_n 0, 1) := dk_42 (dk_at dksX3_phrase_1 8 rfl rfl)
theorem dX3_phrase_33 : decode cX3_phrase 33 = .ok (.aload_n 0, 1) := dk_42 (dk_at dksX3_phrase_1 9 rfl rfl)
theorem dX3_phrase_34 : decode cX3_phrase 34 = .ok (.invokevirtual 251, 3) := dk_182 0 251 (dk_at dksX3_phrase_1 10 rfl rfl)
theorem dX3_phrase_37 : decode cX3_phrase 37 = .ok (.bipush 65, 2) := dk_16 65 (dk_at dksX3_phrase_1 13 rfl rfl)
theorem dX3_phrase_39 : decode cX3_phrase 39 = .ok (.isub, 1) := dk_100 (dk_at dksX3_phrase_1 15 rfl rfl)
theorem dX3_phrase_40 : decode cX3_phrase 40 = .ok (.invokevirtual 254, 3) := dk_182 0 254 (dk_at dksX3_phrase_1 16 rfl rfl)
theorem dX3_phrase_43 : decode cX3_phrase 43 = .ok (.goto (-25), 3) := dk_167 255 231 (dk_at dksX3_phrase_1 19 rfl rfl)
theorem dX3_phrase_46 : decode cX3_phrase 46 = .ok (.aload_n 0, 1) := dk_42 (dk_at dksX3_phrase_1 22 rfl rfl)
theorem dX3_phrase_47 : decode cX3_phrase 47 = .ok (.bipush 58, 2) := dk_16 58 (dk_at dksX3_phrase_2 0 rfl rfl)
theorem dX3_phrase_49 : decode cX3_phrase 49 = .ok (.bipush 58, 2) := dk_16 58 (dk_at dksX3_phrase_2 2 rfl rfl)
theorem dX3_phrase_51 : decode cX3_phrase 51 = .ok (.invokevirtual 247, 3) := dk_182 0 247 (dk_at dksX3_phrase_2 4 rfl rfl)
theorem dX3_phrase_54 : decode cX3_phrase 54 = .ok (.ifCond .eq 13, 3) := dk_153 0 13 (dk_at dksX3_phrase_2 7 rfl rfl)
theorem dX3_phrase_57 : decode cX3_phrase 57 = .ok (.aload_n 0, 1) := dk_42 (dk_at dksX3_phrase_2 10 rfl rfl)
theorem dX3_phrase_58 : decode cX3_phrase 58 = .ok (.dup, 1) := dk_89 (dk_at dksX3_phrase_2 11 rfl rfl)
theorem dX3_phrase_59 : decode cX3_phrase 59 = .ok (.getfield 228, 3) := dk_180 0 228 (dk_at dksX3_phrase_2 12 rfl rfl)
theorem dX3_phrase_62 : decode cX3_phrase 62 = .ok (.iconst 1, 1) := dk_4 (dk_at dksX3_phrase_2 15 rfl rfl)
theorem dX3_phrase_63 : decode cX3_phrase 63 = .ok (.iadd, 1) := dk_96 (dk_at dksX3_phrase_2 16 rfl rfl)
theorem dX3_phrase_64 : decode cX3_phrase 64 = .ok (.putfield 228, 3) := dk_181 0 228 (dk_at dksX3_phrase_2 17 rfl rfl)
theorem dX3_phrase_67 : decode cX3_phrase 67 = .ok (.aload_n 0, 1) := dk_42 (dk_at dksX3_phrase_2 20 rfl rfl)
theorem dX3_phrase_68 : decode cX3_phrase 68 = .ok (.aload_n 0, 1) := dk_42 (dk_at dksX3_phrase_2 21 rfl rfl)
theorem dX3_phrase_69 : decode cX3_phrase 69 = .ok (.getfield 231, 3) := dk_180 0 231 (dk_at dksX3_phrase_3 0 rfl rfl)
theorem dX3_phrase_72 : decode cX3_phrase 72 = .ok (.ifCond .eq 18, 3) := dk_153 0 18 (dk_at dksX3_phrase_3 3 rfl rfl)
theorem dX3_phrase_75 : decode cX3_phrase 75 = .ok (.aload_n 0, 1) := dk_42 (dk_at dksX3_phrase_3 6 rfl rfl)
theorem dX3_phrase_76 : decode cX3_phrase 76 = .ok (.invokevirtual 234, 3) := dk_182 0 234 (dk_at dksX3_phrase_3 7 rfl rfl)
theorem dX3_phrase_79 : decode cX3_phrase 79 = .ok (.invokestatic 257, 3) := dk_184 1 1 (dk_at dksX3_phrase_3 10 rfl rfl)
theorem dX3_phrase_82 : decode cX3_phrase 82 = .ok (.iconst (-1), 1) := dk_2 (dk_at dksX3_phrase_3 13 rfl rfl)
theorem dX3_phrase_83 : decode cX3_phrase 83 = .ok (.if_icmp .eq 7, 3) := dk_159 0 7 (dk_at dksX3_phrase_3 14 rfl rfl)
theorem dX3_phrase_86 : decode cX3_phrase 86 = .ok (.iconst 1, 1) := dk_4 (dk_at dksX3_phrase_3 17 rfl rfl)
theorem dX3_phrase_87 : decode cX3_phrase 87 = .ok (.goto 4, 3) := dk_167 0 4 (dk_at dksX3_phrase_3 18 rfl rfl)
theorem dX3_phrase_90 : decode cX3_phrase 90 = .ok (.iconst 0, 1) := dk_3 (dk_at dksX3_phrase_3 21 rfl rfl)
theorem dX3_phrase_91 : decode cX3_phrase 91 = .ok (.putfield 231, 3) := dk_181 0 231 (dk_at dksX3_phrase_4 0 rfl rfl)
theorem dX3_phrase_94 : decode cX3_phrase 94 = .ok (.aload_n 0, 1) := dk_42 (dk_at dksX3_phrase_4 3 rfl rfl)
theorem dX3_phrase_95 : decode cX3_phrase 95 = .ok (.getfield 231, 3) := dk_180 0 231 (dk_at dksX3_phrase_4 4 rfl rfl)
theorem dX3_phrase_98 : decode cX3_phrase 98 = .ok (.ifCond .eq 28, 3) := dk_153 0 28 (dk_at dksX3_phrase_4 7 rfl rfl)
theorem dX3_phrase_101 : decode cX3_phrase 101 = .ok (.aload_n 0, 1) := dk_42 (dk_at dksX3_phrase_4 10 rfl rfl)
theorem dX3_phrase_102 : decode cX3_phrase 102 = .ok (.invokevirtual 234, 3) := dk_182 0 234 (dk_at dksX3_phrase_4 11 rfl rfl)
theorem dX3_phrase_105 : decode cX3_phrase 105 = .ok (.invokestatic 257, 3) := dk_184 1 1 (dk_at dksX3_phrase_4 14 rfl rfl)
theorem dX3_phrase_108 : decode cX3_phrase 108 = .ok (.iconst (-1), 1) := dk_2 (dk_at dksX3_phrase_4 17 rfl rfl)
theorem dX3_phrase_109 : decode cX3_phrase 109 = .ok (.if_icmp .eq 17, 3) := dk_159 0 17 (dk_at dksX3_phrase_4 18 rfl rfl)
theorem dX3_phrase_112 : decode cX3_phrase 112 = .ok (.aload_n 0, 1) := dk_42 (dk_at dksX3_phrase_4 21 rfl rfl)
theorem dX3_phrase_113 : decode cX3_phrase 113 = .ok (.aload_n 0, 1) := dk_42 (dk_at dksX3_phrase_4 22 rfl rfl)
theorem dX3_phrase_114 : decode cX3_phrase 114 = .ok (.invokevirtual 251, 3) := dk_182 0 251 (dk_at dksX3_phrase_5 0 rfl rfl)
theorem dX3_phrase_117 : decode cX3_phrase 117 = .ok (.invokestatic 257, 3) := dk_184 1 1 (dk_at dksX3_phrase_5 3 rfl rfl)
theorem dX3_phrase_120 : decode cX3_phrase 120 = .ok (.invokevirtual 260, 3) := dk_182 1 4 (dk_at dksX3_phrase_5 6 rfl rfl)
theorem dX3_phrase_123 : decode cX3_phrase 123 = .ok (.goto (-29), 3) := dk_167 255 227 (dk_at dksX3_phrase_5 9 rfl rfl)
theorem dX3_phrase_126 : decode cX3_phrase 126 = .ok (.return_, 1) := dk_177 (dk_at dksX3_phrase_5 12 rfl rfl)
abbrev cX3_addsDancer : ByteArray := prog_24_method_19_code
def yX3_addsDancer : MethodName := ⟨RX3, "addsDancer", "(I)V"⟩
def dkwX3_addsDancer_2 : List UInt8 := [96, 182, 0, 137, 177]
abbrev dktX3_addsDancer_2 : List UInt8 := dkwX3_addsDancer_2 ++ []
def dkwX3_addsDancer_1 : List UInt8 := [96, 27, 79, 42, 180, 0, 7, 16, 44, 92, 46, 4, 96, 79, 42, 28, 7, 42, 28, 7, 182, 0, 133, 4]
abbrev dktX3_addsDancer_1 : List UInt8 := dkwX3_addsDancer_1 ++ dktX3_addsDancer_2
def dkwX3_addsDancer_0 : List UInt8 := [42, 180, 0, 7, 16, 43, 46, 4, 100, 61, 42, 180, 0, 7, 17, 25, 245, 42, 180, 0, 7, 16, 44, 46]
abbrev dktX3_addsDancer_0 : List UInt8 := dkwX3_addsDancer_0 ++ dktX3_addsDancer_1
theorem dksX3_addsDancer_0 : cX3_addsDancer.data.toList.drop 0 = dktX3_addsDancer_0 := by decide +kernel
theorem dksX3_addsDancer_1 : cX3_addsDancer.data.toList.drop 24 = dktX3_addsDancer_1 := dk_seg dksX3_addsDancer_0 24 rfl rfl
theorem dksX3_addsDancer_2 : cX3_addsDancer.data.toList.drop 48 = dktX3_addsDancer_2 := dk_seg dksX3_addsDancer_1 24 rfl rfl
theorem dX3_addsDancer_0 : decode cX3_addsDancer 0 = .ok (.aload_n 0, 1) := dk_42 (dk_at dksX3_addsDancer_0 0 rfl rfl)
theorem dX3_addsDancer_1 : decode cX3_addsDancer 1 = .ok (.getfield 7, 3) := dk_180 0 7 (dk_at dksX3_addsDancer_0 1 rfl rfl)
theorem dX3_addsDancer_4 : decode cX3_addsDancer 4 = .ok (.bipush 43, 2) := dk_16 43 (dk_at dksX3_addsDancer_0 4 rfl rfl)
theorem dX3_addsDancer_6 : decode cX3_addsDancer 6 = .ok (.iaload, 1) := dk_46 (dk_at dksX3_addsDancer_0 6 rfl rfl)
theorem dX3_addsDancer_7 : decode cX3_addsDancer 7 = .ok (.iconst 1, 1) := dk_4 (dk_at dksX3_addsDancer_0 7 rfl rfl)
theorem dX3_addsDancer_8 : decode cX3_addsDancer 8 = .ok (.isub, 1) := dk_100 (dk_at dksX3_addsDancer_0 8 rfl rfl)
theorem dX3_addsDancer_9 : decode cX3_addsDancer 9 = .ok (.istore_n 2, 1) := dk_61 (dk_at dksX3_addsDancer_0 9 rfl rfl)
theorem dX3_addsDancer_10 : decode cX3_addsDancer 10 = .ok (.aload_n 0, 1) := dk_42 (dk_at dksX3_addsDancer_0 10 rfl rfl)
theorem dX3_addsDancer_11 : decode cX3_addsDancer 11 = .ok (.getfield 7, 3) := dk_180 0 7 (dk_at dksX3_addsDancer_0 11 rfl rfl)
theorem dX3_addsDancer_14 : decode cX3_addsDancer 14 = .ok (.sipush 6645, 3) := dk_17 25 245 (dk_at dksX3_addsDancer_0 14 rfl rfl)
theorem dX3_addsDancer_17 : decode cX3_addsDancer 17 = .ok (.aload_n 0, 1) := dk_42 (dk_at dksX3_addsDancer_0 17 rfl rfl)
theorem dX3_addsDancer_18 : decode cX3_addsDancer 18 = .ok (.getfield 7, 3) := dk_180 0 7 (dk_at dksX3_addsDancer_0 18 rfl rfl)
theorem dX3_addsDancer_21 : decode cX3_addsDancer 21 = .ok (.bipush 44, 2) := dk_16 44 (dk_at dksX3_addsDancer_0 21 rfl rfl)
theorem dX3_addsDancer_23 : decode cX3_addsDancer 23 = .ok (.iaload, 1) := dk_46 (dk_at dksX3_addsDancer_0 23 rfl rfl)
theorem dX3_addsDancer_24 : decode cX3_addsDancer 24 = .ok (.iadd, 1) := dk_96 (dk_at dksX3_addsDancer_1 0 rfl rfl)
theorem dX3_addsDancer_25 : decode cX3_addsDancer 25 = .ok (.iload_n 1, 1) := dk_27 (dk_at dksX3_addsDancer_1 1 rfl rfl)
theorem dX3_addsDancer_26 : decode cX3_addsDancer 26 = .ok (.iastore, 1) := dk_79 (dk_at dksX3_addsDancer_1 2 rfl rfl)
theorem dX3_addsDancer_27 : decode cX3_addsDancer 27 = .ok (.aload_n 0, 1) := dk_42 (dk_at dksX3_addsDancer_1 3 rfl rfl)
theorem dX3_addsDancer_28 : decode cX3_addsDancer 28 = .ok (.getfield 7, 3) := dk_180 0 7 (dk_at dksX3_addsDancer_1 4 rfl rfl)
theorem dX3_addsDancer_31 : decode cX3_addsDancer 31 = .ok (.bipush 44, 2) := dk_16 44 (dk_at dksX3_addsDancer_1 7 rfl rfl)
theorem dX3_addsDancer_33 : decode cX3_addsDancer 33 = .ok (.dup2, 1) := dk_92 (dk_at dksX3_addsDancer_1 9 rfl rfl)
theorem dX3_addsDancer_34 : decode cX3_addsDancer 34 = .ok (.iaload, 1) := dk_46 (dk_at dksX3_addsDancer_1 10 rfl rfl)
theorem dX3_addsDancer_35 : decode cX3_addsDancer 35 = .ok (.iconst 1, 1) := dk_4 (dk_at dksX3_addsDancer_1 11 rfl rfl)
theorem dX3_addsDancer_36 : decode cX3_addsDancer 36 = .ok (.iadd, 1) := dk_96 (dk_at dksX3_addsDancer_1 12 rfl rfl)
theorem dX3_addsDancer_37 : decode cX3_addsDancer 37 = .ok (.iastore, 1) := dk_79 (dk_at dksX3_addsDancer_1 13 rfl rfl)
theorem dX3_addsDancer_38 : decode cX3_addsDancer 38 = .ok (.aload_n 0, 1) := dk_42 (dk_at dksX3_addsDancer_1 14 rfl rfl)
theorem dX3_addsDancer_39 : decode cX3_addsDancer 39 = .ok (.iload_n 2, 1) := dk_28 (dk_at dksX3_addsDancer_1 15 rfl rfl)
theorem dX3_addsDancer_40 : decode cX3_addsDancer 40 = .ok (.iconst 4, 1) := dk_7 (dk_at dksX3_addsDancer_1 16 rfl rfl)
theorem dX3_addsDancer_41 : decode cX3_addsDancer 41 = .ok (.aload_n 0, 1) := dk_42 (dk_at dksX3_addsDancer_1 17 rfl rfl)
theorem dX3_addsDancer_42 : decode cX3_addsDancer 42 = .ok (.iload_n 2, 1) := dk_28 (dk_at dksX3_addsDancer_1 18 rfl rfl)
theorem dX3_addsDancer_43 : decode cX3_addsDancer 43 = .ok (.iconst 4, 1) := dk_7 (dk_at dksX3_addsDancer_1 19 rfl rfl)
theorem dX3_addsDancer_44 : decode cX3_addsDancer 44 = .ok (.invokevirtual 133, 3) := dk_182 0 133 (dk_at dksX3_addsDancer_1 20 rfl rfl)
theorem dX3_addsDancer_47 : decode cX3_addsDancer 47 = .ok (.iconst 1, 1) := dk_4 (dk_at dksX3_addsDancer_1 23 rfl rfl)
theorem dX3_addsDancer_48 : decode cX3_addsDancer 48 = .ok (.iadd, 1) := dk_96 (dk_at dksX3_addsDancer_2 0 rfl rfl)
theorem dX3_addsDancer_49 : decode cX3_addsDancer 49 = .ok (.invokevirtual 137, 3) := dk_182 0 137 (dk_at dksX3_addsDancer_2 1 rfl rfl)
theorem dX3_addsDancer_52 : decode cX3_addsDancer 52 = .ok (.return_, 1) := dk_177 (dk_at dksX3_addsDancer_2 4 rfl rfl)
abbrev cX3_stepOf : ByteArray := prog_24_method_43_code
def yX3_stepOf : MethodName := ⟨RX3, "stepOf", "(I)I"⟩
def dkwX3_stepOf_2 : List UInt8 := [167, 0, 4, 2, 172]
abbrev dktX3_stepOf_2 : List UInt8 := dkwX3_stepOf_2 ++ []
def dkwX3_stepOf_1 : List UInt8 := [160, 0, 7, 5, 167, 0, 24, 26, 16, 101, 160, 0, 7, 6, 167, 0, 14, 26, 16, 119, 160, 0, 7, 7]
abbrev dktX3_stepOf_1 : List UInt8 := dkwX3_stepOf_1 ++ dktX3_stepOf_2
def dkwX3_stepOf_0 : List UInt8 := [26, 16, 46, 160, 0, 7, 3, 167, 0, 44, 26, 16, 110, 160, 0, 7, 4, 167, 0, 34, 26, 16, 115]
abbrev dktX3_stepOf_0 : List UInt8 := dkwX3_stepOf_0 ++ dktX3_stepOf_1
theorem dksX3_stepOf_0 : cX3_stepOf.data.toList.drop 0 = dktX3_stepOf_0 := by decide +kernel
theorem dksX3_stepOf_1 : cX3_stepOf.data.toList.drop 23 = dktX3_stepOf_1 := dk_seg dksX3_stepOf_0 23 rfl rfl
theorem dksX3_stepOf_2 : cX3_stepOf.data.toList.drop 47 = dktX3_stepOf_2 := dk_seg dksX3_stepOf_1 24 rfl rfl
theorem dX3_stepOf_0 : decode cX3_stepOf 0 = .ok (.iload_n 0, 1) := dk_26 (dk_at dksX3_stepOf_0 0 rfl rfl)
theorem dX3_stepOf_1 : decode cX3_stepOf 1 = .ok (.bipush 46, 2) := dk_16 46 (dk_at dksX3_stepOf_0 1 rfl rfl)
theorem dX3_stepOf_3 : decode cX3_stepOf 3 = .ok (.if_icmp .ne 7, 3) := dk_160 0 7 (dk_at dksX3_stepOf_0 3 rfl rfl)
theorem dX3_stepOf_6 : decode cX3_stepOf 6 = .ok (.iconst 0, 1) := dk_3 (dk_at dksX3_stepOf_0 6 rfl rfl)
theorem dX3_stepOf_7 : decode cX3_stepOf 7 = .ok (.goto 44, 3) := dk_167 0 44 (dk_at dksX3_stepOf_0 7 rfl rfl)
theorem dX3_stepOf_10 : decode cX3_stepOf 10 = .ok (.iload_n 0, 1) := dk_26 (dk_at dksX3_stepOf_0 10 rfl rfl)
theorem dX3_stepOf_11 : decode cX3_stepOf 11 = .ok (.bipush 110, 2) := dk_16 110 (dk_at dksX3_stepOf_0 11 rfl rfl)
theorem dX3_stepOf_13 : decode cX3_stepOf 13 = .ok (.if_icmp .ne 7, 3) := dk_160 0 7 (dk_at dksX3_stepOf_0 13 rfl rfl)
theorem dX3_stepOf_16 : decode cX3_stepOf 16 = .ok (.iconst 1, 1) := dk_4 (dk_at dksX3_stepOf_0 16 rfl rfl)
theorem dX3_stepOf_17 : decode cX3_stepOf 17 = .ok (.goto 34, 3) := dk_167 0 34 (dk_at dksX3_stepOf_0 17 rfl rfl)
theorem dX3_stepOf_20 : decode cX3_stepOf 20 = .ok (.iload_n 0, 1) := dk_26 (dk_at dksX3_stepOf_0 20 rfl rfl)
theorem dX3_stepOf_21 : decode cX3_stepOf 21 = .ok (.bipush 115, 2) := dk_16 115 (dk_at dksX3_stepOf_0 21 rfl rfl)
theorem dX3_stepOf_23 : decode cX3_stepOf 23 = .ok (.if_icmp .ne 7, 3) := dk_160 0 7 (dk_at dksX3_stepOf_1 0 rfl rfl)
theorem dX3_stepOf_26 : decode cX3_stepOf 26 = .ok (.iconst 2, 1) := dk_5 (dk_at dksX3_stepOf_1 3 rfl rfl)
theorem dX3_stepOf_27 : decode cX3_stepOf 27 = .ok (.goto 24, 3) := dk_167 0 24 (dk_at dksX3_stepOf_1 4 rfl rfl)
theorem dX3_stepOf_30 : decode cX3_stepOf 30 = .ok (.iload_n 0, 1) := dk_26 (dk_at dksX3_stepOf_1 7 rfl rfl)
theorem dX3_stepOf_31 : decode cX3_stepOf 31 = .ok (.bipush 101, 2) := dk_16 101 (dk_at dksX3_stepOf_1 8 rfl rfl)
theorem dX3_stepOf_33 : decode cX3_stepOf 33 = .ok (.if_icmp .ne 7, 3) := dk_160 0 7 (dk_at dksX3_stepOf_1 10 rfl rfl)
theorem dX3_stepOf_36 : decode cX3_stepOf 36 = .ok (.iconst 3, 1) := dk_6 (dk_at dksX3_stepOf_1 13 rfl rfl)
theorem dX3_stepOf_37 : decode cX3_stepOf 37 = .ok (.goto 14, 3) := dk_167 0 14 (dk_at dksX3_stepOf_1 14 rfl rfl)
theorem dX3_stepOf_40 : decode cX3_stepOf 40 = .ok (.iload_n 0, 1) := dk_26 (dk_at dksX3_stepOf_1 17 rfl rfl)
theorem dX3_stepOf_41 : decode cX3_stepOf 41 = .ok (.bipush 119, 2) := dk_16 119 (dk_at dksX3_stepOf_1 18 rfl rfl)
theorem dX3_stepOf_43 : decode cX3_stepOf 43 = .ok (.if_icmp .ne 7, 3) := dk_160 0 7 (dk_at dksX3_stepOf_1 20 rfl rfl)
theorem dX3_stepOf_46 : decode cX3_stepOf 46 = .ok (.iconst 4, 1) := dk_7 (dk_at dksX3_stepOf_1 23 rfl rfl)
theorem dX3_stepOf_47 : decode cX3_stepOf 47 = .ok (.goto 4, 3) := dk_167 0 4 (dk_at dksX3_stepOf_2 0 rfl rfl)
theorem dX3_stepOf_50 : decode cX3_stepOf 50 = .ok (.iconst (-1), 1) := dk_2 (dk_at dksX3_stepOf_2 3 rfl rfl)
theorem dX3_stepOf_51 : decode cX3_stepOf 51 = .ok (.ireturn, 1) := dk_172 (dk_at dksX3_stepOf_2 4 rfl rfl)
abbrev cX3_addsStep : ByteArray := prog_24_method_20_code
def yX3_addsStep : MethodName := ⟨RX3, "addsStep", "(I)V"⟩
def dkwX3_addsStep_2 : List UInt8 := [96, 182, 0, 137, 177]
abbrev dktX3_addsStep_2 : List UInt8 := dkwX3_addsStep_2 ++ []
def dkwX3_addsStep_1 : List UInt8 := [96, 27, 79, 42, 180, 0, 7, 16, 44, 92, 46, 4, 96, 79, 42, 28, 8, 42, 28, 8, 182, 0, 133, 4]
abbrev dktX3_addsStep_1 : List UInt8 := dkwX3_addsStep_1 ++ dktX3_addsStep_2
def dkwX3_addsStep_0 : List UInt8 := [42, 180, 0, 7, 16, 43, 46, 4, 100, 61, 42, 180, 0, 7, 17, 25, 245, 42, 180, 0, 7, 16, 44, 46]
abbrev dktX3_addsStep_0 : List UInt8 := dkwX3_addsStep_0 ++ dktX3_addsStep_1
theorem dksX3_addsStep_0 : cX3_addsStep.data.toList.drop 0 = dktX3_addsStep_0 := by decide +kernel
theorem dksX3_addsStep_1 : cX3_addsStep.data.toList.drop 24 = dktX3_addsStep_1 := dk_seg dksX3_addsStep_0 24 rfl rfl
theorem dksX3_addsStep_2 : cX3_addsStep.data.toList.drop 48 = dktX3_addsStep_2 := dk_seg dksX3_addsStep_1 24 rfl rfl
theorem dX3_addsStep_0 : decode cX3_addsStep 0 = .ok (.aload_n 0, 1) := dk_42 (dk_at dksX3_addsStep_0 0 rfl rfl)
theorem dX3_addsStep_1 : decode cX3_addsStep 1 = .ok (.getfield 7, 3) := dk_180 0 7 (dk_at dksX3_addsStep_0 1 rfl rfl)
theorem dX3_addsStep_4 : decode cX3_addsStep 4 = .ok (.bipush 43, 2) := dk_16 43 (dk_at dksX3_addsStep_0 4 rfl rfl)
theorem dX3_addsStep_6 : decode cX3_addsStep 6 = .ok (.iaload, 1) := dk_46 (dk_at dksX3_addsStep_0 6 rfl rfl)
theorem dX3_addsStep_7 : decode cX3_addsStep 7 = .ok (.iconst 1, 1) := dk_4 (dk_at dksX3_addsStep_0 7 rfl rfl)
theorem dX3_addsStep_8 : decode cX3_addsStep 8 = .ok (.isub, 1) := dk_100 (dk_at dksX3_addsStep_0 8 rfl rfl)
theorem dX3_addsStep_9 : decode cX3_addsStep 9 = .ok (.istore_n 2, 1) := dk_61 (dk_at dksX3_addsStep_0 9 rfl rfl)
theorem dX3_addsStep_10 : decode cX3_addsStep 10 = .ok (.aload_n 0, 1) := dk_42 (dk_at dksX3_addsStep_0 10 rfl rfl)
theorem dX3_addsStep_11 : decode cX3_addsStep 11 = .ok (.getfield 7, 3) := dk_180 0 7 (dk_at dksX3_addsStep_0 11 rfl rfl)
theorem dX3_addsStep_14 : decode cX3_addsStep 14 = .ok (.sipush 6645, 3) := dk_17 25 245 (dk_at dksX3_addsStep_0 14 rfl rfl)
theorem dX3_addsStep_17 : decode cX3_addsStep 17 = .ok (.aload_n 0, 1) := dk_42 (dk_at dksX3_addsStep_0 17 rfl rfl)
theorem dX3_addsStep_18 : decode cX3_addsStep 18 = .ok (.getfield 7, 3) := dk_180 0 7 (dk_at dksX3_addsStep_0 18 rfl rfl)
theorem dX3_addsStep_21 : decode cX3_addsStep 21 = .ok (.bipush 44, 2) := dk_16 44 (dk_at dksX3_addsStep_0 21 rfl rfl)
theorem dX3_addsStep_23 : decode cX3_addsStep 23 = .ok (.iaload, 1) := dk_46 (dk_at dksX3_addsStep_0 23 rfl rfl)
theorem dX3_addsStep_24 : decode cX3_addsStep 24 = .ok (.iadd, 1) := dk_96 (dk_at dksX3_addsStep_1 0 rfl rfl)
theorem dX3_addsStep_25 : decode cX3_addsStep 25 = .ok (.iload_n 1, 1) := dk_27 (dk_at dksX3_addsStep_1 1 rfl rfl)
theorem dX3_addsStep_26 : decode cX3_addsStep 26 = .ok (.iastore, 1) := dk_79 (dk_at dksX3_addsStep_1 2 rfl rfl)
theorem dX3_addsStep_27 : decode cX3_addsStep 27 = .ok (.aload_n 0, 1) := dk_42 (dk_at dksX3_addsStep_1 3 rfl rfl)
theorem dX3_addsStep_28 : decode cX3_addsStep 28 = .ok (.getfield 7, 3) := dk_180 0 7 (dk_at dksX3_addsStep_1 4 rfl rfl)
theorem dX3_addsStep_31 : decode cX3_addsStep 31 = .ok (.bipush 44, 2) := dk_16 44 (dk_at dksX3_addsStep_1 7 rfl rfl)
theorem dX3_addsStep_33 : decode cX3_addsStep 33 = .ok (.dup2, 1) := dk_92 (dk_at dksX3_addsStep_1 9 rfl rfl)
theorem dX3_addsStep_34 : decode cX3_addsStep 34 = .ok (.iaload, 1) := dk_46 (dk_at dksX3_addsStep_1 10 rfl rfl)
theorem dX3_addsStep_35 : decode cX3_addsStep 35 = .ok (.iconst 1, 1) := dk_4 (dk_at dksX3_addsStep_1 11 rfl rfl)
theorem dX3_addsStep_36 : decode cX3_addsStep 36 = .ok (.iadd, 1) := dk_96 (dk_at dksX3_addsStep_1 12 rfl rfl)
theorem dX3_addsStep_37 : decode cX3_addsStep 37 = .ok (.iastore, 1) := dk_79 (dk_at dksX3_addsStep_1 13 rfl rfl)
theorem dX3_addsStep_38 : decode cX3_addsStep 38 = .ok (.aload_n 0, 1) := dk_42 (dk_at dksX3_addsStep_1 14 rfl rfl)
theorem dX3_addsStep_39 : decode cX3_addsStep 39 = .ok (.iload_n 2, 1) := dk_28 (dk_at dksX3_addsStep_1 15 rfl rfl)
theorem dX3_addsStep_40 : decode cX3_addsStep 40 = .ok (.iconst 5, 1) := dk_8 (dk_at dksX3_addsStep_1 16 rfl rfl)
theorem dX3_addsStep_41 : decode cX3_addsStep 41 = .ok (.aload_n 0, 1) := dk_42 (dk_at dksX3_addsStep_1 17 rfl rfl)
theorem dX3_addsStep_42 : decode cX3_addsStep 42 = .ok (.iload_n 2, 1) := dk_28 (dk_at dksX3_addsStep_1 18 rfl rfl)
theorem dX3_addsStep_43 : decode cX3_addsStep 43 = .ok (.iconst 5, 1) := dk_8 (dk_at dksX3_addsStep_1 19 rfl rfl)
theorem dX3_addsStep_44 : decode cX3_addsStep 44 = .ok (.invokevirtual 133, 3) := dk_182 0 133 (dk_at dksX3_addsStep_1 20 rfl rfl)
theorem dX3_addsStep_47 : decode cX3_addsStep 47 = .ok (.iconst 1, 1) := dk_4 (dk_at dksX3_addsStep_1 23 rfl rfl)
theorem dX3_addsStep_48 : decode cX3_addsStep 48 = .ok (.iadd, 1) := dk_96 (dk_at dksX3_addsStep_2 0 rfl rfl)
theorem dX3_addsStep_49 : decode cX3_addsStep 49 = .ok (.invokevirtual 137, 3) := dk_182 0 137 (dk_at dksX3_addsStep_2 1 rfl rfl)
theorem dX3_addsStep_52 : decode cX3_addsStep 52 = .ok (.return_, 1) := dk_177 (dk_at dksX3_addsStep_2 4 rfl rfl)
abbrev cX3_opensSeries : ByteArray := prog_24_method_45_code
def yX3_opensSeries : MethodName := ⟨RX3, "opensSeries", "()V"⟩
def dkwX3_opensSeries_2 : List UInt8 := [4, 96, 181, 0, 228, 42, 182, 1, 7, 177]
abbrev dktX3_opensSeries_2 : List UInt8 := dkwX3_opensSeries_2 ++ []
def dkwX3_opensSeries_1 : List UInt8 := [163, 0, 7, 4, 167, 0, 4, 3, 181, 0, 231, 42, 180, 0, 231, 154, 0, 4, 177, 42, 89, 180, 0, 228]
abbrev dktX3_opensSeries_1 : List UInt8 := dkwX3_opensSeries_1 ++ dktX3_opensSeries_2
def dkwX3_opensSeries_0 : List UInt8 := [42, 42, 180, 0, 231, 153, 0, 25, 42, 182, 0, 234, 16, 40, 160, 0, 16, 42, 180, 0, 238, 16, 10]
abbrev dktX3_opensSeries_0 : List UInt8 := dkwX3_opensSeries_0 ++ dktX3_opensSeries_1
theorem dksX3_opensSeries_0 : cX3_opensSeries.data.toList.drop 0 = dktX3_opensSeries_0 := by decide +kernel
theorem dksX3_opensSeries_1 : cX3_opensSeries.data.toList.drop 23 = dktX3_opensSeries_1 := dk_seg dksX3_opensSeries_0 23 rfl rfl
theorem dksX3_opensSeries_2 : cX3_opensSeries.data.toList.drop 47 = dktX3_opensSeries_2 := dk_seg dksX3_opensSeries_1 24 rfl rfl
theorem dX3_opensSeries_0 : decode cX3_opensSeries 0 = .ok (.aload_n 0, 1) := dk_42 (dk_at dksX3_opensSeries_0 0 rfl rfl)
theorem dX3_opensSeries_1 : decode cX3_opensSeries 1 = .ok (.aload_n 0, 1) := dk_42 (dk_at dksX3_opensSeries_0 1 rfl rfl)
theorem dX3_opensSeries_2 : decode cX3_opensSeries 2 = .ok (.getfield 231, 3) := dk_180 0 231 (dk_at dksX3_opensSeries_0 2 rfl rfl)
theorem dX3_opensSeries_5 : decode cX3_opensSeries 5 = .ok (.ifCond .eq 25, 3) := dk_153 0 25 (dk_at dksX3_opensSeries_0 5 rfl rfl)
theorem dX3_opensSeries_8 : decode cX3_opensSeries 8 = .ok (.aload_n 0, 1) := dk_42 (dk_at dksX3_opensSeries_0 8 rfl rfl)
theorem dX3_opensSeries_9 : decode cX3_opensSeries 9 = .ok (.invokevirtual 234, 3) := dk_182 0 234 (dk_at dksX3_opensSeries_0 9 rfl rfl)
theorem dX3_opensSeries_12 : decode cX3_opensSeries 12 = .ok (.bipush 40, 2) := dk_16 40 (dk_at dksX3_opensSeries_0 12 rfl rfl)
theorem dX3_opensSeries_14 : decode cX3_opensSeries 14 = .ok (.if_icmp .ne 16, 3) := dk_160 0 16 (dk_at dksX3_opensSeries_0 14 rfl rfl)
theorem dX3_opensSeries_17 : decode cX3_opensSeries 17 = .ok (.aload_n 0, 1) := dk_42 (dk_at dksX3_opensSeries_0 17 rfl rfl)
theorem dX3_opensSeries_18 : decode cX3_opensSeries 18 = .ok (.getfield 238, 3) := dk_180 0 238 (dk_at dksX3_opensSeries_0 18 rfl rfl)
theorem dX3_opensSeries_21 : decode cX3_opensSeries 21 = .ok (.bipush 10, 2) := dk_16 10 (dk_at dksX3_opensSeries_0 21 rfl rfl)
theorem dX3_opensSeries_23 : decode cX3_opensSeries 23 = .ok (.if_icmp .gt 7, 3) := dk_163 0 7 (dk_at dksX3_opensSeries_1 0 rfl rfl)
theorem dX3_opensSeries_26 : decode cX3_opensSeries 26 = .ok (.iconst 1, 1) := dk_4 (dk_at dksX3_opensSeries_1 3 rfl rfl)
theorem dX3_opensSeries_27 : decode cX3_opensSeries 27 = .ok (.goto 4, 3) := dk_167 0 4 (dk_at dksX3_opensSeries_1 4 rfl rfl)
theorem dX3_opensSeries_30 : decode cX3_opensSeries 30 = .ok (.iconst 0, 1) := dk_3 (dk_at dksX3_opensSeries_1 7 rfl rfl)
theorem dX3_opensSeries_31 : decode cX3_opensSeries 31 = .ok (.putfield 231, 3) := dk_181 0 231 (dk_at dksX3_opensSeries_1 8 rfl rfl)
theorem dX3_opensSeries_34 : decode cX3_opensSeries 34 = .ok (.aload_n 0, 1) := dk_42 (dk_at dksX3_opensSeries_1 11 rfl rfl)
theorem dX3_opensSeries_35 : decode cX3_opensSeries 35 = .ok (.getfield 231, 3) := dk_180 0 231 (dk_at dksX3_opensSeries_1 12 rfl rfl)
theorem dX3_opensSeries_38 : decode cX3_opensSeries 38 = .ok (.ifCond .ne 4, 3) := dk_154 0 4 (dk_at dksX3_opensSeries_1 15 rfl rfl)
theorem dX3_opensSeries_41 : decode cX3_opensSeries 41 = .ok (.return_, 1) := dk_177 (dk_at dksX3_opensSeries_1 18 rfl rfl)
theorem dX3_opensSeries_42 : decode cX3_opensSeries 42 = .ok (.aload_n 0, 1) := dk_42 (dk_at dksX3_opensSeries_1 19 rfl rfl)
theorem dX3_opensSeries_43 : decode cX3_opensSeries 43 = .ok (.dup, 1) := dk_89 (dk_at dksX3_opensSeries_1 20 rfl rfl)
theorem dX3_opensSeries_44 : decode cX3_opensSeries 44 = .ok (.getfield 228, 3) := dk_180 0 228 (dk_at dksX3_opensSeries_1 21 rfl rfl)
theorem dX3_opensSeries_47 : decode cX3_opensSeries 47 = .ok (.iconst 1, 1) := dk_4 (dk_at dksX3_opensSeries_2 0 rfl rfl)
theorem dX3_opensSeries_48 : decode cX3_opensSeries 48 = .ok (.iadd, 1) := dk_96 (dk_at dksX3_opensSeries_2 1 rfl rfl)
theorem dX3_opensSeries_49 : decode cX3_opensSeries 49 = .ok (.putfield 228, 3) := dk_181 0 228 (dk_at dksX3_opensSeries_2 2 rfl rfl)
theorem dX3_opensSeries_52 : decode cX3_opensSeries 52 = .ok (.aload_n 0, 1) := dk_42 (dk_at dksX3_opensSeries_2 5 rfl rfl)
theorem dX3_opensSeries_53 : decode cX3_opensSeries 53 = .ok (.invokevirtual 263, 3) := dk_182 1 7 (dk_at dksX3_opensSeries_2 6 rfl rfl)
theorem dX3_opensSeries_56 : decode cX3_opensSeries 56 = .ok (.return_, 1) := dk_177 (dk_at dksX3_opensSeries_2 9 rfl rfl)
abbrev cX3_follows : ByteArray := prog_24_method_47_code
def yX3_follows : MethodName := ⟨RX3, "follows", "()Z"⟩
def dkwX3_follows_5 : List UInt8 := [42, 180, 0, 225, 160, 0, 7, 4, 167, 0, 4, 3, 181, 0, 231, 3, 172]
abbrev dktX3_follows_5 : List UInt8 := dkwX3_follows_5 ++ []
def dkwX3_follows_4 : List UInt8 := [180, 0, 231, 172, 42, 42, 180, 0, 231, 153, 0, 26, 42, 180, 0, 238, 4, 160, 0, 18, 42, 180, 0, 228]
abbrev dktX3_follows_4 : List UInt8 := dkwX3_follows_4 ++ dktX3_follows_5
def dkwX3_follows_3 : List UInt8 := [180, 0, 231, 172, 42, 182, 0, 234, 16, 124, 160, 0, 18, 42, 89, 180, 0, 228, 4, 96, 181, 0, 228, 42]
abbrev dktX3_follows_3 : List UInt8 := dkwX3_follows_3 ++ dktX3_follows_4
def dkwX3_follows_2 : List UInt8 := [182, 0, 234, 16, 59, 160, 0, 22, 42, 89, 180, 0, 228, 4, 96, 181, 0, 228, 42, 182, 0, 244, 42]
abbrev dktX3_follows_2 : List UInt8 := dkwX3_follows_2 ++ dktX3_follows_3
def dkwX3_follows_1 : List UInt8 := [42, 89, 180, 0, 228, 4, 96, 181, 0, 228, 42, 89, 180, 0, 238, 4, 100, 181, 0, 238, 167, 255, 212, 42]
abbrev dktX3_follows_1 : List UInt8 := dkwX3_follows_1 ++ dktX3_follows_2
def dkwX3_follows_0 : List UInt8 := [42, 180, 0, 231, 153, 0, 43, 42, 180, 0, 238, 4, 164, 0, 35, 42, 182, 0, 234, 16, 41, 160, 0, 26]
abbrev dktX3_follows_0 : List UInt8 := dkwX3_follows_0 ++ dktX3_follows_1
theorem dksX3_follows_0 : cX3_follows.data.toList.drop 0 = dktX3_follows_0 := by decide +kernel
theorem dksX3_follows_1 : cX3_follows.data.toList.drop 24 = dktX3_follows_1 := dk_seg dksX3_follows_0 24 rfl rfl
theorem dksX3_follows_2 : cX3_follows.data.toList.drop 48 = dktX3_follows_2 := dk_seg dksX3_follows_1 24 rfl rfl
theorem dksX3_follows_3 : cX3_follows.data.toList.drop 71 = dktX3_follows_3 := dk_seg dksX3_follows_2 23 rfl rfl
theorem dksX3_follows_4 : cX3_follows.data.toList.drop 95 = dktX3_follows_4 := dk_seg dksX3_follows_3 24 rfl rfl
theorem dksX3_follows_5 : cX3_follows.data.toList.drop 119 = dktX3_follows_5 := dk_seg dksX3_follows_4 24 rfl rfl
theorem dX3_follows_0 : decode cX3_follows 0 = .ok (.aload_n 0, 1) := dk_42 (dk_at dksX3_follows_0 0 rfl rfl)
theorem dX3_follows_1 : decode cX3_follows 1 = .ok (.getfield 231, 3) := dk_180 0 231 (dk_at dksX3_follows_0 1 rfl rfl)
theorem dX3_follows_4 : decode cX3_follows 4 = .ok (.ifCond .eq 43, 3) := dk_153 0 43 (dk_at dksX3_follows_0 4 rfl rfl)
theorem dX3_follows_7 : decode cX3_follows 7 = .ok (.aload_n 0, 1) := dk_42 (dk_at dksX3_follows_0 7 rfl rfl)
theorem dX3_follows_8 : decode cX3_follows 8 = .ok (.getfield 238, 3) := dk_180 0 238 (dk_at dksX3_follows_0 8 rfl rfl)
theorem dX3_follows_11 : decode cX3_follows 11 = .ok (.iconst 1, 1) := dk_4 (dk_at dksX3_follows_0 11 rfl rfl)
theorem dX3_follows_12 : decode cX3_follows 12 = .ok (.if_icmp .le 35, 3) := dk_164 0 35 (dk_at dksX3_follows_0 12 rfl rfl)
theorem dX3_follows_15 : decode cX3_follows 15 = .ok (.aload_n 0, 1) := dk_42 (dk_at dksX3_follows_0 15 rfl rfl)
theorem dX3_follows_16 : decode cX3_follows 16 = .ok (.invokevirtual 234, 3) := dk_182 0 234 (dk_at dksX3_follows_0 16 rfl rfl)
theorem dX3_follows_19 : decode cX3_follows 19 = .ok (.bipush 41, 2) := dk_16 41 (dk_at dksX3_follows_0 19 rfl rfl)
theorem dX3_follows_21 : decode cX3_follows 21 = .ok (.if_icmp .ne 26, 3) := dk_160 0 26 (dk_at dksX3_follows_0 21 rfl rfl)
theorem dX3_follows_24 : decode cX3_follows 24 = .ok (.aload_n 0, 1) := dk_42 (dk_at dksX3_follows_1 0 rfl rfl)
theorem dX3_follows_25 : decode cX3_follows 25 = .ok (.dup, 1) := dk_89 (dk_at dksX3_follows_1 1 rfl rfl)
theorem dX3_follows_26 : decode cX3_follows 26 = .ok (.getfield 228, 3) := dk_180 0 228 (dk_at dksX3_follows_1 2 rfl rfl)
theorem dX3_follows_29 : decode cX3_follows 29 = .ok (.iconst 1, 1) := dk_4 (dk_at dksX3_follows_1 5 rfl rfl)
theorem dX3_follows_30 : decode cX3_follows 30 = .ok (.iadd, 1) := dk_96 (dk_at dksX3_follows_1 6 rfl rfl)
theorem dX3_follows_31 : decode cX3_follows 31 = .ok (.putfield 228, 3) := dk_181 0 228 (dk_at dksX3_follows_1 7 rfl rfl)
theorem dX3_follows_34 : decode cX3_follows 34 = .ok (.aload_n 0, 1) := dk_42 (dk_at dksX3_follows_1 10 rfl rfl)
theorem dX3_follows_35 : decode cX3_follows 35 = .ok (.dup, 1) := dk_89 (dk_at dksX3_follows_1 11 rfl rfl)
theorem dX3_follows_36 : decode cX3_follows 36 = .ok (.getfield 238, 3) := dk_180 0 238 (dk_at dksX3_follows_1 12 rfl rfl)
theorem dX3_follows_39 : decode cX3_follows 39 = .ok (.iconst 1, 1) := dk_4 (dk_at dksX3_follows_1 15 rfl rfl)
theorem dX3_follows_40 : decode cX3_follows 40 = .ok (.isub, 1) := dk_100 (dk_at dksX3_follows_1 16 rfl rfl)
theorem dX3_follows_41 : decode cX3_follows 41 = .ok (.putfield 238, 3) := dk_181 0 238 (dk_at dksX3_follows_1 17 rfl rfl)
theorem dX3_follows_44 : decode cX3_follows 44 = .ok (.goto (-44), 3) := dk_167 255 212 (dk_at dksX3_follows_1 20 rfl rfl)
theorem dX3_follows_47 : decode cX3_follows 47 = .ok (.aload_n 0, 1) := dk_42 (dk_at dksX3_follows_1 23 rfl rfl)
theorem dX3_follows_48 : decode cX3_follows 48 = .ok (.invokevirtual 234, 3) := dk_182 0 234 (dk_at dksX3_follows_2 0 rfl rfl)
theorem dX3_follows_51 : decode cX3_follows 51 = .ok (.bipush 59, 2) := dk_16 59 (dk_at dksX3_follows_2 3 rfl rfl)
theorem dX3_follows_53 : decode cX3_follows 53 = .ok (.if_icmp .ne 22, 3) := dk_160 0 22 (dk_at dksX3_follows_2 5 rfl rfl)
theorem dX3_follows_56 : decode cX3_follows 56 = .ok (.aload_n 0, 1) := dk_42 (dk_at dksX3_follows_2 8 rfl rfl)
theorem dX3_follows_57 : decode cX3_follows 57 = .ok (.dup, 1) := dk_89 (dk_at dksX3_follows_2 9 rfl rfl)
theorem dX3_follows_58 : decode cX3_follows 58 = .ok (.getfield 228, 3) := dk_180 0 228 (dk_at dksX3_follows_2 10 rfl rfl)
theorem dX3_follows_61 : decode cX3_follows 61 = .ok (.iconst 1, 1) := dk_4 (dk_at dksX3_follows_2 13 rfl rfl)
theorem dX3_follows_62 : decode cX3_follows 62 = .ok (.iadd, 1) := dk_96 (dk_at dksX3_follows_2 14 rfl rfl)
theorem dX3_follows_63 : decode cX3_follows 63 = .ok (.putfield 228, 3) := dk_181 0 228 (dk_at dksX3_follows_2 15 rfl rfl)
theorem dX3_follows_66 : decode cX3_follows 66 = .ok (.aload_n 0, 1) := dk_42 (dk_at dksX3_follows_2 18 rfl rfl)
theorem dX3_follows_67 : decode cX3_follows 67 = .ok (.invokevirtual 244, 3) := dk_182 0 244 (dk_at dksX3_follows_2 19 rfl rfl)
theorem dX3_follows_70 : decode cX3_follows 70 = .ok (.aload_n 0, 1) := dk_42 (dk_at dksX3_follows_2 22 rfl rfl)
theorem dX3_follows_71 : decode cX3_follows 71 = .ok (.getfield 231, 3) := dk_180 0 231 (dk_at dksX3_follows_3 0 rfl rfl)
theorem dX3_follows_74 : decode cX3_follows 74 = .ok (.ireturn, 1) := dk_172 (dk_at dksX3_follows_3 3 rfl rfl)
theorem dX3_follows_75 : decode cX3_follows 75 = .ok (.aload_n 0, 1) := dk_42 (dk_at dksX3_follows_3 4 rfl rfl)
theorem dX3_follows_76 : decode cX3_follows 76 = .ok (.invokevirtual 234, 3) := dk_182 0 234 (dk_at dksX3_follows_3 5 rfl rfl)
theorem dX3_follows_79 : decode cX3_follows 79 = .ok (.bipush 124, 2) := dk_16 124 (dk_at dksX3_follows_3 8 rfl rfl)
theorem dX3_follows_81 : decode cX3_follows 81 = .ok (.if_icmp .ne 18, 3) := dk_160 0 18 (dk_at dksX3_follows_3 10 rfl rfl)
theorem dX3_follows_84 : decode cX3_follows 84 = .ok (.aload_n 0, 1) := dk_42 (dk_at dksX3_follows_3 13 rfl rfl)
theorem dX3_follows_85 : decode cX3_follows 85 = .ok (.dup, 1) := dk_89 (dk_at dksX3_follows_3 14 rfl rfl)
theorem dX3_follows_86 : decode cX3_follows 86 = .ok (.getfield 228, 3) := dk_180 0 228 (dk_at dksX3_follows_3 15 rfl rfl)
theorem dX3_follows_89 : decode cX3_follows 89 = .ok (.iconst 1, 1) := dk_4 (dk_at dksX3_follows_3 18 rfl rfl)
theorem dX3_follows_90 : decode cX3_follows 90 = .ok (.iadd, 1) := dk_96 (dk_at dksX3_follows_3 19 rfl rfl)
theorem dX3_follows_91 : decode cX3_follows 91 = .ok (.putfield 228, 3) := dk_181 0 228 (dk_at dksX3_follows_3 20 rfl rfl)
theorem dX3_follows_94 : decode cX3_follows 94 = .ok (.aload_n 0, 1) := dk_42 (dk_at dksX3_follows_3 23 rfl rfl)
theorem dX3_follows_95 : decode cX3_follows 95 = .ok (.getfield 231, 3) := dk_180 0 231 (dk_at dksX3_follows_4 0 rfl rfl)
theorem dX3_follows_98 : decode cX3_follows 98 = .ok (.ireturn, 1) := dk_172 (dk_at dksX3_follows_4 3 rfl rfl)
theorem dX3_follows_99 : decode cX3_follows 99 = .ok (.aload_n 0, 1) := dk_42 (dk_at dksX3_follows_4 4 rfl rfl)
theorem dX3_follows_100 : decode cX3_follows 100 = .ok (.aload_n 0, 1) := dk_42 (dk_at dksX3_follows_4 5 rfl rfl)
theorem dX3_follows_101 : decode cX3_follows 101 = .ok (.getfield 231, 3) := dk_180 0 231 (dk_at dksX3_follows_4 6 rfl rfl)
theorem dX3_follows_104 : decode cX3_follows 104 = .ok (.ifCond .eq 26, 3) := dk_153 0 26 (dk_at dksX3_follows_4 9 rfl rfl)
theorem dX3_follows_107 : decode cX3_follows 107 = .ok (.aload_n 0, 1) := dk_42 (dk_at dksX3_follows_4 12 rfl rfl)
theorem dX3_follows_108 : decode cX3_follows 108 = .ok (.getfield 238, 3) := dk_180 0 238 (dk_at dksX3_follows_4 13 rfl rfl)
theorem dX3_follows_111 : decode cX3_follows 111 = .ok (.iconst 1, 1) := dk_4 (dk_at dksX3_follows_4 16 rfl rfl)
theorem dX3_follows_112 : decode cX3_follows 112 = .ok (.if_icmp .ne 18, 3) := dk_160 0 18 (dk_at dksX3_follows_4 17 rfl rfl)
theorem dX3_follows_115 : decode cX3_follows 115 = .ok (.aload_n 0, 1) := dk_42 (dk_at dksX3_follows_4 20 rfl rfl)
theorem dX3_follows_116 : decode cX3_follows 116 = .ok (.getfield 228, 3) := dk_180 0 228 (dk_at dksX3_follows_4 21 rfl rfl)
theorem dX3_follows_119 : decode cX3_follows 119 = .ok (.aload_n 0, 1) := dk_42 (dk_at dksX3_follows_5 0 rfl rfl)
theorem dX3_follows_120 : decode cX3_follows 120 = .ok (.getfield 225, 3) := dk_180 0 225 (dk_at dksX3_follows_5 1 rfl rfl)
theorem dX3_follows_123 : decode cX3_follows 123 = .ok (.if_icmp .ne 7, 3) := dk_160 0 7 (dk_at dksX3_follows_5 4 rfl rfl)
theorem dX3_follows_126 : decode cX3_follows 126 = .ok (.iconst 1, 1) := dk_4 (dk_at dksX3_follows_5 7 rfl rfl)
theorem dX3_follows_127 : decode cX3_follows 127 = .ok (.goto 4, 3) := dk_167 0 4 (dk_at dksX3_follows_5 8 rfl rfl)
theorem dX3_follows_130 : decode cX3_follows 130 = .ok (.iconst 0, 1) := dk_3 (dk_at dksX3_follows_5 11 rfl rfl)
theorem dX3_follows_131 : decode cX3_follows 131 = .ok (.putfield 231, 3) := dk_181 0 231 (dk_at dksX3_follows_5 12 rfl rfl)
theorem dX3_follows_134 : decode cX3_follows 134 = .ok (.iconst 0, 1) := dk_3 (dk_at dksX3_follows_5 15 rfl rfl)
theorem dX3_follows_135 : decode cX3_follows 135 = .ok (.ireturn, 1) := dk_172 (dk_at dksX3_follows_5 16 rfl rfl)
abbrev cX3_backs : ByteArray := prog_24_method_10_code
def yX3_backs : MethodName := ⟨RX3, "backs", "()V"⟩
def dkwX3_backs_1 : List UInt8 := [167, 255, 234, 42, 3, 181, 0, 128, 177]
abbrev dktX3_backs_1 : List UInt8 := dkwX3_backs_1 ++ []
def dkwX3_backs_0 : List UInt8 := [3, 60, 27, 17, 33, 197, 162, 0, 21, 42, 180, 0, 7, 27, 42, 180, 0, 16, 27, 46, 79, 132, 1, 1]
abbrev dktX3_backs_0 : List UInt8 := dkwX3_backs_0 ++ dktX3_backs_1
theorem dksX3_backs_0 : cX3_backs.data.toList.drop 0 = dktX3_backs_0 := by decide +kernel
theorem dksX3_backs_1 : cX3_backs.data.toList.drop 24 = dktX3_backs_1 := dk_seg dksX3_backs_0 24 rfl rfl
theorem dX3_backs_0 : decode cX3_backs 0 = .ok (.iconst 0, 1) := dk_3 (dk_at dksX3_backs_0 0 rfl rfl)
theorem dX3_backs_1 : decode cX3_backs 1 = .ok (.istore_n 1, 1) := dk_60 (dk_at dksX3_backs_0 1 rfl rfl)
theorem dX3_backs_2 : decode cX3_backs 2 = .ok (.iload_n 1, 1) := dk_27 (dk_at dksX3_backs_0 2 rfl rfl)
theorem dX3_backs_3 : decode cX3_backs 3 = .ok (.sipush 8645, 3) := dk_17 33 197 (dk_at dksX3_backs_0 3 rfl rfl)
theorem dX3_backs_6 : decode cX3_backs 6 = .ok (.if_icmp .ge 21, 3) := dk_162 0 21 (dk_at dksX3_backs_0 6 rfl rfl)
theorem dX3_backs_9 : decode cX3_backs 9 = .ok (.aload_n 0, 1) := dk_42 (dk_at dksX3_backs_0 9 rfl rfl)
theorem dX3_backs_10 : decode cX3_backs 10 = .ok (.getfield 7, 3) := dk_180 0 7 (dk_at dksX3_backs_0 10 rfl rfl)
theorem dX3_backs_13 : decode cX3_backs 13 = .ok (.iload_n 1, 1) := dk_27 (dk_at dksX3_backs_0 13 rfl rfl)
theorem dX3_backs_14 : decode cX3_backs 14 = .ok (.aload_n 0, 1) := dk_42 (dk_at dksX3_backs_0 14 rfl rfl)
theorem dX3_backs_15 : decode cX3_backs 15 = .ok (.getfield 16, 3) := dk_180 0 16 (dk_at dksX3_backs_0 15 rfl rfl)
theorem dX3_backs_18 : decode cX3_backs 18 = .ok (.iload_n 1, 1) := dk_27 (dk_at dksX3_backs_0 18 rfl rfl)
theorem dX3_backs_19 : decode cX3_backs 19 = .ok (.iaload, 1) := dk_46 (dk_at dksX3_backs_0 19 rfl rfl)
theorem dX3_backs_20 : decode cX3_backs 20 = .ok (.iastore, 1) := dk_79 (dk_at dksX3_backs_0 20 rfl rfl)
theorem dX3_backs_21 : decode cX3_backs 21 = .ok (.iinc 1 1, 3) := dk_132 1 1 (dk_at dksX3_backs_0 21 rfl rfl)
theorem dX3_backs_24 : decode cX3_backs 24 = .ok (.goto (-22), 3) := dk_167 255 234 (dk_at dksX3_backs_1 0 rfl rfl)
theorem dX3_backs_27 : decode cX3_backs 27 = .ok (.aload_n 0, 1) := dk_42 (dk_at dksX3_backs_1 3 rfl rfl)
theorem dX3_backs_28 : decode cX3_backs 28 = .ok (.iconst 0, 1) := dk_3 (dk_at dksX3_backs_1 4 rfl rfl)
theorem dX3_backs_29 : decode cX3_backs 29 = .ok (.putfield 128, 3) := dk_181 0 128 (dk_at dksX3_backs_1 5 rfl rfl)
theorem dX3_backs_32 : decode cX3_backs 32 = .ok (.return_, 1) := dk_177 (dk_at dksX3_backs_1 8 rfl rfl)
abbrev cX3_tidies : ByteArray := prog_24_method_49_code
def yX3_tidies : MethodName := ⟨RX3, "tidies", "()V"⟩
def dkwX3_tidies_3 : List UInt8 := [42, 180, 0, 7, 16, 43, 27, 79, 177]
abbrev dktX3_tidies_3 : List UInt8 := dkwX3_tidies_3 ++ []
def dkwX3_tidies_2 : List UInt8 := [42, 28, 29, 182, 0, 133, 182, 0, 137, 132, 3, 1, 167, 255, 235, 132, 1, 1, 132, 2, 1, 167, 255, 193]
abbrev dktX3_tidies_2 : List UInt8 := dkwX3_tidies_2 ++ dktX3_tidies_3
def dkwX3_tidies_1 : List UInt8 := [161, 0, 13, 42, 28, 5, 182, 0, 133, 4, 164, 0, 32, 3, 62, 29, 16, 6, 162, 0, 21, 42, 27, 29]
abbrev dktX3_tidies_1 : List UInt8 := dkwX3_tidies_1 ++ dktX3_tidies_2
def dkwX3_tidies_0 : List UInt8 := [3, 60, 3, 61, 28, 42, 180, 0, 7, 16, 43, 46, 162, 0, 58, 42, 28, 182, 0, 162, 16, 6]
abbrev dktX3_tidies_0 : List UInt8 := dkwX3_tidies_0 ++ dktX3_tidies_1
theorem dksX3_tidies_0 : cX3_tidies.data.toList.drop 0 = dktX3_tidies_0 := by decide +kernel
theorem dksX3_tidies_1 : cX3_tidies.data.toList.drop 22 = dktX3_tidies_1 := dk_seg dksX3_tidies_0 22 rfl rfl
theorem dksX3_tidies_2 : cX3_tidies.data.toList.drop 46 = dktX3_tidies_2 := dk_seg dksX3_tidies_1 24 rfl rfl
theorem dksX3_tidies_3 : cX3_tidies.data.toList.drop 70 = dktX3_tidies_3 := dk_seg dksX3_tidies_2 24 rfl rfl
theorem dX3_tidies_0 : decode cX3_tidies 0 = .ok (.iconst 0, 1) := dk_3 (dk_at dksX3_tidies_0 0 rfl rfl)
theorem dX3_tidies_1 : decode cX3_tidies 1 = .ok (.istore_n 1, 1) := dk_60 (dk_at dksX3_tidies_0 1 rfl rfl)
theorem dX3_tidies_2 : decode cX3_tidies 2 = .ok (.iconst 0, 1) := dk_3 (dk_at dksX3_tidies_0 2 rfl rfl)
theorem dX3_tidies_3 : decode cX3_tidies 3 = .ok (.istore_n 2, 1) := dk_61 (dk_at dksX3_tidies_0 3 rfl rfl)
theorem dX3_tidies_4 : decode cX3_tidies 4 = .ok (.iload_n 2, 1) := dk_28 (dk_at dksX3_tidies_0 4 rfl rfl)
theorem dX3_tidies_5 : decode cX3_tidies 5 = .ok (.aload_n 0, 1) := dk_42 (dk_at dksX3_tidies_0 5 rfl rfl)
theorem dX3_tidies_6 : decode cX3_tidies 6 = .ok (.getfield 7, 3) := dk_180 0 7 (dk_at dksX3_tidies_0 6 rfl rfl)
theorem dX3_tidies_9 : decode cX3_tidies 9 = .ok (.bipush 43, 2) := dk_16 43 (dk_at dksX3_tidies_0 9 rfl rfl)
theorem dX3_tidies_11 : decode cX3_tidies 11 = .ok (.iaload, 1) := dk_46 (dk_at dksX3_tidies_0 11 rfl rfl)
theorem dX3_tidies_12 : decode cX3_tidies 12 = .ok (.if_icmp .ge 58, 3) := dk_162 0 58 (dk_at dksX3_tidies_0 12 rfl rfl)
theorem dX3_tidies_15 : decode cX3_tidies 15 = .ok (.aload_n 0, 1) := dk_42 (dk_at dksX3_tidies_0 15 rfl rfl)
theorem dX3_tidies_16 : decode cX3_tidies 16 = .ok (.iload_n 2, 1) := dk_28 (dk_at dksX3_tidies_0 16 rfl rfl)
theorem dX3_tidies_17 : decode cX3_tidies 17 = .ok (.invokevirtual 162, 3) := dk_182 0 162 (dk_at dksX3_tidies_0 17 rfl rfl)
theorem dX3_tidies_20 : decode cX3_tidies 20 = .ok (.bipush 6, 2) := dk_16 6 (dk_at dksX3_tidies_0 20 rfl rfl)
theorem dX3_tidies_22 : decode cX3_tidies 22 = .ok (.if_icmp .lt 13, 3) := dk_161 0 13 (dk_at dksX3_tidies_1 0 rfl rfl)
theorem dX3_tidies_25 : decode cX3_tidies 25 = .ok (.aload_n 0, 1) := dk_42 (dk_at dksX3_tidies_1 3 rfl rfl)
theorem dX3_tidies_26 : decode cX3_tidies 26 = .ok (.iload_n 2, 1) := dk_28 (dk_at dksX3_tidies_1 4 rfl rfl)
theorem dX3_tidies_27 : decode cX3_tidies 27 = .ok (.iconst 2, 1) := dk_5 (dk_at dksX3_tidies_1 5 rfl rfl)
theorem dX3_tidies_28 : decode cX3_tidies 28 = .ok (.invokevirtual 133, 3) := dk_182 0 133 (dk_at dksX3_tidies_1 6 rfl rfl)
theorem dX3_tidies_31 : decode cX3_tidies 31 = .ok (.iconst 1, 1) := dk_4 (dk_at dksX3_tidies_1 9 rfl rfl)
theorem dX3_tidies_32 : decode cX3_tidies 32 = .ok (.if_icmp .le 32, 3) := dk_164 0 32 (dk_at dksX3_tidies_1 10 rfl rfl)
theorem dX3_tidies_35 : decode cX3_tidies 35 = .ok (.iconst 0, 1) := dk_3 (dk_at dksX3_tidies_1 13 rfl rfl)
theorem dX3_tidies_36 : decode cX3_tidies 36 = .ok (.istore_n 3, 1) := dk_62 (dk_at dksX3_tidies_1 14 rfl rfl)
theorem dX3_tidies_37 : decode cX3_tidies 37 = .ok (.iload_n 3, 1) := dk_29 (dk_at dksX3_tidies_1 15 rfl rfl)
theorem dX3_tidies_38 : decode cX3_tidies 38 = .ok (.bipush 6, 2) := dk_16 6 (dk_at dksX3_tidies_1 16 rfl rfl)
theorem dX3_tidies_40 : decode cX3_tidies 40 = .ok (.if_icmp .ge 21, 3) := dk_162 0 21 (dk_at dksX3_tidies_1 18 rfl rfl)
theorem dX3_tidies_43 : decode cX3_tidies 43 = .ok (.aload_n 0, 1) := dk_42 (dk_at dksX3_tidies_1 21 rfl rfl)
theorem dX3_tidies_44 : decode cX3_tidies 44 = .ok (.iload_n 1, 1) := dk_27 (dk_at dksX3_tidies_1 22 rfl rfl)
theorem dX3_tidies_45 : decode cX3_tidies 45 = .ok (.iload_n 3, 1) := dk_29 (dk_at dksX3_tidies_1 23 rfl rfl)
theorem dX3_tidies_46 : decode cX3_tidies 46 = .ok (.aload_n 0, 1) := dk_42 (dk_at dksX3_tidies_2 0 rfl rfl)
theorem dX3_tidies_47 : decode cX3_tidies 47 = .ok (.iload_n 2, 1) := dk_28 (dk_at dksX3_tidies_2 1 rfl rfl)
theorem dX3_tidies_48 : decode cX3_tidies 48 = .ok (.iload_n 3, 1) := dk_29 (dk_at dksX3_tidies_2 2 rfl rfl)
theorem dX3_tidies_49 : decode cX3_tidies 49 = .ok (.invokevirtual 133, 3) := dk_182 0 133 (dk_at dksX3_tidies_2 3 rfl rfl)
theorem dX3_tidies_52 : decode cX3_tidies 52 = .ok (.invokevirtual 137, 3) := dk_182 0 137 (dk_at dksX3_tidies_2 6 rfl rfl)
theorem dX3_tidies_55 : decode cX3_tidies 55 = .ok (.iinc 3 1, 3) := dk_132 3 1 (dk_at dksX3_tidies_2 9 rfl rfl)
theorem dX3_tidies_58 : decode cX3_tidies 58 = .ok (.goto (-21), 3) := dk_167 255 235 (dk_at dksX3_tidies_2 12 rfl rfl)
theorem dX3_tidies_61 : decode cX3_tidies 61 = .ok (.iinc 1 1, 3) := dk_132 1 1 (dk_at dksX3_tidies_2 15 rfl rfl)
theorem dX3_tidies_64 : decode cX3_tidies 64 = .ok (.iinc 2 1, 3) := dk_132 2 1 (dk_at dksX3_tidies_2 18 rfl rfl)
theorem dX3_tidies_67 : decode cX3_tidies 67 = .ok (.goto (-63), 3) := dk_167 255 193 (dk_at dksX3_tidies_2 21 rfl rfl)
theorem dX3_tidies_70 : decode cX3_tidies 70 = .ok (.aload_n 0, 1) := dk_42 (dk_at dksX3_tidies_3 0 rfl rfl)
theorem dX3_tidies_71 : decode cX3_tidies 71 = .ok (.getfield 7, 3) := dk_180 0 7 (dk_at dksX3_tidies_3 1 rfl rfl)
theorem dX3_tidies_74 : decode cX3_tidies 74 = .ok (.bipush 43, 2) := dk_16 43 (dk_at dksX3_tidies_3 4 rfl rfl)
theorem dX3_tidies_76 : decode cX3_tidies 76 = .ok (.iload_n 1, 1) := dk_27 (dk_at dksX3_tidies_3 6 rfl rfl)
theorem dX3_tidies_77 : decode cX3_tidies 77 = .ok (.iastore, 1) := dk_79 (dk_at dksX3_tidies_3 7 rfl rfl)
theorem dX3_tidies_78 : decode cX3_tidies 78 = .ok (.return_, 1) := dk_177 (dk_at dksX3_tidies_3 8 rfl rfl)
abbrev cX3_kind : ByteArray := prog_24_method_13_code
def yX3_kind : MethodName := ⟨RX3, "kind", "(I)I"⟩
def dkwX3_kind_0 : List UInt8 := [42, 27, 3, 182, 0, 133, 172]
abbrev dktX3_kind_0 : List UInt8 := dkwX3_kind_0 ++ []
theorem dksX3_kind_0 : cX3_kind.data.toList.drop 0 = dktX3_kind_0 := by decide +kernel
theorem dX3_kind_0 : decode cX3_kind 0 = .ok (.aload_n 0, 1) := dk_42 (dk_at dksX3_kind_0 0 rfl rfl)
theorem dX3_kind_1 : decode cX3_kind 1 = .ok (.iload_n 1, 1) := dk_27 (dk_at dksX3_kind_0 1 rfl rfl)
theorem dX3_kind_2 : decode cX3_kind 2 = .ok (.iconst 0, 1) := dk_3 (dk_at dksX3_kind_0 2 rfl rfl)
theorem dX3_kind_3 : decode cX3_kind 3 = .ok (.invokevirtual 133, 3) := dk_182 0 133 (dk_at dksX3_kind_0 3 rfl rfl)
theorem dX3_kind_6 : decode cX3_kind 6 = .ok (.ireturn, 1) := dk_172 (dk_at dksX3_kind_0 6 rfl rfl)
abbrev cX3_means : ByteArray := prog_24_method_30_code
def yX3_means : MethodName := ⟨RX3, "means", "()V"⟩
def dkwX3_means_3 : List UInt8 := [167, 0, 8, 42, 27, 182, 0, 190, 132, 1, 1, 167, 255, 209, 42, 4, 181, 0, 128, 177]
abbrev dktX3_means_3 : List UInt8 := dkwX3_means_3 ++ []
def dkwX3_means_2 : List UInt8 := [180, 0, 153, 154, 0, 35, 42, 27, 182, 0, 162, 5, 163, 0, 15, 42, 27, 182, 0, 183, 42, 182, 0, 187]
abbrev dktX3_means_2 : List UInt8 := dkwX3_means_2 ++ dktX3_means_3
def dkwX3_means_1 : List UInt8 := [3, 181, 0, 153, 42, 2, 181, 0, 156, 3, 60, 27, 42, 180, 0, 7, 16, 43, 46, 162, 0, 42, 42]
abbrev dktX3_means_1 : List UInt8 := dkwX3_means_1 ++ dktX3_means_2
def dkwX3_means_0 : List UInt8 := [42, 180, 0, 128, 154, 0, 13, 42, 180, 0, 7, 16, 42, 46, 154, 0, 4, 177, 42, 3, 181, 0, 174, 42]
abbrev dktX3_means_0 : List UInt8 := dkwX3_means_0 ++ dktX3_means_1
theorem dksX3_means_0 : cX3_means.data.toList.drop 0 = dktX3_means_0 := by decide +kernel
theorem dksX3_means_1 : cX3_means.data.toList.drop 24 = dktX3_means_1 := dk_seg dksX3_means_0 24 rfl rfl
theorem dksX3_means_2 : cX3_means.data.toList.drop 47 = dktX3_means_2 := dk_seg dksX3_means_1 23 rfl rfl
theorem dksX3_means_3 : cX3_means.data.toList.drop 71 = dktX3_means_3 := dk_seg dksX3_means_2 24 rfl rfl
theorem dX3_means_0 : decode cX3_means 0 = .ok (.aload_n 0, 1) := dk_42 (dk_at dksX3_means_0 0 rfl rfl)
theorem dX3_means_1 : decode cX3_means 1 = .ok (.getfield 128, 3) := dk_180 0 128 (dk_at dksX3_means_0 1 rfl rfl)
theorem dX3_means_4 : decode cX3_means 4 = .ok (.ifCond .ne 13, 3) := dk_154 0 13 (dk_at dksX3_means_0 4 rfl rfl)
theorem dX3_means_7 : decode cX3_means 7 = .ok (.aload_n 0, 1) := dk_42 (dk_at dksX3_means_0 7 rfl rfl)
theorem dX3_means_8 : decode cX3_means 8 = .ok (.getfield 7, 3) := dk_180 0 7 (dk_at dksX3_means_0 8 rfl rfl)
theorem dX3_means_11 : decode cX3_means 11 = .ok (.bipush 42, 2) := dk_16 42 (dk_at dksX3_means_0 11 rfl rfl)
theorem dX3_means_13 : decode cX3_means 13 = .ok (.iaload, 1) := dk_46 (dk_at dksX3_means_0 13 rfl rfl)
theorem dX3_means_14 : decode cX3_means 14 = .ok (.ifCond .ne 4, 3) := dk_154 0 4 (dk_at dksX3_means_0 14 rfl rfl)
theorem dX3_means_17 : decode cX3_means 17 = .ok (.return_, 1) := dk_177 (dk_at dksX3_means_0 17 rfl rfl)
theorem dX3_means_18 : decode cX3_means 18 = .ok (.aload_n 0, 1) := dk_42 (dk_at dksX3_means_0 18 rfl rfl)
theorem dX3_means_19 : decode cX3_means 19 = .ok (.iconst 0, 1) := dk_3 (dk_at dksX3_means_0 19 rfl rfl)
theorem dX3_means_20 : decode cX3_means 20 = .ok (.putfield 174, 3) := dk_181 0 174 (dk_at dksX3_means_0 20 rfl rfl)
theorem dX3_means_23 : decode cX3_means 23 = .ok (.aload_n 0, 1) := dk_42 (dk_at dksX3_means_0 23 rfl rfl)
theorem dX3_means_24 : decode cX3_means 24 = .ok (.iconst 0, 1) := dk_3 (dk_at dksX3_means_1 0 rfl rfl)
theorem dX3_means_25 : decode cX3_means 25 = .ok (.putfield 153, 3) := dk_181 0 153 (dk_at dksX3_means_1 1 rfl rfl)
theorem dX3_means_28 : decode cX3_means 28 = .ok (.aload_n 0, 1) := dk_42 (dk_at dksX3_means_1 4 rfl rfl)
theorem dX3_means_29 : decode cX3_means 29 = .ok (.iconst (-1), 1) := dk_2 (dk_at dksX3_means_1 5 rfl rfl)
theorem dX3_means_30 : decode cX3_means 30 = .ok (.putfield 156, 3) := dk_181 0 156 (dk_at dksX3_means_1 6 rfl rfl)
theorem dX3_means_33 : decode cX3_means 33 = .ok (.iconst 0, 1) := dk_3 (dk_at dksX3_means_1 9 rfl rfl)
theorem dX3_means_34 : decode cX3_means 34 = .ok (.istore_n 1, 1) := dk_60 (dk_at dksX3_means_1 10 rfl rfl)
theorem dX3_means_35 : decode cX3_means 35 = .ok (.iload_n 1, 1) := dk_27 (dk_at dksX3_means_1 11 rfl rfl)
theorem dX3_means_36 : decode cX3_means 36 = .ok (.aload_n 0, 1) := dk_42 (dk_at dksX3_means_1 12 rfl rfl)
theorem dX3_means_37 : decode cX3_means 37 = .ok (.getfield 7, 3) := dk_180 0 7 (dk_at dksX3_means_1 13 rfl rfl)
theorem dX3_means_40 : decode cX3_means 40 = .ok (.bipush 43, 2) := dk_16 43 (dk_at dksX3_means_1 16 rfl rfl)
theorem dX3_means_42 : decode cX3_means 42 = .ok (.iaload, 1) := dk_46 (dk_at dksX3_means_1 18 rfl rfl)
theorem dX3_means_43 : decode cX3_means 43 = .ok (.if_icmp .ge 42, 3) := dk_162 0 42 (dk_at dksX3_means_1 19 rfl rfl)
theorem dX3_means_46 : decode cX3_means 46 = .ok (.aload_n 0, 1) := dk_42 (dk_at dksX3_means_1 22 rfl rfl)
theorem dX3_means_47 : decode cX3_means 47 = .ok (.getfield 153, 3) := dk_180 0 153 (dk_at dksX3_means_2 0 rfl rfl)
theorem dX3_means_50 : decode cX3_means 50 = .ok (.ifCond .ne 35, 3) := dk_154 0 35 (dk_at dksX3_means_2 3 rfl rfl)
theorem dX3_means_53 : decode cX3_means 53 = .ok (.aload_n 0, 1) := dk_42 (dk_at dksX3_means_2 6 rfl rfl)
theorem dX3_means_54 : decode cX3_means 54 = .ok (.iload_n 1, 1) := dk_27 (dk_at dksX3_means_2 7 rfl rfl)
theorem dX3_means_55 : decode cX3_means 55 = .ok (.invokevirtual 162, 3) := dk_182 0 162 (dk_at dksX3_means_2 8 rfl rfl)
theorem dX3_means_58 : decode cX3_means 58 = .ok (.iconst 2, 1) := dk_5 (dk_at dksX3_means_2 11 rfl rfl)
theorem dX3_means_59 : decode cX3_means 59 = .ok (.if_icmp .gt 15, 3) := dk_163 0 15 (dk_at dksX3_means_2 12 rfl rfl)
theorem dX3_means_62 : decode cX3_means 62 = .ok (.aload_n 0, 1) := dk_42 (dk_at dksX3_means_2 15 rfl rfl)
theorem dX3_means_63 : decode cX3_means 63 = .ok (.iload_n 1, 1) := dk_27 (dk_at dksX3_means_2 16 rfl rfl)
theorem dX3_means_64 : decode cX3_means 64 = .ok (.invokevirtual 183, 3) := dk_182 0 183 (dk_at dksX3_means_2 17 rfl rfl)
theorem dX3_means_67 : decode cX3_means 67 = .ok (.aload_n 0, 1) := dk_42 (dk_at dksX3_means_2 20 rfl rfl)
theorem dX3_means_68 : decode cX3_means 68 = .ok (.invokevirtual 187, 3) := dk_182 0 187 (dk_at dksX3_means_2 21 rfl rfl)
theorem dX3_means_71 : decode cX3_means 71 = .ok (.goto 8, 3) := dk_167 0 8 (dk_at dksX3_means_3 0 rfl rfl)
theorem dX3_means_74 : decode cX3_means 74 = .ok (.aload_n 0, 1) := dk_42 (dk_at dksX3_means_3 3 rfl rfl)
theorem dX3_means_75 : decode cX3_means 75 = .ok (.iload_n 1, 1) := dk_27 (dk_at dksX3_means_3 4 rfl rfl)
theorem dX3_means_76 : decode cX3_means 76 = .ok (.invokevirtual 190, 3) := dk_182 0 190 (dk_at dksX3_means_3 5 rfl rfl)
theorem dX3_means_79 : decode cX3_means 79 = .ok (.iinc 1 1, 3) := dk_132 1 1 (dk_at dksX3_means_3 8 rfl rfl)
theorem dX3_means_82 : decode cX3_means 82 = .ok (.goto (-47), 3) := dk_167 255 209 (dk_at dksX3_means_3 11 rfl rfl)
theorem dX3_means_85 : decode cX3_means 85 = .ok (.aload_n 0, 1) := dk_42 (dk_at dksX3_means_3 14 rfl rfl)
theorem dX3_means_86 : decode cX3_means 86 = .ok (.iconst 1, 1) := dk_4 (dk_at dksX3_means_3 15 rfl rfl)
theorem dX3_means_87 : decode cX3_means 87 = .ok (.putfield 128, 3) := dk_181 0 128 (dk_at dksX3_means_3 16 rfl rfl)
theorem dX3_means_90 : decode cX3_means 90 = .ok (.return_, 1) := dk_177 (dk_at dksX3_means_3 19 rfl rfl)
abbrev cX3_leaf : ByteArray := prog_24_method_24_code
def yX3_leaf : MethodName := ⟨RX3, "leaf", "(I)V"⟩
def dkwX3_leaf_11 : List UInt8 := [132, 6, 1, 167, 255, 206, 132, 3, 1, 167, 255, 143, 177]
abbrev dktX3_leaf_11 : List UInt8 := dkwX3_leaf_11 ++ []
def dkwX3_leaf_10 : List UInt8 := [21, 6, 96, 42, 42, 27, 6, 182, 0, 133, 42, 27, 7, 182, 0, 133, 96, 21, 6, 96, 182, 0, 165, 79]
abbrev dktX3_leaf_10 : List UInt8 := dkwX3_leaf_10 ++ dktX3_leaf_11
def dkwX3_leaf_9 : List UInt8 := [21, 6, 42, 27, 8, 182, 0, 133, 162, 0, 45, 42, 180, 0, 36, 16, 100, 21, 4, 104, 21, 5, 96]
abbrev dktX3_leaf_9 : List UInt8 := dkwX3_leaf_9 ++ dktX3_leaf_10
def dkwX3_leaf_8 : List UInt8 := [182, 0, 162, 4, 160, 0, 14, 42, 27, 4, 182, 0, 133, 29, 104, 167, 0, 4, 3, 54, 5, 3, 54, 6]
abbrev dktX3_leaf_8 : List UInt8 := dkwX3_leaf_8 ++ dktX3_leaf_9
def dkwX3_leaf_7 : List UInt8 := [180, 0, 153, 154, 0, 102, 42, 42, 27, 6, 182, 0, 133, 29, 96, 182, 0, 165, 54, 4, 42, 27]
abbrev dktX3_leaf_7 : List UInt8 := dkwX3_leaf_7 ++ dktX3_leaf_8
def dkwX3_leaf_6 : List UInt8 := [16, 99, 164, 0, 9, 42, 5, 2, 182, 0, 171, 3, 62, 29, 42, 27, 7, 182, 0, 133, 162, 0, 109, 42]
abbrev dktX3_leaf_6 : List UInt8 := dkwX3_leaf_6 ++ dktX3_leaf_7
def dkwX3_leaf_5 : List UInt8 := [182, 0, 133, 42, 27, 7, 182, 0, 133, 4, 100, 104, 167, 0, 4, 3, 96, 181, 0, 141, 42, 180, 0, 141]
abbrev dktX3_leaf_5 : List UInt8 := dkwX3_leaf_5 ++ dktX3_leaf_6
def dkwX3_leaf_4 : List UInt8 := [182, 0, 171, 42, 42, 27, 8, 182, 0, 133, 42, 27, 182, 0, 162, 4, 160, 0, 21, 42, 27, 4]
abbrev dktX3_leaf_4 : List UInt8 := dkwX3_leaf_4 ++ dktX3_leaf_5
def dkwX3_leaf_3 : List UInt8 := [21, 4, 128, 181, 0, 144, 132, 3, 1, 167, 255, 206, 28, 153, 0, 12, 42, 4, 28, 184, 0, 168]
abbrev dktX3_leaf_3 : List UInt8 := dkwX3_leaf_3 ++ dktX3_leaf_4
def dkwX3_leaf_2 : List UInt8 := [29, 96, 182, 0, 165, 120, 54, 4, 28, 42, 180, 0, 144, 21, 4, 126, 128, 61, 42, 89, 180, 0, 144]
abbrev dktX3_leaf_2 : List UInt8 := dkwX3_leaf_2 ++ dktX3_leaf_3
def dkwX3_leaf_1 : List UInt8 := [79, 177, 3, 61, 3, 62, 29, 42, 27, 7, 182, 0, 133, 162, 0, 46, 4, 42, 42, 27, 6, 182, 0, 133]
abbrev dktX3_leaf_1 : List UInt8 := dkwX3_leaf_1 ++ dktX3_leaf_2
def dkwX3_leaf_0 : List UInt8 := [42, 182, 0, 159, 42, 27, 182, 0, 162, 5, 160, 0, 16, 42, 4, 181, 0, 150, 42, 180, 0, 39, 3, 4]
abbrev dktX3_leaf_0 : List UInt8 := dkwX3_leaf_0 ++ dktX3_leaf_1
theorem dksX3_leaf_0 : cX3_leaf.data.toList.drop 0 = dktX3_leaf_0 := by decide +kernel
theorem dksX3_leaf_1 : cX3_leaf.data.toList.drop 24 = dktX3_leaf_1 := dk_seg dksX3_leaf_0 24 rfl rfl
theorem dksX3_leaf_2 : cX3_leaf.data.toList.drop 48 = dktX3_leaf_2 := dk_seg dksX3_leaf_1 24 rfl rfl
theorem dksX3_leaf_3 : cX3_leaf.data.toList.drop 71 = dktX3_leaf_3 := dk_seg dksX3_leaf_2 23 rfl rfl
theorem dksX3_leaf_4 : cX3_leaf.data.toList.drop 93 = dktX3_leaf_4 := dk_seg dksX3_leaf_3 22 rfl rfl
theorem dksX3_leaf_5 : cX3_leaf.data.toList.drop 115 = dktX3_leaf_5 := dk_seg dksX3_leaf_4 22 rfl rfl
theorem dksX3_leaf_6 : cX3_leaf.data.toList.drop 139 = dktX3_leaf_6 := dk_seg dksX3_leaf_5 24 rfl rfl
theorem dksX3_leaf_7 : cX3_leaf.data.toList.drop 163 = dktX3_leaf_7 := dk_seg dksX3_leaf_6 24 rfl rfl
theorem dksX3_leaf_8 : cX3_leaf.data.toList.drop 185 = dktX3_leaf_8 := dk_seg dksX3_leaf_7 22 rfl rfl
theorem dksX3_leaf_9 : cX3_leaf.data.toList.drop 209 = dktX3_leaf_9 := dk_seg dksX3_leaf_8 24 rfl rfl
theorem dksX3_leaf_10 : cX3_leaf.data.toList.drop 232 = dktX3_leaf_10 := dk_seg dksX3_leaf_9 23 rfl rfl
theorem dksX3_leaf_11 : cX3_leaf.data.toList.drop 256 = dktX3_leaf_11 := dk_seg dksX3_leaf_10 24 rfl rfl
theorem dX3_leaf_0 : decode cX3_leaf 0 = .ok (.aload_n 0, 1) := dk_42 (dk_at dksX3_leaf_0 0 rfl rfl)
theorem dX3_leaf_1 : decode cX3_leaf 1 = .ok (.invokevirtual 159, 3) := dk_182 0 159 (dk_at dksX3_leaf_0 1 rfl rfl)
theorem dX3_leaf_4 : decode cX3_leaf 4 = .ok (.aload_n 0, 1) := dk_42 (dk_at dksX3_leaf_0 4 rfl rfl)
theorem dX3_leaf_5 : decode cX3_leaf 5 = .ok (.iload_n 1, 1) := dk_27 (dk_at dksX3_leaf_0 5 rfl rfl)
theorem dX3_leaf_6 : decode cX3_leaf 6 = .ok (.invokevirtual 162, 3) := dk_182 0 162 (dk_at dksX3_leaf_0 6 rfl rfl)
theorem dX3_leaf_9 : decode cX3_leaf 9 = .ok (.iconst 2, 1) := dk_5 (dk_at dksX3_leaf_0 9 rfl rfl)
theorem dX3_leaf_10 : decode cX3_leaf 10 = .ok (.if_icmp .ne 16, 3) := dk_160 0 16 (dk_at dksX3_leaf_0 10 rfl rfl)
theorem dX3_leaf_13 : decode cX3_leaf 13 = .ok (.aload_n 0, 1) := dk_42 (dk_at dksX3_leaf_0 13 rfl rfl)
theorem dX3_leaf_14 : decode cX3_leaf 14 = .ok (.iconst 1, 1) := dk_4 (dk_at dksX3_leaf_0 14 rfl rfl)
theorem dX3_leaf_15 : decode cX3_leaf 15 = .ok (.putfield 150, 3) := dk_181 0 150 (dk_at dksX3_leaf_0 15 rfl rfl)
theorem dX3_leaf_18 : decode cX3_leaf 18 = .ok (.aload_n 0, 1) := dk_42 (dk_at dksX3_leaf_0 18 rfl rfl)
theorem dX3_leaf_19 : decode cX3_leaf 19 = .ok (.getfield 39, 3) := dk_180 0 39 (dk_at dksX3_leaf_0 19 rfl rfl)
theorem dX3_leaf_22 : decode cX3_leaf 22 = .ok (.iconst 0, 1) := dk_3 (dk_at dksX3_leaf_0 22 rfl rfl)
theorem dX3_leaf_23 : decode cX3_leaf 23 = .ok (.iconst 1, 1) := dk_4 (dk_at dksX3_leaf_0 23 rfl rfl)
theorem dX3_leaf_24 : decode cX3_leaf 24 = .ok (.iastore, 1) := dk_79 (dk_at dksX3_leaf_1 0 rfl rfl)
theorem dX3_leaf_25 : decode cX3_leaf 25 = .ok (.return_, 1) := dk_177 (dk_at dksX3_leaf_1 1 rfl rfl)
theorem dX3_leaf_26 : decode cX3_leaf 26 = .ok (.iconst 0, 1) := dk_3 (dk_at dksX3_leaf_1 2 rfl rfl)
theorem dX3_leaf_27 : decode cX3_leaf 27 = .ok (.istore_n 2, 1) := dk_61 (dk_at dksX3_leaf_1 3 rfl rfl)
theorem dX3_leaf_28 : decode cX3_leaf 28 = .ok (.iconst 0, 1) := dk_3 (dk_at dksX3_leaf_1 4 rfl rfl)
theorem dX3_leaf_29 : decode cX3_leaf 29 = .ok (.istore_n 3, 1) := dk_62 (dk_at dksX3_leaf_1 5 rfl rfl)
theorem dX3_leaf_30 : decode cX3_leaf 30 = .ok (.iload_n 3, 1) := dk_29 (dk_at dksX3_leaf_1 6 rfl rfl)
theorem dX3_leaf_31 : decode cX3_leaf 31 = .ok (.aload_n 0, 1) := dk_42 (dk_at dksX3_leaf_1 7 rfl rfl)
theorem dX3_leaf_32 : decode cX3_leaf 32 = .ok (.iload_n 1, 1) := dk_27 (dk_at dksX3_leaf_1 8 rfl rfl)
theorem dX3_leaf_33 : decode cX3_leaf 33 = .ok (.iconst 4, 1) := dk_7 (dk_at dksX3_leaf_1 9 rfl rfl)
theorem dX3_leaf_34 : decode cX3_leaf 34 = .ok (.invokevirtual 133, 3) := dk_182 0 133 (dk_at dksX3_leaf_1 10 rfl rfl)
theorem dX3_leaf_37 : decode cX3_leaf 37 = .ok (.if_icmp .ge 46, 3) := dk_162 0 46 (dk_at dksX3_leaf_1 13 rfl rfl)
theorem dX3_leaf_40 : decode cX3_leaf 40 = .ok (.iconst 1, 1) := dk_4 (dk_at dksX3_leaf_1 16 rfl rfl)
theorem dX3_leaf_41 : decode cX3_leaf 41 = .ok (.aload_n 0, 1) := dk_42 (dk_at dksX3_leaf_1 17 rfl rfl)
theorem dX3_leaf_42 : decode cX3_leaf 42 = .ok (.aload_n 0, 1) := dk_42 (dk_at dksX3_leaf_1 18 rfl rfl)
theorem dX3_leaf_43 : decode cX3_leaf 43 = .ok (.iload_n 1, 1) := dk_27 (dk_at dksX3_leaf_1 19 rfl rfl)
theorem dX3_leaf_44 : decode cX3_leaf 44 = .ok (.iconst 3, 1) := dk_6 (dk_at dksX3_leaf_1 20 rfl rfl)
theorem dX3_leaf_45 : decode cX3_leaf 45 = .ok (.invokevirtual 133, 3) := dk_182 0 133 (dk_at dksX3_leaf_1 21 rfl rfl)
theorem dX3_leaf_48 : decode cX3_leaf 48 = .ok (.iload_n 3, 1) := dk_29 (dk_at dksX3_leaf_2 0 rfl rfl)
theorem dX3_leaf_49 : decode cX3_leaf 49 = .ok (.iadd, 1) := dk_96 (dk_at dksX3_leaf_2 1 rfl rfl)
theorem dX3_leaf_50 : decode cX3_leaf 50 = .ok (.invokevirtual 165, 3) := dk_182 0 165 (dk_at dksX3_leaf_2 2 rfl rfl)
theorem dX3_leaf_53 : decode cX3_leaf 53 = .ok (.ishl, 1) := dk_120 (dk_at dksX3_leaf_2 5 rfl rfl)
theorem dX3_leaf_54 : decode cX3_leaf 54 = .ok (.istore 4, 2) := dk_54 4 (dk_at dksX3_leaf_2 6 rfl rfl)
theorem dX3_leaf_56 : decode cX3_leaf 56 = .ok (.iload_n 2, 1) := dk_28 (dk_at dksX3_leaf_2 8 rfl rfl)
theorem dX3_leaf_57 : decode cX3_leaf 57 = .ok (.aload_n 0, 1) := dk_42 (dk_at dksX3_leaf_2 9 rfl rfl)
theorem dX3_leaf_58 : decode cX3_leaf 58 = .ok (.getfield 144, 3) := dk_180 0 144 (dk_at dksX3_leaf_2 10 rfl rfl)
theorem dX3_leaf_61 : decode cX3_leaf 61 = .ok (.iload 4, 2) := dk_21 4 (dk_at dksX3_leaf_2 13 rfl rfl)
theorem dX3_leaf_63 : decode cX3_leaf 63 = .ok (.iand, 1) := dk_126 (dk_at dksX3_leaf_2 15 rfl rfl)
theorem dX3_leaf_64 : decode cX3_leaf 64 = .ok (.ior, 1) := dk_128 (dk_at dksX3_leaf_2 16 rfl rfl)
theorem dX3_leaf_65 : decode cX3_leaf 65 = .ok (.istore_n 2, 1) := dk_61 (dk_at dksX3_leaf_2 17 rfl rfl)
theorem dX3_leaf_66 : decode cX3_leaf 66 = .ok (.aload_n 0, 1) := dk_42 (dk_at dksX3_leaf_2 18 rfl rfl)
theorem dX3_leaf_67 : decode cX3_leaf 67 = .ok (.dup, 1) := dk_89 (dk_at dksX3_leaf_2 19 rfl rfl)
theorem dX3_leaf_68 : decode cX3_leaf 68 = .ok (.getfield 144, 3) := dk_180 0 144 (dk_at dksX3_leaf_2 20 rfl rfl)
theorem dX3_leaf_71 : decode cX3_leaf 71 = .ok (.iload 4, 2) := dk_21 4 (dk_at dksX3_leaf_3 0 rfl rfl)
theorem dX3_leaf_73 : decode cX3_leaf 73 = .ok (.ior, 1) := dk_128 (dk_at dksX3_leaf_3 2 rfl rfl)
theorem dX3_leaf_74 : decode cX3_leaf 74 = .ok (.putfield 144, 3) := dk_181 0 144 (dk_at dksX3_leaf_3 3 rfl rfl)
theorem dX3_leaf_77 : decode cX3_leaf 77 = .ok (.iinc 3 1, 3) := dk_132 3 1 (dk_at dksX3_leaf_3 6 rfl rfl)
theorem dX3_leaf_80 : decode cX3_leaf 80 = .ok (.goto (-50), 3) := dk_167 255 206 (dk_at dksX3_leaf_3 9 rfl rfl)
theorem dX3_leaf_83 : decode cX3_leaf 83 = .ok (.iload_n 2, 1) := dk_28 (dk_at dksX3_leaf_3 12 rfl rfl)
theorem dX3_leaf_84 : decode cX3_leaf 84 = .ok (.ifCond .eq 12, 3) := dk_153 0 12 (dk_at dksX3_leaf_3 13 rfl rfl)
theorem dX3_leaf_87 : decode cX3_leaf 87 = .ok (.aload_n 0, 1) := dk_42 (dk_at dksX3_leaf_3 16 rfl rfl)
theorem dX3_leaf_88 : decode cX3_leaf 88 = .ok (.iconst 1, 1) := dk_4 (dk_at dksX3_leaf_3 17 rfl rfl)
theorem dX3_leaf_89 : decode cX3_leaf 89 = .ok (.iload_n 2, 1) := dk_28 (dk_at dksX3_leaf_3 18 rfl rfl)
theorem dX3_leaf_90 : decode cX3_leaf 90 = .ok (.invokestatic 168, 3) := dk_184 0 168 (dk_at dksX3_leaf_3 19 rfl rfl)
theorem dX3_leaf_93 : decode cX3_leaf 93 = .ok (.invokevirtual 171, 3) := dk_182 0 171 (dk_at dksX3_leaf_4 0 rfl rfl)
theorem dX3_leaf_96 : decode cX3_leaf 96 = .ok (.aload_n 0, 1) := dk_42 (dk_at dksX3_leaf_4 3 rfl rfl)
theorem dX3_leaf_97 : decode cX3_leaf 97 = .ok (.aload_n 0, 1) := dk_42 (dk_at dksX3_leaf_4 4 rfl rfl)
theorem dX3_leaf_98 : decode cX3_leaf 98 = .ok (.iload_n 1, 1) := dk_27 (dk_at dksX3_leaf_4 5 rfl rfl)
theorem dX3_leaf_99 : decode cX3_leaf 99 = .ok (.iconst 5, 1) := dk_8 (dk_at dksX3_leaf_4 6 rfl rfl)
theorem dX3_leaf_100 : decode cX3_leaf 100 = .ok (.invokevirtual 133, 3) := dk_182 0 133 (dk_at dksX3_leaf_4 7 rfl rfl)
theorem dX3_leaf_103 : decode cX3_leaf 103 = .ok (.aload_n 0, 1) := dk_42 (dk_at dksX3_leaf_4 10 rfl rfl)
theorem dX3_leaf_104 : decode cX3_leaf 104 = .ok (.iload_n 1, 1) := dk_27 (dk_at dksX3_leaf_4 11 rfl rfl)
theorem dX3_leaf_105 : decode cX3_leaf 105 = .ok (.invokevirtual 162, 3) := dk_182 0 162 (dk_at dksX3_leaf_4 12 rfl rfl)
theorem dX3_leaf_108 : decode cX3_leaf 108 = .ok (.iconst 1, 1) := dk_4 (dk_at dksX3_leaf_4 15 rfl rfl)
theorem dX3_leaf_109 : decode cX3_leaf 109 = .ok (.if_icmp .ne 21, 3) := dk_160 0 21 (dk_at dksX3_leaf_4 16 rfl rfl)
theorem dX3_leaf_112 : decode cX3_leaf 112 = .ok (.aload_n 0, 1) := dk_42 (dk_at dksX3_leaf_4 19 rfl rfl)
theorem dX3_leaf_113 : decode cX3_leaf 113 = .ok (.iload_n 1, 1) := dk_27 (dk_at dksX3_leaf_4 20 rfl rfl)
theorem dX3_leaf_114 : decode cX3_leaf 114 = .ok (.iconst 1, 1) := dk_4 (dk_at dksX3_leaf_4 21 rfl rfl)
theorem dX3_leaf_115 : decode cX3_leaf 115 = .ok (.invokevirtual 133, 3) := dk_182 0 133 (dk_at dksX3_leaf_5 0 rfl rfl)
theorem dX3_leaf_118 : decode cX3_leaf 118 = .ok (.aload_n 0, 1) := dk_42 (dk_at dksX3_leaf_5 3 rfl rfl)
theorem dX3_leaf_119 : decode cX3_leaf 119 = .ok (.iload_n 1, 1) := dk_27 (dk_at dksX3_leaf_5 4 rfl rfl)
theorem dX3_leaf_120 : decode cX3_leaf 120 = .ok (.iconst 4, 1) := dk_7 (dk_at dksX3_leaf_5 5 rfl rfl)
theorem dX3_leaf_121 : decode cX3_leaf 121 = .ok (.invokevirtual 133, 3) := dk_182 0 133 (dk_at dksX3_leaf_5 6 rfl rfl)
theorem dX3_leaf_124 : decode cX3_leaf 124 = .ok (.iconst 1, 1) := dk_4 (dk_at dksX3_leaf_5 9 rfl rfl)
theorem dX3_leaf_125 : decode cX3_leaf 125 = .ok (.isub, 1) := dk_100 (dk_at dksX3_leaf_5 10 rfl rfl)
theorem dX3_leaf_126 : decode cX3_leaf 126 = .ok (.imul, 1) := dk_104 (dk_at dksX3_leaf_5 11 rfl rfl)
theorem dX3_leaf_127 : decode cX3_leaf 127 = .ok (.goto 4, 3) := dk_167 0 4 (dk_at dksX3_leaf_5 12 rfl rfl)
theorem dX3_leaf_130 : decode cX3_leaf 130 = .ok (.iconst 0, 1) := dk_3 (dk_at dksX3_leaf_5 15 rfl rfl)
theorem dX3_leaf_131 : decode cX3_leaf 131 = .ok (.iadd, 1) := dk_96 (dk_at dksX3_leaf_5 16 rfl rfl)
theorem dX3_leaf_132 : decode cX3_leaf 132 = .ok (.putfield 141, 3) := dk_181 0 141 (dk_at dksX3_leaf_5 17 rfl rfl)
theorem dX3_leaf_135 : decode cX3_leaf 135 = .ok (.aload_n 0, 1) := dk_42 (dk_at dksX3_leaf_5 20 rfl rfl)
theorem dX3_leaf_136 : decode cX3_leaf 136 = .ok (.getfield 141, 3) := dk_180 0 141 (dk_at dksX3_leaf_5 21 rfl rfl)
theorem dX3_leaf_139 : decode cX3_leaf 139 = .ok (.bipush 99, 2) := dk_16 99 (dk_at dksX3_leaf_6 0 rfl rfl)
theorem dX3_leaf_141 : decode cX3_leaf 141 = .ok (.if_icmp .le 9, 3) := dk_164 0 9 (dk_at dksX3_leaf_6 2 rfl rfl)
theorem dX3_leaf_144 : decode cX3_leaf 144 = .ok (.aload_n 0, 1) := dk_42 (dk_at dksX3_leaf_6 5 rfl rfl)
theorem dX3_leaf_145 : decode cX3_leaf 145 = .ok (.iconst 2, 1) := dk_5 (dk_at dksX3_leaf_6 6 rfl rfl)
theorem dX3_leaf_146 : decode cX3_leaf 146 = .ok (.iconst (-1), 1) := dk_2 (dk_at dksX3_leaf_6 7 rfl rfl)
theorem dX3_leaf_147 : decode cX3_leaf 147 = .ok (.invokevirtual 171, 3) := dk_182 0 171 (dk_at dksX3_leaf_6 8 rfl rfl)
theorem dX3_leaf_150 : decode cX3_leaf 150 = .ok (.iconst 0, 1) := dk_3 (dk_at dksX3_leaf_6 11 rfl rfl)
theorem dX3_leaf_151 : decode cX3_leaf 151 = .ok (.istore_n 3, 1) := dk_62 (dk_at dksX3_leaf_6 12 rfl rfl)
theorem dX3_leaf_152 : decode cX3_leaf 152 = .ok (.iload_n 3, 1) := dk_29 (dk_at dksX3_leaf_6 13 rfl rfl)
theorem dX3_leaf_153 : decode cX3_leaf 153 = .ok (.aload_n 0, 1) := dk_42 (dk_at dksX3_leaf_6 14 rfl rfl)
theorem dX3_leaf_154 : decode cX3_leaf 154 = .ok (.iload_n 1, 1) := dk_27 (dk_at dksX3_leaf_6 15 rfl rfl)
theorem dX3_leaf_155 : decode cX3_leaf 155 = .ok (.iconst 4, 1) := dk_7 (dk_at dksX3_leaf_6 16 rfl rfl)
theorem dX3_leaf_156 : decode cX3_leaf 156 = .ok (.invokevirtual 133, 3) := dk_182 0 133 (dk_at dksX3_leaf_6 17 rfl rfl)
theorem dX3_leaf_159 : decode cX3_leaf 159 = .ok (.if_icmp .ge 109, 3) := dk_162 0 109 (dk_at dksX3_leaf_6 20 rfl rfl)
theorem dX3_leaf_162 : decode cX3_leaf 162 = .ok (.aload_n 0, 1) := dk_42 (dk_at dksX3_leaf_6 23 rfl rfl)
theorem dX3_leaf_163 : decode cX3_leaf 163 = .ok (.getfield 153, 3) := dk_180 0 153 (dk_at dksX3_leaf_7 0 rfl rfl)
theorem dX3_leaf_166 : decode cX3_leaf 166 = .ok (.ifCond .ne 102, 3) := dk_154 0 102 (dk_at dksX3_leaf_7 3 rfl rfl)
theorem dX3_leaf_169 : decode cX3_leaf 169 = .ok (.aload_n 0, 1) := dk_42 (dk_at dksX3_leaf_7 6 rfl rfl)
theorem dX3_leaf_170 : decode cX3_leaf 170 = .ok (.aload_n 0, 1) := dk_42 (dk_at dksX3_leaf_7 7 rfl rfl)
theorem dX3_leaf_171 : decode cX3_leaf 171 = .ok (.iload_n 1, 1) := dk_27 (dk_at dksX3_leaf_7 8 rfl rfl)
theorem dX3_leaf_172 : decode cX3_leaf 172 = .ok (.iconst 3, 1) := dk_6 (dk_at dksX3_leaf_7 9 rfl rfl)
theorem dX3_leaf_173 : decode cX3_leaf 173 = .ok (.invokevirtual 133, 3) := dk_182 0 133 (dk_at dksX3_leaf_7 10 rfl rfl)
theorem dX3_leaf_176 : decode cX3_leaf 176 = .ok (.iload_n 3, 1) := dk_29 (dk_at dksX3_leaf_7 13 rfl rfl)
theorem dX3_leaf_177 : decode cX3_leaf 177 = .ok (.iadd, 1) := dk_96 (dk_at dksX3_leaf_7 14 rfl rfl)
theorem dX3_leaf_178 : decode cX3_leaf 178 = .ok (.invokevirtual 165, 3) := dk_182 0 165 (dk_at dksX3_leaf_7 15 rfl rfl)
theorem dX3_leaf_181 : decode cX3_leaf 181 = .ok (.istore 4, 2) := dk_54 4 (dk_at dksX3_leaf_7 18 rfl rfl)
theorem dX3_leaf_183 : decode cX3_leaf 183 = .ok (.aload_n 0, 1) := dk_42 (dk_at dksX3_leaf_7 20 rfl rfl)
theorem dX3_leaf_184 : decode cX3_leaf 184 = .ok (.iload_n 1, 1) := dk_27 (dk_at dksX3_leaf_7 21 rfl rfl)
theorem dX3_leaf_185 : decode cX3_leaf 185 = .ok (.invokevirtual 162, 3) := dk_182 0 162 (dk_at dksX3_leaf_8 0 rfl rfl)
theorem dX3_leaf_188 : decode cX3_leaf 188 = .ok (.iconst 1, 1) := dk_4 (dk_at dksX3_leaf_8 3 rfl rfl)
theorem dX3_leaf_189 : decode cX3_leaf 189 = .ok (.if_icmp .ne 14, 3) := dk_160 0 14 (dk_at dksX3_leaf_8 4 rfl rfl)
theorem dX3_leaf_192 : decode cX3_leaf 192 = .ok (.aload_n 0, 1) := dk_42 (dk_at dksX3_leaf_8 7 rfl rfl)
theorem dX3_leaf_193 : decode cX3_leaf 193 = .ok (.iload_n 1, 1) := dk_27 (dk_at dksX3_leaf_8 8 rfl rfl)
theorem dX3_leaf_194 : decode cX3_leaf 194 = .ok (.iconst 1, 1) := dk_4 (dk_at dksX3_leaf_8 9 rfl rfl)
theorem dX3_leaf_195 : decode cX3_leaf 195 = .ok (.invokevirtual 133, 3) := dk_182 0 133 (dk_at dksX3_leaf_8 10 rfl rfl)
theorem dX3_leaf_198 : decode cX3_leaf 198 = .ok (.iload_n 3, 1) := dk_29 (dk_at dksX3_leaf_8 13 rfl rfl)
theorem dX3_leaf_199 : decode cX3_leaf 199 = .ok (.imul, 1) := dk_104 (dk_at dksX3_leaf_8 14 rfl rfl)
theorem dX3_leaf_200 : decode cX3_leaf 200 = .ok (.goto 4, 3) := dk_167 0 4 (dk_at dksX3_leaf_8 15 rfl rfl)
theorem dX3_leaf_203 : decode cX3_leaf 203 = .ok (.iconst 0, 1) := dk_3 (dk_at dksX3_leaf_8 18 rfl rfl)
theorem dX3_leaf_204 : decode cX3_leaf 204 = .ok (.istore 5, 2) := dk_54 5 (dk_at dksX3_leaf_8 19 rfl rfl)
theorem dX3_leaf_206 : decode cX3_leaf 206 = .ok (.iconst 0, 1) := dk_3 (dk_at dksX3_leaf_8 21 rfl rfl)
theorem dX3_leaf_207 : decode cX3_leaf 207 = .ok (.istore 6, 2) := dk_54 6 (dk_at dksX3_leaf_8 22 rfl rfl)
theorem dX3_leaf_209 : decode cX3_leaf 209 = .ok (.iload 6, 2) := dk_21 6 (dk_at dksX3_leaf_9 0 rfl rfl)
theorem dX3_leaf_211 : decode cX3_leaf 211 = .ok (.aload_n 0, 1) := dk_42 (dk_at dksX3_leaf_9 2 rfl rfl)
theorem dX3_leaf_212 : decode cX3_leaf 212 = .ok (.iload_n 1, 1) := dk_27 (dk_at dksX3_leaf_9 3 rfl rfl)
theorem dX3_leaf_213 : decode cX3_leaf 213 = .ok (.iconst 5, 1) := dk_8 (dk_at dksX3_leaf_9 4 rfl rfl)
theorem dX3_leaf_214 : decode cX3_leaf 214 = .ok (.invokevirtual 133, 3) := dk_182 0 133 (dk_at dksX3_leaf_9 5 rfl rfl)
theorem dX3_leaf_217 : decode cX3_leaf 217 = .ok (.if_icmp .ge 45, 3) := dk_162 0 45 (dk_at dksX3_leaf_9 8 rfl rfl)
theorem dX3_leaf_220 : decode cX3_leaf 220 = .ok (.aload_n 0, 1) := dk_42 (dk_at dksX3_leaf_9 11 rfl rfl)
theorem dX3_leaf_221 : decode cX3_leaf 221 = .ok (.getfield 36, 3) := dk_180 0 36 (dk_at dksX3_leaf_9 12 rfl rfl)
theorem dX3_leaf_224 : decode cX3_leaf 224 = .ok (.bipush 100, 2) := dk_16 100 (dk_at dksX3_leaf_9 15 rfl rfl)
theorem dX3_leaf_226 : decode cX3_leaf 226 = .ok (.iload 4, 2) := dk_21 4 (dk_at dksX3_leaf_9 17 rfl rfl)
theorem dX3_leaf_228 : decode cX3_leaf 228 = .ok (.imul, 1) := dk_104 (dk_at dksX3_leaf_9 19 rfl rfl)
theorem dX3_leaf_229 : decode cX3_leaf 229 = .ok (.iload 5, 2) := dk_21 5 (dk_at dksX3_leaf_9 20 rfl rfl)
theorem dX3_leaf_231 : decode cX3_leaf 231 = .ok (.iadd, 1) := dk_96 (dk_at dksX3_leaf_9 22 rfl rfl)
theorem dX3_leaf_232 : decode cX3_leaf 232 = .ok (.iload 6, 2) := dk_21 6 (dk_at dksX3_leaf_10 0 rfl rfl)
theorem dX3_leaf_234 : decode cX3_leaf 234 = .ok (.iadd, 1) := dk_96 (dk_at dksX3_leaf_10 2 rfl rfl)
theorem dX3_leaf_235 : decode cX3_leaf 235 = .ok (.aload_n 0, 1) := dk_42 (dk_at dksX3_leaf_10 3 rfl rfl)
theorem dX3_leaf_236 : decode cX3_leaf 236 = .ok (.aload_n 0, 1) := dk_42 (dk_at dksX3_leaf_10 4 rfl rfl)
theorem dX3_leaf_237 : decode cX3_leaf 237 = .ok (.iload_n 1, 1) := dk_27 (dk_at dksX3_leaf_10 5 rfl rfl)
theorem dX3_leaf_238 : decode cX3_leaf 238 = .ok (.iconst 3, 1) := dk_6 (dk_at dksX3_leaf_10 6 rfl rfl)
theorem dX3_leaf_239 : decode cX3_leaf 239 = .ok (.invokevirtual 133, 3) := dk_182 0 133 (dk_at dksX3_leaf_10 7 rfl rfl)
theorem dX3_leaf_242 : decode cX3_leaf 242 = .ok (.aload_n 0, 1) := dk_42 (dk_at dksX3_leaf_10 10 rfl rfl)
theorem dX3_leaf_243 : decode cX3_leaf 243 = .ok (.iload_n 1, 1) := dk_27 (dk_at dksX3_leaf_10 11 rfl rfl)
theorem dX3_leaf_244 : decode cX3_leaf 244 = .ok (.iconst 4, 1) := dk_7 (dk_at dksX3_leaf_10 12 rfl rfl)
theorem dX3_leaf_245 : decode cX3_leaf 245 = .ok (.invokevirtual 133, 3) := dk_182 0 133 (dk_at dksX3_leaf_10 13 rfl rfl)
theorem dX3_leaf_248 : decode cX3_leaf 248 = .ok (.iadd, 1) := dk_96 (dk_at dksX3_leaf_10 16 rfl rfl)
theorem dX3_leaf_249 : decode cX3_leaf 249 = .ok (.iload 6, 2) := dk_21 6 (dk_at dksX3_leaf_10 17 rfl rfl)
theorem dX3_leaf_251 : decode cX3_leaf 251 = .ok (.iadd, 1) := dk_96 (dk_at dksX3_leaf_10 19 rfl rfl)
theorem dX3_leaf_252 : decode cX3_leaf 252 = .ok (.invokevirtual 165, 3) := dk_182 0 165 (dk_at dksX3_leaf_10 20 rfl rfl)
theorem dX3_leaf_255 : decode cX3_leaf 255 = .ok (.iastore, 1) := dk_79 (dk_at dksX3_leaf_10 23 rfl rfl)
theorem dX3_leaf_256 : decode cX3_leaf 256 = .ok (.iinc 6 1, 3) := dk_132 6 1 (dk_at dksX3_leaf_11 0 rfl rfl)
theorem dX3_leaf_259 : decode cX3_leaf 259 = .ok (.goto (-50), 3) := dk_167 255 206 (dk_at dksX3_leaf_11 3 rfl rfl)
theorem dX3_leaf_262 : decode cX3_leaf 262 = .ok (.iinc 3 1, 3) := dk_132 3 1 (dk_at dksX3_leaf_11 6 rfl rfl)
theorem dX3_leaf_265 : decode cX3_leaf 265 = .ok (.goto (-113), 3) := dk_167 255 143 (dk_at dksX3_leaf_11 9 rfl rfl)
theorem dX3_leaf_268 : decode cX3_leaf 268 = .ok (.return_, 1) := dk_177 (dk_at dksX3_leaf_11 12 rfl rfl)
abbrev cX3_empties : ByteArray := prog_24_method_21_code
def yX3_empties : MethodName := ⟨RX3, "empties", "()V"⟩
def dkwX3_empties_2 : List UInt8 := [162, 0, 16, 42, 180, 0, 39, 27, 3, 79, 132, 1, 1, 167, 255, 240, 177]
abbrev dktX3_empties_2 : List UInt8 := dkwX3_empties_2 ++ []
def dkwX3_empties_1 : List UInt8 := [17, 3, 32, 162, 0, 16, 42, 180, 0, 36, 27, 3, 79, 132, 1, 1, 167, 255, 239, 3, 60, 27, 16, 100]
abbrev dktX3_empties_1 : List UInt8 := dkwX3_empties_1 ++ dktX3_empties_2
def dkwX3_empties_0 : List UInt8 := [42, 3, 181, 0, 141, 42, 3, 181, 0, 144, 42, 4, 181, 0, 147, 42, 3, 181, 0, 150, 3, 60, 27]
abbrev dktX3_empties_0 : List UInt8 := dkwX3_empties_0 ++ dktX3_empties_1
theorem dksX3_empties_0 : cX3_empties.data.toList.drop 0 = dktX3_empties_0 := by decide +kernel
theorem dksX3_empties_1 : cX3_empties.data.toList.drop 23 = dktX3_empties_1 := dk_seg dksX3_empties_0 23 rfl rfl
theorem dksX3_empties_2 : cX3_empties.data.toList.drop 47 = dktX3_empties_2 := dk_seg dksX3_empties_1 24 rfl rfl
theorem dX3_empties_0 : decode cX3_empties 0 = .ok (.aload_n 0, 1) := dk_42 (dk_at dksX3_empties_0 0 rfl rfl)
theorem dX3_empties_1 : decode cX3_empties 1 = .ok (.iconst 0, 1) := dk_3 (dk_at dksX3_empties_0 1 rfl rfl)
theorem dX3_empties_2 : decode cX3_empties 2 = .ok (.putfield 141, 3) := dk_181 0 141 (dk_at dksX3_empties_0 2 rfl rfl)
theorem dX3_empties_5 : decode cX3_empties 5 = .ok (.aload_n 0, 1) := dk_42 (dk_at dksX3_empties_0 5 rfl rfl)
theorem dX3_empties_6 : decode cX3_empties 6 = .ok (.iconst 0, 1) := dk_3 (dk_at dksX3_empties_0 6 rfl rfl)
theorem dX3_empties_7 : decode cX3_empties 7 = .ok (.putfield 144, 3) := dk_181 0 144 (dk_at dksX3_empties_0 7 rfl rfl)
theorem dX3_empties_10 : decode cX3_empties 10 = .ok (.aload_n 0, 1) := dk_42 (dk_at dksX3_empties_0 10 rfl rfl)
theorem dX3_empties_11 : decode cX3_empties 11 = .ok (.iconst 1, 1) := dk_4 (dk_at dksX3_empties_0 11 rfl rfl)
theorem dX3_empties_12 : decode cX3_empties 12 = .ok (.putfield 147, 3) := dk_181 0 147 (dk_at dksX3_empties_0 12 rfl rfl)
theorem dX3_empties_15 : decode cX3_empties 15 = .ok (.aload_n 0, 1) := dk_42 (dk_at dksX3_empties_0 15 rfl rfl)
theorem dX3_empties_16 : decode cX3_empties 16 = .ok (.iconst 0, 1) := dk_3 (dk_at dksX3_empties_0 16 rfl rfl)
theorem dX3_empties_17 : decode cX3_empties 17 = .ok (.putfield 150, 3) := dk_181 0 150 (dk_at dksX3_empties_0 17 rfl rfl)
theorem dX3_empties_20 : decode cX3_empties 20 = .ok (.iconst 0, 1) := dk_3 (dk_at dksX3_empties_0 20 rfl rfl)
theorem dX3_empties_21 : decode cX3_empties 21 = .ok (.istore_n 1, 1) := dk_60 (dk_at dksX3_empties_0 21 rfl rfl)
theorem dX3_empties_22 : decode cX3_empties 22 = .ok (.iload_n 1, 1) := dk_27 (dk_at dksX3_empties_0 22 rfl rfl)
theorem dX3_empties_23 : decode cX3_empties 23 = .ok (.sipush 800, 3) := dk_17 3 32 (dk_at dksX3_empties_1 0 rfl rfl)
theorem dX3_empties_26 : decode cX3_empties 26 = .ok (.if_icmp .ge 16, 3) := dk_162 0 16 (dk_at dksX3_empties_1 3 rfl rfl)
theorem dX3_empties_29 : decode cX3_empties 29 = .ok (.aload_n 0, 1) := dk_42 (dk_at dksX3_empties_1 6 rfl rfl)
theorem dX3_empties_30 : decode cX3_empties 30 = .ok (.getfield 36, 3) := dk_180 0 36 (dk_at dksX3_empties_1 7 rfl rfl)
theorem dX3_empties_33 : decode cX3_empties 33 = .ok (.iload_n 1, 1) := dk_27 (dk_at dksX3_empties_1 10 rfl rfl)
theorem dX3_empties_34 : decode cX3_empties 34 = .ok (.iconst 0, 1) := dk_3 (dk_at dksX3_empties_1 11 rfl rfl)
theorem dX3_empties_35 : decode cX3_empties 35 = .ok (.iastore, 1) := dk_79 (dk_at dksX3_empties_1 12 rfl rfl)
theorem dX3_empties_36 : decode cX3_empties 36 = .ok (.iinc 1 1, 3) := dk_132 1 1 (dk_at dksX3_empties_1 13 rfl rfl)
theorem dX3_empties_39 : decode cX3_empties 39 = .ok (.goto (-17), 3) := dk_167 255 239 (dk_at dksX3_empties_1 16 rfl rfl)
theorem dX3_empties_42 : decode cX3_empties 42 = .ok (.iconst 0, 1) := dk_3 (dk_at dksX3_empties_1 19 rfl rfl)
theorem dX3_empties_43 : decode cX3_empties 43 = .ok (.istore_n 1, 1) := dk_60 (dk_at dksX3_empties_1 20 rfl rfl)
theorem dX3_empties_44 : decode cX3_empties 44 = .ok (.iload_n 1, 1) := dk_27 (dk_at dksX3_empties_1 21 rfl rfl)
theorem dX3_empties_45 : decode cX3_empties 45 = .ok (.bipush 100, 2) := dk_16 100 (dk_at dksX3_empties_1 22 rfl rfl)
theorem dX3_empties_47 : decode cX3_empties 47 = .ok (.if_icmp .ge 16, 3) := dk_162 0 16 (dk_at dksX3_empties_2 0 rfl rfl)
theorem dX3_empties_50 : decode cX3_empties 50 = .ok (.aload_n 0, 1) := dk_42 (dk_at dksX3_empties_2 3 rfl rfl)
theorem dX3_empties_51 : decode cX3_empties 51 = .ok (.getfield 39, 3) := dk_180 0 39 (dk_at dksX3_empties_2 4 rfl rfl)
theorem dX3_empties_54 : decode cX3_empties 54 = .ok (.iload_n 1, 1) := dk_27 (dk_at dksX3_empties_2 7 rfl rfl)
theorem dX3_empties_55 : decode cX3_empties 55 = .ok (.iconst 0, 1) := dk_3 (dk_at dksX3_empties_2 8 rfl rfl)
theorem dX3_empties_56 : decode cX3_empties 56 = .ok (.iastore, 1) := dk_79 (dk_at dksX3_empties_2 9 rfl rfl)
theorem dX3_empties_57 : decode cX3_empties 57 = .ok (.iinc 1 1, 3) := dk_132 1 1 (dk_at dksX3_empties_2 10 rfl rfl)
theorem dX3_empties_60 : decode cX3_empties 60 = .ok (.goto (-16), 3) := dk_167 255 240 (dk_at dksX3_empties_2 13 rfl rfl)
theorem dX3_empties_63 : decode cX3_empties 63 = .ok (.return_, 1) := dk_177 (dk_at dksX3_empties_2 16 rfl rfl)
abbrev cX3_data : ByteArray := prog_24_method_15_code
def yX3_data : MethodName := ⟨RX3, "data", "(I)I"⟩
def dkwX3_data_0 : List UInt8 := [42, 180, 0, 7, 17, 25, 245, 27, 96, 46, 172]
abbrev dktX3_data_0 : List UInt8 := dkwX3_data_0 ++ []
theorem dksX3_data_0 : cX3_data.data.toList.drop 0 = dktX3_data_0 := by decide +kernel
theorem dX3_data_0 : decode cX3_data 0 = .ok (.aload_n 0, 1) := dk_42 (dk_at dksX3_data_0 0 rfl rfl)
theorem dX3_data_1 : decode cX3_data 1 = .ok (.getfield 7, 3) := dk_180 0 7 (dk_at dksX3_data_0 1 rfl rfl)
theorem dX3_data_4 : decode cX3_data 4 = .ok (.sipush 6645, 3) := dk_17 25 245 (dk_at dksX3_data_0 4 rfl rfl)
theorem dX3_data_7 : decode cX3_data 7 = .ok (.iload_n 1, 1) := dk_27 (dk_at dksX3_data_0 7 rfl rfl)
theorem dX3_data_8 : decode cX3_data 8 = .ok (.iadd, 1) := dk_96 (dk_at dksX3_data_0 8 rfl rfl)
theorem dX3_data_9 : decode cX3_data 9 = .ok (.iaload, 1) := dk_46 (dk_at dksX3_data_0 9 rfl rfl)
theorem dX3_data_10 : decode cX3_data 10 = .ok (.ireturn, 1) := dk_172 (dk_at dksX3_data_0 10 rfl rfl)
abbrev cX3_lowest : ByteArray := prog_24_method_23_code
def yX3_lowest : MethodName := ⟨RX3, "lowest", "(I)I"⟩
def dkwX3_lowest_0 : List UInt8 := [3, 60, 26, 27, 122, 4, 126, 154, 0, 9, 132, 1, 1, 167, 255, 245, 27, 172]
abbrev dktX3_lowest_0 : List UInt8 := dkwX3_lowest_0 ++ []
theorem dksX3_lowest_0 : cX3_lowest.data.toList.drop 0 = dktX3_lowest_0 := by decide +kernel
theorem dX3_lowest_0 : decode cX3_lowest 0 = .ok (.iconst 0, 1) := dk_3 (dk_at dksX3_lowest_0 0 rfl rfl)
theorem dX3_lowest_1 : decode cX3_lowest 1 = .ok (.istore_n 1, 1) := dk_60 (dk_at dksX3_lowest_0 1 rfl rfl)
theorem dX3_lowest_2 : decode cX3_lowest 2 = .ok (.iload_n 0, 1) := dk_26 (dk_at dksX3_lowest_0 2 rfl rfl)
theorem dX3_lowest_3 : decode cX3_lowest 3 = .ok (.iload_n 1, 1) := dk_27 (dk_at dksX3_lowest_0 3 rfl rfl)
theorem dX3_lowest_4 : decode cX3_lowest 4 = .ok (.ishr, 1) := dk_122 (dk_at dksX3_lowest_0 4 rfl rfl)
theorem dX3_lowest_5 : decode cX3_lowest 5 = .ok (.iconst 1, 1) := dk_4 (dk_at dksX3_lowest_0 5 rfl rfl)
theorem dX3_lowest_6 : decode cX3_lowest 6 = .ok (.iand, 1) := dk_126 (dk_at dksX3_lowest_0 6 rfl rfl)
theorem dX3_lowest_7 : decode cX3_lowest 7 = .ok (.ifCond .ne 9, 3) := dk_154 0 9 (dk_at dksX3_lowest_0 7 rfl rfl)
theorem dX3_lowest_10 : decode cX3_lowest 10 = .ok (.iinc 1 1, 3) := dk_132 1 1 (dk_at dksX3_lowest_0 10 rfl rfl)
theorem dX3_lowest_13 : decode cX3_lowest 13 = .ok (.goto (-11), 3) := dk_167 255 245 (dk_at dksX3_lowest_0 13 rfl rfl)
theorem dX3_lowest_16 : decode cX3_lowest 16 = .ok (.iload_n 1, 1) := dk_27 (dk_at dksX3_lowest_0 16 rfl rfl)
theorem dX3_lowest_17 : decode cX3_lowest 17 = .ok (.ireturn, 1) := dk_172 (dk_at dksX3_lowest_0 17 rfl rfl)
abbrev cX3_refuses : ByteArray := prog_24_method_22_code
def yX3_refuses : MethodName := ⟨RX3, "refuses", "(II)V"⟩
def dkwX3_refuses_0 : List UInt8 := [42, 180, 0, 153, 158, 0, 4, 177, 42, 27, 181, 0, 153, 42, 28, 181, 0, 156, 177]
abbrev dktX3_refuses_0 : List UInt8 := dkwX3_refuses_0 ++ []
theorem dksX3_refuses_0 : cX3_refuses.data.toList.drop 0 = dktX3_refuses_0 := by decide +kernel
theorem dX3_refuses_0 : decode cX3_refuses 0 = .ok (.aload_n 0, 1) := dk_42 (dk_at dksX3_refuses_0 0 rfl rfl)
theorem dX3_refuses_1 : decode cX3_refuses 1 = .ok (.getfield 153, 3) := dk_180 0 153 (dk_at dksX3_refuses_0 1 rfl rfl)
theorem dX3_refuses_4 : decode cX3_refuses 4 = .ok (.ifCond .le 4, 3) := dk_158 0 4 (dk_at dksX3_refuses_0 4 rfl rfl)
theorem dX3_refuses_7 : decode cX3_refuses 7 = .ok (.return_, 1) := dk_177 (dk_at dksX3_refuses_0 7 rfl rfl)
theorem dX3_refuses_8 : decode cX3_refuses 8 = .ok (.aload_n 0, 1) := dk_42 (dk_at dksX3_refuses_0 8 rfl rfl)
theorem dX3_refuses_9 : decode cX3_refuses 9 = .ok (.iload_n 1, 1) := dk_27 (dk_at dksX3_refuses_0 9 rfl rfl)
theorem dX3_refuses_10 : decode cX3_refuses 10 = .ok (.putfield 153, 3) := dk_181 0 153 (dk_at dksX3_refuses_0 10 rfl rfl)
theorem dX3_refuses_13 : decode cX3_refuses 13 = .ok (.aload_n 0, 1) := dk_42 (dk_at dksX3_refuses_0 13 rfl rfl)
theorem dX3_refuses_14 : decode cX3_refuses 14 = .ok (.iload_n 2, 1) := dk_28 (dk_at dksX3_refuses_0 14 rfl rfl)
theorem dX3_refuses_15 : decode cX3_refuses 15 = .ok (.putfield 156, 3) := dk_181 0 156 (dk_at dksX3_refuses_0 15 rfl rfl)
theorem dX3_refuses_18 : decode cX3_refuses 18 = .ok (.return_, 1) := dk_177 (dk_at dksX3_refuses_0 18 rfl rfl)
abbrev cX3_ends : ByteArray := prog_24_method_31_code
def yX3_ends : MethodName := ⟨RX3, "ends", "()V"⟩
def dkwX3_ends_1 : List UInt8 := [180, 0, 174, 4, 100, 46, 158, 0, 4, 177, 42, 182, 0, 196, 167, 255, 219, 177]
abbrev dktX3_ends_1 : List UInt8 := dkwX3_ends_1 ++ []
def dkwX3_ends_0 : List UInt8 := [42, 180, 0, 174, 158, 0, 36, 42, 180, 0, 153, 154, 0, 29, 42, 182, 0, 193, 42, 180, 0, 48, 42]
abbrev dktX3_ends_0 : List UInt8 := dkwX3_ends_0 ++ dktX3_ends_1
theorem dksX3_ends_0 : cX3_ends.data.toList.drop 0 = dktX3_ends_0 := by decide +kernel
theorem dksX3_ends_1 : cX3_ends.data.toList.drop 23 = dktX3_ends_1 := dk_seg dksX3_ends_0 23 rfl rfl
theorem dX3_ends_0 : decode cX3_ends 0 = .ok (.aload_n 0, 1) := dk_42 (dk_at dksX3_ends_0 0 rfl rfl)
theorem dX3_ends_1 : decode cX3_ends 1 = .ok (.getfield 174, 3) := dk_180 0 174 (dk_at dksX3_ends_0 1 rfl rfl)
theorem dX3_ends_4 : decode cX3_ends 4 = .ok (.ifCond .le 36, 3) := dk_158 0 36 (dk_at dksX3_ends_0 4 rfl rfl)
theorem dX3_ends_7 : decode cX3_ends 7 = .ok (.aload_n 0, 1) := dk_42 (dk_at dksX3_ends_0 7 rfl rfl)
theorem dX3_ends_8 : decode cX3_ends 8 = .ok (.getfield 153, 3) := dk_180 0 153 (dk_at dksX3_ends_0 8 rfl rfl)
theorem dX3_ends_11 : decode cX3_ends 11 = .ok (.ifCond .ne 29, 3) := dk_154 0 29 (dk_at dksX3_ends_0 11 rfl rfl)
theorem dX3_ends_14 : decode cX3_ends 14 = .ok (.aload_n 0, 1) := dk_42 (dk_at dksX3_ends_0 14 rfl rfl)
theorem dX3_ends_15 : decode cX3_ends 15 = .ok (.invokevirtual 193, 3) := dk_182 0 193 (dk_at dksX3_ends_0 15 rfl rfl)
theorem dX3_ends_18 : decode cX3_ends 18 = .ok (.aload_n 0, 1) := dk_42 (dk_at dksX3_ends_0 18 rfl rfl)
theorem dX3_ends_19 : decode cX3_ends 19 = .ok (.getfield 48, 3) := dk_180 0 48 (dk_at dksX3_ends_0 19 rfl rfl)
theorem dX3_ends_22 : decode cX3_ends 22 = .ok (.aload_n 0, 1) := dk_42 (dk_at dksX3_ends_0 22 rfl rfl)
theorem dX3_ends_23 : decode cX3_ends 23 = .ok (.getfield 174, 3) := dk_180 0 174 (dk_at dksX3_ends_1 0 rfl rfl)
theorem dX3_ends_26 : decode cX3_ends 26 = .ok (.iconst 1, 1) := dk_4 (dk_at dksX3_ends_1 3 rfl rfl)
theorem dX3_ends_27 : decode cX3_ends 27 = .ok (.isub, 1) := dk_100 (dk_at dksX3_ends_1 4 rfl rfl)
theorem dX3_ends_28 : decode cX3_ends 28 = .ok (.iaload, 1) := dk_46 (dk_at dksX3_ends_1 5 rfl rfl)
theorem dX3_ends_29 : decode cX3_ends 29 = .ok (.ifCond .le 4, 3) := dk_158 0 4 (dk_at dksX3_ends_1 6 rfl rfl)
theorem dX3_ends_32 : decode cX3_ends 32 = .ok (.return_, 1) := dk_177 (dk_at dksX3_ends_1 9 rfl rfl)
theorem dX3_ends_33 : decode cX3_ends 33 = .ok (.aload_n 0, 1) := dk_42 (dk_at dksX3_ends_1 10 rfl rfl)
theorem dX3_ends_34 : decode cX3_ends 34 = .ok (.invokevirtual 196, 3) := dk_182 0 196 (dk_at dksX3_ends_1 11 rfl rfl)
theorem dX3_ends_37 : decode cX3_ends 37 = .ok (.goto (-37), 3) := dk_167 255 219 (dk_at dksX3_ends_1 14 rfl rfl)
theorem dX3_ends_40 : decode cX3_ends 40 = .ok (.return_, 1) := dk_177 (dk_at dksX3_ends_1 17 rfl rfl)
abbrev cX3_merges : ByteArray := prog_24_method_26_code
def yX3_merges : MethodName := ⟨RX3, "merges", "()V"⟩
def dkwX3_merges_15 : List UInt8 := [4, 100, 79, 177]
abbrev dktX3_merges_15 : List UInt8 := dkwX3_merges_15 ++ []
def dkwX3_merges_14 : List UInt8 := [180, 0, 147, 79, 42, 180, 0, 60, 27, 92, 46, 42, 180, 0, 150, 96, 79, 42, 180, 0, 48, 27, 92, 46]
abbrev dktX3_merges_14 : List UInt8 := dkwX3_merges_14 ++ dktX3_merges_15
def dkwX3_merges_13 : List UInt8 := [42, 180, 0, 57, 27, 46, 42, 180, 0, 147, 164, 0, 12, 42, 180, 0, 57, 27, 46, 167, 0, 7, 42]
abbrev dktX3_merges_13 : List UInt8 := dkwX3_merges_13 ++ dktX3_merges_14
def dkwX3_merges_12 : List UInt8 := [180, 0, 51, 27, 46, 79, 42, 180, 0, 54, 27, 92, 46, 42, 180, 0, 144, 128, 79, 42, 180, 0, 57, 27]
abbrev dktX3_merges_12 : List UInt8 := dkwX3_merges_12 ++ dktX3_merges_13
def dkwX3_merges_11 : List UInt8 := [180, 0, 141, 96, 42, 180, 0, 51, 27, 46, 164, 0, 12, 29, 42, 180, 0, 141, 96, 167, 0, 9, 42]
abbrev dktX3_merges_11 : List UInt8 := dkwX3_merges_11 ++ dktX3_merges_12
def dkwX3_merges_10 : List UInt8 := [132, 4, 1, 167, 255, 211, 42, 180, 0, 66, 27, 51, 154, 0, 39, 42, 180, 0, 51, 27, 29, 42]
abbrev dktX3_merges_10 : List UInt8 := dkwX3_merges_10 ++ dktX3_merges_11
def dkwX3_merges_9 : List UInt8 := [42, 180, 0, 74, 16, 100, 27, 104, 29, 96, 21, 4, 96, 92, 46, 42, 180, 0, 39, 21, 4, 46, 96, 79]
abbrev dktX3_merges_9 : List UInt8 := dkwX3_merges_9 ++ dktX3_merges_10
def dkwX3_merges_8 : List UInt8 := [167, 255, 172, 3, 54, 4, 21, 4, 42, 180, 0, 141, 163, 0, 42, 42, 180, 0, 66, 27, 51, 154, 0, 33]
abbrev dktX3_merges_8 : List UInt8 := dkwX3_merges_8 ++ dktX3_merges_9
def dkwX3_merges_7 : List UInt8 := [180, 0, 36, 16, 100, 21, 4, 104, 21, 5, 96, 46, 79, 132, 5, 1, 167, 255, 197, 132, 4, 1]
abbrev dktX3_merges_7 : List UInt8 := dkwX3_merges_7 ++ dktX3_merges_8
def dkwX3_merges_6 : List UInt8 := [160, 0, 37, 42, 180, 0, 71, 17, 3, 32, 27, 104, 16, 100, 21, 4, 104, 96, 29, 96, 21, 5, 96, 42]
abbrev dktX3_merges_6 : List UInt8 := dkwX3_merges_6 ++ dktX3_merges_7
def dkwX3_merges_5 : List UInt8 := [3, 54, 5, 21, 5, 42, 180, 0, 141, 162, 0, 56, 42, 180, 0, 144, 21, 4, 122, 4, 126, 4]
abbrev dktX3_merges_5 : List UInt8 := dkwX3_merges_5 ++ dktX3_merges_6
def dkwX3_merges_4 : List UInt8 := [167, 0, 4, 3, 84, 3, 54, 4, 21, 4, 16, 8, 162, 0, 83, 42, 180, 0, 66, 27, 51, 154, 0, 74]
abbrev dktX3_merges_4 : List UInt8 := dkwX3_merges_4 ++ dktX3_merges_5
def dkwX3_merges_3 : List UInt8 := [27, 42, 180, 0, 66, 27, 51, 154, 0, 14, 29, 42, 180, 0, 141, 96, 16, 99, 164, 0, 7, 4]
abbrev dktX3_merges_3 : List UInt8 := dkwX3_merges_3 ++ dktX3_merges_4
def dkwX3_merges_2 : List UInt8 := [153, 0, 17, 42, 180, 0, 54, 27, 46, 42, 180, 0, 144, 126, 167, 0, 4, 3, 128, 79, 42, 180, 0, 66]
abbrev dktX3_merges_2 : List UInt8 := dkwX3_merges_2 ++ dktX3_merges_3
def dkwX3_merges_1 : List UInt8 := [28, 153, 0, 7, 3, 167, 0, 9, 42, 180, 0, 51, 27, 46, 62, 42, 180, 0, 63, 27, 92, 46, 28]
abbrev dktX3_merges_1 : List UInt8 := dkwX3_merges_1 ++ dktX3_merges_2
def dkwX3_merges_0 : List UInt8 := [42, 180, 0, 174, 4, 100, 60, 42, 180, 0, 42, 27, 46, 16, 6, 160, 0, 7, 4, 167, 0, 4, 3, 61]
abbrev dktX3_merges_0 : List UInt8 := dkwX3_merges_0 ++ dktX3_merges_1
theorem dksX3_merges_0 : cX3_merges.data.toList.drop 0 = dktX3_merges_0 := by decide +kernel
theorem dksX3_merges_1 : cX3_merges.data.toList.drop 24 = dktX3_merges_1 := dk_seg dksX3_merges_0 24 rfl rfl
theorem dksX3_merges_2 : cX3_merges.data.toList.drop 47 = dktX3_merges_2 := dk_seg dksX3_merges_1 23 rfl rfl
theorem dksX3_merges_3 : cX3_merges.data.toList.drop 71 = dktX3_merges_3 := dk_seg dksX3_merges_2 24 rfl rfl
theorem dksX3_merges_4 : cX3_merges.data.toList.drop 93 = dktX3_merges_4 := dk_seg dksX3_merges_3 22 rfl rfl
theorem dksX3_merges_5 : cX3_merges.data.toList.drop 117 = dktX3_merges_5 := dk_seg dksX3_merges_4 24 rfl rfl
theorem dksX3_merges_6 : cX3_merges.data.toList.drop 139 = dktX3_merges_6 := dk_seg dksX3_merges_5 22 rfl rfl
theorem dksX3_merges_7 : cX3_merges.data.toList.drop 163 = dktX3_merges_7 := dk_seg dksX3_merges_6 24 rfl rfl
theorem dksX3_merges_8 : cX3_merges.data.toList.drop 185 = dktX3_merges_8 := dk_seg dksX3_merges_7 22 rfl rfl
theorem dksX3_merges_9 : cX3_merges.data.toList.drop 209 = dktX3_merges_9 := dk_seg dksX3_merges_8 24 rfl rfl
theorem dksX3_merges_10 : cX3_merges.data.toList.drop 233 = dktX3_merges_10 := dk_seg dksX3_merges_9 24 rfl rfl
theorem dksX3_merges_11 : cX3_merges.data.toList.drop 255 = dktX3_merges_11 := dk_seg dksX3_merges_10 22 rfl rfl
theorem dksX3_merges_12 : cX3_merges.data.toList.drop 278 = dktX3_merges_12 := dk_seg dksX3_merges_11 23 rfl rfl
theorem dksX3_merges_13 : cX3_merges.data.toList.drop 302 = dktX3_merges_13 := dk_seg dksX3_merges_12 24 rfl rfl
theorem dksX3_merges_14 : cX3_merges.data.toList.drop 325 = dktX3_merges_14 := dk_seg dksX3_merges_13 23 rfl rfl
theorem dksX3_merges_15 : cX3_merges.data.toList.drop 349 = dktX3_merges_15 := dk_seg dksX3_merges_14 24 rfl rfl
theorem dX3_merges_0 : decode cX3_merges 0 = .ok (.aload_n 0, 1) := dk_42 (dk_at dksX3_merges_0 0 rfl rfl)
theorem dX3_merges_1 : decode cX3_merges 1 = .ok (.getfield 174, 3) := dk_180 0 174 (dk_at dksX3_merges_0 1 rfl rfl)
theorem dX3_merges_4 : decode cX3_merges 4 = .ok (.iconst 1, 1) := dk_4 (dk_at dksX3_merges_0 4 rfl rfl)
theorem dX3_merges_5 : decode cX3_merges 5 = .ok (.isub, 1) := dk_100 (dk_at dksX3_merges_0 5 rfl rfl)
theorem dX3_merges_6 : decode cX3_merges 6 = .ok (.istore_n 1, 1) := dk_60 (dk_at dksX3_merges_0 6 rfl rfl)
theorem dX3_merges_7 : decode cX3_merges 7 = .ok (.aload_n 0, 1) := dk_42 (dk_at dksX3_merges_0 7 rfl rfl)
theorem dX3_merges_8 : decode cX3_merges 8 = .ok (.getfield 42, 3) := dk_180 0 42 (dk_at dksX3_merges_0 8 rfl rfl)
theorem dX3_merges_11 : decode cX3_merges 11 = .ok (.iload_n 1, 1) := dk_27 (dk_at dksX3_merges_0 11 rfl rfl)
theorem dX3_merges_12 : decode cX3_merges 12 = .ok (.iaload, 1) := dk_46 (dk_at dksX3_merges_0 12 rfl rfl)
theorem dX3_merges_13 : decode cX3_merges 13 = .ok (.bipush 6, 2) := dk_16 6 (dk_at dksX3_merges_0 13 rfl rfl)
theorem dX3_merges_15 : decode cX3_merges 15 = .ok (.if_icmp .ne 7, 3) := dk_160 0 7 (dk_at dksX3_merges_0 15 rfl rfl)
theorem dX3_merges_18 : decode cX3_merges 18 = .ok (.iconst 1, 1) := dk_4 (dk_at dksX3_merges_0 18 rfl rfl)
theorem dX3_merges_19 : decode cX3_merges 19 = .ok (.goto 4, 3) := dk_167 0 4 (dk_at dksX3_merges_0 19 rfl rfl)
theorem dX3_merges_22 : decode cX3_merges 22 = .ok (.iconst 0, 1) := dk_3 (dk_at dksX3_merges_0 22 rfl rfl)
theorem dX3_merges_23 : decode cX3_merges 23 = .ok (.istore_n 2, 1) := dk_61 (dk_at dksX3_merges_0 23 rfl rfl)
theorem dX3_merges_24 : decode cX3_merges 24 = .ok (.iload_n 2, 1) := dk_28 (dk_at dksX3_merges_1 0 rfl rfl)
theorem dX3_merges_25 : decode cX3_merges 25 = .ok (.ifCond .eq 7, 3) := dk_153 0 7 (dk_at dksX3_merges_1 1 rfl rfl)
theorem dX3_merges_28 : decode cX3_merges 28 = .ok (.iconst 0, 1) := dk_3 (dk_at dksX3_merges_1 4 rfl rfl)
theorem dX3_merges_29 : decode cX3_merges 29 = .ok (.goto 9, 3) := dk_167 0 9 (dk_at dksX3_merges_1 5 rfl rfl)
theorem dX3_merges_32 : decode cX3_merges 32 = .ok (.aload_n 0, 1) := dk_42 (dk_at dksX3_merges_1 8 rfl rfl)
theorem dX3_merges_33 : decode cX3_merges 33 = .ok (.getfield 51, 3) := dk_180 0 51 (dk_at dksX3_merges_1 9 rfl rfl)
theorem dX3_merges_36 : decode cX3_merges 36 = .ok (.iload_n 1, 1) := dk_27 (dk_at dksX3_merges_1 12 rfl rfl)
theorem dX3_merges_37 : decode cX3_merges 37 = .ok (.iaload, 1) := dk_46 (dk_at dksX3_merges_1 13 rfl rfl)
theorem dX3_merges_38 : decode cX3_merges 38 = .ok (.istore_n 3, 1) := dk_62 (dk_at dksX3_merges_1 14 rfl rfl)
theorem dX3_merges_39 : decode cX3_merges 39 = .ok (.aload_n 0, 1) := dk_42 (dk_at dksX3_merges_1 15 rfl rfl)
theorem dX3_merges_40 : decode cX3_merges 40 = .ok (.getfield 63, 3) := dk_180 0 63 (dk_at dksX3_merges_1 16 rfl rfl)
theorem dX3_merges_43 : decode cX3_merges 43 = .ok (.iload_n 1, 1) := dk_27 (dk_at dksX3_merges_1 19 rfl rfl)
theorem dX3_merges_44 : decode cX3_merges 44 = .ok (.dup2, 1) := dk_92 (dk_at dksX3_merges_1 20 rfl rfl)
theorem dX3_merges_45 : decode cX3_merges 45 = .ok (.iaload, 1) := dk_46 (dk_at dksX3_merges_1 21 rfl rfl)
theorem dX3_merges_46 : decode cX3_merges 46 = .ok (.iload_n 2, 1) := dk_28 (dk_at dksX3_merges_1 22 rfl rfl)
theorem dX3_merges_47 : decode cX3_merges 47 = .ok (.ifCond .eq 17, 3) := dk_153 0 17 (dk_at dksX3_merges_2 0 rfl rfl)
theorem dX3_merges_50 : decode cX3_merges 50 = .ok (.aload_n 0, 1) := dk_42 (dk_at dksX3_merges_2 3 rfl rfl)
theorem dX3_merges_51 : decode cX3_merges 51 = .ok (.getfield 54, 3) := dk_180 0 54 (dk_at dksX3_merges_2 4 rfl rfl)
theorem dX3_merges_54 : decode cX3_merges 54 = .ok (.iload_n 1, 1) := dk_27 (dk_at dksX3_merges_2 7 rfl rfl)
theorem dX3_merges_55 : decode cX3_merges 55 = .ok (.iaload, 1) := dk_46 (dk_at dksX3_merges_2 8 rfl rfl)
theorem dX3_merges_56 : decode cX3_merges 56 = .ok (.aload_n 0, 1) := dk_42 (dk_at dksX3_merges_2 9 rfl rfl)
theorem dX3_merges_57 : decode cX3_merges 57 = .ok (.getfield 144, 3) := dk_180 0 144 (dk_at dksX3_merges_2 10 rfl rfl)
theorem dX3_merges_60 : decode cX3_merges 60 = .ok (.iand, 1) := dk_126 (dk_at dksX3_merges_2 13 rfl rfl)
theorem dX3_merges_61 : decode cX3_merges 61 = .ok (.goto 4, 3) := dk_167 0 4 (dk_at dksX3_merges_2 14 rfl rfl)
theorem dX3_merges_64 : decode cX3_merges 64 = .ok (.iconst 0, 1) := dk_3 (dk_at dksX3_merges_2 17 rfl rfl)
theorem dX3_merges_65 : decode cX3_merges 65 = .ok (.ior, 1) := dk_128 (dk_at dksX3_merges_2 18 rfl rfl)
theorem dX3_merges_66 : decode cX3_merges 66 = .ok (.iastore, 1) := dk_79 (dk_at dksX3_merges_2 19 rfl rfl)
theorem dX3_merges_67 : decode cX3_merges 67 = .ok (.aload_n 0, 1) := dk_42 (dk_at dksX3_merges_2 20 rfl rfl)
theorem dX3_merges_68 : decode cX3_merges 68 = .ok (.getfield 66, 3) := dk_180 0 66 (dk_at dksX3_merges_2 21 rfl rfl)
theorem dX3_merges_71 : decode cX3_merges 71 = .ok (.iload_n 1, 1) := dk_27 (dk_at dksX3_merges_3 0 rfl rfl)
theorem dX3_merges_72 : decode cX3_merges 72 = .ok (.aload_n 0, 1) := dk_42 (dk_at dksX3_merges_3 1 rfl rfl)
theorem dX3_merges_73 : decode cX3_merges 73 = .ok (.getfield 66, 3) := dk_180 0 66 (dk_at dksX3_merges_3 2 rfl rfl)
theorem dX3_merges_76 : decode cX3_merges 76 = .ok (.iload_n 1, 1) := dk_27 (dk_at dksX3_merges_3 5 rfl rfl)
theorem dX3_merges_77 : decode cX3_merges 77 = .ok (.baload, 1) := dk_51 (dk_at dksX3_merges_3 6 rfl rfl)
theorem dX3_merges_78 : decode cX3_merges 78 = .ok (.ifCond .ne 14, 3) := dk_154 0 14 (dk_at dksX3_merges_3 7 rfl rfl)
theorem dX3_merges_81 : decode cX3_merges 81 = .ok (.iload_n 3, 1) := dk_29 (dk_at dksX3_merges_3 10 rfl rfl)
theorem dX3_merges_82 : decode cX3_merges 82 = .ok (.aload_n 0, 1) := dk_42 (dk_at dksX3_merges_3 11 rfl rfl)
theorem dX3_merges_83 : decode cX3_merges 83 = .ok (.getfield 141, 3) := dk_180 0 141 (dk_at dksX3_merges_3 12 rfl rfl)
theorem dX3_merges_86 : decode cX3_merges 86 = .ok (.iadd, 1) := dk_96 (dk_at dksX3_merges_3 15 rfl rfl)
theorem dX3_merges_87 : decode cX3_merges 87 = .ok (.bipush 99, 2) := dk_16 99 (dk_at dksX3_merges_3 16 rfl rfl)
theorem dX3_merges_89 : decode cX3_merges 89 = .ok (.if_icmp .le 7, 3) := dk_164 0 7 (dk_at dksX3_merges_3 18 rfl rfl)
theorem dX3_merges_92 : decode cX3_merges 92 = .ok (.iconst 1, 1) := dk_4 (dk_at dksX3_merges_3 21 rfl rfl)
theorem dX3_merges_93 : decode cX3_merges 93 = .ok (.goto 4, 3) := dk_167 0 4 (dk_at dksX3_merges_4 0 rfl rfl)
theorem dX3_merges_96 : decode cX3_merges 96 = .ok (.iconst 0, 1) := dk_3 (dk_at dksX3_merges_4 3 rfl rfl)
theorem dX3_merges_97 : decode cX3_merges 97 = .ok (.bastore, 1) := dk_84 (dk_at dksX3_merges_4 4 rfl rfl)
theorem dX3_merges_98 : decode cX3_merges 98 = .ok (.iconst 0, 1) := dk_3 (dk_at dksX3_merges_4 5 rfl rfl)
theorem dX3_merges_99 : decode cX3_merges 99 = .ok (.istore 4, 2) := dk_54 4 (dk_at dksX3_merges_4 6 rfl rfl)
theorem dX3_merges_101 : decode cX3_merges 101 = .ok (.iload 4, 2) := dk_21 4 (dk_at dksX3_merges_4 8 rfl rfl)
theorem dX3_merges_103 : decode cX3_merges 103 = .ok (.bipush 8, 2) := dk_16 8 (dk_at dksX3_merges_4 10 rfl rfl)
theorem dX3_merges_105 : decode cX3_merges 105 = .ok (.if_icmp .ge 83, 3) := dk_162 0 83 (dk_at dksX3_merges_4 12 rfl rfl)
theorem dX3_merges_108 : decode cX3_merges 108 = .ok (.aload_n 0, 1) := dk_42 (dk_at dksX3_merges_4 15 rfl rfl)
theorem dX3_merges_109 : decode cX3_merges 109 = .ok (.getfield 66, 3) := dk_180 0 66 (dk_at dksX3_merges_4 16 rfl rfl)
theorem dX3_merges_112 : decode cX3_merges 112 = .ok (.iload_n 1, 1) := dk_27 (dk_at dksX3_merges_4 19 rfl rfl)
theorem dX3_merges_113 : decode cX3_merges 113 = .ok (.baload, 1) := dk_51 (dk_at dksX3_merges_4 20 rfl rfl)
theorem dX3_merges_114 : decode cX3_merges 114 = .ok (.ifCond .ne 74, 3) := dk_154 0 74 (dk_at dksX3_merges_4 21 rfl rfl)
theorem dX3_merges_117 : decode cX3_merges 117 = .ok (.iconst 0, 1) := dk_3 (dk_at dksX3_merges_5 0 rfl rfl)
theorem dX3_merges_118 : decode cX3_merges 118 = .ok (.istore 5, 2) := dk_54 5 (dk_at dksX3_merges_5 1 rfl rfl)
theorem dX3_merges_120 : decode cX3_merges 120 = .ok (.iload 5, 2) := dk_21 5 (dk_at dksX3_merges_5 3 rfl rfl)
theorem dX3_merges_122 : decode cX3_merges 122 = .ok (.aload_n 0, 1) := dk_42 (dk_at dksX3_merges_5 5 rfl rfl)
theorem dX3_merges_123 : decode cX3_merges 123 = .ok (.getfield 141, 3) := dk_180 0 141 (dk_at dksX3_merges_5 6 rfl rfl)
theorem dX3_merges_126 : decode cX3_merges 126 = .ok (.if_icmp .ge 56, 3) := dk_162 0 56 (dk_at dksX3_merges_5 9 rfl rfl)
theorem dX3_merges_129 : decode cX3_merges 129 = .ok (.aload_n 0, 1) := dk_42 (dk_at dksX3_merges_5 12 rfl rfl)
theorem dX3_merges_130 : decode cX3_merges 130 = .ok (.getfield 144, 3) := dk_180 0 144 (dk_at dksX3_merges_5 13 rfl rfl)
theorem dX3_merges_133 : decode cX3_merges 133 = .ok (.iload 4, 2) := dk_21 4 (dk_at dksX3_merges_5 16 rfl rfl)
theorem dX3_merges_135 : decode cX3_merges 135 = .ok (.ishr, 1) := dk_122 (dk_at dksX3_merges_5 18 rfl rfl)
theorem dX3_merges_136 : decode cX3_merges 136 = .ok (.iconst 1, 1) := dk_4 (dk_at dksX3_merges_5 19 rfl rfl)
theorem dX3_merges_137 : decode cX3_merges 137 = .ok (.iand, 1) := dk_126 (dk_at dksX3_merges_5 20 rfl rfl)
theorem dX3_merges_138 : decode cX3_merges 138 = .ok (.iconst 1, 1) := dk_4 (dk_at dksX3_merges_5 21 rfl rfl)
theorem dX3_merges_139 : decode cX3_merges 139 = .ok (.if_icmp .ne 37, 3) := dk_160 0 37 (dk_at dksX3_merges_6 0 rfl rfl)
theorem dX3_merges_142 : decode cX3_merges 142 = .ok (.aload_n 0, 1) := dk_42 (dk_at dksX3_merges_6 3 rfl rfl)
theorem dX3_merges_143 : decode cX3_merges 143 = .ok (.getfield 71, 3) := dk_180 0 71 (dk_at dksX3_merges_6 4 rfl rfl)
theorem dX3_merges_146 : decode cX3_merges 146 = .ok (.sipush 800, 3) := dk_17 3 32 (dk_at dksX3_merges_6 7 rfl rfl)
theorem dX3_merges_149 : decode cX3_merges 149 = .ok (.iload_n 1, 1) := dk_27 (dk_at dksX3_merges_6 10 rfl rfl)
theorem dX3_merges_150 : decode cX3_merges 150 = .ok (.imul, 1) := dk_104 (dk_at dksX3_merges_6 11 rfl rfl)
theorem dX3_merges_151 : decode cX3_merges 151 = .ok (.bipush 100, 2) := dk_16 100 (dk_at dksX3_merges_6 12 rfl rfl)
theorem dX3_merges_153 : decode cX3_merges 153 = .ok (.iload 4, 2) := dk_21 4 (dk_at dksX3_merges_6 14 rfl rfl)
theorem dX3_merges_155 : decode cX3_merges 155 = .ok (.imul, 1) := dk_104 (dk_at dksX3_merges_6 16 rfl rfl)
theorem dX3_merges_156 : decode cX3_merges 156 = .ok (.iadd, 1) := dk_96 (dk_at dksX3_merges_6 17 rfl rfl)
theorem dX3_merges_157 : decode cX3_merges 157 = .ok (.iload_n 3, 1) := dk_29 (dk_at dksX3_merges_6 18 rfl rfl)
theorem dX3_merges_158 : decode cX3_merges 158 = .ok (.iadd, 1) := dk_96 (dk_at dksX3_merges_6 19 rfl rfl)
theorem dX3_merges_159 : decode cX3_merges 159 = .ok (.iload 5, 2) := dk_21 5 (dk_at dksX3_merges_6 20 rfl rfl)
theorem dX3_merges_161 : decode cX3_merges 161 = .ok (.iadd, 1) := dk_96 (dk_at dksX3_merges_6 22 rfl rfl)
theorem dX3_merges_162 : decode cX3_merges 162 = .ok (.aload_n 0, 1) := dk_42 (dk_at dksX3_merges_6 23 rfl rfl)
theorem dX3_merges_163 : decode cX3_merges 163 = .ok (.getfield 36, 3) := dk_180 0 36 (dk_at dksX3_merges_7 0 rfl rfl)
theorem dX3_merges_166 : decode cX3_merges 166 = .ok (.bipush 100, 2) := dk_16 100 (dk_at dksX3_merges_7 3 rfl rfl)
theorem dX3_merges_168 : decode cX3_merges 168 = .ok (.iload 4, 2) := dk_21 4 (dk_at dksX3_merges_7 5 rfl rfl)
theorem dX3_merges_170 : decode cX3_merges 170 = .ok (.imul, 1) := dk_104 (dk_at dksX3_merges_7 7 rfl rfl)
theorem dX3_merges_171 : decode cX3_merges 171 = .ok (.iload 5, 2) := dk_21 5 (dk_at dksX3_merges_7 8 rfl rfl)
theorem dX3_merges_173 : decode cX3_merges 173 = .ok (.iadd, 1) := dk_96 (dk_at dksX3_merges_7 10 rfl rfl)
theorem dX3_merges_174 : decode cX3_merges 174 = .ok (.iaload, 1) := dk_46 (dk_at dksX3_merges_7 11 rfl rfl)
theorem dX3_merges_175 : decode cX3_merges 175 = .ok (.iastore, 1) := dk_79 (dk_at dksX3_merges_7 12 rfl rfl)
theorem dX3_merges_176 : decode cX3_merges 176 = .ok (.iinc 5 1, 3) := dk_132 5 1 (dk_at dksX3_merges_7 13 rfl rfl)
theorem dX3_merges_179 : decode cX3_merges 179 = .ok (.goto (-59), 3) := dk_167 255 197 (dk_at dksX3_merges_7 16 rfl rfl)
theorem dX3_merges_182 : decode cX3_merges 182 = .ok (.iinc 4 1, 3) := dk_132 4 1 (dk_at dksX3_merges_7 19 rfl rfl)
theorem dX3_merges_185 : decode cX3_merges 185 = .ok (.goto (-84), 3) := dk_167 255 172 (dk_at dksX3_merges_8 0 rfl rfl)
theorem dX3_merges_188 : decode cX3_merges 188 = .ok (.iconst 0, 1) := dk_3 (dk_at dksX3_merges_8 3 rfl rfl)
theorem dX3_merges_189 : decode cX3_merges 189 = .ok (.istore 4, 2) := dk_54 4 (dk_at dksX3_merges_8 4 rfl rfl)
theorem dX3_merges_191 : decode cX3_merges 191 = .ok (.iload 4, 2) := dk_21 4 (dk_at dksX3_merges_8 6 rfl rfl)
theorem dX3_merges_193 : decode cX3_merges 193 = .ok (.aload_n 0, 1) := dk_42 (dk_at dksX3_merges_8 8 rfl rfl)
theorem dX3_merges_194 : decode cX3_merges 194 = .ok (.getfield 141, 3) := dk_180 0 141 (dk_at dksX3_merges_8 9 rfl rfl)
theorem dX3_merges_197 : decode cX3_merges 197 = .ok (.if_icmp .gt 42, 3) := dk_163 0 42 (dk_at dksX3_merges_8 12 rfl rfl)
theorem dX3_merges_200 : decode cX3_merges 200 = .ok (.aload_n 0, 1) := dk_42 (dk_at dksX3_merges_8 15 rfl rfl)
theorem dX3_merges_201 : decode cX3_merges 201 = .ok (.getfield 66, 3) := dk_180 0 66 (dk_at dksX3_merges_8 16 rfl rfl)
theorem dX3_merges_204 : decode cX3_merges 204 = .ok (.iload_n 1, 1) := dk_27 (dk_at dksX3_merges_8 19 rfl rfl)
theorem dX3_merges_205 : decode cX3_merges 205 = .ok (.baload, 1) := dk_51 (dk_at dksX3_merges_8 20 rfl rfl)
theorem dX3_merges_206 : decode cX3_merges 206 = .ok (.ifCond .ne 33, 3) := dk_154 0 33 (dk_at dksX3_merges_8 21 rfl rfl)
theorem dX3_merges_209 : decode cX3_merges 209 = .ok (.aload_n 0, 1) := dk_42 (dk_at dksX3_merges_9 0 rfl rfl)
theorem dX3_merges_210 : decode cX3_merges 210 = .ok (.getfield 74, 3) := dk_180 0 74 (dk_at dksX3_merges_9 1 rfl rfl)
theorem dX3_merges_213 : decode cX3_merges 213 = .ok (.bipush 100, 2) := dk_16 100 (dk_at dksX3_merges_9 4 rfl rfl)
theorem dX3_merges_215 : decode cX3_merges 215 = .ok (.iload_n 1, 1) := dk_27 (dk_at dksX3_merges_9 6 rfl rfl)
theorem dX3_merges_216 : decode cX3_merges 216 = .ok (.imul, 1) := dk_104 (dk_at dksX3_merges_9 7 rfl rfl)
theorem dX3_merges_217 : decode cX3_merges 217 = .ok (.iload_n 3, 1) := dk_29 (dk_at dksX3_merges_9 8 rfl rfl)
theorem dX3_merges_218 : decode cX3_merges 218 = .ok (.iadd, 1) := dk_96 (dk_at dksX3_merges_9 9 rfl rfl)
theorem dX3_merges_219 : decode cX3_merges 219 = .ok (.iload 4, 2) := dk_21 4 (dk_at dksX3_merges_9 10 rfl rfl)
theorem dX3_merges_221 : decode cX3_merges 221 = .ok (.iadd, 1) := dk_96 (dk_at dksX3_merges_9 12 rfl rfl)
theorem dX3_merges_222 : decode cX3_merges 222 = .ok (.dup2, 1) := dk_92 (dk_at dksX3_merges_9 13 rfl rfl)
theorem dX3_merges_223 : decode cX3_merges 223 = .ok (.iaload, 1) := dk_46 (dk_at dksX3_merges_9 14 rfl rfl)
theorem dX3_merges_224 : decode cX3_merges 224 = .ok (.aload_n 0, 1) := dk_42 (dk_at dksX3_merges_9 15 rfl rfl)
theorem dX3_merges_225 : decode cX3_merges 225 = .ok (.getfield 39, 3) := dk_180 0 39 (dk_at dksX3_merges_9 16 rfl rfl)
theorem dX3_merges_228 : decode cX3_merges 228 = .ok (.iload 4, 2) := dk_21 4 (dk_at dksX3_merges_9 19 rfl rfl)
theorem dX3_merges_230 : decode cX3_merges 230 = .ok (.iaload, 1) := dk_46 (dk_at dksX3_merges_9 21 rfl rfl)
theorem dX3_merges_231 : decode cX3_merges 231 = .ok (.iadd, 1) := dk_96 (dk_at dksX3_merges_9 22 rfl rfl)
theorem dX3_merges_232 : decode cX3_merges 232 = .ok (.iastore, 1) := dk_79 (dk_at dksX3_merges_9 23 rfl rfl)
theorem dX3_merges_233 : decode cX3_merges 233 = .ok (.iinc 4 1, 3) := dk_132 4 1 (dk_at dksX3_merges_10 0 rfl rfl)
theorem dX3_merges_236 : decode cX3_merges 236 = .ok (.goto (-45), 3) := dk_167 255 211 (dk_at dksX3_merges_10 3 rfl rfl)
theorem dX3_merges_239 : decode cX3_merges 239 = .ok (.aload_n 0, 1) := dk_42 (dk_at dksX3_merges_10 6 rfl rfl)
theorem dX3_merges_240 : decode cX3_merges 240 = .ok (.getfield 66, 3) := dk_180 0 66 (dk_at dksX3_merges_10 7 rfl rfl)
theorem dX3_merges_243 : decode cX3_merges 243 = .ok (.iload_n 1, 1) := dk_27 (dk_at dksX3_merges_10 10 rfl rfl)
theorem dX3_merges_244 : decode cX3_merges 244 = .ok (.baload, 1) := dk_51 (dk_at dksX3_merges_10 11 rfl rfl)
theorem dX3_merges_245 : decode cX3_merges 245 = .ok (.ifCond .ne 39, 3) := dk_154 0 39 (dk_at dksX3_merges_10 12 rfl rfl)
theorem dX3_merges_248 : decode cX3_merges 248 = .ok (.aload_n 0, 1) := dk_42 (dk_at dksX3_merges_10 15 rfl rfl)
theorem dX3_merges_249 : decode cX3_merges 249 = .ok (.getfield 51, 3) := dk_180 0 51 (dk_at dksX3_merges_10 16 rfl rfl)
theorem dX3_merges_252 : decode cX3_merges 252 = .ok (.iload_n 1, 1) := dk_27 (dk_at dksX3_merges_10 19 rfl rfl)
theorem dX3_merges_253 : decode cX3_merges 253 = .ok (.iload_n 3, 1) := dk_29 (dk_at dksX3_merges_10 20 rfl rfl)
theorem dX3_merges_254 : decode cX3_merges 254 = .ok (.aload_n 0, 1) := dk_42 (dk_at dksX3_merges_10 21 rfl rfl)
theorem dX3_merges_255 : decode cX3_merges 255 = .ok (.getfield 141, 3) := dk_180 0 141 (dk_at dksX3_merges_11 0 rfl rfl)
theorem dX3_merges_258 : decode cX3_merges 258 = .ok (.iadd, 1) := dk_96 (dk_at dksX3_merges_11 3 rfl rfl)
theorem dX3_merges_259 : decode cX3_merges 259 = .ok (.aload_n 0, 1) := dk_42 (dk_at dksX3_merges_11 4 rfl rfl)
theorem dX3_merges_260 : decode cX3_merges 260 = .ok (.getfield 51, 3) := dk_180 0 51 (dk_at dksX3_merges_11 5 rfl rfl)
theorem dX3_merges_263 : decode cX3_merges 263 = .ok (.iload_n 1, 1) := dk_27 (dk_at dksX3_merges_11 8 rfl rfl)
theorem dX3_merges_264 : decode cX3_merges 264 = .ok (.iaload, 1) := dk_46 (dk_at dksX3_merges_11 9 rfl rfl)
theorem dX3_merges_265 : decode cX3_merges 265 = .ok (.if_icmp .le 12, 3) := dk_164 0 12 (dk_at dksX3_merges_11 10 rfl rfl)
theorem dX3_merges_268 : decode cX3_merges 268 = .ok (.iload_n 3, 1) := dk_29 (dk_at dksX3_merges_11 13 rfl rfl)
theorem dX3_merges_269 : decode cX3_merges 269 = .ok (.aload_n 0, 1) := dk_42 (dk_at dksX3_merges_11 14 rfl rfl)
theorem dX3_merges_270 : decode cX3_merges 270 = .ok (.getfield 141, 3) := dk_180 0 141 (dk_at dksX3_merges_11 15 rfl rfl)
theorem dX3_merges_273 : decode cX3_merges 273 = .ok (.iadd, 1) := dk_96 (dk_at dksX3_merges_11 18 rfl rfl)
theorem dX3_merges_274 : decode cX3_merges 274 = .ok (.goto 9, 3) := dk_167 0 9 (dk_at dksX3_merges_11 19 rfl rfl)
theorem dX3_merges_277 : decode cX3_merges 277 = .ok (.aload_n 0, 1) := dk_42 (dk_at dksX3_merges_11 22 rfl rfl)
theorem dX3_merges_278 : decode cX3_merges 278 = .ok (.getfield 51, 3) := dk_180 0 51 (dk_at dksX3_merges_12 0 rfl rfl)
theorem dX3_merges_281 : decode cX3_merges 281 = .ok (.iload_n 1, 1) := dk_27 (dk_at dksX3_merges_12 3 rfl rfl)
theorem dX3_merges_282 : decode cX3_merges 282 = .ok (.iaload, 1) := dk_46 (dk_at dksX3_merges_12 4 rfl rfl)
theorem dX3_merges_283 : decode cX3_merges 283 = .ok (.iastore, 1) := dk_79 (dk_at dksX3_merges_12 5 rfl rfl)
theorem dX3_merges_284 : decode cX3_merges 284 = .ok (.aload_n 0, 1) := dk_42 (dk_at dksX3_merges_12 6 rfl rfl)
theorem dX3_merges_285 : decode cX3_merges 285 = .ok (.getfield 54, 3) := dk_180 0 54 (dk_at dksX3_merges_12 7 rfl rfl)
theorem dX3_merges_288 : decode cX3_merges 288 = .ok (.iload_n 1, 1) := dk_27 (dk_at dksX3_merges_12 10 rfl rfl)
theorem dX3_merges_289 : decode cX3_merges 289 = .ok (.dup2, 1) := dk_92 (dk_at dksX3_merges_12 11 rfl rfl)
theorem dX3_merges_290 : decode cX3_merges 290 = .ok (.iaload, 1) := dk_46 (dk_at dksX3_merges_12 12 rfl rfl)
theorem dX3_merges_291 : decode cX3_merges 291 = .ok (.aload_n 0, 1) := dk_42 (dk_at dksX3_merges_12 13 rfl rfl)
theorem dX3_merges_292 : decode cX3_merges 292 = .ok (.getfield 144, 3) := dk_180 0 144 (dk_at dksX3_merges_12 14 rfl rfl)
theorem dX3_merges_295 : decode cX3_merges 295 = .ok (.ior, 1) := dk_128 (dk_at dksX3_merges_12 17 rfl rfl)
theorem dX3_merges_296 : decode cX3_merges 296 = .ok (.iastore, 1) := dk_79 (dk_at dksX3_merges_12 18 rfl rfl)
theorem dX3_merges_297 : decode cX3_merges 297 = .ok (.aload_n 0, 1) := dk_42 (dk_at dksX3_merges_12 19 rfl rfl)
theorem dX3_merges_298 : decode cX3_merges 298 = .ok (.getfield 57, 3) := dk_180 0 57 (dk_at dksX3_merges_12 20 rfl rfl)
theorem dX3_merges_301 : decode cX3_merges 301 = .ok (.iload_n 1, 1) := dk_27 (dk_at dksX3_merges_12 23 rfl rfl)
theorem dX3_merges_302 : decode cX3_merges 302 = .ok (.aload_n 0, 1) := dk_42 (dk_at dksX3_merges_13 0 rfl rfl)
theorem dX3_merges_303 : decode cX3_merges 303 = .ok (.getfield 57, 3) := dk_180 0 57 (dk_at dksX3_merges_13 1 rfl rfl)
theorem dX3_merges_306 : decode cX3_merges 306 = .ok (.iload_n 1, 1) := dk_27 (dk_at dksX3_merges_13 4 rfl rfl)
theorem dX3_merges_307 : decode cX3_merges 307 = .ok (.iaload, 1) := dk_46 (dk_at dksX3_merges_13 5 rfl rfl)
theorem dX3_merges_308 : decode cX3_merges 308 = .ok (.aload_n 0, 1) := dk_42 (dk_at dksX3_merges_13 6 rfl rfl)
theorem dX3_merges_309 : decode cX3_merges 309 = .ok (.getfield 147, 3) := dk_180 0 147 (dk_at dksX3_merges_13 7 rfl rfl)
theorem dX3_merges_312 : decode cX3_merges 312 = .ok (.if_icmp .le 12, 3) := dk_164 0 12 (dk_at dksX3_merges_13 10 rfl rfl)
theorem dX3_merges_315 : decode cX3_merges 315 = .ok (.aload_n 0, 1) := dk_42 (dk_at dksX3_merges_13 13 rfl rfl)
theorem dX3_merges_316 : decode cX3_merges 316 = .ok (.getfield 57, 3) := dk_180 0 57 (dk_at dksX3_merges_13 14 rfl rfl)
theorem dX3_merges_319 : decode cX3_merges 319 = .ok (.iload_n 1, 1) := dk_27 (dk_at dksX3_merges_13 17 rfl rfl)
theorem dX3_merges_320 : decode cX3_merges 320 = .ok (.iaload, 1) := dk_46 (dk_at dksX3_merges_13 18 rfl rfl)
theorem dX3_merges_321 : decode cX3_merges 321 = .ok (.goto 7, 3) := dk_167 0 7 (dk_at dksX3_merges_13 19 rfl rfl)
theorem dX3_merges_324 : decode cX3_merges 324 = .ok (.aload_n 0, 1) := dk_42 (dk_at dksX3_merges_13 22 rfl rfl)
theorem dX3_merges_325 : decode cX3_merges 325 = .ok (.getfield 147, 3) := dk_180 0 147 (dk_at dksX3_merges_14 0 rfl rfl)
theorem dX3_merges_328 : decode cX3_merges 328 = .ok (.iastore, 1) := dk_79 (dk_at dksX3_merges_14 3 rfl rfl)
theorem dX3_merges_329 : decode cX3_merges 329 = .ok (.aload_n 0, 1) := dk_42 (dk_at dksX3_merges_14 4 rfl rfl)
theorem dX3_merges_330 : decode cX3_merges 330 = .ok (.getfield 60, 3) := dk_180 0 60 (dk_at dksX3_merges_14 5 rfl rfl)
theorem dX3_merges_333 : decode cX3_merges 333 = .ok (.iload_n 1, 1) := dk_27 (dk_at dksX3_merges_14 8 rfl rfl)
theorem dX3_merges_334 : decode cX3_merges 334 = .ok (.dup2, 1) := dk_92 (dk_at dksX3_merges_14 9 rfl rfl)
theorem dX3_merges_335 : decode cX3_merges 335 = .ok (.iaload, 1) := dk_46 (dk_at dksX3_merges_14 10 rfl rfl)
theorem dX3_merges_336 : decode cX3_merges 336 = .ok (.aload_n 0, 1) := dk_42 (dk_at dksX3_merges_14 11 rfl rfl)
theorem dX3_merges_337 : decode cX3_merges 337 = .ok (.getfield 150, 3) := dk_180 0 150 (dk_at dksX3_merges_14 12 rfl rfl)
theorem dX3_merges_340 : decode cX3_merges 340 = .ok (.iadd, 1) := dk_96 (dk_at dksX3_merges_14 15 rfl rfl)
theorem dX3_merges_341 : decode cX3_merges 341 = .ok (.iastore, 1) := dk_79 (dk_at dksX3_merges_14 16 rfl rfl)
theorem dX3_merges_342 : decode cX3_merges 342 = .ok (.aload_n 0, 1) := dk_42 (dk_at dksX3_merges_14 17 rfl rfl)
theorem dX3_merges_343 : decode cX3_merges 343 = .ok (.getfield 48, 3) := dk_180 0 48 (dk_at dksX3_merges_14 18 rfl rfl)
theorem dX3_merges_346 : decode cX3_merges 346 = .ok (.iload_n 1, 1) := dk_27 (dk_at dksX3_merges_14 21 rfl rfl)
theorem dX3_merges_347 : decode cX3_merges 347 = .ok (.dup2, 1) := dk_92 (dk_at dksX3_merges_14 22 rfl rfl)
theorem dX3_merges_348 : decode cX3_merges 348 = .ok (.iaload, 1) := dk_46 (dk_at dksX3_merges_14 23 rfl rfl)
theorem dX3_merges_349 : decode cX3_merges 349 = .ok (.iconst 1, 1) := dk_4 (dk_at dksX3_merges_15 0 rfl rfl)
theorem dX3_merges_350 : decode cX3_merges 350 = .ok (.isub, 1) := dk_100 (dk_at dksX3_merges_15 1 rfl rfl)
theorem dX3_merges_351 : decode cX3_merges 351 = .ok (.iastore, 1) := dk_79 (dk_at dksX3_merges_15 2 rfl rfl)
theorem dX3_merges_352 : decode cX3_merges 352 = .ok (.return_, 1) := dk_177 (dk_at dksX3_merges_15 3 rfl rfl)
abbrev cX3_closes : ByteArray := prog_24_method_28_code
def yX3_closes : MethodName := ⟨RX3, "closes", "()V"⟩
def dkwX3_closes_7 : List UInt8 := [46, 29, 104, 182, 0, 177, 132, 3, 1, 167, 255, 228, 177]
abbrev dktX3_closes_7 : List UInt8 := dkwX3_closes_7 ++ []
def dkwX3_closes_6 : List UInt8 := [181, 0, 147, 3, 62, 29, 28, 162, 0, 29, 42, 180, 0, 153, 154, 0, 22, 42, 27, 42, 180, 0, 51, 27]
abbrev dktX3_closes_6 : List UInt8 := dkwX3_closes_6 ++ dktX3_closes_7
def dkwX3_closes_5 : List UInt8 := [2, 182, 0, 171, 42, 42, 180, 0, 54, 27, 46, 181, 0, 144, 42, 42, 180, 0, 57, 27, 46, 4, 96]
abbrev dktX3_closes_5 : List UInt8 := dkwX3_closes_5 ++ dktX3_closes_6
def dkwX3_closes_4 : List UInt8 := [154, 0, 22, 42, 180, 0, 141, 16, 99, 163, 0, 13, 42, 180, 0, 150, 17, 3, 231, 164, 0, 9, 42, 5]
abbrev dktX3_closes_4 : List UInt8 := dkwX3_closes_4 ++ dktX3_closes_5
def dkwX3_closes_3 : List UInt8 := [28, 104, 181, 0, 141, 42, 42, 180, 0, 60, 27, 46, 28, 104, 181, 0, 150, 42, 180, 0, 66, 27, 51]
abbrev dktX3_closes_3 : List UInt8 := dkwX3_closes_3 ++ dktX3_closes_4
def dkwX3_closes_2 : List UInt8 := [153, 0, 17, 42, 4, 42, 180, 0, 63, 27, 46, 184, 0, 168, 182, 0, 171, 42, 42, 180, 0, 51, 27, 46]
abbrev dktX3_closes_2 : List UInt8 := dkwX3_closes_2 ++ dktX3_closes_3
def dkwX3_closes_1 : List UInt8 := [160, 0, 12, 42, 180, 0, 45, 27, 46, 167, 0, 4, 4, 61, 42, 182, 0, 159, 42, 180, 0, 63, 27, 46]
abbrev dktX3_closes_1 : List UInt8 := dkwX3_closes_1 ++ dktX3_closes_2
def dkwX3_closes_0 : List UInt8 := [42, 89, 180, 0, 174, 4, 100, 181, 0, 174, 42, 180, 0, 174, 60, 42, 180, 0, 42, 27, 46, 6]
abbrev dktX3_closes_0 : List UInt8 := dkwX3_closes_0 ++ dktX3_closes_1
theorem dksX3_closes_0 : cX3_closes.data.toList.drop 0 = dktX3_closes_0 := by decide +kernel
theorem dksX3_closes_1 : cX3_closes.data.toList.drop 22 = dktX3_closes_1 := dk_seg dksX3_closes_0 22 rfl rfl
theorem dksX3_closes_2 : cX3_closes.data.toList.drop 46 = dktX3_closes_2 := dk_seg dksX3_closes_1 24 rfl rfl
theorem dksX3_closes_3 : cX3_closes.data.toList.drop 70 = dktX3_closes_3 := dk_seg dksX3_closes_2 24 rfl rfl
theorem dksX3_closes_4 : cX3_closes.data.toList.drop 93 = dktX3_closes_4 := dk_seg dksX3_closes_3 23 rfl rfl
theorem dksX3_closes_5 : cX3_closes.data.toList.drop 117 = dktX3_closes_5 := dk_seg dksX3_closes_4 24 rfl rfl
theorem dksX3_closes_6 : cX3_closes.data.toList.drop 140 = dktX3_closes_6 := dk_seg dksX3_closes_5 23 rfl rfl
theorem dksX3_closes_7 : cX3_closes.data.toList.drop 164 = dktX3_closes_7 := dk_seg dksX3_closes_6 24 rfl rfl
theorem dX3_closes_0 : decode cX3_closes 0 = .ok (.aload_n 0, 1) := dk_42 (dk_at dksX3_closes_0 0 rfl rfl)
theorem dX3_closes_1 : decode cX3_closes 1 = .ok (.dup, 1) := dk_89 (dk_at dksX3_closes_0 1 rfl rfl)
theorem dX3_closes_2 : decode cX3_closes 2 = .ok (.getfield 174, 3) := dk_180 0 174 (dk_at dksX3_closes_0 2 rfl rfl)
theorem dX3_closes_5 : decode cX3_closes 5 = .ok (.iconst 1, 1) := dk_4 (dk_at dksX3_closes_0 5 rfl rfl)
theorem dX3_closes_6 : decode cX3_closes 6 = .ok (.isub, 1) := dk_100 (dk_at dksX3_closes_0 6 rfl rfl)
theorem dX3_closes_7 : decode cX3_closes 7 = .ok (.putfield 174, 3) := dk_181 0 174 (dk_at dksX3_closes_0 7 rfl rfl)
theorem dX3_closes_10 : decode cX3_closes 10 = .ok (.aload_n 0, 1) := dk_42 (dk_at dksX3_closes_0 10 rfl rfl)
theorem dX3_closes_11 : decode cX3_closes 11 = .ok (.getfield 174, 3) := dk_180 0 174 (dk_at dksX3_closes_0 11 rfl rfl)
theorem dX3_closes_14 : decode cX3_closes 14 = .ok (.istore_n 1, 1) := dk_60 (dk_at dksX3_closes_0 14 rfl rfl)
theorem dX3_closes_15 : decode cX3_closes 15 = .ok (.aload_n 0, 1) := dk_42 (dk_at dksX3_closes_0 15 rfl rfl)
theorem dX3_closes_16 : decode cX3_closes 16 = .ok (.getfield 42, 3) := dk_180 0 42 (dk_at dksX3_closes_0 16 rfl rfl)
theorem dX3_closes_19 : decode cX3_closes 19 = .ok (.iload_n 1, 1) := dk_27 (dk_at dksX3_closes_0 19 rfl rfl)
theorem dX3_closes_20 : decode cX3_closes 20 = .ok (.iaload, 1) := dk_46 (dk_at dksX3_closes_0 20 rfl rfl)
theorem dX3_closes_21 : decode cX3_closes 21 = .ok (.iconst 3, 1) := dk_6 (dk_at dksX3_closes_0 21 rfl rfl)
theorem dX3_closes_22 : decode cX3_closes 22 = .ok (.if_icmp .ne 12, 3) := dk_160 0 12 (dk_at dksX3_closes_1 0 rfl rfl)
theorem dX3_closes_25 : decode cX3_closes 25 = .ok (.aload_n 0, 1) := dk_42 (dk_at dksX3_closes_1 3 rfl rfl)
theorem dX3_closes_26 : decode cX3_closes 26 = .ok (.getfield 45, 3) := dk_180 0 45 (dk_at dksX3_closes_1 4 rfl rfl)
theorem dX3_closes_29 : decode cX3_closes 29 = .ok (.iload_n 1, 1) := dk_27 (dk_at dksX3_closes_1 7 rfl rfl)
theorem dX3_closes_30 : decode cX3_closes 30 = .ok (.iaload, 1) := dk_46 (dk_at dksX3_closes_1 8 rfl rfl)
theorem dX3_closes_31 : decode cX3_closes 31 = .ok (.goto 4, 3) := dk_167 0 4 (dk_at dksX3_closes_1 9 rfl rfl)
theorem dX3_closes_34 : decode cX3_closes 34 = .ok (.iconst 1, 1) := dk_4 (dk_at dksX3_closes_1 12 rfl rfl)
theorem dX3_closes_35 : decode cX3_closes 35 = .ok (.istore_n 2, 1) := dk_61 (dk_at dksX3_closes_1 13 rfl rfl)
theorem dX3_closes_36 : decode cX3_closes 36 = .ok (.aload_n 0, 1) := dk_42 (dk_at dksX3_closes_1 14 rfl rfl)
theorem dX3_closes_37 : decode cX3_closes 37 = .ok (.invokevirtual 159, 3) := dk_182 0 159 (dk_at dksX3_closes_1 15 rfl rfl)
theorem dX3_closes_40 : decode cX3_closes 40 = .ok (.aload_n 0, 1) := dk_42 (dk_at dksX3_closes_1 18 rfl rfl)
theorem dX3_closes_41 : decode cX3_closes 41 = .ok (.getfield 63, 3) := dk_180 0 63 (dk_at dksX3_closes_1 19 rfl rfl)
theorem dX3_closes_44 : decode cX3_closes 44 = .ok (.iload_n 1, 1) := dk_27 (dk_at dksX3_closes_1 22 rfl rfl)
theorem dX3_closes_45 : decode cX3_closes 45 = .ok (.iaload, 1) := dk_46 (dk_at dksX3_closes_1 23 rfl rfl)
theorem dX3_closes_46 : decode cX3_closes 46 = .ok (.ifCond .eq 17, 3) := dk_153 0 17 (dk_at dksX3_closes_2 0 rfl rfl)
theorem dX3_closes_49 : decode cX3_closes 49 = .ok (.aload_n 0, 1) := dk_42 (dk_at dksX3_closes_2 3 rfl rfl)
theorem dX3_closes_50 : decode cX3_closes 50 = .ok (.iconst 1, 1) := dk_4 (dk_at dksX3_closes_2 4 rfl rfl)
theorem dX3_closes_51 : decode cX3_closes 51 = .ok (.aload_n 0, 1) := dk_42 (dk_at dksX3_closes_2 5 rfl rfl)
theorem dX3_closes_52 : decode cX3_closes 52 = .ok (.getfield 63, 3) := dk_180 0 63 (dk_at dksX3_closes_2 6 rfl rfl)
theorem dX3_closes_55 : decode cX3_closes 55 = .ok (.iload_n 1, 1) := dk_27 (dk_at dksX3_closes_2 9 rfl rfl)
theorem dX3_closes_56 : decode cX3_closes 56 = .ok (.iaload, 1) := dk_46 (dk_at dksX3_closes_2 10 rfl rfl)
theorem dX3_closes_57 : decode cX3_closes 57 = .ok (.invokestatic 168, 3) := dk_184 0 168 (dk_at dksX3_closes_2 11 rfl rfl)
theorem dX3_closes_60 : decode cX3_closes 60 = .ok (.invokevirtual 171, 3) := dk_182 0 171 (dk_at dksX3_closes_2 14 rfl rfl)
theorem dX3_closes_63 : decode cX3_closes 63 = .ok (.aload_n 0, 1) := dk_42 (dk_at dksX3_closes_2 17 rfl rfl)
theorem dX3_closes_64 : decode cX3_closes 64 = .ok (.aload_n 0, 1) := dk_42 (dk_at dksX3_closes_2 18 rfl rfl)
theorem dX3_closes_65 : decode cX3_closes 65 = .ok (.getfield 51, 3) := dk_180 0 51 (dk_at dksX3_closes_2 19 rfl rfl)
theorem dX3_closes_68 : decode cX3_closes 68 = .ok (.iload_n 1, 1) := dk_27 (dk_at dksX3_closes_2 22 rfl rfl)
theorem dX3_closes_69 : decode cX3_closes 69 = .ok (.iaload, 1) := dk_46 (dk_at dksX3_closes_2 23 rfl rfl)
theorem dX3_closes_70 : decode cX3_closes 70 = .ok (.iload_n 2, 1) := dk_28 (dk_at dksX3_closes_3 0 rfl rfl)
theorem dX3_closes_71 : decode cX3_closes 71 = .ok (.imul, 1) := dk_104 (dk_at dksX3_closes_3 1 rfl rfl)
theorem dX3_closes_72 : decode cX3_closes 72 = .ok (.putfield 141, 3) := dk_181 0 141 (dk_at dksX3_closes_3 2 rfl rfl)
theorem dX3_closes_75 : decode cX3_closes 75 = .ok (.aload_n 0, 1) := dk_42 (dk_at dksX3_closes_3 5 rfl rfl)
theorem dX3_closes_76 : decode cX3_closes 76 = .ok (.aload_n 0, 1) := dk_42 (dk_at dksX3_closes_3 6 rfl rfl)
theorem dX3_closes_77 : decode cX3_closes 77 = .ok (.getfield 60, 3) := dk_180 0 60 (dk_at dksX3_closes_3 7 rfl rfl)
theorem dX3_closes_80 : decode cX3_closes 80 = .ok (.iload_n 1, 1) := dk_27 (dk_at dksX3_closes_3 10 rfl rfl)
theorem dX3_closes_81 : decode cX3_closes 81 = .ok (.iaload, 1) := dk_46 (dk_at dksX3_closes_3 11 rfl rfl)
theorem dX3_closes_82 : decode cX3_closes 82 = .ok (.iload_n 2, 1) := dk_28 (dk_at dksX3_closes_3 12 rfl rfl)
theorem dX3_closes_83 : decode cX3_closes 83 = .ok (.imul, 1) := dk_104 (dk_at dksX3_closes_3 13 rfl rfl)
theorem dX3_closes_84 : decode cX3_closes 84 = .ok (.putfield 150, 3) := dk_181 0 150 (dk_at dksX3_closes_3 14 rfl rfl)
theorem dX3_closes_87 : decode cX3_closes 87 = .ok (.aload_n 0, 1) := dk_42 (dk_at dksX3_closes_3 17 rfl rfl)
theorem dX3_closes_88 : decode cX3_closes 88 = .ok (.getfield 66, 3) := dk_180 0 66 (dk_at dksX3_closes_3 18 rfl rfl)
theorem dX3_closes_91 : decode cX3_closes 91 = .ok (.iload_n 1, 1) := dk_27 (dk_at dksX3_closes_3 21 rfl rfl)
theorem dX3_closes_92 : decode cX3_closes 92 = .ok (.baload, 1) := dk_51 (dk_at dksX3_closes_3 22 rfl rfl)
theorem dX3_closes_93 : decode cX3_closes 93 = .ok (.ifCond .ne 22, 3) := dk_154 0 22 (dk_at dksX3_closes_4 0 rfl rfl)
theorem dX3_closes_96 : decode cX3_closes 96 = .ok (.aload_n 0, 1) := dk_42 (dk_at dksX3_closes_4 3 rfl rfl)
theorem dX3_closes_97 : decode cX3_closes 97 = .ok (.getfield 141, 3) := dk_180 0 141 (dk_at dksX3_closes_4 4 rfl rfl)
theorem dX3_closes_100 : decode cX3_closes 100 = .ok (.bipush 99, 2) := dk_16 99 (dk_at dksX3_closes_4 7 rfl rfl)
theorem dX3_closes_102 : decode cX3_closes 102 = .ok (.if_icmp .gt 13, 3) := dk_163 0 13 (dk_at dksX3_closes_4 9 rfl rfl)
theorem dX3_closes_105 : decode cX3_closes 105 = .ok (.aload_n 0, 1) := dk_42 (dk_at dksX3_closes_4 12 rfl rfl)
theorem dX3_closes_106 : decode cX3_closes 106 = .ok (.getfield 150, 3) := dk_180 0 150 (dk_at dksX3_closes_4 13 rfl rfl)
theorem dX3_closes_109 : decode cX3_closes 109 = .ok (.sipush 999, 3) := dk_17 3 231 (dk_at dksX3_closes_4 16 rfl rfl)
theorem dX3_closes_112 : decode cX3_closes 112 = .ok (.if_icmp .le 9, 3) := dk_164 0 9 (dk_at dksX3_closes_4 19 rfl rfl)
theorem dX3_closes_115 : decode cX3_closes 115 = .ok (.aload_n 0, 1) := dk_42 (dk_at dksX3_closes_4 22 rfl rfl)
theorem dX3_closes_116 : decode cX3_closes 116 = .ok (.iconst 2, 1) := dk_5 (dk_at dksX3_closes_4 23 rfl rfl)
theorem dX3_closes_117 : decode cX3_closes 117 = .ok (.iconst (-1), 1) := dk_2 (dk_at dksX3_closes_5 0 rfl rfl)
theorem dX3_closes_118 : decode cX3_closes 118 = .ok (.invokevirtual 171, 3) := dk_182 0 171 (dk_at dksX3_closes_5 1 rfl rfl)
theorem dX3_closes_121 : decode cX3_closes 121 = .ok (.aload_n 0, 1) := dk_42 (dk_at dksX3_closes_5 4 rfl rfl)
theorem dX3_closes_122 : decode cX3_closes 122 = .ok (.aload_n 0, 1) := dk_42 (dk_at dksX3_closes_5 5 rfl rfl)
theorem dX3_closes_123 : decode cX3_closes 123 = .ok (.getfield 54, 3) := dk_180 0 54 (dk_at dksX3_closes_5 6 rfl rfl)
theorem dX3_closes_126 : decode cX3_closes 126 = .ok (.iload_n 1, 1) := dk_27 (dk_at dksX3_closes_5 9 rfl rfl)
theorem dX3_closes_127 : decode cX3_closes 127 = .ok (.iaload, 1) := dk_46 (dk_at dksX3_closes_5 10 rfl rfl)
theorem dX3_closes_128 : decode cX3_closes 128 = .ok (.putfield 144, 3) := dk_181 0 144 (dk_at dksX3_closes_5 11 rfl rfl)
theorem dX3_closes_131 : decode cX3_closes 131 = .ok (.aload_n 0, 1) := dk_42 (dk_at dksX3_closes_5 14 rfl rfl)
theorem dX3_closes_132 : decode cX3_closes 132 = .ok (.aload_n 0, 1) := dk_42 (dk_at dksX3_closes_5 15 rfl rfl)
theorem dX3_closes_133 : decode cX3_closes 133 = .ok (.getfield 57, 3) := dk_180 0 57 (dk_at dksX3_closes_5 16 rfl rfl)
theorem dX3_closes_136 : decode cX3_closes 136 = .ok (.iload_n 1, 1) := dk_27 (dk_at dksX3_closes_5 19 rfl rfl)
theorem dX3_closes_137 : decode cX3_closes 137 = .ok (.iaload, 1) := dk_46 (dk_at dksX3_closes_5 20 rfl rfl)
theorem dX3_closes_138 : decode cX3_closes 138 = .ok (.iconst 1, 1) := dk_4 (dk_at dksX3_closes_5 21 rfl rfl)
theorem dX3_closes_139 : decode cX3_closes 139 = .ok (.iadd, 1) := dk_96 (dk_at dksX3_closes_5 22 rfl rfl)
theorem dX3_closes_140 : decode cX3_closes 140 = .ok (.putfield 147, 3) := dk_181 0 147 (dk_at dksX3_closes_6 0 rfl rfl)
theorem dX3_closes_143 : decode cX3_closes 143 = .ok (.iconst 0, 1) := dk_3 (dk_at dksX3_closes_6 3 rfl rfl)
theorem dX3_closes_144 : decode cX3_closes 144 = .ok (.istore_n 3, 1) := dk_62 (dk_at dksX3_closes_6 4 rfl rfl)
theorem dX3_closes_145 : decode cX3_closes 145 = .ok (.iload_n 3, 1) := dk_29 (dk_at dksX3_closes_6 5 rfl rfl)
theorem dX3_closes_146 : decode cX3_closes 146 = .ok (.iload_n 2, 1) := dk_28 (dk_at dksX3_closes_6 6 rfl rfl)
theorem dX3_closes_147 : decode cX3_closes 147 = .ok (.if_icmp .ge 29, 3) := dk_162 0 29 (dk_at dksX3_closes_6 7 rfl rfl)
theorem dX3_closes_150 : decode cX3_closes 150 = .ok (.aload_n 0, 1) := dk_42 (dk_at dksX3_closes_6 10 rfl rfl)
theorem dX3_closes_151 : decode cX3_closes 151 = .ok (.getfield 153, 3) := dk_180 0 153 (dk_at dksX3_closes_6 11 rfl rfl)
theorem dX3_closes_154 : decode cX3_closes 154 = .ok (.ifCond .ne 22, 3) := dk_154 0 22 (dk_at dksX3_closes_6 14 rfl rfl)
theorem dX3_closes_157 : decode cX3_closes 157 = .ok (.aload_n 0, 1) := dk_42 (dk_at dksX3_closes_6 17 rfl rfl)
theorem dX3_closes_158 : decode cX3_closes 158 = .ok (.iload_n 1, 1) := dk_27 (dk_at dksX3_closes_6 18 rfl rfl)
theorem dX3_closes_159 : decode cX3_closes 159 = .ok (.aload_n 0, 1) := dk_42 (dk_at dksX3_closes_6 19 rfl rfl)
theorem dX3_closes_160 : decode cX3_closes 160 = .ok (.getfield 51, 3) := dk_180 0 51 (dk_at dksX3_closes_6 20 rfl rfl)
theorem dX3_closes_163 : decode cX3_closes 163 = .ok (.iload_n 1, 1) := dk_27 (dk_at dksX3_closes_6 23 rfl rfl)
theorem dX3_closes_164 : decode cX3_closes 164 = .ok (.iaload, 1) := dk_46 (dk_at dksX3_closes_7 0 rfl rfl)
theorem dX3_closes_165 : decode cX3_closes 165 = .ok (.iload_n 3, 1) := dk_29 (dk_at dksX3_closes_7 1 rfl rfl)
theorem dX3_closes_166 : decode cX3_closes 166 = .ok (.imul, 1) := dk_104 (dk_at dksX3_closes_7 2 rfl rfl)
theorem dX3_closes_167 : decode cX3_closes 167 = .ok (.invokevirtual 177, 3) := dk_182 0 177 (dk_at dksX3_closes_7 3 rfl rfl)
theorem dX3_closes_170 : decode cX3_closes 170 = .ok (.iinc 3 1, 3) := dk_132 3 1 (dk_at dksX3_closes_7 6 rfl rfl)
theorem dX3_closes_173 : decode cX3_closes 173 = .ok (.goto (-28), 3) := dk_167 255 228 (dk_at dksX3_closes_7 9 rfl rfl)
theorem dX3_closes_176 : decode cX3_closes 176 = .ok (.return_, 1) := dk_177 (dk_at dksX3_closes_7 12 rfl rfl)
abbrev cX3_copies : ByteArray := prog_24_method_29_code
def yX3_copies : MethodName := ⟨RX3, "copies", "(II)V"⟩
def dkwX3_copies_8 : List UInt8 := [21, 4, 96, 46, 96, 79, 132, 4, 1, 167, 255, 206, 177]
abbrev dktX3_copies_8 : List UInt8 := dkwX3_copies_8 ++ []
def dkwX3_copies_7 : List UInt8 := [180, 0, 74, 16, 100, 27, 104, 42, 180, 0, 42, 27, 46, 8, 160, 0, 10, 29, 21, 4, 100, 167, 0, 5]
abbrev dktX3_copies_7 : List UInt8 := dkwX3_copies_7 ++ dktX3_copies_8
def dkwX3_copies_6 : List UInt8 := [167, 255, 128, 3, 54, 4, 21, 4, 29, 163, 0, 50, 42, 180, 0, 39, 28, 21, 4, 96, 92, 46, 42]
abbrev dktX3_copies_6 : List UInt8 := dkwX3_copies_6 ++ dktX3_copies_7
def dkwX3_copies_5 : List UInt8 := [153, 0, 11, 21, 6, 184, 0, 180, 167, 0, 5, 21, 6, 79, 132, 5, 1, 167, 255, 144, 132, 4, 1]
abbrev dktX3_copies_5 : List UInt8 := dkwX3_copies_5 ++ dktX3_copies_6
def dkwX3_copies_4 : List UInt8 := [167, 0, 4, 3, 54, 7, 42, 180, 0, 36, 16, 100, 21, 4, 104, 28, 96, 21, 5, 96, 21, 7]
abbrev dktX3_copies_4 : List UInt8 := dkwX3_copies_4 ++ dktX3_copies_5
def dkwX3_copies_3 : List UInt8 := [46, 8, 159, 0, 19, 42, 180, 0, 42, 27, 46, 7, 160, 0, 13, 21, 6, 5, 164, 0, 7, 4]
abbrev dktX3_copies_3 : List UInt8 := dkwX3_copies_3 ++ dktX3_copies_4
def dkwX3_copies_2 : List UInt8 := [8, 160, 0, 12, 29, 4, 100, 21, 5, 100, 167, 0, 5, 21, 5, 96, 46, 54, 6, 42, 180, 0, 42, 27]
abbrev dktX3_copies_2 : List UInt8 := dkwX3_copies_2 ++ dktX3_copies_3
def dkwX3_copies_1 : List UInt8 := [162, 0, 112, 42, 180, 0, 71, 17, 3, 32, 27, 104, 16, 100, 21, 4, 104, 96, 42, 180, 0, 42, 27, 46]
abbrev dktX3_copies_1 : List UInt8 := dkwX3_copies_1 ++ dktX3_copies_2
def dkwX3_copies_0 : List UInt8 := [42, 180, 0, 51, 27, 46, 62, 3, 54, 4, 21, 4, 16, 8, 162, 0, 127, 3, 54, 5, 21, 5, 29]
abbrev dktX3_copies_0 : List UInt8 := dkwX3_copies_0 ++ dktX3_copies_1
theorem dksX3_copies_0 : cX3_copies.data.toList.drop 0 = dktX3_copies_0 := by decide +kernel
theorem dksX3_copies_1 : cX3_copies.data.toList.drop 23 = dktX3_copies_1 := dk_seg dksX3_copies_0 23 rfl rfl
theorem dksX3_copies_2 : cX3_copies.data.toList.drop 47 = dktX3_copies_2 := dk_seg dksX3_copies_1 24 rfl rfl
theorem dksX3_copies_3 : cX3_copies.data.toList.drop 71 = dktX3_copies_3 := dk_seg dksX3_copies_2 24 rfl rfl
theorem dksX3_copies_4 : cX3_copies.data.toList.drop 93 = dktX3_copies_4 := dk_seg dksX3_copies_3 22 rfl rfl
theorem dksX3_copies_5 : cX3_copies.data.toList.drop 115 = dktX3_copies_5 := dk_seg dksX3_copies_4 22 rfl rfl
theorem dksX3_copies_6 : cX3_copies.data.toList.drop 138 = dktX3_copies_6 := dk_seg dksX3_copies_5 23 rfl rfl
theorem dksX3_copies_7 : cX3_copies.data.toList.drop 161 = dktX3_copies_7 := dk_seg dksX3_copies_6 23 rfl rfl
theorem dksX3_copies_8 : cX3_copies.data.toList.drop 185 = dktX3_copies_8 := dk_seg dksX3_copies_7 24 rfl rfl
theorem dX3_copies_0 : decode cX3_copies 0 = .ok (.aload_n 0, 1) := dk_42 (dk_at dksX3_copies_0 0 rfl rfl)
theorem dX3_copies_1 : decode cX3_copies 1 = .ok (.getfield 51, 3) := dk_180 0 51 (dk_at dksX3_copies_0 1 rfl rfl)
theorem dX3_copies_4 : decode cX3_copies 4 = .ok (.iload_n 1, 1) := dk_27 (dk_at dksX3_copies_0 4 rfl rfl)
theorem dX3_copies_5 : decode cX3_copies 5 = .ok (.iaload, 1) := dk_46 (dk_at dksX3_copies_0 5 rfl rfl)
theorem dX3_copies_6 : decode cX3_copies 6 = .ok (.istore_n 3, 1) := dk_62 (dk_at dksX3_copies_0 6 rfl rfl)
theorem dX3_copies_7 : decode cX3_copies 7 = .ok (.iconst 0, 1) := dk_3 (dk_at dksX3_copies_0 7 rfl rfl)
theorem dX3_copies_8 : decode cX3_copies 8 = .ok (.istore 4, 2) := dk_54 4 (dk_at dksX3_copies_0 8 rfl rfl)
theorem dX3_copies_10 : decode cX3_copies 10 = .ok (.iload 4, 2) := dk_21 4 (dk_at dksX3_copies_0 10 rfl rfl)
theorem dX3_copies_12 : decode cX3_copies 12 = .ok (.bipush 8, 2) := dk_16 8 (dk_at dksX3_copies_0 12 rfl rfl)
theorem dX3_copies_14 : decode cX3_copies 14 = .ok (.if_icmp .ge 127, 3) := dk_162 0 127 (dk_at dksX3_copies_0 14 rfl rfl)
theorem dX3_copies_17 : decode cX3_copies 17 = .ok (.iconst 0, 1) := dk_3 (dk_at dksX3_copies_0 17 rfl rfl)
theorem dX3_copies_18 : decode cX3_copies 18 = .ok (.istore 5, 2) := dk_54 5 (dk_at dksX3_copies_0 18 rfl rfl)
theorem dX3_copies_20 : decode cX3_copies 20 = .ok (.iload 5, 2) := dk_21 5 (dk_at dksX3_copies_0 20 rfl rfl)
theorem dX3_copies_22 : decode cX3_copies 22 = .ok (.iload_n 3, 1) := dk_29 (dk_at dksX3_copies_0 22 rfl rfl)
theorem dX3_copies_23 : decode cX3_copies 23 = .ok (.if_icmp .ge 112, 3) := dk_162 0 112 (dk_at dksX3_copies_1 0 rfl rfl)
theorem dX3_copies_26 : decode cX3_copies 26 = .ok (.aload_n 0, 1) := dk_42 (dk_at dksX3_copies_1 3 rfl rfl)
theorem dX3_copies_27 : decode cX3_copies 27 = .ok (.getfield 71, 3) := dk_180 0 71 (dk_at dksX3_copies_1 4 rfl rfl)
theorem dX3_copies_30 : decode cX3_copies 30 = .ok (.sipush 800, 3) := dk_17 3 32 (dk_at dksX3_copies_1 7 rfl rfl)
theorem dX3_copies_33 : decode cX3_copies 33 = .ok (.iload_n 1, 1) := dk_27 (dk_at dksX3_copies_1 10 rfl rfl)
theorem dX3_copies_34 : decode cX3_copies 34 = .ok (.imul, 1) := dk_104 (dk_at dksX3_copies_1 11 rfl rfl)
theorem dX3_copies_35 : decode cX3_copies 35 = .ok (.bipush 100, 2) := dk_16 100 (dk_at dksX3_copies_1 12 rfl rfl)
theorem dX3_copies_37 : decode cX3_copies 37 = .ok (.iload 4, 2) := dk_21 4 (dk_at dksX3_copies_1 14 rfl rfl)
theorem dX3_copies_39 : decode cX3_copies 39 = .ok (.imul, 1) := dk_104 (dk_at dksX3_copies_1 16 rfl rfl)
theorem dX3_copies_40 : decode cX3_copies 40 = .ok (.iadd, 1) := dk_96 (dk_at dksX3_copies_1 17 rfl rfl)
theorem dX3_copies_41 : decode cX3_copies 41 = .ok (.aload_n 0, 1) := dk_42 (dk_at dksX3_copies_1 18 rfl rfl)
theorem dX3_copies_42 : decode cX3_copies 42 = .ok (.getfield 42, 3) := dk_180 0 42 (dk_at dksX3_copies_1 19 rfl rfl)
theorem dX3_copies_45 : decode cX3_copies 45 = .ok (.iload_n 1, 1) := dk_27 (dk_at dksX3_copies_1 22 rfl rfl)
theorem dX3_copies_46 : decode cX3_copies 46 = .ok (.iaload, 1) := dk_46 (dk_at dksX3_copies_1 23 rfl rfl)
theorem dX3_copies_47 : decode cX3_copies 47 = .ok (.iconst 5, 1) := dk_8 (dk_at dksX3_copies_2 0 rfl rfl)
theorem dX3_copies_48 : decode cX3_copies 48 = .ok (.if_icmp .ne 12, 3) := dk_160 0 12 (dk_at dksX3_copies_2 1 rfl rfl)
theorem dX3_copies_51 : decode cX3_copies 51 = .ok (.iload_n 3, 1) := dk_29 (dk_at dksX3_copies_2 4 rfl rfl)
theorem dX3_copies_52 : decode cX3_copies 52 = .ok (.iconst 1, 1) := dk_4 (dk_at dksX3_copies_2 5 rfl rfl)
theorem dX3_copies_53 : decode cX3_copies 53 = .ok (.isub, 1) := dk_100 (dk_at dksX3_copies_2 6 rfl rfl)
theorem dX3_copies_54 : decode cX3_copies 54 = .ok (.iload 5, 2) := dk_21 5 (dk_at dksX3_copies_2 7 rfl rfl)
theorem dX3_copies_56 : decode cX3_copies 56 = .ok (.isub, 1) := dk_100 (dk_at dksX3_copies_2 9 rfl rfl)
theorem dX3_copies_57 : decode cX3_copies 57 = .ok (.goto 5, 3) := dk_167 0 5 (dk_at dksX3_copies_2 10 rfl rfl)
theorem dX3_copies_60 : decode cX3_copies 60 = .ok (.iload 5, 2) := dk_21 5 (dk_at dksX3_copies_2 13 rfl rfl)
theorem dX3_copies_62 : decode cX3_copies 62 = .ok (.iadd, 1) := dk_96 (dk_at dksX3_copies_2 15 rfl rfl)
theorem dX3_copies_63 : decode cX3_copies 63 = .ok (.iaload, 1) := dk_46 (dk_at dksX3_copies_2 16 rfl rfl)
theorem dX3_copies_64 : decode cX3_copies 64 = .ok (.istore 6, 2) := dk_54 6 (dk_at dksX3_copies_2 17 rfl rfl)
theorem dX3_copies_66 : decode cX3_copies 66 = .ok (.aload_n 0, 1) := dk_42 (dk_at dksX3_copies_2 19 rfl rfl)
theorem dX3_copies_67 : decode cX3_copies 67 = .ok (.getfield 42, 3) := dk_180 0 42 (dk_at dksX3_copies_2 20 rfl rfl)
theorem dX3_copies_70 : decode cX3_copies 70 = .ok (.iload_n 1, 1) := dk_27 (dk_at dksX3_copies_2 23 rfl rfl)
theorem dX3_copies_71 : decode cX3_copies 71 = .ok (.iaload, 1) := dk_46 (dk_at dksX3_copies_3 0 rfl rfl)
theorem dX3_copies_72 : decode cX3_copies 72 = .ok (.iconst 5, 1) := dk_8 (dk_at dksX3_copies_3 1 rfl rfl)
theorem dX3_copies_73 : decode cX3_copies 73 = .ok (.if_icmp .eq 19, 3) := dk_159 0 19 (dk_at dksX3_copies_3 2 rfl rfl)
theorem dX3_copies_76 : decode cX3_copies 76 = .ok (.aload_n 0, 1) := dk_42 (dk_at dksX3_copies_3 5 rfl rfl)
theorem dX3_copies_77 : decode cX3_copies 77 = .ok (.getfield 42, 3) := dk_180 0 42 (dk_at dksX3_copies_3 6 rfl rfl)
theorem dX3_copies_80 : decode cX3_copies 80 = .ok (.iload_n 1, 1) := dk_27 (dk_at dksX3_copies_3 9 rfl rfl)
theorem dX3_copies_81 : decode cX3_copies 81 = .ok (.iaload, 1) := dk_46 (dk_at dksX3_copies_3 10 rfl rfl)
theorem dX3_copies_82 : decode cX3_copies 82 = .ok (.iconst 4, 1) := dk_7 (dk_at dksX3_copies_3 11 rfl rfl)
theorem dX3_copies_83 : decode cX3_copies 83 = .ok (.if_icmp .ne 13, 3) := dk_160 0 13 (dk_at dksX3_copies_3 12 rfl rfl)
theorem dX3_copies_86 : decode cX3_copies 86 = .ok (.iload 6, 2) := dk_21 6 (dk_at dksX3_copies_3 15 rfl rfl)
theorem dX3_copies_88 : decode cX3_copies 88 = .ok (.iconst 2, 1) := dk_5 (dk_at dksX3_copies_3 17 rfl rfl)
theorem dX3_copies_89 : decode cX3_copies 89 = .ok (.if_icmp .le 7, 3) := dk_164 0 7 (dk_at dksX3_copies_3 18 rfl rfl)
theorem dX3_copies_92 : decode cX3_copies 92 = .ok (.iconst 1, 1) := dk_4 (dk_at dksX3_copies_3 21 rfl rfl)
theorem dX3_copies_93 : decode cX3_copies 93 = .ok (.goto 4, 3) := dk_167 0 4 (dk_at dksX3_copies_4 0 rfl rfl)
theorem dX3_copies_96 : decode cX3_copies 96 = .ok (.iconst 0, 1) := dk_3 (dk_at dksX3_copies_4 3 rfl rfl)
theorem dX3_copies_97 : decode cX3_copies 97 = .ok (.istore 7, 2) := dk_54 7 (dk_at dksX3_copies_4 4 rfl rfl)
theorem dX3_copies_99 : decode cX3_copies 99 = .ok (.aload_n 0, 1) := dk_42 (dk_at dksX3_copies_4 6 rfl rfl)
theorem dX3_copies_100 : decode cX3_copies 100 = .ok (.getfield 36, 3) := dk_180 0 36 (dk_at dksX3_copies_4 7 rfl rfl)
theorem dX3_copies_103 : decode cX3_copies 103 = .ok (.bipush 100, 2) := dk_16 100 (dk_at dksX3_copies_4 10 rfl rfl)
theorem dX3_copies_105 : decode cX3_copies 105 = .ok (.iload 4, 2) := dk_21 4 (dk_at dksX3_copies_4 12 rfl rfl)
theorem dX3_copies_107 : decode cX3_copies 107 = .ok (.imul, 1) := dk_104 (dk_at dksX3_copies_4 14 rfl rfl)
theorem dX3_copies_108 : decode cX3_copies 108 = .ok (.iload_n 2, 1) := dk_28 (dk_at dksX3_copies_4 15 rfl rfl)
theorem dX3_copies_109 : decode cX3_copies 109 = .ok (.iadd, 1) := dk_96 (dk_at dksX3_copies_4 16 rfl rfl)
theorem dX3_copies_110 : decode cX3_copies 110 = .ok (.iload 5, 2) := dk_21 5 (dk_at dksX3_copies_4 17 rfl rfl)
theorem dX3_copies_112 : decode cX3_copies 112 = .ok (.iadd, 1) := dk_96 (dk_at dksX3_copies_4 19 rfl rfl)
theorem dX3_copies_113 : decode cX3_copies 113 = .ok (.iload 7, 2) := dk_21 7 (dk_at dksX3_copies_4 20 rfl rfl)
theorem dX3_copies_115 : decode cX3_copies 115 = .ok (.ifCond .eq 11, 3) := dk_153 0 11 (dk_at dksX3_copies_5 0 rfl rfl)
theorem dX3_copies_118 : decode cX3_copies 118 = .ok (.iload 6, 2) := dk_21 6 (dk_at dksX3_copies_5 3 rfl rfl)
theorem dX3_copies_120 : decode cX3_copies 120 = .ok (.invokestatic 180, 3) := dk_184 0 180 (dk_at dksX3_copies_5 5 rfl rfl)
theorem dX3_copies_123 : decode cX3_copies 123 = .ok (.goto 5, 3) := dk_167 0 5 (dk_at dksX3_copies_5 8 rfl rfl)
theorem dX3_copies_126 : decode cX3_copies 126 = .ok (.iload 6, 2) := dk_21 6 (dk_at dksX3_copies_5 11 rfl rfl)
theorem dX3_copies_128 : decode cX3_copies 128 = .ok (.iastore, 1) := dk_79 (dk_at dksX3_copies_5 13 rfl rfl)
theorem dX3_copies_129 : decode cX3_copies 129 = .ok (.iinc 5 1, 3) := dk_132 5 1 (dk_at dksX3_copies_5 14 rfl rfl)
theorem dX3_copies_132 : decode cX3_copies 132 = .ok (.goto (-112), 3) := dk_167 255 144 (dk_at dksX3_copies_5 17 rfl rfl)
theorem dX3_copies_135 : decode cX3_copies 135 = .ok (.iinc 4 1, 3) := dk_132 4 1 (dk_at dksX3_copies_5 20 rfl rfl)
theorem dX3_copies_138 : decode cX3_copies 138 = .ok (.goto (-128), 3) := dk_167 255 128 (dk_at dksX3_copies_6 0 rfl rfl)
theorem dX3_copies_141 : decode cX3_copies 141 = .ok (.iconst 0, 1) := dk_3 (dk_at dksX3_copies_6 3 rfl rfl)
theorem dX3_copies_142 : decode cX3_copies 142 = .ok (.istore 4, 2) := dk_54 4 (dk_at dksX3_copies_6 4 rfl rfl)
theorem dX3_copies_144 : decode cX3_copies 144 = .ok (.iload 4, 2) := dk_21 4 (dk_at dksX3_copies_6 6 rfl rfl)
theorem dX3_copies_146 : decode cX3_copies 146 = .ok (.iload_n 3, 1) := dk_29 (dk_at dksX3_copies_6 8 rfl rfl)
theorem dX3_copies_147 : decode cX3_copies 147 = .ok (.if_icmp .gt 50, 3) := dk_163 0 50 (dk_at dksX3_copies_6 9 rfl rfl)
theorem dX3_copies_150 : decode cX3_copies 150 = .ok (.aload_n 0, 1) := dk_42 (dk_at dksX3_copies_6 12 rfl rfl)
theorem dX3_copies_151 : decode cX3_copies 151 = .ok (.getfield 39, 3) := dk_180 0 39 (dk_at dksX3_copies_6 13 rfl rfl)
theorem dX3_copies_154 : decode cX3_copies 154 = .ok (.iload_n 2, 1) := dk_28 (dk_at dksX3_copies_6 16 rfl rfl)
theorem dX3_copies_155 : decode cX3_copies 155 = .ok (.iload 4, 2) := dk_21 4 (dk_at dksX3_copies_6 17 rfl rfl)
theorem dX3_copies_157 : decode cX3_copies 157 = .ok (.iadd, 1) := dk_96 (dk_at dksX3_copies_6 19 rfl rfl)
theorem dX3_copies_158 : decode cX3_copies 158 = .ok (.dup2, 1) := dk_92 (dk_at dksX3_copies_6 20 rfl rfl)
theorem dX3_copies_159 : decode cX3_copies 159 = .ok (.iaload, 1) := dk_46 (dk_at dksX3_copies_6 21 rfl rfl)
theorem dX3_copies_160 : decode cX3_copies 160 = .ok (.aload_n 0, 1) := dk_42 (dk_at dksX3_copies_6 22 rfl rfl)
theorem dX3_copies_161 : decode cX3_copies 161 = .ok (.getfield 74, 3) := dk_180 0 74 (dk_at dksX3_copies_7 0 rfl rfl)
theorem dX3_copies_164 : decode cX3_copies 164 = .ok (.bipush 100, 2) := dk_16 100 (dk_at dksX3_copies_7 3 rfl rfl)
theorem dX3_copies_166 : decode cX3_copies 166 = .ok (.iload_n 1, 1) := dk_27 (dk_at dksX3_copies_7 5 rfl rfl)
theorem dX3_copies_167 : decode cX3_copies 167 = .ok (.imul, 1) := dk_104 (dk_at dksX3_copies_7 6 rfl rfl)
theorem dX3_copies_168 : decode cX3_copies 168 = .ok (.aload_n 0, 1) := dk_42 (dk_at dksX3_copies_7 7 rfl rfl)
theorem dX3_copies_169 : decode cX3_copies 169 = .ok (.getfield 42, 3) := dk_180 0 42 (dk_at dksX3_copies_7 8 rfl rfl)
theorem dX3_copies_172 : decode cX3_copies 172 = .ok (.iload_n 1, 1) := dk_27 (dk_at dksX3_copies_7 11 rfl rfl)
theorem dX3_copies_173 : decode cX3_copies 173 = .ok (.iaload, 1) := dk_46 (dk_at dksX3_copies_7 12 rfl rfl)
theorem dX3_copies_174 : decode cX3_copies 174 = .ok (.iconst 5, 1) := dk_8 (dk_at dksX3_copies_7 13 rfl rfl)
theorem dX3_copies_175 : decode cX3_copies 175 = .ok (.if_icmp .ne 10, 3) := dk_160 0 10 (dk_at dksX3_copies_7 14 rfl rfl)
theorem dX3_copies_178 : decode cX3_copies 178 = .ok (.iload_n 3, 1) := dk_29 (dk_at dksX3_copies_7 17 rfl rfl)
theorem dX3_copies_179 : decode cX3_copies 179 = .ok (.iload 4, 2) := dk_21 4 (dk_at dksX3_copies_7 18 rfl rfl)
theorem dX3_copies_181 : decode cX3_copies 181 = .ok (.isub, 1) := dk_100 (dk_at dksX3_copies_7 20 rfl rfl)
theorem dX3_copies_182 : decode cX3_copies 182 = .ok (.goto 5, 3) := dk_167 0 5 (dk_at dksX3_copies_7 21 rfl rfl)
theorem dX3_copies_185 : decode cX3_copies 185 = .ok (.iload 4, 2) := dk_21 4 (dk_at dksX3_copies_8 0 rfl rfl)
theorem dX3_copies_187 : decode cX3_copies 187 = .ok (.iadd, 1) := dk_96 (dk_at dksX3_copies_8 2 rfl rfl)
theorem dX3_copies_188 : decode cX3_copies 188 = .ok (.iaload, 1) := dk_46 (dk_at dksX3_copies_8 3 rfl rfl)
theorem dX3_copies_189 : decode cX3_copies 189 = .ok (.iadd, 1) := dk_96 (dk_at dksX3_copies_8 4 rfl rfl)
theorem dX3_copies_190 : decode cX3_copies 190 = .ok (.iastore, 1) := dk_79 (dk_at dksX3_copies_8 5 rfl rfl)
theorem dX3_copies_191 : decode cX3_copies 191 = .ok (.iinc 4 1, 3) := dk_132 4 1 (dk_at dksX3_copies_8 6 rfl rfl)
theorem dX3_copies_194 : decode cX3_copies 194 = .ok (.goto (-50), 3) := dk_167 255 206 (dk_at dksX3_copies_8 9 rfl rfl)
theorem dX3_copies_197 : decode cX3_copies 197 = .ok (.return_, 1) := dk_177 (dk_at dksX3_copies_8 12 rfl rfl)
abbrev cX3_opposite : ByteArray := prog_24_method_27_code
def yX3_opposite : MethodName := ⟨RX3, "opposite", "(I)I"⟩
def dkwX3_opposite_1 : List UInt8 := [172]
abbrev dktX3_opposite_1 : List UInt8 := dkwX3_opposite_1 ++ []
def dkwX3_opposite_0 : List UInt8 := [26, 154, 0, 7, 3, 167, 0, 19, 26, 5, 112, 4, 160, 0, 9, 26, 4, 96, 167, 0, 6, 26, 4, 100]
abbrev dktX3_opposite_0 : List UInt8 := dkwX3_opposite_0 ++ dktX3_opposite_1
theorem dksX3_opposite_0 : cX3_opposite.data.toList.drop 0 = dktX3_opposite_0 := by decide +kernel
theorem dksX3_opposite_1 : cX3_opposite.data.toList.drop 24 = dktX3_opposite_1 := dk_seg dksX3_opposite_0 24 rfl rfl
theorem dX3_opposite_0 : decode cX3_opposite 0 = .ok (.iload_n 0, 1) := dk_26 (dk_at dksX3_opposite_0 0 rfl rfl)
theorem dX3_opposite_1 : decode cX3_opposite 1 = .ok (.ifCond .ne 7, 3) := dk_154 0 7 (dk_at dksX3_opposite_0 1 rfl rfl)
theorem dX3_opposite_4 : decode cX3_opposite 4 = .ok (.iconst 0, 1) := dk_3 (dk_at dksX3_opposite_0 4 rfl rfl)
theorem dX3_opposite_5 : decode cX3_opposite 5 = .ok (.goto 19, 3) := dk_167 0 19 (dk_at dksX3_opposite_0 5 rfl rfl)
theorem dX3_opposite_8 : decode cX3_opposite 8 = .ok (.iload_n 0, 1) := dk_26 (dk_at dksX3_opposite_0 8 rfl rfl)
theorem dX3_opposite_9 : decode cX3_opposite 9 = .ok (.iconst 2, 1) := dk_5 (dk_at dksX3_opposite_0 9 rfl rfl)
theorem dX3_opposite_10 : decode cX3_opposite 10 = .ok (.irem, 1) := dk_112 (dk_at dksX3_opposite_0 10 rfl rfl)
theorem dX3_opposite_11 : decode cX3_opposite 11 = .ok (.iconst 1, 1) := dk_4 (dk_at dksX3_opposite_0 11 rfl rfl)
theorem dX3_opposite_12 : decode cX3_opposite 12 = .ok (.if_icmp .ne 9, 3) := dk_160 0 9 (dk_at dksX3_opposite_0 12 rfl rfl)
theorem dX3_opposite_15 : decode cX3_opposite 15 = .ok (.iload_n 0, 1) := dk_26 (dk_at dksX3_opposite_0 15 rfl rfl)
theorem dX3_opposite_16 : decode cX3_opposite 16 = .ok (.iconst 1, 1) := dk_4 (dk_at dksX3_opposite_0 16 rfl rfl)
theorem dX3_opposite_17 : decode cX3_opposite 17 = .ok (.iadd, 1) := dk_96 (dk_at dksX3_opposite_0 17 rfl rfl)
theorem dX3_opposite_18 : decode cX3_opposite 18 = .ok (.goto 6, 3) := dk_167 0 6 (dk_at dksX3_opposite_0 18 rfl rfl)
theorem dX3_opposite_21 : decode cX3_opposite 21 = .ok (.iload_n 0, 1) := dk_26 (dk_at dksX3_opposite_0 21 rfl rfl)
theorem dX3_opposite_22 : decode cX3_opposite 22 = .ok (.iconst 1, 1) := dk_4 (dk_at dksX3_opposite_0 22 rfl rfl)
theorem dX3_opposite_23 : decode cX3_opposite 23 = .ok (.isub, 1) := dk_100 (dk_at dksX3_opposite_0 23 rfl rfl)
theorem dX3_opposite_24 : decode cX3_opposite 24 = .ok (.ireturn, 1) := dk_172 (dk_at dksX3_opposite_1 0 rfl rfl)
abbrev cX3_opens : ByteArray := prog_24_method_25_code
def yX3_opens : MethodName := ⟨RX3, "opens", "(I)V"⟩
def dkwX3_opens_7 : List UInt8 := [42, 89, 180, 0, 174, 4, 96, 181, 0, 174, 177]
abbrev dktX3_opens_7 : List UInt8 := dkwX3_opens_7 ++ []
def dkwX3_opens_6 : List UInt8 := [162, 0, 24, 42, 180, 0, 74, 16, 100, 42, 180, 0, 174, 104, 28, 96, 3, 79, 132, 2, 1, 167, 255, 232]
abbrev dktX3_opens_6 : List UInt8 := dkwX3_opens_6 ++ dktX3_opens_7
def dkwX3_opens_5 : List UInt8 := [17, 3, 32, 42, 180, 0, 174, 104, 28, 96, 3, 79, 132, 2, 1, 167, 255, 230, 3, 61, 28, 16, 100]
abbrev dktX3_opens_5 : List UInt8 := dkwX3_opens_5 ++ dktX3_opens_6
def dkwX3_opens_4 : List UInt8 := [180, 0, 66, 42, 180, 0, 174, 3, 84, 3, 61, 28, 17, 3, 32, 162, 0, 25, 42, 180, 0, 71]
abbrev dktX3_opens_4 : List UInt8 := dkwX3_opens_4 ++ dktX3_opens_5
def dkwX3_opens_3 : List UInt8 := [3, 79, 42, 180, 0, 60, 42, 180, 0, 174, 3, 79, 42, 180, 0, 63, 42, 180, 0, 174, 3, 79, 42]
abbrev dktX3_opens_3 : List UInt8 := dkwX3_opens_3 ++ dktX3_opens_4
def dkwX3_opens_2 : List UInt8 := [42, 180, 0, 174, 3, 79, 42, 180, 0, 54, 42, 180, 0, 174, 3, 79, 42, 180, 0, 57, 42, 180, 0, 174]
abbrev dktX3_opens_2 : List UInt8 := dkwX3_opens_2 ++ dktX3_opens_3
def dkwX3_opens_1 : List UInt8 := [4, 182, 0, 133, 79, 42, 180, 0, 48, 42, 180, 0, 174, 42, 27, 5, 182, 0, 133, 79, 42, 180, 0, 51]
abbrev dktX3_opens_1 : List UInt8 := dkwX3_opens_1 ++ dktX3_opens_2
def dkwX3_opens_0 : List UInt8 := [42, 180, 0, 42, 42, 180, 0, 174, 42, 27, 182, 0, 162, 79, 42, 180, 0, 45, 42, 180, 0, 174, 42, 27]
abbrev dktX3_opens_0 : List UInt8 := dkwX3_opens_0 ++ dktX3_opens_1
theorem dksX3_opens_0 : cX3_opens.data.toList.drop 0 = dktX3_opens_0 := by decide +kernel
theorem dksX3_opens_1 : cX3_opens.data.toList.drop 24 = dktX3_opens_1 := dk_seg dksX3_opens_0 24 rfl rfl
theorem dksX3_opens_2 : cX3_opens.data.toList.drop 48 = dktX3_opens_2 := dk_seg dksX3_opens_1 24 rfl rfl
theorem dksX3_opens_3 : cX3_opens.data.toList.drop 72 = dktX3_opens_3 := dk_seg dksX3_opens_2 24 rfl rfl
theorem dksX3_opens_4 : cX3_opens.data.toList.drop 95 = dktX3_opens_4 := dk_seg dksX3_opens_3 23 rfl rfl
theorem dksX3_opens_5 : cX3_opens.data.toList.drop 117 = dktX3_opens_5 := dk_seg dksX3_opens_4 22 rfl rfl
theorem dksX3_opens_6 : cX3_opens.data.toList.drop 140 = dktX3_opens_6 := dk_seg dksX3_opens_5 23 rfl rfl
theorem dksX3_opens_7 : cX3_opens.data.toList.drop 164 = dktX3_opens_7 := dk_seg dksX3_opens_6 24 rfl rfl
theorem dX3_opens_0 : decode cX3_opens 0 = .ok (.aload_n 0, 1) := dk_42 (dk_at dksX3_opens_0 0 rfl rfl)
theorem dX3_opens_1 : decode cX3_opens 1 = .ok (.getfield 42, 3) := dk_180 0 42 (dk_at dksX3_opens_0 1 rfl rfl)
theorem dX3_opens_4 : decode cX3_opens 4 = .ok (.aload_n 0, 1) := dk_42 (dk_at dksX3_opens_0 4 rfl rfl)
theorem dX3_opens_5 : decode cX3_opens 5 = .ok (.getfield 174, 3) := dk_180 0 174 (dk_at dksX3_opens_0 5 rfl rfl)
theorem dX3_opens_8 : decode cX3_opens 8 = .ok (.aload_n 0, 1) := dk_42 (dk_at dksX3_opens_0 8 rfl rfl)
theorem dX3_opens_9 : decode cX3_opens 9 = .ok (.iload_n 1, 1) := dk_27 (dk_at dksX3_opens_0 9 rfl rfl)
theorem dX3_opens_10 : decode cX3_opens 10 = .ok (.invokevirtual 162, 3) := dk_182 0 162 (dk_at dksX3_opens_0 10 rfl rfl)
theorem dX3_opens_13 : decode cX3_opens 13 = .ok (.iastore, 1) := dk_79 (dk_at dksX3_opens_0 13 rfl rfl)
theorem dX3_opens_14 : decode cX3_opens 14 = .ok (.aload_n 0, 1) := dk_42 (dk_at dksX3_opens_0 14 rfl rfl)
theorem dX3_opens_15 : decode cX3_opens 15 = .ok (.getfield 45, 3) := dk_180 0 45 (dk_at dksX3_opens_0 15 rfl rfl)
theorem dX3_opens_18 : decode cX3_opens 18 = .ok (.aload_n 0, 1) := dk_42 (dk_at dksX3_opens_0 18 rfl rfl)
theorem dX3_opens_19 : decode cX3_opens 19 = .ok (.getfield 174, 3) := dk_180 0 174 (dk_at dksX3_opens_0 19 rfl rfl)
theorem dX3_opens_22 : decode cX3_opens 22 = .ok (.aload_n 0, 1) := dk_42 (dk_at dksX3_opens_0 22 rfl rfl)
theorem dX3_opens_23 : decode cX3_opens 23 = .ok (.iload_n 1, 1) := dk_27 (dk_at dksX3_opens_0 23 rfl rfl)
theorem dX3_opens_24 : decode cX3_opens 24 = .ok (.iconst 1, 1) := dk_4 (dk_at dksX3_opens_1 0 rfl rfl)
theorem dX3_opens_25 : decode cX3_opens 25 = .ok (.invokevirtual 133, 3) := dk_182 0 133 (dk_at dksX3_opens_1 1 rfl rfl)
theorem dX3_opens_28 : decode cX3_opens 28 = .ok (.iastore, 1) := dk_79 (dk_at dksX3_opens_1 4 rfl rfl)
theorem dX3_opens_29 : decode cX3_opens 29 = .ok (.aload_n 0, 1) := dk_42 (dk_at dksX3_opens_1 5 rfl rfl)
theorem dX3_opens_30 : decode cX3_opens 30 = .ok (.getfield 48, 3) := dk_180 0 48 (dk_at dksX3_opens_1 6 rfl rfl)
theorem dX3_opens_33 : decode cX3_opens 33 = .ok (.aload_n 0, 1) := dk_42 (dk_at dksX3_opens_1 9 rfl rfl)
theorem dX3_opens_34 : decode cX3_opens 34 = .ok (.getfield 174, 3) := dk_180 0 174 (dk_at dksX3_opens_1 10 rfl rfl)
theorem dX3_opens_37 : decode cX3_opens 37 = .ok (.aload_n 0, 1) := dk_42 (dk_at dksX3_opens_1 13 rfl rfl)
theorem dX3_opens_38 : decode cX3_opens 38 = .ok (.iload_n 1, 1) := dk_27 (dk_at dksX3_opens_1 14 rfl rfl)
theorem dX3_opens_39 : decode cX3_opens 39 = .ok (.iconst 2, 1) := dk_5 (dk_at dksX3_opens_1 15 rfl rfl)
theorem dX3_opens_40 : decode cX3_opens 40 = .ok (.invokevirtual 133, 3) := dk_182 0 133 (dk_at dksX3_opens_1 16 rfl rfl)
theorem dX3_opens_43 : decode cX3_opens 43 = .ok (.iastore, 1) := dk_79 (dk_at dksX3_opens_1 19 rfl rfl)
theorem dX3_opens_44 : decode cX3_opens 44 = .ok (.aload_n 0, 1) := dk_42 (dk_at dksX3_opens_1 20 rfl rfl)
theorem dX3_opens_45 : decode cX3_opens 45 = .ok (.getfield 51, 3) := dk_180 0 51 (dk_at dksX3_opens_1 21 rfl rfl)
theorem dX3_opens_48 : decode cX3_opens 48 = .ok (.aload_n 0, 1) := dk_42 (dk_at dksX3_opens_2 0 rfl rfl)
theorem dX3_opens_49 : decode cX3_opens 49 = .ok (.getfield 174, 3) := dk_180 0 174 (dk_at dksX3_opens_2 1 rfl rfl)
theorem dX3_opens_52 : decode cX3_opens 52 = .ok (.iconst 0, 1) := dk_3 (dk_at dksX3_opens_2 4 rfl rfl)
theorem dX3_opens_53 : decode cX3_opens 53 = .ok (.iastore, 1) := dk_79 (dk_at dksX3_opens_2 5 rfl rfl)
theorem dX3_opens_54 : decode cX3_opens 54 = .ok (.aload_n 0, 1) := dk_42 (dk_at dksX3_opens_2 6 rfl rfl)
theorem dX3_opens_55 : decode cX3_opens 55 = .ok (.getfield 54, 3) := dk_180 0 54 (dk_at dksX3_opens_2 7 rfl rfl)
theorem dX3_opens_58 : decode cX3_opens 58 = .ok (.aload_n 0, 1) := dk_42 (dk_at dksX3_opens_2 10 rfl rfl)
theorem dX3_opens_59 : decode cX3_opens 59 = .ok (.getfield 174, 3) := dk_180 0 174 (dk_at dksX3_opens_2 11 rfl rfl)
theorem dX3_opens_62 : decode cX3_opens 62 = .ok (.iconst 0, 1) := dk_3 (dk_at dksX3_opens_2 14 rfl rfl)
theorem dX3_opens_63 : decode cX3_opens 63 = .ok (.iastore, 1) := dk_79 (dk_at dksX3_opens_2 15 rfl rfl)
theorem dX3_opens_64 : decode cX3_opens 64 = .ok (.aload_n 0, 1) := dk_42 (dk_at dksX3_opens_2 16 rfl rfl)
theorem dX3_opens_65 : decode cX3_opens 65 = .ok (.getfield 57, 3) := dk_180 0 57 (dk_at dksX3_opens_2 17 rfl rfl)
theorem dX3_opens_68 : decode cX3_opens 68 = .ok (.aload_n 0, 1) := dk_42 (dk_at dksX3_opens_2 20 rfl rfl)
theorem dX3_opens_69 : decode cX3_opens 69 = .ok (.getfield 174, 3) := dk_180 0 174 (dk_at dksX3_opens_2 21 rfl rfl)
theorem dX3_opens_72 : decode cX3_opens 72 = .ok (.iconst 0, 1) := dk_3 (dk_at dksX3_opens_3 0 rfl rfl)
theorem dX3_opens_73 : decode cX3_opens 73 = .ok (.iastore, 1) := dk_79 (dk_at dksX3_opens_3 1 rfl rfl)
theorem dX3_opens_74 : decode cX3_opens 74 = .ok (.aload_n 0, 1) := dk_42 (dk_at dksX3_opens_3 2 rfl rfl)
theorem dX3_opens_75 : decode cX3_opens 75 = .ok (.getfield 60, 3) := dk_180 0 60 (dk_at dksX3_opens_3 3 rfl rfl)
theorem dX3_opens_78 : decode cX3_opens 78 = .ok (.aload_n 0, 1) := dk_42 (dk_at dksX3_opens_3 6 rfl rfl)
theorem dX3_opens_79 : decode cX3_opens 79 = .ok (.getfield 174, 3) := dk_180 0 174 (dk_at dksX3_opens_3 7 rfl rfl)
theorem dX3_opens_82 : decode cX3_opens 82 = .ok (.iconst 0, 1) := dk_3 (dk_at dksX3_opens_3 10 rfl rfl)
theorem dX3_opens_83 : decode cX3_opens 83 = .ok (.iastore, 1) := dk_79 (dk_at dksX3_opens_3 11 rfl rfl)
theorem dX3_opens_84 : decode cX3_opens 84 = .ok (.aload_n 0, 1) := dk_42 (dk_at dksX3_opens_3 12 rfl rfl)
theorem dX3_opens_85 : decode cX3_opens 85 = .ok (.getfield 63, 3) := dk_180 0 63 (dk_at dksX3_opens_3 13 rfl rfl)
theorem dX3_opens_88 : decode cX3_opens 88 = .ok (.aload_n 0, 1) := dk_42 (dk_at dksX3_opens_3 16 rfl rfl)
theorem dX3_opens_89 : decode cX3_opens 89 = .ok (.getfield 174, 3) := dk_180 0 174 (dk_at dksX3_opens_3 17 rfl rfl)
theorem dX3_opens_92 : decode cX3_opens 92 = .ok (.iconst 0, 1) := dk_3 (dk_at dksX3_opens_3 20 rfl rfl)
theorem dX3_opens_93 : decode cX3_opens 93 = .ok (.iastore, 1) := dk_79 (dk_at dksX3_opens_3 21 rfl rfl)
theorem dX3_opens_94 : decode cX3_opens 94 = .ok (.aload_n 0, 1) := dk_42 (dk_at dksX3_opens_3 22 rfl rfl)
theorem dX3_opens_95 : decode cX3_opens 95 = .ok (.getfield 66, 3) := dk_180 0 66 (dk_at dksX3_opens_4 0 rfl rfl)
theorem dX3_opens_98 : decode cX3_opens 98 = .ok (.aload_n 0, 1) := dk_42 (dk_at dksX3_opens_4 3 rfl rfl)
theorem dX3_opens_99 : decode cX3_opens 99 = .ok (.getfield 174, 3) := dk_180 0 174 (dk_at dksX3_opens_4 4 rfl rfl)
theorem dX3_opens_102 : decode cX3_opens 102 = .ok (.iconst 0, 1) := dk_3 (dk_at dksX3_opens_4 7 rfl rfl)
theorem dX3_opens_103 : decode cX3_opens 103 = .ok (.bastore, 1) := dk_84 (dk_at dksX3_opens_4 8 rfl rfl)
theorem dX3_opens_104 : decode cX3_opens 104 = .ok (.iconst 0, 1) := dk_3 (dk_at dksX3_opens_4 9 rfl rfl)
theorem dX3_opens_105 : decode cX3_opens 105 = .ok (.istore_n 2, 1) := dk_61 (dk_at dksX3_opens_4 10 rfl rfl)
theorem dX3_opens_106 : decode cX3_opens 106 = .ok (.iload_n 2, 1) := dk_28 (dk_at dksX3_opens_4 11 rfl rfl)
theorem dX3_opens_107 : decode cX3_opens 107 = .ok (.sipush 800, 3) := dk_17 3 32 (dk_at dksX3_opens_4 12 rfl rfl)
theorem dX3_opens_110 : decode cX3_opens 110 = .ok (.if_icmp .ge 25, 3) := dk_162 0 25 (dk_at dksX3_opens_4 15 rfl rfl)
theorem dX3_opens_113 : decode cX3_opens 113 = .ok (.aload_n 0, 1) := dk_42 (dk_at dksX3_opens_4 18 rfl rfl)
theorem dX3_opens_114 : decode cX3_opens 114 = .ok (.getfield 71, 3) := dk_180 0 71 (dk_at dksX3_opens_4 19 rfl rfl)
theorem dX3_opens_117 : decode cX3_opens 117 = .ok (.sipush 800, 3) := dk_17 3 32 (dk_at dksX3_opens_5 0 rfl rfl)
theorem dX3_opens_120 : decode cX3_opens 120 = .ok (.aload_n 0, 1) := dk_42 (dk_at dksX3_opens_5 3 rfl rfl)
theorem dX3_opens_121 : decode cX3_opens 121 = .ok (.getfield 174, 3) := dk_180 0 174 (dk_at dksX3_opens_5 4 rfl rfl)
theorem dX3_opens_124 : decode cX3_opens 124 = .ok (.imul, 1) := dk_104 (dk_at dksX3_opens_5 7 rfl rfl)
theorem dX3_opens_125 : decode cX3_opens 125 = .ok (.iload_n 2, 1) := dk_28 (dk_at dksX3_opens_5 8 rfl rfl)
theorem dX3_opens_126 : decode cX3_opens 126 = .ok (.iadd, 1) := dk_96 (dk_at dksX3_opens_5 9 rfl rfl)
theorem dX3_opens_127 : decode cX3_opens 127 = .ok (.iconst 0, 1) := dk_3 (dk_at dksX3_opens_5 10 rfl rfl)
theorem dX3_opens_128 : decode cX3_opens 128 = .ok (.iastore, 1) := dk_79 (dk_at dksX3_opens_5 11 rfl rfl)
theorem dX3_opens_129 : decode cX3_opens 129 = .ok (.iinc 2 1, 3) := dk_132 2 1 (dk_at dksX3_opens_5 12 rfl rfl)
theorem dX3_opens_132 : decode cX3_opens 132 = .ok (.goto (-26), 3) := dk_167 255 230 (dk_at dksX3_opens_5 15 rfl rfl)
theorem dX3_opens_135 : decode cX3_opens 135 = .ok (.iconst 0, 1) := dk_3 (dk_at dksX3_opens_5 18 rfl rfl)
theorem dX3_opens_136 : decode cX3_opens 136 = .ok (.istore_n 2, 1) := dk_61 (dk_at dksX3_opens_5 19 rfl rfl)
theorem dX3_opens_137 : decode cX3_opens 137 = .ok (.iload_n 2, 1) := dk_28 (dk_at dksX3_opens_5 20 rfl rfl)
theorem dX3_opens_138 : decode cX3_opens 138 = .ok (.bipush 100, 2) := dk_16 100 (dk_at dksX3_opens_5 21 rfl rfl)
theorem dX3_opens_140 : decode cX3_opens 140 = .ok (.if_icmp .ge 24, 3) := dk_162 0 24 (dk_at dksX3_opens_6 0 rfl rfl)
theorem dX3_opens_143 : decode cX3_opens 143 = .ok (.aload_n 0, 1) := dk_42 (dk_at dksX3_opens_6 3 rfl rfl)
theorem dX3_opens_144 : decode cX3_opens 144 = .ok (.getfield 74, 3) := dk_180 0 74 (dk_at dksX3_opens_6 4 rfl rfl)
theorem dX3_opens_147 : decode cX3_opens 147 = .ok (.bipush 100, 2) := dk_16 100 (dk_at dksX3_opens_6 7 rfl rfl)
theorem dX3_opens_149 : decode cX3_opens 149 = .ok (.aload_n 0, 1) := dk_42 (dk_at dksX3_opens_6 9 rfl rfl)
theorem dX3_opens_150 : decode cX3_opens 150 = .ok (.getfield 174, 3) := dk_180 0 174 (dk_at dksX3_opens_6 10 rfl rfl)
theorem dX3_opens_153 : decode cX3_opens 153 = .ok (.imul, 1) := dk_104 (dk_at dksX3_opens_6 13 rfl rfl)
theorem dX3_opens_154 : decode cX3_opens 154 = .ok (.iload_n 2, 1) := dk_28 (dk_at dksX3_opens_6 14 rfl rfl)
theorem dX3_opens_155 : decode cX3_opens 155 = .ok (.iadd, 1) := dk_96 (dk_at dksX3_opens_6 15 rfl rfl)
theorem dX3_opens_156 : decode cX3_opens 156 = .ok (.iconst 0, 1) := dk_3 (dk_at dksX3_opens_6 16 rfl rfl)
theorem dX3_opens_157 : decode cX3_opens 157 = .ok (.iastore, 1) := dk_79 (dk_at dksX3_opens_6 17 rfl rfl)
theorem dX3_opens_158 : decode cX3_opens 158 = .ok (.iinc 2 1, 3) := dk_132 2 1 (dk_at dksX3_opens_6 18 rfl rfl)
theorem dX3_opens_161 : decode cX3_opens 161 = .ok (.goto (-24), 3) := dk_167 255 232 (dk_at dksX3_opens_6 21 rfl rfl)
theorem dX3_opens_164 : decode cX3_opens 164 = .ok (.aload_n 0, 1) := dk_42 (dk_at dksX3_opens_7 0 rfl rfl)
theorem dX3_opens_165 : decode cX3_opens 165 = .ok (.dup, 1) := dk_89 (dk_at dksX3_opens_7 1 rfl rfl)
theorem dX3_opens_166 : decode cX3_opens 166 = .ok (.getfield 174, 3) := dk_180 0 174 (dk_at dksX3_opens_7 2 rfl rfl)
theorem dX3_opens_169 : decode cX3_opens 169 = .ok (.iconst 1, 1) := dk_4 (dk_at dksX3_opens_7 5 rfl rfl)
theorem dX3_opens_170 : decode cX3_opens 170 = .ok (.iadd, 1) := dk_96 (dk_at dksX3_opens_7 6 rfl rfl)
theorem dX3_opens_171 : decode cX3_opens 171 = .ok (.putfield 174, 3) := dk_181 0 174 (dk_at dksX3_opens_7 7 rfl rfl)
theorem dX3_opens_174 : decode cX3_opens 174 = .ok (.return_, 1) := dk_177 (dk_at dksX3_opens_7 10 rfl rfl)
abbrev cX3_errorPosition : ByteArray := prog_24_method_51_code
def yX3_errorPosition : MethodName := ⟨RX3, "errorPosition", "()I"⟩
def dkwX3_errorPosition_1 : List UInt8 := [180, 0, 30, 172]
abbrev dktX3_errorPosition_1 : List UInt8 := dkwX3_errorPosition_1 ++ []
def dkwX3_errorPosition_0 : List UInt8 := [42, 3, 181, 0, 111, 42, 180, 0, 30, 2, 160, 0, 11, 42, 4, 182, 0, 117, 167, 0, 7, 42]
abbrev dktX3_errorPosition_0 : List UInt8 := dkwX3_errorPosition_0 ++ dktX3_errorPosition_1
theorem dksX3_errorPosition_0 : cX3_errorPosition.data.toList.drop 0 = dktX3_errorPosition_0 := by decide +kernel
theorem dksX3_errorPosition_1 : cX3_errorPosition.data.toList.drop 22 = dktX3_errorPosition_1 := dk_seg dksX3_errorPosition_0 22 rfl rfl
theorem dX3_errorPosition_0 : decode cX3_errorPosition 0 = .ok (.aload_n 0, 1) := dk_42 (dk_at dksX3_errorPosition_0 0 rfl rfl)
theorem dX3_errorPosition_1 : decode cX3_errorPosition 1 = .ok (.iconst 0, 1) := dk_3 (dk_at dksX3_errorPosition_0 1 rfl rfl)
theorem dX3_errorPosition_2 : decode cX3_errorPosition 2 = .ok (.putfield 111, 3) := dk_181 0 111 (dk_at dksX3_errorPosition_0 2 rfl rfl)
theorem dX3_errorPosition_5 : decode cX3_errorPosition 5 = .ok (.aload_n 0, 1) := dk_42 (dk_at dksX3_errorPosition_0 5 rfl rfl)
theorem dX3_errorPosition_6 : decode cX3_errorPosition 6 = .ok (.getfield 30, 3) := dk_180 0 30 (dk_at dksX3_errorPosition_0 6 rfl rfl)
theorem dX3_errorPosition_9 : decode cX3_errorPosition 9 = .ok (.iconst (-1), 1) := dk_2 (dk_at dksX3_errorPosition_0 9 rfl rfl)
theorem dX3_errorPosition_10 : decode cX3_errorPosition 10 = .ok (.if_icmp .ne 11, 3) := dk_160 0 11 (dk_at dksX3_errorPosition_0 10 rfl rfl)
theorem dX3_errorPosition_13 : decode cX3_errorPosition 13 = .ok (.aload_n 0, 1) := dk_42 (dk_at dksX3_errorPosition_0 13 rfl rfl)
theorem dX3_errorPosition_14 : decode cX3_errorPosition 14 = .ok (.iconst 1, 1) := dk_4 (dk_at dksX3_errorPosition_0 14 rfl rfl)
theorem dX3_errorPosition_15 : decode cX3_errorPosition 15 = .ok (.invokevirtual 117, 3) := dk_182 0 117 (dk_at dksX3_errorPosition_0 15 rfl rfl)
theorem dX3_errorPosition_18 : decode cX3_errorPosition 18 = .ok (.goto 7, 3) := dk_167 0 7 (dk_at dksX3_errorPosition_0 18 rfl rfl)
theorem dX3_errorPosition_21 : decode cX3_errorPosition 21 = .ok (.aload_n 0, 1) := dk_42 (dk_at dksX3_errorPosition_0 21 rfl rfl)
theorem dX3_errorPosition_22 : decode cX3_errorPosition 22 = .ok (.getfield 30, 3) := dk_180 0 30 (dk_at dksX3_errorPosition_1 0 rfl rfl)
theorem dX3_errorPosition_25 : decode cX3_errorPosition 25 = .ok (.ireturn, 1) := dk_172 (dk_at dksX3_errorPosition_1 3 rfl rfl)
abbrev cX3_refusedDancer : ByteArray := prog_24_method_52_code
def yX3_refusedDancer : MethodName := ⟨RX3, "refusedDancer", "()I"⟩
def dkwX3_refusedDancer_1 : List UInt8 := [180, 0, 23, 172]
abbrev dktX3_refusedDancer_1 : List UInt8 := dkwX3_refusedDancer_1 ++ []
def dkwX3_refusedDancer_0 : List UInt8 := [42, 3, 181, 0, 111, 42, 180, 0, 23, 2, 160, 0, 11, 42, 4, 182, 0, 117, 167, 0, 7, 42]
abbrev dktX3_refusedDancer_0 : List UInt8 := dkwX3_refusedDancer_0 ++ dktX3_refusedDancer_1
theorem dksX3_refusedDancer_0 : cX3_refusedDancer.data.toList.drop 0 = dktX3_refusedDancer_0 := by decide +kernel
theorem dksX3_refusedDancer_1 : cX3_refusedDancer.data.toList.drop 22 = dktX3_refusedDancer_1 := dk_seg dksX3_refusedDancer_0 22 rfl rfl
theorem dX3_refusedDancer_0 : decode cX3_refusedDancer 0 = .ok (.aload_n 0, 1) := dk_42 (dk_at dksX3_refusedDancer_0 0 rfl rfl)
theorem dX3_refusedDancer_1 : decode cX3_refusedDancer 1 = .ok (.iconst 0, 1) := dk_3 (dk_at dksX3_refusedDancer_0 1 rfl rfl)
theorem dX3_refusedDancer_2 : decode cX3_refusedDancer 2 = .ok (.putfield 111, 3) := dk_181 0 111 (dk_at dksX3_refusedDancer_0 2 rfl rfl)
theorem dX3_refusedDancer_5 : decode cX3_refusedDancer 5 = .ok (.aload_n 0, 1) := dk_42 (dk_at dksX3_refusedDancer_0 5 rfl rfl)
theorem dX3_refusedDancer_6 : decode cX3_refusedDancer 6 = .ok (.getfield 23, 3) := dk_180 0 23 (dk_at dksX3_refusedDancer_0 6 rfl rfl)
theorem dX3_refusedDancer_9 : decode cX3_refusedDancer 9 = .ok (.iconst (-1), 1) := dk_2 (dk_at dksX3_refusedDancer_0 9 rfl rfl)
theorem dX3_refusedDancer_10 : decode cX3_refusedDancer 10 = .ok (.if_icmp .ne 11, 3) := dk_160 0 11 (dk_at dksX3_refusedDancer_0 10 rfl rfl)
theorem dX3_refusedDancer_13 : decode cX3_refusedDancer 13 = .ok (.aload_n 0, 1) := dk_42 (dk_at dksX3_refusedDancer_0 13 rfl rfl)
theorem dX3_refusedDancer_14 : decode cX3_refusedDancer 14 = .ok (.iconst 1, 1) := dk_4 (dk_at dksX3_refusedDancer_0 14 rfl rfl)
theorem dX3_refusedDancer_15 : decode cX3_refusedDancer 15 = .ok (.invokevirtual 117, 3) := dk_182 0 117 (dk_at dksX3_refusedDancer_0 15 rfl rfl)
theorem dX3_refusedDancer_18 : decode cX3_refusedDancer 18 = .ok (.goto 7, 3) := dk_167 0 7 (dk_at dksX3_refusedDancer_0 18 rfl rfl)
theorem dX3_refusedDancer_21 : decode cX3_refusedDancer 21 = .ok (.aload_n 0, 1) := dk_42 (dk_at dksX3_refusedDancer_0 21 rfl rfl)
theorem dX3_refusedDancer_22 : decode cX3_refusedDancer 22 = .ok (.getfield 23, 3) := dk_180 0 23 (dk_at dksX3_refusedDancer_1 0 rfl rfl)
theorem dX3_refusedDancer_25 : decode cX3_refusedDancer 25 = .ok (.ireturn, 1) := dk_172 (dk_at dksX3_refusedDancer_1 3 rfl rfl)
abbrev cX3_write : ByteArray := prog_24_method_59_code
def yX3_write : MethodName := ⟨RX3, "write", "()I"⟩
def dkwX3_write_2 : List UInt8 := [182, 1, 55, 132, 1, 1, 167, 255, 224, 42, 180, 1, 32, 172]
abbrev dktX3_write_2 : List UInt8 := dkwX3_write_2 ++ []
def dkwX3_write_1 : List UInt8 := [180, 0, 7, 16, 43, 46, 162, 0, 27, 42, 27, 182, 1, 52, 42, 27, 182, 0, 162, 5, 163, 0, 7, 42]
abbrev dktX3_write_1 : List UInt8 := dkwX3_write_1 ++ dktX3_write_2
def dkwX3_write_0 : List UInt8 := [42, 4, 182, 1, 49, 153, 0, 5, 3, 172, 42, 3, 181, 1, 32, 42, 3, 181, 0, 174, 3, 60, 27, 42]
abbrev dktX3_write_0 : List UInt8 := dkwX3_write_0 ++ dktX3_write_1
theorem dksX3_write_0 : cX3_write.data.toList.drop 0 = dktX3_write_0 := by decide +kernel
theorem dksX3_write_1 : cX3_write.data.toList.drop 24 = dktX3_write_1 := dk_seg dksX3_write_0 24 rfl rfl
theorem dksX3_write_2 : cX3_write.data.toList.drop 48 = dktX3_write_2 := dk_seg dksX3_write_1 24 rfl rfl
theorem dX3_write_0 : decode cX3_write 0 = .ok (.aload_n 0, 1) := dk_42 (dk_at dksX3_write_0 0 rfl rfl)
theorem dX3_write_1 : decode cX3_write 1 = .ok (.iconst 1, 1) := dk_4 (dk_at dksX3_write_0 1 rfl rfl)
theorem dX3_write_2 : decode cX3_write 2 = .ok (.invokevirtual 305, 3) := dk_182 1 49 (dk_at dksX3_write_0 2 rfl rfl)
theorem dX3_write_5 : decode cX3_write 5 = .ok (.ifCond .eq 5, 3) := dk_153 0 5 (dk_at dksX3_write_0 5 rfl rfl)
theorem dX3_write_8 : decode cX3_write 8 = .ok (.iconst 0, 1) := dk_3 (dk_at dksX3_write_0 8 rfl rfl)
theorem dX3_write_9 : decode cX3_write 9 = .ok (.ireturn, 1) := dk_172 (dk_at dksX3_write_0 9 rfl rfl)
theorem dX3_write_10 : decode cX3_write 10 = .ok (.aload_n 0, 1) := dk_42 (dk_at dksX3_write_0 10 rfl rfl)
theorem dX3_write_11 : decode cX3_write 11 = .ok (.iconst 0, 1) := dk_3 (dk_at dksX3_write_0 11 rfl rfl)
theorem dX3_write_12 : decode cX3_write 12 = .ok (.putfield 288, 3) := dk_181 1 32 (dk_at dksX3_write_0 12 rfl rfl)
theorem dX3_write_15 : decode cX3_write 15 = .ok (.aload_n 0, 1) := dk_42 (dk_at dksX3_write_0 15 rfl rfl)
theorem dX3_write_16 : decode cX3_write 16 = .ok (.iconst 0, 1) := dk_3 (dk_at dksX3_write_0 16 rfl rfl)
theorem dX3_write_17 : decode cX3_write 17 = .ok (.putfield 174, 3) := dk_181 0 174 (dk_at dksX3_write_0 17 rfl rfl)
theorem dX3_write_20 : decode cX3_write 20 = .ok (.iconst 0, 1) := dk_3 (dk_at dksX3_write_0 20 rfl rfl)
theorem dX3_write_21 : decode cX3_write 21 = .ok (.istore_n 1, 1) := dk_60 (dk_at dksX3_write_0 21 rfl rfl)
theorem dX3_write_22 : decode cX3_write 22 = .ok (.iload_n 1, 1) := dk_27 (dk_at dksX3_write_0 22 rfl rfl)
theorem dX3_write_23 : decode cX3_write 23 = .ok (.aload_n 0, 1) := dk_42 (dk_at dksX3_write_0 23 rfl rfl)
theorem dX3_write_24 : decode cX3_write 24 = .ok (.getfield 7, 3) := dk_180 0 7 (dk_at dksX3_write_1 0 rfl rfl)
theorem dX3_write_27 : decode cX3_write 27 = .ok (.bipush 43, 2) := dk_16 43 (dk_at dksX3_write_1 3 rfl rfl)
theorem dX3_write_29 : decode cX3_write 29 = .ok (.iaload, 1) := dk_46 (dk_at dksX3_write_1 5 rfl rfl)
theorem dX3_write_30 : decode cX3_write 30 = .ok (.if_icmp .ge 27, 3) := dk_162 0 27 (dk_at dksX3_write_1 6 rfl rfl)
theorem dX3_write_33 : decode cX3_write 33 = .ok (.aload_n 0, 1) := dk_42 (dk_at dksX3_write_1 9 rfl rfl)
theorem dX3_write_34 : decode cX3_write 34 = .ok (.iload_n 1, 1) := dk_27 (dk_at dksX3_write_1 10 rfl rfl)
theorem dX3_write_35 : decode cX3_write 35 = .ok (.invokevirtual 308, 3) := dk_182 1 52 (dk_at dksX3_write_1 11 rfl rfl)
theorem dX3_write_38 : decode cX3_write 38 = .ok (.aload_n 0, 1) := dk_42 (dk_at dksX3_write_1 14 rfl rfl)
theorem dX3_write_39 : decode cX3_write 39 = .ok (.iload_n 1, 1) := dk_27 (dk_at dksX3_write_1 15 rfl rfl)
theorem dX3_write_40 : decode cX3_write 40 = .ok (.invokevirtual 162, 3) := dk_182 0 162 (dk_at dksX3_write_1 16 rfl rfl)
theorem dX3_write_43 : decode cX3_write 43 = .ok (.iconst 2, 1) := dk_5 (dk_at dksX3_write_1 19 rfl rfl)
theorem dX3_write_44 : decode cX3_write 44 = .ok (.if_icmp .gt 7, 3) := dk_163 0 7 (dk_at dksX3_write_1 20 rfl rfl)
theorem dX3_write_47 : decode cX3_write 47 = .ok (.aload_n 0, 1) := dk_42 (dk_at dksX3_write_1 23 rfl rfl)
theorem dX3_write_48 : decode cX3_write 48 = .ok (.invokevirtual 311, 3) := dk_182 1 55 (dk_at dksX3_write_2 0 rfl rfl)
theorem dX3_write_51 : decode cX3_write 51 = .ok (.iinc 1 1, 3) := dk_132 1 1 (dk_at dksX3_write_2 3 rfl rfl)
theorem dX3_write_54 : decode cX3_write 54 = .ok (.goto (-32), 3) := dk_167 255 224 (dk_at dksX3_write_2 6 rfl rfl)
theorem dX3_write_57 : decode cX3_write 57 = .ok (.aload_n 0, 1) := dk_42 (dk_at dksX3_write_2 9 rfl rfl)
theorem dX3_write_58 : decode cX3_write 58 = .ok (.getfield 288, 3) := dk_180 1 32 (dk_at dksX3_write_2 10 rfl rfl)
theorem dX3_write_61 : decode cX3_write 61 = .ok (.ireturn, 1) := dk_172 (dk_at dksX3_write_2 13 rfl rfl)
abbrev cX3_hasNoPiece : ByteArray := prog_24_method_32_code
def yX3_hasNoPiece : MethodName := ⟨RX3, "hasNoPiece", "(I)Z"⟩
def dkwX3_hasNoPiece_1 : List UInt8 := [182, 0, 202, 87, 42, 180, 0, 7, 16, 42, 46, 154, 0, 7, 4, 167, 0, 4, 3, 172]
abbrev dktX3_hasNoPiece_1 : List UInt8 := dkwX3_hasNoPiece_1 ++ []
def dkwX3_hasNoPiece_0 : List UInt8 := [42, 3, 181, 0, 111, 42, 182, 0, 199, 42, 180, 0, 7, 16, 42, 46, 154, 0, 10, 42, 6, 27]
abbrev dktX3_hasNoPiece_0 : List UInt8 := dkwX3_hasNoPiece_0 ++ dktX3_hasNoPiece_1
theorem dksX3_hasNoPiece_0 : cX3_hasNoPiece.data.toList.drop 0 = dktX3_hasNoPiece_0 := by decide +kernel
theorem dksX3_hasNoPiece_1 : cX3_hasNoPiece.data.toList.drop 22 = dktX3_hasNoPiece_1 := dk_seg dksX3_hasNoPiece_0 22 rfl rfl
theorem dX3_hasNoPiece_0 : decode cX3_hasNoPiece 0 = .ok (.aload_n 0, 1) := dk_42 (dk_at dksX3_hasNoPiece_0 0 rfl rfl)
theorem dX3_hasNoPiece_1 : decode cX3_hasNoPiece 1 = .ok (.iconst 0, 1) := dk_3 (dk_at dksX3_hasNoPiece_0 1 rfl rfl)
theorem dX3_hasNoPiece_2 : decode cX3_hasNoPiece 2 = .ok (.putfield 111, 3) := dk_181 0 111 (dk_at dksX3_hasNoPiece_0 2 rfl rfl)
theorem dX3_hasNoPiece_5 : decode cX3_hasNoPiece 5 = .ok (.aload_n 0, 1) := dk_42 (dk_at dksX3_hasNoPiece_0 5 rfl rfl)
theorem dX3_hasNoPiece_6 : decode cX3_hasNoPiece 6 = .ok (.invokevirtual 199, 3) := dk_182 0 199 (dk_at dksX3_hasNoPiece_0 6 rfl rfl)
theorem dX3_hasNoPiece_9 : decode cX3_hasNoPiece 9 = .ok (.aload_n 0, 1) := dk_42 (dk_at dksX3_hasNoPiece_0 9 rfl rfl)
theorem dX3_hasNoPiece_10 : decode cX3_hasNoPiece 10 = .ok (.getfield 7, 3) := dk_180 0 7 (dk_at dksX3_hasNoPiece_0 10 rfl rfl)
theorem dX3_hasNoPiece_13 : decode cX3_hasNoPiece 13 = .ok (.bipush 42, 2) := dk_16 42 (dk_at dksX3_hasNoPiece_0 13 rfl rfl)
theorem dX3_hasNoPiece_15 : decode cX3_hasNoPiece 15 = .ok (.iaload, 1) := dk_46 (dk_at dksX3_hasNoPiece_0 15 rfl rfl)
theorem dX3_hasNoPiece_16 : decode cX3_hasNoPiece 16 = .ok (.ifCond .ne 10, 3) := dk_154 0 10 (dk_at dksX3_hasNoPiece_0 16 rfl rfl)
theorem dX3_hasNoPiece_19 : decode cX3_hasNoPiece 19 = .ok (.aload_n 0, 1) := dk_42 (dk_at dksX3_hasNoPiece_0 19 rfl rfl)
theorem dX3_hasNoPiece_20 : decode cX3_hasNoPiece 20 = .ok (.iconst 3, 1) := dk_6 (dk_at dksX3_hasNoPiece_0 20 rfl rfl)
theorem dX3_hasNoPiece_21 : decode cX3_hasNoPiece 21 = .ok (.iload_n 1, 1) := dk_27 (dk_at dksX3_hasNoPiece_0 21 rfl rfl)
theorem dX3_hasNoPiece_22 : decode cX3_hasNoPiece 22 = .ok (.invokevirtual 202, 3) := dk_182 0 202 (dk_at dksX3_hasNoPiece_1 0 rfl rfl)
theorem dX3_hasNoPiece_25 : decode cX3_hasNoPiece 25 = .ok (.pop, 1) := dk_87 (dk_at dksX3_hasNoPiece_1 3 rfl rfl)
theorem dX3_hasNoPiece_26 : decode cX3_hasNoPiece 26 = .ok (.aload_n 0, 1) := dk_42 (dk_at dksX3_hasNoPiece_1 4 rfl rfl)
theorem dX3_hasNoPiece_27 : decode cX3_hasNoPiece 27 = .ok (.getfield 7, 3) := dk_180 0 7 (dk_at dksX3_hasNoPiece_1 5 rfl rfl)
theorem dX3_hasNoPiece_30 : decode cX3_hasNoPiece 30 = .ok (.bipush 42, 2) := dk_16 42 (dk_at dksX3_hasNoPiece_1 8 rfl rfl)
theorem dX3_hasNoPiece_32 : decode cX3_hasNoPiece 32 = .ok (.iaload, 1) := dk_46 (dk_at dksX3_hasNoPiece_1 10 rfl rfl)
theorem dX3_hasNoPiece_33 : decode cX3_hasNoPiece 33 = .ok (.ifCond .ne 7, 3) := dk_154 0 7 (dk_at dksX3_hasNoPiece_1 11 rfl rfl)
theorem dX3_hasNoPiece_36 : decode cX3_hasNoPiece 36 = .ok (.iconst 1, 1) := dk_4 (dk_at dksX3_hasNoPiece_1 14 rfl rfl)
theorem dX3_hasNoPiece_37 : decode cX3_hasNoPiece 37 = .ok (.goto 4, 3) := dk_167 0 4 (dk_at dksX3_hasNoPiece_1 15 rfl rfl)
theorem dX3_hasNoPiece_40 : decode cX3_hasNoPiece 40 = .ok (.iconst 0, 1) := dk_3 (dk_at dksX3_hasNoPiece_1 18 rfl rfl)
theorem dX3_hasNoPiece_41 : decode cX3_hasNoPiece 41 = .ok (.ireturn, 1) := dk_172 (dk_at dksX3_hasNoPiece_1 19 rfl rfl)
abbrev cX3_stops : ByteArray := prog_24_method_4_code
def yX3_stops : MethodName := ⟨RX3, "stops", "(II)I"⟩
def dkwX3_stops_0 : List UInt8 := [42, 27, 181, 0, 114, 42, 28, 182, 0, 117, 172]
abbrev dktX3_stops_0 : List UInt8 := dkwX3_stops_0 ++ []
theorem dksX3_stops_0 : cX3_stops.data.toList.drop 0 = dktX3_stops_0 := by decide +kernel
theorem dX3_stops_0 : decode cX3_stops 0 = .ok (.aload_n 0, 1) := dk_42 (dk_at dksX3_stops_0 0 rfl rfl)
theorem dX3_stops_1 : decode cX3_stops 1 = .ok (.iload_n 1, 1) := dk_27 (dk_at dksX3_stops_0 1 rfl rfl)
theorem dX3_stops_2 : decode cX3_stops 2 = .ok (.putfield 114, 3) := dk_181 0 114 (dk_at dksX3_stops_0 2 rfl rfl)
theorem dX3_stops_5 : decode cX3_stops 5 = .ok (.aload_n 0, 1) := dk_42 (dk_at dksX3_stops_0 5 rfl rfl)
theorem dX3_stops_6 : decode cX3_stops 6 = .ok (.iload_n 2, 1) := dk_28 (dk_at dksX3_stops_0 6 rfl rfl)
theorem dX3_stops_7 : decode cX3_stops 7 = .ok (.invokevirtual 117, 3) := dk_182 0 117 (dk_at dksX3_stops_0 7 rfl rfl)
theorem dX3_stops_10 : decode cX3_stops 10 = .ok (.ireturn, 1) := dk_172 (dk_at dksX3_stops_0 10 rfl rfl)
abbrev cX3_writesNode : ByteArray := prog_24_method_57_code
def yX3_writesNode : MethodName := ⟨RX3, "writesNode", "(I)V"⟩
def dkwX3_writesNode_10 : List UInt8 := [180, 0, 174, 4, 96, 181, 0, 174, 177]
abbrev dktX3_writesNode_10 : List UInt8 := dkwX3_writesNode_10 ++ []
def dkwX3_writesNode_9 : List UInt8 := [42, 180, 0, 51, 42, 180, 0, 174, 3, 79, 42, 180, 0, 66, 42, 180, 0, 174, 29, 84, 42, 89]
abbrev dktX3_writesNode_9 : List UInt8 := dkwX3_writesNode_9 ++ dktX3_writesNode_10
def dkwX3_writesNode_8 : List UInt8 := [180, 0, 174, 42, 27, 182, 0, 162, 79, 42, 180, 0, 48, 42, 180, 0, 174, 42, 27, 5, 182, 0, 133, 79]
abbrev dktX3_writesNode_8 : List UInt8 := dkwX3_writesNode_8 ++ dktX3_writesNode_9
def dkwX3_writesNode_7 : List UInt8 := [160, 0, 8, 16, 109, 167, 0, 5, 16, 114, 182, 1, 35, 42, 16, 40, 182, 1, 35, 42, 180, 0, 42, 42]
abbrev dktX3_writesNode_7 : List UInt8 := dkwX3_writesNode_7 ++ dktX3_writesNode_8
def dkwX3_writesNode_6 : List UInt8 := [182, 0, 162, 7, 159, 0, 12, 42, 27, 182, 0, 162, 8, 160, 0, 29, 42, 42, 27, 182, 0, 162, 7]
abbrev dktX3_writesNode_6 : List UInt8 := dkwX3_writesNode_6 ++ dktX3_writesNode_7
def dkwX3_writesNode_5 : List UInt8 := [42, 27, 182, 0, 162, 6, 160, 0, 16, 42, 16, 48, 42, 27, 4, 182, 0, 133, 96, 182, 1, 35, 42, 27]
abbrev dktX3_writesNode_5 : List UInt8 := dkwX3_writesNode_5 ++ dktX3_writesNode_6
def dkwX3_writesNode_4 : List UInt8 := [153, 0, 9, 42, 16, 40, 182, 1, 35, 42, 27, 182, 0, 162, 5, 163, 0, 9, 42, 27, 182, 1, 46, 177]
abbrev dktX3_writesNode_4 : List UInt8 := dkwX3_writesNode_4 ++ dktX3_writesNode_5
def dkwX3_writesNode_3 : List UInt8 := [42, 180, 0, 174, 4, 100, 92, 46, 4, 96, 79, 42, 27, 182, 0, 162, 28, 184, 1, 42, 62, 29]
abbrev dktX3_writesNode_3 : List UInt8 := dkwX3_writesNode_3 ++ dktX3_writesNode_4
def dkwX3_writesNode_2 : List UInt8 := [160, 0, 8, 16, 59, 167, 0, 5, 16, 124, 182, 1, 35, 42, 180, 0, 174, 158, 0, 18, 42, 180, 0, 51]
abbrev dktX3_writesNode_2 : List UInt8 := dkwX3_writesNode_2 ++ dktX3_writesNode_3
def dkwX3_writesNode_1 : List UInt8 := [180, 0, 174, 158, 0, 34, 42, 180, 0, 51, 42, 180, 0, 174, 4, 100, 46, 158, 0, 20, 42, 28, 16, 7]
abbrev dktX3_writesNode_1 : List UInt8 := dkwX3_writesNode_1 ++ dktX3_writesNode_2
def dkwX3_writesNode_0 : List UInt8 := [42, 180, 0, 174, 158, 0, 17, 42, 180, 0, 42, 42, 180, 0, 174, 4, 100, 46, 167, 0, 4, 2, 61, 42]
abbrev dktX3_writesNode_0 : List UInt8 := dkwX3_writesNode_0 ++ dktX3_writesNode_1
theorem dksX3_writesNode_0 : cX3_writesNode.data.toList.drop 0 = dktX3_writesNode_0 := by decide +kernel
theorem dksX3_writesNode_1 : cX3_writesNode.data.toList.drop 24 = dktX3_writesNode_1 := dk_seg dksX3_writesNode_0 24 rfl rfl
theorem dksX3_writesNode_2 : cX3_writesNode.data.toList.drop 48 = dktX3_writesNode_2 := dk_seg dksX3_writesNode_1 24 rfl rfl
theorem dksX3_writesNode_3 : cX3_writesNode.data.toList.drop 72 = dktX3_writesNode_3 := dk_seg dksX3_writesNode_2 24 rfl rfl
theorem dksX3_writesNode_4 : cX3_writesNode.data.toList.drop 94 = dktX3_writesNode_4 := dk_seg dksX3_writesNode_3 22 rfl rfl
theorem dksX3_writesNode_5 : cX3_writesNode.data.toList.drop 118 = dktX3_writesNode_5 := dk_seg dksX3_writesNode_4 24 rfl rfl
theorem dksX3_writesNode_6 : cX3_writesNode.data.toList.drop 142 = dktX3_writesNode_6 := dk_seg dksX3_writesNode_5 24 rfl rfl
theorem dksX3_writesNode_7 : cX3_writesNode.data.toList.drop 165 = dktX3_writesNode_7 := dk_seg dksX3_writesNode_6 23 rfl rfl
theorem dksX3_writesNode_8 : cX3_writesNode.data.toList.drop 189 = dktX3_writesNode_8 := dk_seg dksX3_writesNode_7 24 rfl rfl
theorem dksX3_writesNode_9 : cX3_writesNode.data.toList.drop 213 = dktX3_writesNode_9 := dk_seg dksX3_writesNode_8 24 rfl rfl
theorem dksX3_writesNode_10 : cX3_writesNode.data.toList.drop 235 = dktX3_writesNode_10 := dk_seg dksX3_writesNode_9 22 rfl rfl
theorem dX3_writesNode_0 : decode cX3_writesNode 0 = .ok (.aload_n 0, 1) := dk_42 (dk_at dksX3_writesNode_0 0 rfl rfl)
theorem dX3_writesNode_1 : decode cX3_writesNode 1 = .ok (.getfield 174, 3) := dk_180 0 174 (dk_at dksX3_writesNode_0 1 rfl rfl)
theorem dX3_writesNode_4 : decode cX3_writesNode 4 = .ok (.ifCond .le 17, 3) := dk_158 0 17 (dk_at dksX3_writesNode_0 4 rfl rfl)
theorem dX3_writesNode_7 : decode cX3_writesNode 7 = .ok (.aload_n 0, 1) := dk_42 (dk_at dksX3_writesNode_0 7 rfl rfl)
theorem dX3_writesNode_8 : decode cX3_writesNode 8 = .ok (.getfield 42, 3) := dk_180 0 42 (dk_at dksX3_writesNode_0 8 rfl rfl)
theorem dX3_writesNode_11 : decode cX3_writesNode 11 = .ok (.aload_n 0, 1) := dk_42 (dk_at dksX3_writesNode_0 11 rfl rfl)
theorem dX3_writesNode_12 : decode cX3_writesNode 12 = .ok (.getfield 174, 3) := dk_180 0 174 (dk_at dksX3_writesNode_0 12 rfl rfl)
theorem dX3_writesNode_15 : decode cX3_writesNode 15 = .ok (.iconst 1, 1) := dk_4 (dk_at dksX3_writesNode_0 15 rfl rfl)
theorem dX3_writesNode_16 : decode cX3_writesNode 16 = .ok (.isub, 1) := dk_100 (dk_at dksX3_writesNode_0 16 rfl rfl)
theorem dX3_writesNode_17 : decode cX3_writesNode 17 = .ok (.iaload, 1) := dk_46 (dk_at dksX3_writesNode_0 17 rfl rfl)
theorem dX3_writesNode_18 : decode cX3_writesNode 18 = .ok (.goto 4, 3) := dk_167 0 4 (dk_at dksX3_writesNode_0 18 rfl rfl)
theorem dX3_writesNode_21 : decode cX3_writesNode 21 = .ok (.iconst (-1), 1) := dk_2 (dk_at dksX3_writesNode_0 21 rfl rfl)
theorem dX3_writesNode_22 : decode cX3_writesNode 22 = .ok (.istore_n 2, 1) := dk_61 (dk_at dksX3_writesNode_0 22 rfl rfl)
theorem dX3_writesNode_23 : decode cX3_writesNode 23 = .ok (.aload_n 0, 1) := dk_42 (dk_at dksX3_writesNode_0 23 rfl rfl)
theorem dX3_writesNode_24 : decode cX3_writesNode 24 = .ok (.getfield 174, 3) := dk_180 0 174 (dk_at dksX3_writesNode_1 0 rfl rfl)
theorem dX3_writesNode_27 : decode cX3_writesNode 27 = .ok (.ifCond .le 34, 3) := dk_158 0 34 (dk_at dksX3_writesNode_1 3 rfl rfl)
theorem dX3_writesNode_30 : decode cX3_writesNode 30 = .ok (.aload_n 0, 1) := dk_42 (dk_at dksX3_writesNode_1 6 rfl rfl)
theorem dX3_writesNode_31 : decode cX3_writesNode 31 = .ok (.getfield 51, 3) := dk_180 0 51 (dk_at dksX3_writesNode_1 7 rfl rfl)
theorem dX3_writesNode_34 : decode cX3_writesNode 34 = .ok (.aload_n 0, 1) := dk_42 (dk_at dksX3_writesNode_1 10 rfl rfl)
theorem dX3_writesNode_35 : decode cX3_writesNode 35 = .ok (.getfield 174, 3) := dk_180 0 174 (dk_at dksX3_writesNode_1 11 rfl rfl)
theorem dX3_writesNode_38 : decode cX3_writesNode 38 = .ok (.iconst 1, 1) := dk_4 (dk_at dksX3_writesNode_1 14 rfl rfl)
theorem dX3_writesNode_39 : decode cX3_writesNode 39 = .ok (.isub, 1) := dk_100 (dk_at dksX3_writesNode_1 15 rfl rfl)
theorem dX3_writesNode_40 : decode cX3_writesNode 40 = .ok (.iaload, 1) := dk_46 (dk_at dksX3_writesNode_1 16 rfl rfl)
theorem dX3_writesNode_41 : decode cX3_writesNode 41 = .ok (.ifCond .le 20, 3) := dk_158 0 20 (dk_at dksX3_writesNode_1 17 rfl rfl)
theorem dX3_writesNode_44 : decode cX3_writesNode 44 = .ok (.aload_n 0, 1) := dk_42 (dk_at dksX3_writesNode_1 20 rfl rfl)
theorem dX3_writesNode_45 : decode cX3_writesNode 45 = .ok (.iload_n 2, 1) := dk_28 (dk_at dksX3_writesNode_1 21 rfl rfl)
theorem dX3_writesNode_46 : decode cX3_writesNode 46 = .ok (.bipush 7, 2) := dk_16 7 (dk_at dksX3_writesNode_1 22 rfl rfl)
theorem dX3_writesNode_48 : decode cX3_writesNode 48 = .ok (.if_icmp .ne 8, 3) := dk_160 0 8 (dk_at dksX3_writesNode_2 0 rfl rfl)
theorem dX3_writesNode_51 : decode cX3_writesNode 51 = .ok (.bipush 59, 2) := dk_16 59 (dk_at dksX3_writesNode_2 3 rfl rfl)
theorem dX3_writesNode_53 : decode cX3_writesNode 53 = .ok (.goto 5, 3) := dk_167 0 5 (dk_at dksX3_writesNode_2 5 rfl rfl)
theorem dX3_writesNode_56 : decode cX3_writesNode 56 = .ok (.bipush 124, 2) := dk_16 124 (dk_at dksX3_writesNode_2 8 rfl rfl)
theorem dX3_writesNode_58 : decode cX3_writesNode 58 = .ok (.invokevirtual 291, 3) := dk_182 1 35 (dk_at dksX3_writesNode_2 10 rfl rfl)
theorem dX3_writesNode_61 : decode cX3_writesNode 61 = .ok (.aload_n 0, 1) := dk_42 (dk_at dksX3_writesNode_2 13 rfl rfl)
theorem dX3_writesNode_62 : decode cX3_writesNode 62 = .ok (.getfield 174, 3) := dk_180 0 174 (dk_at dksX3_writesNode_2 14 rfl rfl)
theorem dX3_writesNode_65 : decode cX3_writesNode 65 = .ok (.ifCond .le 18, 3) := dk_158 0 18 (dk_at dksX3_writesNode_2 17 rfl rfl)
theorem dX3_writesNode_68 : decode cX3_writesNode 68 = .ok (.aload_n 0, 1) := dk_42 (dk_at dksX3_writesNode_2 20 rfl rfl)
theorem dX3_writesNode_69 : decode cX3_writesNode 69 = .ok (.getfield 51, 3) := dk_180 0 51 (dk_at dksX3_writesNode_2 21 rfl rfl)
theorem dX3_writesNode_72 : decode cX3_writesNode 72 = .ok (.aload_n 0, 1) := dk_42 (dk_at dksX3_writesNode_3 0 rfl rfl)
theorem dX3_writesNode_73 : decode cX3_writesNode 73 = .ok (.getfield 174, 3) := dk_180 0 174 (dk_at dksX3_writesNode_3 1 rfl rfl)
theorem dX3_writesNode_76 : decode cX3_writesNode 76 = .ok (.iconst 1, 1) := dk_4 (dk_at dksX3_writesNode_3 4 rfl rfl)
theorem dX3_writesNode_77 : decode cX3_writesNode 77 = .ok (.isub, 1) := dk_100 (dk_at dksX3_writesNode_3 5 rfl rfl)
theorem dX3_writesNode_78 : decode cX3_writesNode 78 = .ok (.dup2, 1) := dk_92 (dk_at dksX3_writesNode_3 6 rfl rfl)
theorem dX3_writesNode_79 : decode cX3_writesNode 79 = .ok (.iaload, 1) := dk_46 (dk_at dksX3_writesNode_3 7 rfl rfl)
theorem dX3_writesNode_80 : decode cX3_writesNode 80 = .ok (.iconst 1, 1) := dk_4 (dk_at dksX3_writesNode_3 8 rfl rfl)
theorem dX3_writesNode_81 : decode cX3_writesNode 81 = .ok (.iadd, 1) := dk_96 (dk_at dksX3_writesNode_3 9 rfl rfl)
theorem dX3_writesNode_82 : decode cX3_writesNode 82 = .ok (.iastore, 1) := dk_79 (dk_at dksX3_writesNode_3 10 rfl rfl)
theorem dX3_writesNode_83 : decode cX3_writesNode 83 = .ok (.aload_n 0, 1) := dk_42 (dk_at dksX3_writesNode_3 11 rfl rfl)
theorem dX3_writesNode_84 : decode cX3_writesNode 84 = .ok (.iload_n 1, 1) := dk_27 (dk_at dksX3_writesNode_3 12 rfl rfl)
theorem dX3_writesNode_85 : decode cX3_writesNode 85 = .ok (.invokevirtual 162, 3) := dk_182 0 162 (dk_at dksX3_writesNode_3 13 rfl rfl)
theorem dX3_writesNode_88 : decode cX3_writesNode 88 = .ok (.iload_n 2, 1) := dk_28 (dk_at dksX3_writesNode_3 16 rfl rfl)
theorem dX3_writesNode_89 : decode cX3_writesNode 89 = .ok (.invokestatic 298, 3) := dk_184 1 42 (dk_at dksX3_writesNode_3 17 rfl rfl)
theorem dX3_writesNode_92 : decode cX3_writesNode 92 = .ok (.istore_n 3, 1) := dk_62 (dk_at dksX3_writesNode_3 20 rfl rfl)
theorem dX3_writesNode_93 : decode cX3_writesNode 93 = .ok (.iload_n 3, 1) := dk_29 (dk_at dksX3_writesNode_3 21 rfl rfl)
theorem dX3_writesNode_94 : decode cX3_writesNode 94 = .ok (.ifCond .eq 9, 3) := dk_153 0 9 (dk_at dksX3_writesNode_4 0 rfl rfl)
theorem dX3_writesNode_97 : decode cX3_writesNode 97 = .ok (.aload_n 0, 1) := dk_42 (dk_at dksX3_writesNode_4 3 rfl rfl)
theorem dX3_writesNode_98 : decode cX3_writesNode 98 = .ok (.bipush 40, 2) := dk_16 40 (dk_at dksX3_writesNode_4 4 rfl rfl)
theorem dX3_writesNode_100 : decode cX3_writesNode 100 = .ok (.invokevirtual 291, 3) := dk_182 1 35 (dk_at dksX3_writesNode_4 6 rfl rfl)
theorem dX3_writesNode_103 : decode cX3_writesNode 103 = .ok (.aload_n 0, 1) := dk_42 (dk_at dksX3_writesNode_4 9 rfl rfl)
theorem dX3_writesNode_104 : decode cX3_writesNode 104 = .ok (.iload_n 1, 1) := dk_27 (dk_at dksX3_writesNode_4 10 rfl rfl)
theorem dX3_writesNode_105 : decode cX3_writesNode 105 = .ok (.invokevirtual 162, 3) := dk_182 0 162 (dk_at dksX3_writesNode_4 11 rfl rfl)
theorem dX3_writesNode_108 : decode cX3_writesNode 108 = .ok (.iconst 2, 1) := dk_5 (dk_at dksX3_writesNode_4 14 rfl rfl)
theorem dX3_writesNode_109 : decode cX3_writesNode 109 = .ok (.if_icmp .gt 9, 3) := dk_163 0 9 (dk_at dksX3_writesNode_4 15 rfl rfl)
theorem dX3_writesNode_112 : decode cX3_writesNode 112 = .ok (.aload_n 0, 1) := dk_42 (dk_at dksX3_writesNode_4 18 rfl rfl)
theorem dX3_writesNode_113 : decode cX3_writesNode 113 = .ok (.iload_n 1, 1) := dk_27 (dk_at dksX3_writesNode_4 19 rfl rfl)
theorem dX3_writesNode_114 : decode cX3_writesNode 114 = .ok (.invokevirtual 302, 3) := dk_182 1 46 (dk_at dksX3_writesNode_4 20 rfl rfl)
theorem dX3_writesNode_117 : decode cX3_writesNode 117 = .ok (.return_, 1) := dk_177 (dk_at dksX3_writesNode_4 23 rfl rfl)
theorem dX3_writesNode_118 : decode cX3_writesNode 118 = .ok (.aload_n 0, 1) := dk_42 (dk_at dksX3_writesNode_5 0 rfl rfl)
theorem dX3_writesNode_119 : decode cX3_writesNode 119 = .ok (.iload_n 1, 1) := dk_27 (dk_at dksX3_writesNode_5 1 rfl rfl)
theorem dX3_writesNode_120 : decode cX3_writesNode 120 = .ok (.invokevirtual 162, 3) := dk_182 0 162 (dk_at dksX3_writesNode_5 2 rfl rfl)
theorem dX3_writesNode_123 : decode cX3_writesNode 123 = .ok (.iconst 3, 1) := dk_6 (dk_at dksX3_writesNode_5 5 rfl rfl)
theorem dX3_writesNode_124 : decode cX3_writesNode 124 = .ok (.if_icmp .ne 16, 3) := dk_160 0 16 (dk_at dksX3_writesNode_5 6 rfl rfl)
theorem dX3_writesNode_127 : decode cX3_writesNode 127 = .ok (.aload_n 0, 1) := dk_42 (dk_at dksX3_writesNode_5 9 rfl rfl)
theorem dX3_writesNode_128 : decode cX3_writesNode 128 = .ok (.bipush 48, 2) := dk_16 48 (dk_at dksX3_writesNode_5 10 rfl rfl)
theorem dX3_writesNode_130 : decode cX3_writesNode 130 = .ok (.aload_n 0, 1) := dk_42 (dk_at dksX3_writesNode_5 12 rfl rfl)
theorem dX3_writesNode_131 : decode cX3_writesNode 131 = .ok (.iload_n 1, 1) := dk_27 (dk_at dksX3_writesNode_5 13 rfl rfl)
theorem dX3_writesNode_132 : decode cX3_writesNode 132 = .ok (.iconst 1, 1) := dk_4 (dk_at dksX3_writesNode_5 14 rfl rfl)
theorem dX3_writesNode_133 : decode cX3_writesNode 133 = .ok (.invokevirtual 133, 3) := dk_182 0 133 (dk_at dksX3_writesNode_5 15 rfl rfl)
theorem dX3_writesNode_136 : decode cX3_writesNode 136 = .ok (.iadd, 1) := dk_96 (dk_at dksX3_writesNode_5 18 rfl rfl)
theorem dX3_writesNode_137 : decode cX3_writesNode 137 = .ok (.invokevirtual 291, 3) := dk_182 1 35 (dk_at dksX3_writesNode_5 19 rfl rfl)
theorem dX3_writesNode_140 : decode cX3_writesNode 140 = .ok (.aload_n 0, 1) := dk_42 (dk_at dksX3_writesNode_5 22 rfl rfl)
theorem dX3_writesNode_141 : decode cX3_writesNode 141 = .ok (.iload_n 1, 1) := dk_27 (dk_at dksX3_writesNode_5 23 rfl rfl)
theorem dX3_writesNode_142 : decode cX3_writesNode 142 = .ok (.invokevirtual 162, 3) := dk_182 0 162 (dk_at dksX3_writesNode_6 0 rfl rfl)
theorem dX3_writesNode_145 : decode cX3_writesNode 145 = .ok (.iconst 4, 1) := dk_7 (dk_at dksX3_writesNode_6 3 rfl rfl)
theorem dX3_writesNode_146 : decode cX3_writesNode 146 = .ok (.if_icmp .eq 12, 3) := dk_159 0 12 (dk_at dksX3_writesNode_6 4 rfl rfl)
theorem dX3_writesNode_149 : decode cX3_writesNode 149 = .ok (.aload_n 0, 1) := dk_42 (dk_at dksX3_writesNode_6 7 rfl rfl)
theorem dX3_writesNode_150 : decode cX3_writesNode 150 = .ok (.iload_n 1, 1) := dk_27 (dk_at dksX3_writesNode_6 8 rfl rfl)
theorem dX3_writesNode_151 : decode cX3_writesNode 151 = .ok (.invokevirtual 162, 3) := dk_182 0 162 (dk_at dksX3_writesNode_6 9 rfl rfl)
theorem dX3_writesNode_154 : decode cX3_writesNode 154 = .ok (.iconst 5, 1) := dk_8 (dk_at dksX3_writesNode_6 12 rfl rfl)
theorem dX3_writesNode_155 : decode cX3_writesNode 155 = .ok (.if_icmp .ne 29, 3) := dk_160 0 29 (dk_at dksX3_writesNode_6 13 rfl rfl)
theorem dX3_writesNode_158 : decode cX3_writesNode 158 = .ok (.aload_n 0, 1) := dk_42 (dk_at dksX3_writesNode_6 16 rfl rfl)
theorem dX3_writesNode_159 : decode cX3_writesNode 159 = .ok (.aload_n 0, 1) := dk_42 (dk_at dksX3_writesNode_6 17 rfl rfl)
theorem dX3_writesNode_160 : decode cX3_writesNode 160 = .ok (.iload_n 1, 1) := dk_27 (dk_at dksX3_writesNode_6 18 rfl rfl)
theorem dX3_writesNode_161 : decode cX3_writesNode 161 = .ok (.invokevirtual 162, 3) := dk_182 0 162 (dk_at dksX3_writesNode_6 19 rfl rfl)
theorem dX3_writesNode_164 : decode cX3_writesNode 164 = .ok (.iconst 4, 1) := dk_7 (dk_at dksX3_writesNode_6 22 rfl rfl)
theorem dX3_writesNode_165 : decode cX3_writesNode 165 = .ok (.if_icmp .ne 8, 3) := dk_160 0 8 (dk_at dksX3_writesNode_7 0 rfl rfl)
theorem dX3_writesNode_168 : decode cX3_writesNode 168 = .ok (.bipush 109, 2) := dk_16 109 (dk_at dksX3_writesNode_7 3 rfl rfl)
theorem dX3_writesNode_170 : decode cX3_writesNode 170 = .ok (.goto 5, 3) := dk_167 0 5 (dk_at dksX3_writesNode_7 5 rfl rfl)
theorem dX3_writesNode_173 : decode cX3_writesNode 173 = .ok (.bipush 114, 2) := dk_16 114 (dk_at dksX3_writesNode_7 8 rfl rfl)
theorem dX3_writesNode_175 : decode cX3_writesNode 175 = .ok (.invokevirtual 291, 3) := dk_182 1 35 (dk_at dksX3_writesNode_7 10 rfl rfl)
theorem dX3_writesNode_178 : decode cX3_writesNode 178 = .ok (.aload_n 0, 1) := dk_42 (dk_at dksX3_writesNode_7 13 rfl rfl)
theorem dX3_writesNode_179 : decode cX3_writesNode 179 = .ok (.bipush 40, 2) := dk_16 40 (dk_at dksX3_writesNode_7 14 rfl rfl)
theorem dX3_writesNode_181 : decode cX3_writesNode 181 = .ok (.invokevirtual 291, 3) := dk_182 1 35 (dk_at dksX3_writesNode_7 16 rfl rfl)
theorem dX3_writesNode_184 : decode cX3_writesNode 184 = .ok (.aload_n 0, 1) := dk_42 (dk_at dksX3_writesNode_7 19 rfl rfl)
theorem dX3_writesNode_185 : decode cX3_writesNode 185 = .ok (.getfield 42, 3) := dk_180 0 42 (dk_at dksX3_writesNode_7 20 rfl rfl)
theorem dX3_writesNode_188 : decode cX3_writesNode 188 = .ok (.aload_n 0, 1) := dk_42 (dk_at dksX3_writesNode_7 23 rfl rfl)
theorem dX3_writesNode_189 : decode cX3_writesNode 189 = .ok (.getfield 174, 3) := dk_180 0 174 (dk_at dksX3_writesNode_8 0 rfl rfl)
theorem dX3_writesNode_192 : decode cX3_writesNode 192 = .ok (.aload_n 0, 1) := dk_42 (dk_at dksX3_writesNode_8 3 rfl rfl)
theorem dX3_writesNode_193 : decode cX3_writesNode 193 = .ok (.iload_n 1, 1) := dk_27 (dk_at dksX3_writesNode_8 4 rfl rfl)
theorem dX3_writesNode_194 : decode cX3_writesNode 194 = .ok (.invokevirtual 162, 3) := dk_182 0 162 (dk_at dksX3_writesNode_8 5 rfl rfl)
theorem dX3_writesNode_197 : decode cX3_writesNode 197 = .ok (.iastore, 1) := dk_79 (dk_at dksX3_writesNode_8 8 rfl rfl)
theorem dX3_writesNode_198 : decode cX3_writesNode 198 = .ok (.aload_n 0, 1) := dk_42 (dk_at dksX3_writesNode_8 9 rfl rfl)
theorem dX3_writesNode_199 : decode cX3_writesNode 199 = .ok (.getfield 48, 3) := dk_180 0 48 (dk_at dksX3_writesNode_8 10 rfl rfl)
theorem dX3_writesNode_202 : decode cX3_writesNode 202 = .ok (.aload_n 0, 1) := dk_42 (dk_at dksX3_writesNode_8 13 rfl rfl)
theorem dX3_writesNode_203 : decode cX3_writesNode 203 = .ok (.getfield 174, 3) := dk_180 0 174 (dk_at dksX3_writesNode_8 14 rfl rfl)
theorem dX3_writesNode_206 : decode cX3_writesNode 206 = .ok (.aload_n 0, 1) := dk_42 (dk_at dksX3_writesNode_8 17 rfl rfl)
theorem dX3_writesNode_207 : decode cX3_writesNode 207 = .ok (.iload_n 1, 1) := dk_27 (dk_at dksX3_writesNode_8 18 rfl rfl)
theorem dX3_writesNode_208 : decode cX3_writesNode 208 = .ok (.iconst 2, 1) := dk_5 (dk_at dksX3_writesNode_8 19 rfl rfl)
theorem dX3_writesNode_209 : decode cX3_writesNode 209 = .ok (.invokevirtual 133, 3) := dk_182 0 133 (dk_at dksX3_writesNode_8 20 rfl rfl)
theorem dX3_writesNode_212 : decode cX3_writesNode 212 = .ok (.iastore, 1) := dk_79 (dk_at dksX3_writesNode_8 23 rfl rfl)
theorem dX3_writesNode_213 : decode cX3_writesNode 213 = .ok (.aload_n 0, 1) := dk_42 (dk_at dksX3_writesNode_9 0 rfl rfl)
theorem dX3_writesNode_214 : decode cX3_writesNode 214 = .ok (.getfield 51, 3) := dk_180 0 51 (dk_at dksX3_writesNode_9 1 rfl rfl)
theorem dX3_writesNode_217 : decode cX3_writesNode 217 = .ok (.aload_n 0, 1) := dk_42 (dk_at dksX3_writesNode_9 4 rfl rfl)
theorem dX3_writesNode_218 : decode cX3_writesNode 218 = .ok (.getfield 174, 3) := dk_180 0 174 (dk_at dksX3_writesNode_9 5 rfl rfl)
theorem dX3_writesNode_221 : decode cX3_writesNode 221 = .ok (.iconst 0, 1) := dk_3 (dk_at dksX3_writesNode_9 8 rfl rfl)
theorem dX3_writesNode_222 : decode cX3_writesNode 222 = .ok (.iastore, 1) := dk_79 (dk_at dksX3_writesNode_9 9 rfl rfl)
theorem dX3_writesNode_223 : decode cX3_writesNode 223 = .ok (.aload_n 0, 1) := dk_42 (dk_at dksX3_writesNode_9 10 rfl rfl)
theorem dX3_writesNode_224 : decode cX3_writesNode 224 = .ok (.getfield 66, 3) := dk_180 0 66 (dk_at dksX3_writesNode_9 11 rfl rfl)
theorem dX3_writesNode_227 : decode cX3_writesNode 227 = .ok (.aload_n 0, 1) := dk_42 (dk_at dksX3_writesNode_9 14 rfl rfl)
theorem dX3_writesNode_228 : decode cX3_writesNode 228 = .ok (.getfield 174, 3) := dk_180 0 174 (dk_at dksX3_writesNode_9 15 rfl rfl)
theorem dX3_writesNode_231 : decode cX3_writesNode 231 = .ok (.iload_n 3, 1) := dk_29 (dk_at dksX3_writesNode_9 18 rfl rfl)
theorem dX3_writesNode_232 : decode cX3_writesNode 232 = .ok (.bastore, 1) := dk_84 (dk_at dksX3_writesNode_9 19 rfl rfl)
theorem dX3_writesNode_233 : decode cX3_writesNode 233 = .ok (.aload_n 0, 1) := dk_42 (dk_at dksX3_writesNode_9 20 rfl rfl)
theorem dX3_writesNode_234 : decode cX3_writesNode 234 = .ok (.dup, 1) := dk_89 (dk_at dksX3_writesNode_9 21 rfl rfl)
theorem dX3_writesNode_235 : decode cX3_writesNode 235 = .ok (.getfield 174, 3) := dk_180 0 174 (dk_at dksX3_writesNode_10 0 rfl rfl)
theorem dX3_writesNode_238 : decode cX3_writesNode 238 = .ok (.iconst 1, 1) := dk_4 (dk_at dksX3_writesNode_10 3 rfl rfl)
theorem dX3_writesNode_239 : decode cX3_writesNode 239 = .ok (.iadd, 1) := dk_96 (dk_at dksX3_writesNode_10 4 rfl rfl)
theorem dX3_writesNode_240 : decode cX3_writesNode 240 = .ok (.putfield 174, 3) := dk_181 0 174 (dk_at dksX3_writesNode_10 5 rfl rfl)
theorem dX3_writesNode_243 : decode cX3_writesNode 243 = .ok (.return_, 1) := dk_177 (dk_at dksX3_writesNode_10 8 rfl rfl)
abbrev cX3_writes : ByteArray := prog_24_method_53_code
def yX3_writes : MethodName := ⟨RX3, "writes", "(I)V"⟩
def dkwX3_writes_0 : List UInt8 := [42, 180, 0, 33, 42, 180, 1, 32, 27, 79, 42, 89, 180, 1, 32, 4, 96, 181, 1, 32, 177]
abbrev dktX3_writes_0 : List UInt8 := dkwX3_writes_0 ++ []
theorem dksX3_writes_0 : cX3_writes.data.toList.drop 0 = dktX3_writes_0 := by decide +kernel
theorem dX3_writes_0 : decode cX3_writes 0 = .ok (.aload_n 0, 1) := dk_42 (dk_at dksX3_writes_0 0 rfl rfl)
theorem dX3_writes_1 : decode cX3_writes 1 = .ok (.getfield 33, 3) := dk_180 0 33 (dk_at dksX3_writes_0 1 rfl rfl)
theorem dX3_writes_4 : decode cX3_writes 4 = .ok (.aload_n 0, 1) := dk_42 (dk_at dksX3_writes_0 4 rfl rfl)
theorem dX3_writes_5 : decode cX3_writes 5 = .ok (.getfield 288, 3) := dk_180 1 32 (dk_at dksX3_writes_0 5 rfl rfl)
theorem dX3_writes_8 : decode cX3_writes 8 = .ok (.iload_n 1, 1) := dk_27 (dk_at dksX3_writes_0 8 rfl rfl)
theorem dX3_writes_9 : decode cX3_writes 9 = .ok (.iastore, 1) := dk_79 (dk_at dksX3_writes_0 9 rfl rfl)
theorem dX3_writes_10 : decode cX3_writes 10 = .ok (.aload_n 0, 1) := dk_42 (dk_at dksX3_writes_0 10 rfl rfl)
theorem dX3_writes_11 : decode cX3_writes 11 = .ok (.dup, 1) := dk_89 (dk_at dksX3_writes_0 11 rfl rfl)
theorem dX3_writes_12 : decode cX3_writes 12 = .ok (.getfield 288, 3) := dk_180 1 32 (dk_at dksX3_writes_0 12 rfl rfl)
theorem dX3_writes_15 : decode cX3_writes 15 = .ok (.iconst 1, 1) := dk_4 (dk_at dksX3_writes_0 15 rfl rfl)
theorem dX3_writes_16 : decode cX3_writes 16 = .ok (.iadd, 1) := dk_96 (dk_at dksX3_writes_0 16 rfl rfl)
theorem dX3_writes_17 : decode cX3_writes 17 = .ok (.putfield 288, 3) := dk_181 1 32 (dk_at dksX3_writes_0 17 rfl rfl)
theorem dX3_writes_20 : decode cX3_writes 20 = .ok (.return_, 1) := dk_177 (dk_at dksX3_writes_0 20 rfl rfl)
abbrev cX3_isInside : ByteArray := prog_24_method_55_code
def yX3_isInside : MethodName := ⟨RX3, "isInside", "(II)Z"⟩
def dkwX3_isInside_2 : List UInt8 := [167, 0, 4, 3, 172]
abbrev dktX3_isInside_2 : List UInt8 := dkwX3_isInside_2 ++ []
def dkwX3_isInside_1 : List UInt8 := [16, 6, 160, 0, 9, 27, 16, 7, 160, 0, 13, 26, 6, 160, 0, 12, 27, 6, 160, 0, 7, 4]
abbrev dktX3_isInside_1 : List UInt8 := dkwX3_isInside_1 ++ dktX3_isInside_2
def dkwX3_isInside_0 : List UInt8 := [27, 2, 159, 0, 13, 27, 7, 159, 0, 8, 27, 8, 160, 0, 5, 3, 172, 26, 16, 7, 159, 0, 25, 26]
abbrev dktX3_isInside_0 : List UInt8 := dkwX3_isInside_0 ++ dktX3_isInside_1
theorem dksX3_isInside_0 : cX3_isInside.data.toList.drop 0 = dktX3_isInside_0 := by decide +kernel
theorem dksX3_isInside_1 : cX3_isInside.data.toList.drop 24 = dktX3_isInside_1 := dk_seg dksX3_isInside_0 24 rfl rfl
theorem dksX3_isInside_2 : cX3_isInside.data.toList.drop 46 = dktX3_isInside_2 := dk_seg dksX3_isInside_1 22 rfl rfl
theorem dX3_isInside_0 : decode cX3_isInside 0 = .ok (.iload_n 1, 1) := dk_27 (dk_at dksX3_isInside_0 0 rfl rfl)
theorem dX3_isInside_1 : decode cX3_isInside 1 = .ok (.iconst (-1), 1) := dk_2 (dk_at dksX3_isInside_0 1 rfl rfl)
theorem dX3_isInside_2 : decode cX3_isInside 2 = .ok (.if_icmp .eq 13, 3) := dk_159 0 13 (dk_at dksX3_isInside_0 2 rfl rfl)
theorem dX3_isInside_5 : decode cX3_isInside 5 = .ok (.iload_n 1, 1) := dk_27 (dk_at dksX3_isInside_0 5 rfl rfl)
theorem dX3_isInside_6 : decode cX3_isInside 6 = .ok (.iconst 4, 1) := dk_7 (dk_at dksX3_isInside_0 6 rfl rfl)
theorem dX3_isInside_7 : decode cX3_isInside 7 = .ok (.if_icmp .eq 8, 3) := dk_159 0 8 (dk_at dksX3_isInside_0 7 rfl rfl)
theorem dX3_isInside_10 : decode cX3_isInside 10 = .ok (.iload_n 1, 1) := dk_27 (dk_at dksX3_isInside_0 10 rfl rfl)
theorem dX3_isInside_11 : decode cX3_isInside 11 = .ok (.iconst 5, 1) := dk_8 (dk_at dksX3_isInside_0 11 rfl rfl)
theorem dX3_isInside_12 : decode cX3_isInside 12 = .ok (.if_icmp .ne 5, 3) := dk_160 0 5 (dk_at dksX3_isInside_0 12 rfl rfl)
theorem dX3_isInside_15 : decode cX3_isInside 15 = .ok (.iconst 0, 1) := dk_3 (dk_at dksX3_isInside_0 15 rfl rfl)
theorem dX3_isInside_16 : decode cX3_isInside 16 = .ok (.ireturn, 1) := dk_172 (dk_at dksX3_isInside_0 16 rfl rfl)
theorem dX3_isInside_17 : decode cX3_isInside 17 = .ok (.iload_n 0, 1) := dk_26 (dk_at dksX3_isInside_0 17 rfl rfl)
theorem dX3_isInside_18 : decode cX3_isInside 18 = .ok (.bipush 7, 2) := dk_16 7 (dk_at dksX3_isInside_0 18 rfl rfl)
theorem dX3_isInside_20 : decode cX3_isInside 20 = .ok (.if_icmp .eq 25, 3) := dk_159 0 25 (dk_at dksX3_isInside_0 20 rfl rfl)
theorem dX3_isInside_23 : decode cX3_isInside 23 = .ok (.iload_n 0, 1) := dk_26 (dk_at dksX3_isInside_0 23 rfl rfl)
theorem dX3_isInside_24 : decode cX3_isInside 24 = .ok (.bipush 6, 2) := dk_16 6 (dk_at dksX3_isInside_1 0 rfl rfl)
theorem dX3_isInside_26 : decode cX3_isInside 26 = .ok (.if_icmp .ne 9, 3) := dk_160 0 9 (dk_at dksX3_isInside_1 2 rfl rfl)
theorem dX3_isInside_29 : decode cX3_isInside 29 = .ok (.iload_n 1, 1) := dk_27 (dk_at dksX3_isInside_1 5 rfl rfl)
theorem dX3_isInside_30 : decode cX3_isInside 30 = .ok (.bipush 7, 2) := dk_16 7 (dk_at dksX3_isInside_1 6 rfl rfl)
theorem dX3_isInside_32 : decode cX3_isInside 32 = .ok (.if_icmp .ne 13, 3) := dk_160 0 13 (dk_at dksX3_isInside_1 8 rfl rfl)
theorem dX3_isInside_35 : decode cX3_isInside 35 = .ok (.iload_n 0, 1) := dk_26 (dk_at dksX3_isInside_1 11 rfl rfl)
theorem dX3_isInside_36 : decode cX3_isInside 36 = .ok (.iconst 3, 1) := dk_6 (dk_at dksX3_isInside_1 12 rfl rfl)
theorem dX3_isInside_37 : decode cX3_isInside 37 = .ok (.if_icmp .ne 12, 3) := dk_160 0 12 (dk_at dksX3_isInside_1 13 rfl rfl)
theorem dX3_isInside_40 : decode cX3_isInside 40 = .ok (.iload_n 1, 1) := dk_27 (dk_at dksX3_isInside_1 16 rfl rfl)
theorem dX3_isInside_41 : decode cX3_isInside 41 = .ok (.iconst 3, 1) := dk_6 (dk_at dksX3_isInside_1 17 rfl rfl)
theorem dX3_isInside_42 : decode cX3_isInside 42 = .ok (.if_icmp .ne 7, 3) := dk_160 0 7 (dk_at dksX3_isInside_1 18 rfl rfl)
theorem dX3_isInside_45 : decode cX3_isInside 45 = .ok (.iconst 1, 1) := dk_4 (dk_at dksX3_isInside_1 21 rfl rfl)
theorem dX3_isInside_46 : decode cX3_isInside 46 = .ok (.goto 4, 3) := dk_167 0 4 (dk_at dksX3_isInside_2 0 rfl rfl)
theorem dX3_isInside_49 : decode cX3_isInside 49 = .ok (.iconst 0, 1) := dk_3 (dk_at dksX3_isInside_2 3 rfl rfl)
theorem dX3_isInside_50 : decode cX3_isInside 50 = .ok (.ireturn, 1) := dk_172 (dk_at dksX3_isInside_2 4 rfl rfl)
abbrev cX3_writesLeaf : ByteArray := prog_24_method_56_code
def yX3_writesLeaf : MethodName := ⟨RX3, "writesLeaf", "(I)V"⟩
def dkwX3_writesLeaf_5 : List UInt8 := [182, 0, 165, 184, 1, 38, 182, 1, 35, 132, 2, 1, 167, 255, 217, 177]
abbrev dktX3_writesLeaf_5 : List UInt8 := dkwX3_writesLeaf_5 ++ []
def dkwX3_writesLeaf_4 : List UInt8 := [8, 182, 0, 133, 162, 0, 35, 42, 42, 42, 27, 6, 182, 0, 133, 42, 27, 7, 182, 0, 133, 96, 28, 96]
abbrev dktX3_writesLeaf_4 : List UInt8 := dkwX3_writesLeaf_4 ++ dktX3_writesLeaf_5
def dkwX3_writesLeaf_3 : List UInt8 := [182, 0, 165, 96, 182, 1, 35, 132, 2, 1, 167, 255, 224, 42, 16, 58, 182, 1, 35, 3, 61, 28, 42, 27]
abbrev dktX3_writesLeaf_3 : List UInt8 := dkwX3_writesLeaf_3 ++ dktX3_writesLeaf_4
def dkwX3_writesLeaf_2 : List UInt8 := [28, 42, 27, 7, 182, 0, 133, 162, 0, 28, 42, 16, 65, 42, 42, 27, 6, 182, 0, 133, 28, 96]
abbrev dktX3_writesLeaf_2 : List UInt8 := dkwX3_writesLeaf_2 ++ dktX3_writesLeaf_3
def dkwX3_writesLeaf_1 : List UInt8 := [160, 0, 22, 42, 16, 99, 182, 1, 35, 42, 16, 48, 42, 27, 4, 182, 0, 133, 96, 182, 1, 35, 3, 61]
abbrev dktX3_writesLeaf_1 : List UInt8 := dkwX3_writesLeaf_1 ++ dktX3_writesLeaf_2
def dkwX3_writesLeaf_0 : List UInt8 := [42, 27, 182, 0, 162, 5, 160, 0, 10, 42, 16, 33, 182, 1, 35, 177, 42, 27, 182, 0, 162, 4]
abbrev dktX3_writesLeaf_0 : List UInt8 := dkwX3_writesLeaf_0 ++ dktX3_writesLeaf_1
theorem dksX3_writesLeaf_0 : cX3_writesLeaf.data.toList.drop 0 = dktX3_writesLeaf_0 := by decide +kernel
theorem dksX3_writesLeaf_1 : cX3_writesLeaf.data.toList.drop 22 = dktX3_writesLeaf_1 := dk_seg dksX3_writesLeaf_0 22 rfl rfl
theorem dksX3_writesLeaf_2 : cX3_writesLeaf.data.toList.drop 46 = dktX3_writesLeaf_2 := dk_seg dksX3_writesLeaf_1 24 rfl rfl
theorem dksX3_writesLeaf_3 : cX3_writesLeaf.data.toList.drop 68 = dktX3_writesLeaf_3 := dk_seg dksX3_writesLeaf_2 22 rfl rfl
theorem dksX3_writesLeaf_4 : cX3_writesLeaf.data.toList.drop 92 = dktX3_writesLeaf_4 := dk_seg dksX3_writesLeaf_3 24 rfl rfl
theorem dksX3_writesLeaf_5 : cX3_writesLeaf.data.toList.drop 116 = dktX3_writesLeaf_5 := dk_seg dksX3_writesLeaf_4 24 rfl rfl
theorem dX3_writesLeaf_0 : decode cX3_writesLeaf 0 = .ok (.aload_n 0, 1) := dk_42 (dk_at dksX3_writesLeaf_0 0 rfl rfl)
theorem dX3_writesLeaf_1 : decode cX3_writesLeaf 1 = .ok (.iload_n 1, 1) := dk_27 (dk_at dksX3_writesLeaf_0 1 rfl rfl)
theorem dX3_writesLeaf_2 : decode cX3_writesLeaf 2 = .ok (.invokevirtual 162, 3) := dk_182 0 162 (dk_at dksX3_writesLeaf_0 2 rfl rfl)
theorem dX3_writesLeaf_5 : decode cX3_writesLeaf 5 = .ok (.iconst 2, 1) := dk_5 (dk_at dksX3_writesLeaf_0 5 rfl rfl)
theorem dX3_writesLeaf_6 : decode cX3_writesLeaf 6 = .ok (.if_icmp .ne 10, 3) := dk_160 0 10 (dk_at dksX3_writesLeaf_0 6 rfl rfl)
theorem dX3_writesLeaf_9 : decode cX3_writesLeaf 9 = .ok (.aload_n 0, 1) := dk_42 (dk_at dksX3_writesLeaf_0 9 rfl rfl)
theorem dX3_writesLeaf_10 : decode cX3_writesLeaf 10 = .ok (.bipush 33, 2) := dk_16 33 (dk_at dksX3_writesLeaf_0 10 rfl rfl)
theorem dX3_writesLeaf_12 : decode cX3_writesLeaf 12 = .ok (.invokevirtual 291, 3) := dk_182 1 35 (dk_at dksX3_writesLeaf_0 12 rfl rfl)
theorem dX3_writesLeaf_15 : decode cX3_writesLeaf 15 = .ok (.return_, 1) := dk_177 (dk_at dksX3_writesLeaf_0 15 rfl rfl)
theorem dX3_writesLeaf_16 : decode cX3_writesLeaf 16 = .ok (.aload_n 0, 1) := dk_42 (dk_at dksX3_writesLeaf_0 16 rfl rfl)
theorem dX3_writesLeaf_17 : decode cX3_writesLeaf 17 = .ok (.iload_n 1, 1) := dk_27 (dk_at dksX3_writesLeaf_0 17 rfl rfl)
theorem dX3_writesLeaf_18 : decode cX3_writesLeaf 18 = .ok (.invokevirtual 162, 3) := dk_182 0 162 (dk_at dksX3_writesLeaf_0 18 rfl rfl)
theorem dX3_writesLeaf_21 : decode cX3_writesLeaf 21 = .ok (.iconst 1, 1) := dk_4 (dk_at dksX3_writesLeaf_0 21 rfl rfl)
theorem dX3_writesLeaf_22 : decode cX3_writesLeaf 22 = .ok (.if_icmp .ne 22, 3) := dk_160 0 22 (dk_at dksX3_writesLeaf_1 0 rfl rfl)
theorem dX3_writesLeaf_25 : decode cX3_writesLeaf 25 = .ok (.aload_n 0, 1) := dk_42 (dk_at dksX3_writesLeaf_1 3 rfl rfl)
theorem dX3_writesLeaf_26 : decode cX3_writesLeaf 26 = .ok (.bipush 99, 2) := dk_16 99 (dk_at dksX3_writesLeaf_1 4 rfl rfl)
theorem dX3_writesLeaf_28 : decode cX3_writesLeaf 28 = .ok (.invokevirtual 291, 3) := dk_182 1 35 (dk_at dksX3_writesLeaf_1 6 rfl rfl)
theorem dX3_writesLeaf_31 : decode cX3_writesLeaf 31 = .ok (.aload_n 0, 1) := dk_42 (dk_at dksX3_writesLeaf_1 9 rfl rfl)
theorem dX3_writesLeaf_32 : decode cX3_writesLeaf 32 = .ok (.bipush 48, 2) := dk_16 48 (dk_at dksX3_writesLeaf_1 10 rfl rfl)
theorem dX3_writesLeaf_34 : decode cX3_writesLeaf 34 = .ok (.aload_n 0, 1) := dk_42 (dk_at dksX3_writesLeaf_1 12 rfl rfl)
theorem dX3_writesLeaf_35 : decode cX3_writesLeaf 35 = .ok (.iload_n 1, 1) := dk_27 (dk_at dksX3_writesLeaf_1 13 rfl rfl)
theorem dX3_writesLeaf_36 : decode cX3_writesLeaf 36 = .ok (.iconst 1, 1) := dk_4 (dk_at dksX3_writesLeaf_1 14 rfl rfl)
theorem dX3_writesLeaf_37 : decode cX3_writesLeaf 37 = .ok (.invokevirtual 133, 3) := dk_182 0 133 (dk_at dksX3_writesLeaf_1 15 rfl rfl)
theorem dX3_writesLeaf_40 : decode cX3_writesLeaf 40 = .ok (.iadd, 1) := dk_96 (dk_at dksX3_writesLeaf_1 18 rfl rfl)
theorem dX3_writesLeaf_41 : decode cX3_writesLeaf 41 = .ok (.invokevirtual 291, 3) := dk_182 1 35 (dk_at dksX3_writesLeaf_1 19 rfl rfl)
theorem dX3_writesLeaf_44 : decode cX3_writesLeaf 44 = .ok (.iconst 0, 1) := dk_3 (dk_at dksX3_writesLeaf_1 22 rfl rfl)
theorem dX3_writesLeaf_45 : decode cX3_writesLeaf 45 = .ok (.istore_n 2, 1) := dk_61 (dk_at dksX3_writesLeaf_1 23 rfl rfl)
theorem dX3_writesLeaf_46 : decode cX3_writesLeaf 46 = .ok (.iload_n 2, 1) := dk_28 (dk_at dksX3_writesLeaf_2 0 rfl rfl)
theorem dX3_writesLeaf_47 : decode cX3_writesLeaf 47 = .ok (.aload_n 0, 1) := dk_42 (dk_at dksX3_writesLeaf_2 1 rfl rfl)
theorem dX3_writesLeaf_48 : decode cX3_writesLeaf 48 = .ok (.iload_n 1, 1) := dk_27 (dk_at dksX3_writesLeaf_2 2 rfl rfl)
theorem dX3_writesLeaf_49 : decode cX3_writesLeaf 49 = .ok (.iconst 4, 1) := dk_7 (dk_at dksX3_writesLeaf_2 3 rfl rfl)
theorem dX3_writesLeaf_50 : decode cX3_writesLeaf 50 = .ok (.invokevirtual 133, 3) := dk_182 0 133 (dk_at dksX3_writesLeaf_2 4 rfl rfl)
theorem dX3_writesLeaf_53 : decode cX3_writesLeaf 53 = .ok (.if_icmp .ge 28, 3) := dk_162 0 28 (dk_at dksX3_writesLeaf_2 7 rfl rfl)
theorem dX3_writesLeaf_56 : decode cX3_writesLeaf 56 = .ok (.aload_n 0, 1) := dk_42 (dk_at dksX3_writesLeaf_2 10 rfl rfl)
theorem dX3_writesLeaf_57 : decode cX3_writesLeaf 57 = .ok (.bipush 65, 2) := dk_16 65 (dk_at dksX3_writesLeaf_2 11 rfl rfl)
theorem dX3_writesLeaf_59 : decode cX3_writesLeaf 59 = .ok (.aload_n 0, 1) := dk_42 (dk_at dksX3_writesLeaf_2 13 rfl rfl)
theorem dX3_writesLeaf_60 : decode cX3_writesLeaf 60 = .ok (.aload_n 0, 1) := dk_42 (dk_at dksX3_writesLeaf_2 14 rfl rfl)
theorem dX3_writesLeaf_61 : decode cX3_writesLeaf 61 = .ok (.iload_n 1, 1) := dk_27 (dk_at dksX3_writesLeaf_2 15 rfl rfl)
theorem dX3_writesLeaf_62 : decode cX3_writesLeaf 62 = .ok (.iconst 3, 1) := dk_6 (dk_at dksX3_writesLeaf_2 16 rfl rfl)
theorem dX3_writesLeaf_63 : decode cX3_writesLeaf 63 = .ok (.invokevirtual 133, 3) := dk_182 0 133 (dk_at dksX3_writesLeaf_2 17 rfl rfl)
theorem dX3_writesLeaf_66 : decode cX3_writesLeaf 66 = .ok (.iload_n 2, 1) := dk_28 (dk_at dksX3_writesLeaf_2 20 rfl rfl)
theorem dX3_writesLeaf_67 : decode cX3_writesLeaf 67 = .ok (.iadd, 1) := dk_96 (dk_at dksX3_writesLeaf_2 21 rfl rfl)
theorem dX3_writesLeaf_68 : decode cX3_writesLeaf 68 = .ok (.invokevirtual 165, 3) := dk_182 0 165 (dk_at dksX3_writesLeaf_3 0 rfl rfl)
theorem dX3_writesLeaf_71 : decode cX3_writesLeaf 71 = .ok (.iadd, 1) := dk_96 (dk_at dksX3_writesLeaf_3 3 rfl rfl)
theorem dX3_writesLeaf_72 : decode cX3_writesLeaf 72 = .ok (.invokevirtual 291, 3) := dk_182 1 35 (dk_at dksX3_writesLeaf_3 4 rfl rfl)
theorem dX3_writesLeaf_75 : decode cX3_writesLeaf 75 = .ok (.iinc 2 1, 3) := dk_132 2 1 (dk_at dksX3_writesLeaf_3 7 rfl rfl)
theorem dX3_writesLeaf_78 : decode cX3_writesLeaf 78 = .ok (.goto (-32), 3) := dk_167 255 224 (dk_at dksX3_writesLeaf_3 10 rfl rfl)
theorem dX3_writesLeaf_81 : decode cX3_writesLeaf 81 = .ok (.aload_n 0, 1) := dk_42 (dk_at dksX3_writesLeaf_3 13 rfl rfl)
theorem dX3_writesLeaf_82 : decode cX3_writesLeaf 82 = .ok (.bipush 58, 2) := dk_16 58 (dk_at dksX3_writesLeaf_3 14 rfl rfl)
theorem dX3_writesLeaf_84 : decode cX3_writesLeaf 84 = .ok (.invokevirtual 291, 3) := dk_182 1 35 (dk_at dksX3_writesLeaf_3 16 rfl rfl)
theorem dX3_writesLeaf_87 : decode cX3_writesLeaf 87 = .ok (.iconst 0, 1) := dk_3 (dk_at dksX3_writesLeaf_3 19 rfl rfl)
theorem dX3_writesLeaf_88 : decode cX3_writesLeaf 88 = .ok (.istore_n 2, 1) := dk_61 (dk_at dksX3_writesLeaf_3 20 rfl rfl)
theorem dX3_writesLeaf_89 : decode cX3_writesLeaf 89 = .ok (.iload_n 2, 1) := dk_28 (dk_at dksX3_writesLeaf_3 21 rfl rfl)
theorem dX3_writesLeaf_90 : decode cX3_writesLeaf 90 = .ok (.aload_n 0, 1) := dk_42 (dk_at dksX3_writesLeaf_3 22 rfl rfl)
theorem dX3_writesLeaf_91 : decode cX3_writesLeaf 91 = .ok (.iload_n 1, 1) := dk_27 (dk_at dksX3_writesLeaf_3 23 rfl rfl)
theorem dX3_writesLeaf_92 : decode cX3_writesLeaf 92 = .ok (.iconst 5, 1) := dk_8 (dk_at dksX3_writesLeaf_4 0 rfl rfl)
theorem dX3_writesLeaf_93 : decode cX3_writesLeaf 93 = .ok (.invokevirtual 133, 3) := dk_182 0 133 (dk_at dksX3_writesLeaf_4 1 rfl rfl)
theorem dX3_writesLeaf_96 : decode cX3_writesLeaf 96 = .ok (.if_icmp .ge 35, 3) := dk_162 0 35 (dk_at dksX3_writesLeaf_4 4 rfl rfl)
theorem dX3_writesLeaf_99 : decode cX3_writesLeaf 99 = .ok (.aload_n 0, 1) := dk_42 (dk_at dksX3_writesLeaf_4 7 rfl rfl)
theorem dX3_writesLeaf_100 : decode cX3_writesLeaf 100 = .ok (.aload_n 0, 1) := dk_42 (dk_at dksX3_writesLeaf_4 8 rfl rfl)
theorem dX3_writesLeaf_101 : decode cX3_writesLeaf 101 = .ok (.aload_n 0, 1) := dk_42 (dk_at dksX3_writesLeaf_4 9 rfl rfl)
theorem dX3_writesLeaf_102 : decode cX3_writesLeaf 102 = .ok (.iload_n 1, 1) := dk_27 (dk_at dksX3_writesLeaf_4 10 rfl rfl)
theorem dX3_writesLeaf_103 : decode cX3_writesLeaf 103 = .ok (.iconst 3, 1) := dk_6 (dk_at dksX3_writesLeaf_4 11 rfl rfl)
theorem dX3_writesLeaf_104 : decode cX3_writesLeaf 104 = .ok (.invokevirtual 133, 3) := dk_182 0 133 (dk_at dksX3_writesLeaf_4 12 rfl rfl)
theorem dX3_writesLeaf_107 : decode cX3_writesLeaf 107 = .ok (.aload_n 0, 1) := dk_42 (dk_at dksX3_writesLeaf_4 15 rfl rfl)
theorem dX3_writesLeaf_108 : decode cX3_writesLeaf 108 = .ok (.iload_n 1, 1) := dk_27 (dk_at dksX3_writesLeaf_4 16 rfl rfl)
theorem dX3_writesLeaf_109 : decode cX3_writesLeaf 109 = .ok (.iconst 4, 1) := dk_7 (dk_at dksX3_writesLeaf_4 17 rfl rfl)
theorem dX3_writesLeaf_110 : decode cX3_writesLeaf 110 = .ok (.invokevirtual 133, 3) := dk_182 0 133 (dk_at dksX3_writesLeaf_4 18 rfl rfl)
theorem dX3_writesLeaf_113 : decode cX3_writesLeaf 113 = .ok (.iadd, 1) := dk_96 (dk_at dksX3_writesLeaf_4 21 rfl rfl)
theorem dX3_writesLeaf_114 : decode cX3_writesLeaf 114 = .ok (.iload_n 2, 1) := dk_28 (dk_at dksX3_writesLeaf_4 22 rfl rfl)
theorem dX3_writesLeaf_115 : decode cX3_writesLeaf 115 = .ok (.iadd, 1) := dk_96 (dk_at dksX3_writesLeaf_4 23 rfl rfl)
theorem dX3_writesLeaf_116 : decode cX3_writesLeaf 116 = .ok (.invokevirtual 165, 3) := dk_182 0 165 (dk_at dksX3_writesLeaf_5 0 rfl rfl)
theorem dX3_writesLeaf_119 : decode cX3_writesLeaf 119 = .ok (.invokestatic 294, 3) := dk_184 1 38 (dk_at dksX3_writesLeaf_5 3 rfl rfl)
theorem dX3_writesLeaf_122 : decode cX3_writesLeaf 122 = .ok (.invokevirtual 291, 3) := dk_182 1 35 (dk_at dksX3_writesLeaf_5 6 rfl rfl)
theorem dX3_writesLeaf_125 : decode cX3_writesLeaf 125 = .ok (.iinc 2 1, 3) := dk_132 2 1 (dk_at dksX3_writesLeaf_5 9 rfl rfl)
theorem dX3_writesLeaf_128 : decode cX3_writesLeaf 128 = .ok (.goto (-39), 3) := dk_167 255 217 (dk_at dksX3_writesLeaf_5 12 rfl rfl)
theorem dX3_writesLeaf_131 : decode cX3_writesLeaf 131 = .ok (.return_, 1) := dk_177 (dk_at dksX3_writesLeaf_5 15 rfl rfl)
abbrev cX3_signOf : ByteArray := prog_24_method_54_code
def yX3_signOf : MethodName := ⟨RX3, "signOf", "(I)C"⟩
def dkwX3_signOf_2 : List UInt8 := [16, 110, 172, 16, 115, 172, 16, 101, 172, 16, 119, 172, 16, 46, 172]
abbrev dktX3_signOf_2 : List UInt8 := dkwX3_signOf_2 ++ []
def dkwX3_signOf_1 : List UInt8 := [170, 0, 0, 0, 0, 0, 43, 0, 0, 0, 1, 0, 0, 0, 4, 0, 0, 0, 31, 0, 0, 0, 34, 0, 0, 0, 37, 0, 0, 0, 40]
abbrev dktX3_signOf_1 : List UInt8 := dkwX3_signOf_1 ++ dktX3_signOf_2
def dkwX3_signOf_0 : List UInt8 := [26]
abbrev dktX3_signOf_0 : List UInt8 := dkwX3_signOf_0 ++ dktX3_signOf_1
theorem dksX3_signOf_0 : cX3_signOf.data.toList.drop 0 = dktX3_signOf_0 := by decide +kernel
theorem dksX3_signOf_1 : cX3_signOf.data.toList.drop 1 = dktX3_signOf_1 := dk_seg dksX3_signOf_0 1 rfl rfl
theorem dksX3_signOf_2 : cX3_signOf.data.toList.drop 32 = dktX3_signOf_2 := dk_seg dksX3_signOf_1 31 rfl rfl
theorem dX3_signOf_0 : decode cX3_signOf 0 = .ok (.iload_n 0, 1) := dk_26 (dk_at dksX3_signOf_0 0 rfl rfl)
theorem dX3_signOf_1 : decode cX3_signOf 1 = .ok (.tableswitch 43 1 4 #[31, 34, 37, 40], 31) := by decide +kernel
theorem dX3_signOf_32 : decode cX3_signOf 32 = .ok (.bipush 110, 2) := dk_16 110 (dk_at dksX3_signOf_2 0 rfl rfl)
theorem dX3_signOf_34 : decode cX3_signOf 34 = .ok (.ireturn, 1) := dk_172 (dk_at dksX3_signOf_2 2 rfl rfl)
theorem dX3_signOf_35 : decode cX3_signOf 35 = .ok (.bipush 115, 2) := dk_16 115 (dk_at dksX3_signOf_2 3 rfl rfl)
theorem dX3_signOf_37 : decode cX3_signOf 37 = .ok (.ireturn, 1) := dk_172 (dk_at dksX3_signOf_2 5 rfl rfl)
theorem dX3_signOf_38 : decode cX3_signOf 38 = .ok (.bipush 101, 2) := dk_16 101 (dk_at dksX3_signOf_2 6 rfl rfl)
theorem dX3_signOf_40 : decode cX3_signOf 40 = .ok (.ireturn, 1) := dk_172 (dk_at dksX3_signOf_2 8 rfl rfl)
theorem dX3_signOf_41 : decode cX3_signOf 41 = .ok (.bipush 119, 2) := dk_16 119 (dk_at dksX3_signOf_2 9 rfl rfl)
theorem dX3_signOf_43 : decode cX3_signOf 43 = .ok (.ireturn, 1) := dk_172 (dk_at dksX3_signOf_2 11 rfl rfl)
theorem dX3_signOf_44 : decode cX3_signOf 44 = .ok (.bipush 46, 2) := dk_16 46 (dk_at dksX3_signOf_2 12 rfl rfl)
theorem dX3_signOf_46 : decode cX3_signOf 46 = .ok (.ireturn, 1) := dk_172 (dk_at dksX3_signOf_2 14 rfl rfl)
abbrev cX3_writesEnds : ByteArray := prog_24_method_58_code
def yX3_writesEnds : MethodName := ⟨RX3, "writesEnds", "()V"⟩
def dkwX3_writesEnds_4 : List UInt8 := [182, 1, 35, 167, 255, 159, 177]
abbrev dktX3_writesEnds_4 : List UInt8 := dkwX3_writesEnds_4 ++ []
def dkwX3_writesEnds_3 : List UInt8 := [160, 0, 9, 42, 16, 41, 182, 1, 35, 42, 180, 0, 66, 42, 180, 0, 174, 51, 153, 255, 168, 42, 16, 41]
abbrev dktX3_writesEnds_3 : List UInt8 := dkwX3_writesEnds_3 ++ dktX3_writesEnds_4
def dkwX3_writesEnds_2 : List UInt8 := [42, 180, 0, 42, 42, 180, 0, 174, 46, 7, 159, 0, 16, 42, 180, 0, 42, 42, 180, 0, 174, 46, 8]
abbrev dktX3_writesEnds_2 : List UInt8 := dkwX3_writesEnds_2 ++ dktX3_writesEnds_3
def dkwX3_writesEnds_1 : List UInt8 := [180, 0, 48, 42, 180, 0, 174, 4, 100, 46, 158, 0, 4, 177, 42, 89, 180, 0, 174, 4, 100, 181, 0, 174]
abbrev dktX3_writesEnds_1 : List UInt8 := dkwX3_writesEnds_1 ++ dktX3_writesEnds_2
def dkwX3_writesEnds_0 : List UInt8 := [42, 180, 0, 174, 158, 0, 96, 42, 180, 0, 48, 42, 180, 0, 174, 4, 100, 92, 46, 4, 100, 79, 42]
abbrev dktX3_writesEnds_0 : List UInt8 := dkwX3_writesEnds_0 ++ dktX3_writesEnds_1
theorem dksX3_writesEnds_0 : cX3_writesEnds.data.toList.drop 0 = dktX3_writesEnds_0 := by decide +kernel
theorem dksX3_writesEnds_1 : cX3_writesEnds.data.toList.drop 23 = dktX3_writesEnds_1 := dk_seg dksX3_writesEnds_0 23 rfl rfl
theorem dksX3_writesEnds_2 : cX3_writesEnds.data.toList.drop 47 = dktX3_writesEnds_2 := dk_seg dksX3_writesEnds_1 24 rfl rfl
theorem dksX3_writesEnds_3 : cX3_writesEnds.data.toList.drop 70 = dktX3_writesEnds_3 := dk_seg dksX3_writesEnds_2 23 rfl rfl
theorem dksX3_writesEnds_4 : cX3_writesEnds.data.toList.drop 94 = dktX3_writesEnds_4 := dk_seg dksX3_writesEnds_3 24 rfl rfl
theorem dX3_writesEnds_0 : decode cX3_writesEnds 0 = .ok (.aload_n 0, 1) := dk_42 (dk_at dksX3_writesEnds_0 0 rfl rfl)
theorem dX3_writesEnds_1 : decode cX3_writesEnds 1 = .ok (.getfield 174, 3) := dk_180 0 174 (dk_at dksX3_writesEnds_0 1 rfl rfl)
theorem dX3_writesEnds_4 : decode cX3_writesEnds 4 = .ok (.ifCond .le 96, 3) := dk_158 0 96 (dk_at dksX3_writesEnds_0 4 rfl rfl)
theorem dX3_writesEnds_7 : decode cX3_writesEnds 7 = .ok (.aload_n 0, 1) := dk_42 (dk_at dksX3_writesEnds_0 7 rfl rfl)
theorem dX3_writesEnds_8 : decode cX3_writesEnds 8 = .ok (.getfield 48, 3) := dk_180 0 48 (dk_at dksX3_writesEnds_0 8 rfl rfl)
theorem dX3_writesEnds_11 : decode cX3_writesEnds 11 = .ok (.aload_n 0, 1) := dk_42 (dk_at dksX3_writesEnds_0 11 rfl rfl)
theorem dX3_writesEnds_12 : decode cX3_writesEnds 12 = .ok (.getfield 174, 3) := dk_180 0 174 (dk_at dksX3_writesEnds_0 12 rfl rfl)
theorem dX3_writesEnds_15 : decode cX3_writesEnds 15 = .ok (.iconst 1, 1) := dk_4 (dk_at dksX3_writesEnds_0 15 rfl rfl)
theorem dX3_writesEnds_16 : decode cX3_writesEnds 16 = .ok (.isub, 1) := dk_100 (dk_at dksX3_writesEnds_0 16 rfl rfl)
theorem dX3_writesEnds_17 : decode cX3_writesEnds 17 = .ok (.dup2, 1) := dk_92 (dk_at dksX3_writesEnds_0 17 rfl rfl)
theorem dX3_writesEnds_18 : decode cX3_writesEnds 18 = .ok (.iaload, 1) := dk_46 (dk_at dksX3_writesEnds_0 18 rfl rfl)
theorem dX3_writesEnds_19 : decode cX3_writesEnds 19 = .ok (.iconst 1, 1) := dk_4 (dk_at dksX3_writesEnds_0 19 rfl rfl)
theorem dX3_writesEnds_20 : decode cX3_writesEnds 20 = .ok (.isub, 1) := dk_100 (dk_at dksX3_writesEnds_0 20 rfl rfl)
theorem dX3_writesEnds_21 : decode cX3_writesEnds 21 = .ok (.iastore, 1) := dk_79 (dk_at dksX3_writesEnds_0 21 rfl rfl)
theorem dX3_writesEnds_22 : decode cX3_writesEnds 22 = .ok (.aload_n 0, 1) := dk_42 (dk_at dksX3_writesEnds_0 22 rfl rfl)
theorem dX3_writesEnds_23 : decode cX3_writesEnds 23 = .ok (.getfield 48, 3) := dk_180 0 48 (dk_at dksX3_writesEnds_1 0 rfl rfl)
theorem dX3_writesEnds_26 : decode cX3_writesEnds 26 = .ok (.aload_n 0, 1) := dk_42 (dk_at dksX3_writesEnds_1 3 rfl rfl)
theorem dX3_writesEnds_27 : decode cX3_writesEnds 27 = .ok (.getfield 174, 3) := dk_180 0 174 (dk_at dksX3_writesEnds_1 4 rfl rfl)
theorem dX3_writesEnds_30 : decode cX3_writesEnds 30 = .ok (.iconst 1, 1) := dk_4 (dk_at dksX3_writesEnds_1 7 rfl rfl)
theorem dX3_writesEnds_31 : decode cX3_writesEnds 31 = .ok (.isub, 1) := dk_100 (dk_at dksX3_writesEnds_1 8 rfl rfl)
theorem dX3_writesEnds_32 : decode cX3_writesEnds 32 = .ok (.iaload, 1) := dk_46 (dk_at dksX3_writesEnds_1 9 rfl rfl)
theorem dX3_writesEnds_33 : decode cX3_writesEnds 33 = .ok (.ifCond .le 4, 3) := dk_158 0 4 (dk_at dksX3_writesEnds_1 10 rfl rfl)
theorem dX3_writesEnds_36 : decode cX3_writesEnds 36 = .ok (.return_, 1) := dk_177 (dk_at dksX3_writesEnds_1 13 rfl rfl)
theorem dX3_writesEnds_37 : decode cX3_writesEnds 37 = .ok (.aload_n 0, 1) := dk_42 (dk_at dksX3_writesEnds_1 14 rfl rfl)
theorem dX3_writesEnds_38 : decode cX3_writesEnds 38 = .ok (.dup, 1) := dk_89 (dk_at dksX3_writesEnds_1 15 rfl rfl)
theorem dX3_writesEnds_39 : decode cX3_writesEnds 39 = .ok (.getfield 174, 3) := dk_180 0 174 (dk_at dksX3_writesEnds_1 16 rfl rfl)
theorem dX3_writesEnds_42 : decode cX3_writesEnds 42 = .ok (.iconst 1, 1) := dk_4 (dk_at dksX3_writesEnds_1 19 rfl rfl)
theorem dX3_writesEnds_43 : decode cX3_writesEnds 43 = .ok (.isub, 1) := dk_100 (dk_at dksX3_writesEnds_1 20 rfl rfl)
theorem dX3_writesEnds_44 : decode cX3_writesEnds 44 = .ok (.putfield 174, 3) := dk_181 0 174 (dk_at dksX3_writesEnds_1 21 rfl rfl)
theorem dX3_writesEnds_47 : decode cX3_writesEnds 47 = .ok (.aload_n 0, 1) := dk_42 (dk_at dksX3_writesEnds_2 0 rfl rfl)
theorem dX3_writesEnds_48 : decode cX3_writesEnds 48 = .ok (.getfield 42, 3) := dk_180 0 42 (dk_at dksX3_writesEnds_2 1 rfl rfl)
theorem dX3_writesEnds_51 : decode cX3_writesEnds 51 = .ok (.aload_n 0, 1) := dk_42 (dk_at dksX3_writesEnds_2 4 rfl rfl)
theorem dX3_writesEnds_52 : decode cX3_writesEnds 52 = .ok (.getfield 174, 3) := dk_180 0 174 (dk_at dksX3_writesEnds_2 5 rfl rfl)
theorem dX3_writesEnds_55 : decode cX3_writesEnds 55 = .ok (.iaload, 1) := dk_46 (dk_at dksX3_writesEnds_2 8 rfl rfl)
theorem dX3_writesEnds_56 : decode cX3_writesEnds 56 = .ok (.iconst 4, 1) := dk_7 (dk_at dksX3_writesEnds_2 9 rfl rfl)
theorem dX3_writesEnds_57 : decode cX3_writesEnds 57 = .ok (.if_icmp .eq 16, 3) := dk_159 0 16 (dk_at dksX3_writesEnds_2 10 rfl rfl)
theorem dX3_writesEnds_60 : decode cX3_writesEnds 60 = .ok (.aload_n 0, 1) := dk_42 (dk_at dksX3_writesEnds_2 13 rfl rfl)
theorem dX3_writesEnds_61 : decode cX3_writesEnds 61 = .ok (.getfield 42, 3) := dk_180 0 42 (dk_at dksX3_writesEnds_2 14 rfl rfl)
theorem dX3_writesEnds_64 : decode cX3_writesEnds 64 = .ok (.aload_n 0, 1) := dk_42 (dk_at dksX3_writesEnds_2 17 rfl rfl)
theorem dX3_writesEnds_65 : decode cX3_writesEnds 65 = .ok (.getfield 174, 3) := dk_180 0 174 (dk_at dksX3_writesEnds_2 18 rfl rfl)
theorem dX3_writesEnds_68 : decode cX3_writesEnds 68 = .ok (.iaload, 1) := dk_46 (dk_at dksX3_writesEnds_2 21 rfl rfl)
theorem dX3_writesEnds_69 : decode cX3_writesEnds 69 = .ok (.iconst 5, 1) := dk_8 (dk_at dksX3_writesEnds_2 22 rfl rfl)
theorem dX3_writesEnds_70 : decode cX3_writesEnds 70 = .ok (.if_icmp .ne 9, 3) := dk_160 0 9 (dk_at dksX3_writesEnds_3 0 rfl rfl)
theorem dX3_writesEnds_73 : decode cX3_writesEnds 73 = .ok (.aload_n 0, 1) := dk_42 (dk_at dksX3_writesEnds_3 3 rfl rfl)
theorem dX3_writesEnds_74 : decode cX3_writesEnds 74 = .ok (.bipush 41, 2) := dk_16 41 (dk_at dksX3_writesEnds_3 4 rfl rfl)
theorem dX3_writesEnds_76 : decode cX3_writesEnds 76 = .ok (.invokevirtual 291, 3) := dk_182 1 35 (dk_at dksX3_writesEnds_3 6 rfl rfl)
theorem dX3_writesEnds_79 : decode cX3_writesEnds 79 = .ok (.aload_n 0, 1) := dk_42 (dk_at dksX3_writesEnds_3 9 rfl rfl)
theorem dX3_writesEnds_80 : decode cX3_writesEnds 80 = .ok (.getfield 66, 3) := dk_180 0 66 (dk_at dksX3_writesEnds_3 10 rfl rfl)
theorem dX3_writesEnds_83 : decode cX3_writesEnds 83 = .ok (.aload_n 0, 1) := dk_42 (dk_at dksX3_writesEnds_3 13 rfl rfl)
theorem dX3_writesEnds_84 : decode cX3_writesEnds 84 = .ok (.getfield 174, 3) := dk_180 0 174 (dk_at dksX3_writesEnds_3 14 rfl rfl)
theorem dX3_writesEnds_87 : decode cX3_writesEnds 87 = .ok (.baload, 1) := dk_51 (dk_at dksX3_writesEnds_3 17 rfl rfl)
theorem dX3_writesEnds_88 : decode cX3_writesEnds 88 = .ok (.ifCond .eq (-88), 3) := dk_153 255 168 (dk_at dksX3_writesEnds_3 18 rfl rfl)
theorem dX3_writesEnds_91 : decode cX3_writesEnds 91 = .ok (.aload_n 0, 1) := dk_42 (dk_at dksX3_writesEnds_3 21 rfl rfl)
theorem dX3_writesEnds_92 : decode cX3_writesEnds 92 = .ok (.bipush 41, 2) := dk_16 41 (dk_at dksX3_writesEnds_3 22 rfl rfl)
theorem dX3_writesEnds_94 : decode cX3_writesEnds 94 = .ok (.invokevirtual 291, 3) := dk_182 1 35 (dk_at dksX3_writesEnds_4 0 rfl rfl)
theorem dX3_writesEnds_97 : decode cX3_writesEnds 97 = .ok (.goto (-97), 3) := dk_167 255 159 (dk_at dksX3_writesEnds_4 3 rfl rfl)
theorem dX3_writesEnds_100 : decode cX3_writesEnds 100 = .ok (.return_, 1) := dk_177 (dk_at dksX3_writesEnds_4 6 rfl rfl)
abbrev cX3_output : ByteArray := prog_24_method_60_code
def yX3_output : MethodName := ⟨RX3, "output", "(I)C"⟩
def dkwX3_output_1 : List UInt8 := [180, 0, 111, 154, 0, 13, 42, 180, 0, 33, 27, 46, 146, 167, 0, 4, 3, 172]
abbrev dktX3_output_1 : List UInt8 := dkwX3_output_1 ++ []
def dkwX3_output_0 : List UInt8 := [42, 27, 3, 42, 180, 1, 32, 4, 100, 184, 0, 121, 153, 0, 7, 3, 167, 0, 4, 4, 181, 0, 111, 42]
abbrev dktX3_output_0 : List UInt8 := dkwX3_output_0 ++ dktX3_output_1
theorem dksX3_output_0 : cX3_output.data.toList.drop 0 = dktX3_output_0 := by decide +kernel
theorem dksX3_output_1 : cX3_output.data.toList.drop 24 = dktX3_output_1 := dk_seg dksX3_output_0 24 rfl rfl
theorem dX3_output_0 : decode cX3_output 0 = .ok (.aload_n 0, 1) := dk_42 (dk_at dksX3_output_0 0 rfl rfl)
theorem dX3_output_1 : decode cX3_output 1 = .ok (.iload_n 1, 1) := dk_27 (dk_at dksX3_output_0 1 rfl rfl)
theorem dX3_output_2 : decode cX3_output 2 = .ok (.iconst 0, 1) := dk_3 (dk_at dksX3_output_0 2 rfl rfl)
theorem dX3_output_3 : decode cX3_output 3 = .ok (.aload_n 0, 1) := dk_42 (dk_at dksX3_output_0 3 rfl rfl)
theorem dX3_output_4 : decode cX3_output 4 = .ok (.getfield 288, 3) := dk_180 1 32 (dk_at dksX3_output_0 4 rfl rfl)
theorem dX3_output_7 : decode cX3_output 7 = .ok (.iconst 1, 1) := dk_4 (dk_at dksX3_output_0 7 rfl rfl)
theorem dX3_output_8 : decode cX3_output 8 = .ok (.isub, 1) := dk_100 (dk_at dksX3_output_0 8 rfl rfl)
theorem dX3_output_9 : decode cX3_output 9 = .ok (.invokestatic 121, 3) := dk_184 0 121 (dk_at dksX3_output_0 9 rfl rfl)
theorem dX3_output_12 : decode cX3_output 12 = .ok (.ifCond .eq 7, 3) := dk_153 0 7 (dk_at dksX3_output_0 12 rfl rfl)
theorem dX3_output_15 : decode cX3_output 15 = .ok (.iconst 0, 1) := dk_3 (dk_at dksX3_output_0 15 rfl rfl)
theorem dX3_output_16 : decode cX3_output 16 = .ok (.goto 4, 3) := dk_167 0 4 (dk_at dksX3_output_0 16 rfl rfl)
theorem dX3_output_19 : decode cX3_output 19 = .ok (.iconst 1, 1) := dk_4 (dk_at dksX3_output_0 19 rfl rfl)
theorem dX3_output_20 : decode cX3_output 20 = .ok (.putfield 111, 3) := dk_181 0 111 (dk_at dksX3_output_0 20 rfl rfl)
theorem dX3_output_23 : decode cX3_output 23 = .ok (.aload_n 0, 1) := dk_42 (dk_at dksX3_output_0 23 rfl rfl)
theorem dX3_output_24 : decode cX3_output 24 = .ok (.getfield 111, 3) := dk_180 0 111 (dk_at dksX3_output_1 0 rfl rfl)
theorem dX3_output_27 : decode cX3_output 27 = .ok (.ifCond .ne 13, 3) := dk_154 0 13 (dk_at dksX3_output_1 3 rfl rfl)
theorem dX3_output_30 : decode cX3_output 30 = .ok (.aload_n 0, 1) := dk_42 (dk_at dksX3_output_1 6 rfl rfl)
theorem dX3_output_31 : decode cX3_output 31 = .ok (.getfield 33, 3) := dk_180 0 33 (dk_at dksX3_output_1 7 rfl rfl)
theorem dX3_output_34 : decode cX3_output 34 = .ok (.iload_n 1, 1) := dk_27 (dk_at dksX3_output_1 10 rfl rfl)
theorem dX3_output_35 : decode cX3_output 35 = .ok (.iaload, 1) := dk_46 (dk_at dksX3_output_1 11 rfl rfl)
theorem dX3_output_36 : decode cX3_output 36 = .ok (.i2c, 1) := dk_146 (dk_at dksX3_output_1 12 rfl rfl)
theorem dX3_output_37 : decode cX3_output 37 = .ok (.goto 4, 3) := dk_167 0 4 (dk_at dksX3_output_1 13 rfl rfl)
theorem dX3_output_40 : decode cX3_output 40 = .ok (.iconst 0, 1) := dk_3 (dk_at dksX3_output_1 16 rfl rfl)
theorem dX3_output_41 : decode cX3_output 41 = .ok (.ireturn, 1) := dk_172 (dk_at dksX3_output_1 17 rfl rfl)
abbrev cX3_mirror : ByteArray := prog_24_method_62_code
def yX3_mirror : MethodName := ⟨RX3, "mirror", "()I"⟩
def dkwX3_mirror_0 : List UInt8 := [42, 7, 182, 1, 64, 172]
abbrev dktX3_mirror_0 : List UInt8 := dkwX3_mirror_0 ++ []
theorem dksX3_mirror_0 : cX3_mirror.data.toList.drop 0 = dktX3_mirror_0 := by decide +kernel
theorem dX3_mirror_0 : decode cX3_mirror 0 = .ok (.aload_n 0, 1) := dk_42 (dk_at dksX3_mirror_0 0 rfl rfl)
theorem dX3_mirror_1 : decode cX3_mirror 1 = .ok (.iconst 4, 1) := dk_7 (dk_at dksX3_mirror_0 1 rfl rfl)
theorem dX3_mirror_2 : decode cX3_mirror 2 = .ok (.invokevirtual 320, 3) := dk_182 1 64 (dk_at dksX3_mirror_0 2 rfl rfl)
theorem dX3_mirror_5 : decode cX3_mirror 5 = .ok (.ireturn, 1) := dk_172 (dk_at dksX3_mirror_0 5 rfl rfl)
abbrev cX3_turned : ByteArray := prog_24_method_61_code
def yX3_turned : MethodName := ⟨RX3, "turned", "(I)I"⟩
def dkwX3_turned_3 : List UInt8 := [167, 0, 10, 42, 27, 3, 4, 182, 1, 61, 42, 182, 0, 211, 42, 180, 0, 7, 16, 43, 46, 172]
abbrev dktX3_turned_3 : List UInt8 := dkwX3_turned_3 ++ []
def dkwX3_turned_2 : List UInt8 := [164, 0, 11, 42, 16, 7, 4, 182, 0, 202, 172, 42, 182, 0, 208, 28, 153, 0, 10, 42, 182, 1, 58]
abbrev dktX3_turned_2 : List UInt8 := dkwX3_turned_2 ++ dktX3_turned_3
def dkwX3_turned_1 : List UInt8 := [61, 28, 153, 0, 12, 42, 180, 0, 147, 4, 100, 167, 0, 9, 42, 180, 0, 147, 4, 96, 16, 20]
abbrev dktX3_turned_1 : List UInt8 := dkwX3_turned_1 ++ dktX3_turned_2
def dkwX3_turned_0 : List UInt8 := [42, 4, 182, 1, 49, 153, 0, 5, 3, 172, 42, 3, 182, 0, 162, 27, 160, 0, 7, 4, 167, 0, 4, 3]
abbrev dktX3_turned_0 : List UInt8 := dkwX3_turned_0 ++ dktX3_turned_1
theorem dksX3_turned_0 : cX3_turned.data.toList.drop 0 = dktX3_turned_0 := by decide +kernel
theorem dksX3_turned_1 : cX3_turned.data.toList.drop 24 = dktX3_turned_1 := dk_seg dksX3_turned_0 24 rfl rfl
theorem dksX3_turned_2 : cX3_turned.data.toList.drop 46 = dktX3_turned_2 := dk_seg dksX3_turned_1 22 rfl rfl
theorem dksX3_turned_3 : cX3_turned.data.toList.drop 69 = dktX3_turned_3 := dk_seg dksX3_turned_2 23 rfl rfl
theorem dX3_turned_0 : decode cX3_turned 0 = .ok (.aload_n 0, 1) := dk_42 (dk_at dksX3_turned_0 0 rfl rfl)
theorem dX3_turned_1 : decode cX3_turned 1 = .ok (.iconst 1, 1) := dk_4 (dk_at dksX3_turned_0 1 rfl rfl)
theorem dX3_turned_2 : decode cX3_turned 2 = .ok (.invokevirtual 305, 3) := dk_182 1 49 (dk_at dksX3_turned_0 2 rfl rfl)
theorem dX3_turned_5 : decode cX3_turned 5 = .ok (.ifCond .eq 5, 3) := dk_153 0 5 (dk_at dksX3_turned_0 5 rfl rfl)
theorem dX3_turned_8 : decode cX3_turned 8 = .ok (.iconst 0, 1) := dk_3 (dk_at dksX3_turned_0 8 rfl rfl)
theorem dX3_turned_9 : decode cX3_turned 9 = .ok (.ireturn, 1) := dk_172 (dk_at dksX3_turned_0 9 rfl rfl)
theorem dX3_turned_10 : decode cX3_turned 10 = .ok (.aload_n 0, 1) := dk_42 (dk_at dksX3_turned_0 10 rfl rfl)
theorem dX3_turned_11 : decode cX3_turned 11 = .ok (.iconst 0, 1) := dk_3 (dk_at dksX3_turned_0 11 rfl rfl)
theorem dX3_turned_12 : decode cX3_turned 12 = .ok (.invokevirtual 162, 3) := dk_182 0 162 (dk_at dksX3_turned_0 12 rfl rfl)
theorem dX3_turned_15 : decode cX3_turned 15 = .ok (.iload_n 1, 1) := dk_27 (dk_at dksX3_turned_0 15 rfl rfl)
theorem dX3_turned_16 : decode cX3_turned 16 = .ok (.if_icmp .ne 7, 3) := dk_160 0 7 (dk_at dksX3_turned_0 16 rfl rfl)
theorem dX3_turned_19 : decode cX3_turned 19 = .ok (.iconst 1, 1) := dk_4 (dk_at dksX3_turned_0 19 rfl rfl)
theorem dX3_turned_20 : decode cX3_turned 20 = .ok (.goto 4, 3) := dk_167 0 4 (dk_at dksX3_turned_0 20 rfl rfl)
theorem dX3_turned_23 : decode cX3_turned 23 = .ok (.iconst 0, 1) := dk_3 (dk_at dksX3_turned_0 23 rfl rfl)
theorem dX3_turned_24 : decode cX3_turned 24 = .ok (.istore_n 2, 1) := dk_61 (dk_at dksX3_turned_1 0 rfl rfl)
theorem dX3_turned_25 : decode cX3_turned 25 = .ok (.iload_n 2, 1) := dk_28 (dk_at dksX3_turned_1 1 rfl rfl)
theorem dX3_turned_26 : decode cX3_turned 26 = .ok (.ifCond .eq 12, 3) := dk_153 0 12 (dk_at dksX3_turned_1 2 rfl rfl)
theorem dX3_turned_29 : decode cX3_turned 29 = .ok (.aload_n 0, 1) := dk_42 (dk_at dksX3_turned_1 5 rfl rfl)
theorem dX3_turned_30 : decode cX3_turned 30 = .ok (.getfield 147, 3) := dk_180 0 147 (dk_at dksX3_turned_1 6 rfl rfl)
theorem dX3_turned_33 : decode cX3_turned 33 = .ok (.iconst 1, 1) := dk_4 (dk_at dksX3_turned_1 9 rfl rfl)
theorem dX3_turned_34 : decode cX3_turned 34 = .ok (.isub, 1) := dk_100 (dk_at dksX3_turned_1 10 rfl rfl)
theorem dX3_turned_35 : decode cX3_turned 35 = .ok (.goto 9, 3) := dk_167 0 9 (dk_at dksX3_turned_1 11 rfl rfl)
theorem dX3_turned_38 : decode cX3_turned 38 = .ok (.aload_n 0, 1) := dk_42 (dk_at dksX3_turned_1 14 rfl rfl)
theorem dX3_turned_39 : decode cX3_turned 39 = .ok (.getfield 147, 3) := dk_180 0 147 (dk_at dksX3_turned_1 15 rfl rfl)
theorem dX3_turned_42 : decode cX3_turned 42 = .ok (.iconst 1, 1) := dk_4 (dk_at dksX3_turned_1 18 rfl rfl)
theorem dX3_turned_43 : decode cX3_turned 43 = .ok (.iadd, 1) := dk_96 (dk_at dksX3_turned_1 19 rfl rfl)
theorem dX3_turned_44 : decode cX3_turned 44 = .ok (.bipush 20, 2) := dk_16 20 (dk_at dksX3_turned_1 20 rfl rfl)
theorem dX3_turned_46 : decode cX3_turned 46 = .ok (.if_icmp .le 11, 3) := dk_164 0 11 (dk_at dksX3_turned_2 0 rfl rfl)
theorem dX3_turned_49 : decode cX3_turned 49 = .ok (.aload_n 0, 1) := dk_42 (dk_at dksX3_turned_2 3 rfl rfl)
theorem dX3_turned_50 : decode cX3_turned 50 = .ok (.bipush 7, 2) := dk_16 7 (dk_at dksX3_turned_2 4 rfl rfl)
theorem dX3_turned_52 : decode cX3_turned 52 = .ok (.iconst 1, 1) := dk_4 (dk_at dksX3_turned_2 6 rfl rfl)
theorem dX3_turned_53 : decode cX3_turned 53 = .ok (.invokevirtual 202, 3) := dk_182 0 202 (dk_at dksX3_turned_2 7 rfl rfl)
theorem dX3_turned_56 : decode cX3_turned 56 = .ok (.ireturn, 1) := dk_172 (dk_at dksX3_turned_2 10 rfl rfl)
theorem dX3_turned_57 : decode cX3_turned 57 = .ok (.aload_n 0, 1) := dk_42 (dk_at dksX3_turned_2 11 rfl rfl)
theorem dX3_turned_58 : decode cX3_turned 58 = .ok (.invokevirtual 208, 3) := dk_182 0 208 (dk_at dksX3_turned_2 12 rfl rfl)
theorem dX3_turned_61 : decode cX3_turned 61 = .ok (.iload_n 2, 1) := dk_28 (dk_at dksX3_turned_2 15 rfl rfl)
theorem dX3_turned_62 : decode cX3_turned 62 = .ok (.ifCond .eq 10, 3) := dk_153 0 10 (dk_at dksX3_turned_2 16 rfl rfl)
theorem dX3_turned_65 : decode cX3_turned 65 = .ok (.aload_n 0, 1) := dk_42 (dk_at dksX3_turned_2 19 rfl rfl)
theorem dX3_turned_66 : decode cX3_turned 66 = .ok (.invokevirtual 314, 3) := dk_182 1 58 (dk_at dksX3_turned_2 20 rfl rfl)
theorem dX3_turned_69 : decode cX3_turned 69 = .ok (.goto 10, 3) := dk_167 0 10 (dk_at dksX3_turned_3 0 rfl rfl)
theorem dX3_turned_72 : decode cX3_turned 72 = .ok (.aload_n 0, 1) := dk_42 (dk_at dksX3_turned_3 3 rfl rfl)
theorem dX3_turned_73 : decode cX3_turned 73 = .ok (.iload_n 1, 1) := dk_27 (dk_at dksX3_turned_3 4 rfl rfl)
theorem dX3_turned_74 : decode cX3_turned 74 = .ok (.iconst 0, 1) := dk_3 (dk_at dksX3_turned_3 5 rfl rfl)
theorem dX3_turned_75 : decode cX3_turned 75 = .ok (.iconst 1, 1) := dk_4 (dk_at dksX3_turned_3 6 rfl rfl)
theorem dX3_turned_76 : decode cX3_turned 76 = .ok (.invokevirtual 317, 3) := dk_182 1 61 (dk_at dksX3_turned_3 7 rfl rfl)
theorem dX3_turned_79 : decode cX3_turned 79 = .ok (.aload_n 0, 1) := dk_42 (dk_at dksX3_turned_3 10 rfl rfl)
theorem dX3_turned_80 : decode cX3_turned 80 = .ok (.invokevirtual 211, 3) := dk_182 0 211 (dk_at dksX3_turned_3 11 rfl rfl)
theorem dX3_turned_83 : decode cX3_turned 83 = .ok (.aload_n 0, 1) := dk_42 (dk_at dksX3_turned_3 14 rfl rfl)
theorem dX3_turned_84 : decode cX3_turned 84 = .ok (.getfield 7, 3) := dk_180 0 7 (dk_at dksX3_turned_3 15 rfl rfl)
theorem dX3_turned_87 : decode cX3_turned 87 = .ok (.bipush 43, 2) := dk_16 43 (dk_at dksX3_turned_3 18 rfl rfl)
theorem dX3_turned_89 : decode cX3_turned 89 = .ok (.iaload, 1) := dk_46 (dk_at dksX3_turned_3 20 rfl rfl)
theorem dX3_turned_90 : decode cX3_turned 90 = .ok (.ireturn, 1) := dk_172 (dk_at dksX3_turned_3 21 rfl rfl)
abbrev cX3_dropsFirst : ByteArray := prog_24_method_17_code
def yX3_dropsFirst : MethodName := ⟨RX3, "dropsFirst", "()V"⟩
def dkwX3_dropsFirst_2 : List UInt8 := [167, 255, 221, 177]
abbrev dktX3_dropsFirst_2 : List UInt8 := dkwX3_dropsFirst_2 ++ []
def dkwX3_dropsFirst_1 : List UInt8 := [162, 0, 27, 42, 180, 0, 7, 16, 45, 27, 96, 42, 180, 0, 7, 16, 51, 27, 96, 46, 79, 132, 1, 1]
abbrev dktX3_dropsFirst_1 : List UInt8 := dkwX3_dropsFirst_1 ++ dktX3_dropsFirst_2
def dkwX3_dropsFirst_0 : List UInt8 := [42, 180, 0, 7, 16, 43, 92, 46, 4, 100, 79, 3, 60, 27, 16, 6, 42, 180, 0, 7, 16, 43, 46, 104]
abbrev dktX3_dropsFirst_0 : List UInt8 := dkwX3_dropsFirst_0 ++ dktX3_dropsFirst_1
theorem dksX3_dropsFirst_0 : cX3_dropsFirst.data.toList.drop 0 = dktX3_dropsFirst_0 := by decide +kernel
theorem dksX3_dropsFirst_1 : cX3_dropsFirst.data.toList.drop 24 = dktX3_dropsFirst_1 := dk_seg dksX3_dropsFirst_0 24 rfl rfl
theorem dksX3_dropsFirst_2 : cX3_dropsFirst.data.toList.drop 48 = dktX3_dropsFirst_2 := dk_seg dksX3_dropsFirst_1 24 rfl rfl
theorem dX3_dropsFirst_0 : decode cX3_dropsFirst 0 = .ok (.aload_n 0, 1) := dk_42 (dk_at dksX3_dropsFirst_0 0 rfl rfl)
theorem dX3_dropsFirst_1 : decode cX3_dropsFirst 1 = .ok (.getfield 7, 3) := dk_180 0 7 (dk_at dksX3_dropsFirst_0 1 rfl rfl)
theorem dX3_dropsFirst_4 : decode cX3_dropsFirst 4 = .ok (.bipush 43, 2) := dk_16 43 (dk_at dksX3_dropsFirst_0 4 rfl rfl)
theorem dX3_dropsFirst_6 : decode cX3_dropsFirst 6 = .ok (.dup2, 1) := dk_92 (dk_at dksX3_dropsFirst_0 6 rfl rfl)
theorem dX3_dropsFirst_7 : decode cX3_dropsFirst 7 = .ok (.iaload, 1) := dk_46 (dk_at dksX3_dropsFirst_0 7 rfl rfl)
theorem dX3_dropsFirst_8 : decode cX3_dropsFirst 8 = .ok (.iconst 1, 1) := dk_4 (dk_at dksX3_dropsFirst_0 8 rfl rfl)
theorem dX3_dropsFirst_9 : decode cX3_dropsFirst 9 = .ok (.isub, 1) := dk_100 (dk_at dksX3_dropsFirst_0 9 rfl rfl)
theorem dX3_dropsFirst_10 : decode cX3_dropsFirst 10 = .ok (.iastore, 1) := dk_79 (dk_at dksX3_dropsFirst_0 10 rfl rfl)
theorem dX3_dropsFirst_11 : decode cX3_dropsFirst 11 = .ok (.iconst 0, 1) := dk_3 (dk_at dksX3_dropsFirst_0 11 rfl rfl)
theorem dX3_dropsFirst_12 : decode cX3_dropsFirst 12 = .ok (.istore_n 1, 1) := dk_60 (dk_at dksX3_dropsFirst_0 12 rfl rfl)
theorem dX3_dropsFirst_13 : decode cX3_dropsFirst 13 = .ok (.iload_n 1, 1) := dk_27 (dk_at dksX3_dropsFirst_0 13 rfl rfl)
theorem dX3_dropsFirst_14 : decode cX3_dropsFirst 14 = .ok (.bipush 6, 2) := dk_16 6 (dk_at dksX3_dropsFirst_0 14 rfl rfl)
theorem dX3_dropsFirst_16 : decode cX3_dropsFirst 16 = .ok (.aload_n 0, 1) := dk_42 (dk_at dksX3_dropsFirst_0 16 rfl rfl)
theorem dX3_dropsFirst_17 : decode cX3_dropsFirst 17 = .ok (.getfield 7, 3) := dk_180 0 7 (dk_at dksX3_dropsFirst_0 17 rfl rfl)
theorem dX3_dropsFirst_20 : decode cX3_dropsFirst 20 = .ok (.bipush 43, 2) := dk_16 43 (dk_at dksX3_dropsFirst_0 20 rfl rfl)
theorem dX3_dropsFirst_22 : decode cX3_dropsFirst 22 = .ok (.iaload, 1) := dk_46 (dk_at dksX3_dropsFirst_0 22 rfl rfl)
theorem dX3_dropsFirst_23 : decode cX3_dropsFirst 23 = .ok (.imul, 1) := dk_104 (dk_at dksX3_dropsFirst_0 23 rfl rfl)
theorem dX3_dropsFirst_24 : decode cX3_dropsFirst 24 = .ok (.if_icmp .ge 27, 3) := dk_162 0 27 (dk_at dksX3_dropsFirst_1 0 rfl rfl)
theorem dX3_dropsFirst_27 : decode cX3_dropsFirst 27 = .ok (.aload_n 0, 1) := dk_42 (dk_at dksX3_dropsFirst_1 3 rfl rfl)
theorem dX3_dropsFirst_28 : decode cX3_dropsFirst 28 = .ok (.getfield 7, 3) := dk_180 0 7 (dk_at dksX3_dropsFirst_1 4 rfl rfl)
theorem dX3_dropsFirst_31 : decode cX3_dropsFirst 31 = .ok (.bipush 45, 2) := dk_16 45 (dk_at dksX3_dropsFirst_1 7 rfl rfl)
theorem dX3_dropsFirst_33 : decode cX3_dropsFirst 33 = .ok (.iload_n 1, 1) := dk_27 (dk_at dksX3_dropsFirst_1 9 rfl rfl)
theorem dX3_dropsFirst_34 : decode cX3_dropsFirst 34 = .ok (.iadd, 1) := dk_96 (dk_at dksX3_dropsFirst_1 10 rfl rfl)
theorem dX3_dropsFirst_35 : decode cX3_dropsFirst 35 = .ok (.aload_n 0, 1) := dk_42 (dk_at dksX3_dropsFirst_1 11 rfl rfl)
theorem dX3_dropsFirst_36 : decode cX3_dropsFirst 36 = .ok (.getfield 7, 3) := dk_180 0 7 (dk_at dksX3_dropsFirst_1 12 rfl rfl)
theorem dX3_dropsFirst_39 : decode cX3_dropsFirst 39 = .ok (.bipush 51, 2) := dk_16 51 (dk_at dksX3_dropsFirst_1 15 rfl rfl)
theorem dX3_dropsFirst_41 : decode cX3_dropsFirst 41 = .ok (.iload_n 1, 1) := dk_27 (dk_at dksX3_dropsFirst_1 17 rfl rfl)
theorem dX3_dropsFirst_42 : decode cX3_dropsFirst 42 = .ok (.iadd, 1) := dk_96 (dk_at dksX3_dropsFirst_1 18 rfl rfl)
theorem dX3_dropsFirst_43 : decode cX3_dropsFirst 43 = .ok (.iaload, 1) := dk_46 (dk_at dksX3_dropsFirst_1 19 rfl rfl)
theorem dX3_dropsFirst_44 : decode cX3_dropsFirst 44 = .ok (.iastore, 1) := dk_79 (dk_at dksX3_dropsFirst_1 20 rfl rfl)
theorem dX3_dropsFirst_45 : decode cX3_dropsFirst 45 = .ok (.iinc 1 1, 3) := dk_132 1 1 (dk_at dksX3_dropsFirst_1 21 rfl rfl)
theorem dX3_dropsFirst_48 : decode cX3_dropsFirst 48 = .ok (.goto (-35), 3) := dk_167 255 221 (dk_at dksX3_dropsFirst_2 0 rfl rfl)
theorem dX3_dropsFirst_51 : decode cX3_dropsFirst 51 = .ok (.return_, 1) := dk_177 (dk_at dksX3_dropsFirst_2 3 rfl rfl)
abbrev cX3_inserts : ByteArray := prog_24_method_16_code
def yX3_inserts : MethodName := ⟨RX3, "inserts", "(III)V"⟩
def dkwX3_inserts_3 : List UInt8 := [42, 3, 5, 29, 182, 0, 137, 177]
abbrev dktX3_inserts_3 : List UInt8 := dkwX3_inserts_3 ++ []
def dkwX3_inserts_2 : List UInt8 := [180, 0, 7, 16, 43, 92, 46, 4, 96, 79, 42, 3, 3, 27, 182, 0, 137, 42, 3, 4, 28, 182, 0, 137]
abbrev dktX3_inserts_2 : List UInt8 := dkwX3_inserts_2 ++ dktX3_inserts_3
def dkwX3_inserts_1 : List UInt8 := [16, 51, 21, 4, 96, 42, 180, 0, 7, 16, 45, 21, 4, 96, 46, 79, 132, 4, 255, 167, 255, 228, 42]
abbrev dktX3_inserts_1 : List UInt8 := dkwX3_inserts_1 ++ dktX3_inserts_2
def dkwX3_inserts_0 : List UInt8 := [16, 6, 42, 180, 0, 7, 16, 43, 46, 104, 4, 100, 54, 4, 21, 4, 155, 0, 29, 42, 180, 0, 7]
abbrev dktX3_inserts_0 : List UInt8 := dkwX3_inserts_0 ++ dktX3_inserts_1
theorem dksX3_inserts_0 : cX3_inserts.data.toList.drop 0 = dktX3_inserts_0 := by decide +kernel
theorem dksX3_inserts_1 : cX3_inserts.data.toList.drop 23 = dktX3_inserts_1 := dk_seg dksX3_inserts_0 23 rfl rfl
theorem dksX3_inserts_2 : cX3_inserts.data.toList.drop 46 = dktX3_inserts_2 := dk_seg dksX3_inserts_1 23 rfl rfl
theorem dksX3_inserts_3 : cX3_inserts.data.toList.drop 70 = dktX3_inserts_3 := dk_seg dksX3_inserts_2 24 rfl rfl
theorem dX3_inserts_0 : decode cX3_inserts 0 = .ok (.bipush 6, 2) := dk_16 6 (dk_at dksX3_inserts_0 0 rfl rfl)
theorem dX3_inserts_2 : decode cX3_inserts 2 = .ok (.aload_n 0, 1) := dk_42 (dk_at dksX3_inserts_0 2 rfl rfl)
theorem dX3_inserts_3 : decode cX3_inserts 3 = .ok (.getfield 7, 3) := dk_180 0 7 (dk_at dksX3_inserts_0 3 rfl rfl)
theorem dX3_inserts_6 : decode cX3_inserts 6 = .ok (.bipush 43, 2) := dk_16 43 (dk_at dksX3_inserts_0 6 rfl rfl)
theorem dX3_inserts_8 : decode cX3_inserts 8 = .ok (.iaload, 1) := dk_46 (dk_at dksX3_inserts_0 8 rfl rfl)
theorem dX3_inserts_9 : decode cX3_inserts 9 = .ok (.imul, 1) := dk_104 (dk_at dksX3_inserts_0 9 rfl rfl)
theorem dX3_inserts_10 : decode cX3_inserts 10 = .ok (.iconst 1, 1) := dk_4 (dk_at dksX3_inserts_0 10 rfl rfl)
theorem dX3_inserts_11 : decode cX3_inserts 11 = .ok (.isub, 1) := dk_100 (dk_at dksX3_inserts_0 11 rfl rfl)
theorem dX3_inserts_12 : decode cX3_inserts 12 = .ok (.istore 4, 2) := dk_54 4 (dk_at dksX3_inserts_0 12 rfl rfl)
theorem dX3_inserts_14 : decode cX3_inserts 14 = .ok (.iload 4, 2) := dk_21 4 (dk_at dksX3_inserts_0 14 rfl rfl)
theorem dX3_inserts_16 : decode cX3_inserts 16 = .ok (.ifCond .lt 29, 3) := dk_155 0 29 (dk_at dksX3_inserts_0 16 rfl rfl)
theorem dX3_inserts_19 : decode cX3_inserts 19 = .ok (.aload_n 0, 1) := dk_42 (dk_at dksX3_inserts_0 19 rfl rfl)
theorem dX3_inserts_20 : decode cX3_inserts 20 = .ok (.getfield 7, 3) := dk_180 0 7 (dk_at dksX3_inserts_0 20 rfl rfl)
theorem dX3_inserts_23 : decode cX3_inserts 23 = .ok (.bipush 51, 2) := dk_16 51 (dk_at dksX3_inserts_1 0 rfl rfl)
theorem dX3_inserts_25 : decode cX3_inserts 25 = .ok (.iload 4, 2) := dk_21 4 (dk_at dksX3_inserts_1 2 rfl rfl)
theorem dX3_inserts_27 : decode cX3_inserts 27 = .ok (.iadd, 1) := dk_96 (dk_at dksX3_inserts_1 4 rfl rfl)
theorem dX3_inserts_28 : decode cX3_inserts 28 = .ok (.aload_n 0, 1) := dk_42 (dk_at dksX3_inserts_1 5 rfl rfl)
theorem dX3_inserts_29 : decode cX3_inserts 29 = .ok (.getfield 7, 3) := dk_180 0 7 (dk_at dksX3_inserts_1 6 rfl rfl)
theorem dX3_inserts_32 : decode cX3_inserts 32 = .ok (.bipush 45, 2) := dk_16 45 (dk_at dksX3_inserts_1 9 rfl rfl)
theorem dX3_inserts_34 : decode cX3_inserts 34 = .ok (.iload 4, 2) := dk_21 4 (dk_at dksX3_inserts_1 11 rfl rfl)
theorem dX3_inserts_36 : decode cX3_inserts 36 = .ok (.iadd, 1) := dk_96 (dk_at dksX3_inserts_1 13 rfl rfl)
theorem dX3_inserts_37 : decode cX3_inserts 37 = .ok (.iaload, 1) := dk_46 (dk_at dksX3_inserts_1 14 rfl rfl)
theorem dX3_inserts_38 : decode cX3_inserts 38 = .ok (.iastore, 1) := dk_79 (dk_at dksX3_inserts_1 15 rfl rfl)
theorem dX3_inserts_39 : decode cX3_inserts 39 = .ok (.iinc 4 (-1), 3) := dk_132 4 255 (dk_at dksX3_inserts_1 16 rfl rfl)
theorem dX3_inserts_42 : decode cX3_inserts 42 = .ok (.goto (-28), 3) := dk_167 255 228 (dk_at dksX3_inserts_1 19 rfl rfl)
theorem dX3_inserts_45 : decode cX3_inserts 45 = .ok (.aload_n 0, 1) := dk_42 (dk_at dksX3_inserts_1 22 rfl rfl)
theorem dX3_inserts_46 : decode cX3_inserts 46 = .ok (.getfield 7, 3) := dk_180 0 7 (dk_at dksX3_inserts_2 0 rfl rfl)
theorem dX3_inserts_49 : decode cX3_inserts 49 = .ok (.bipush 43, 2) := dk_16 43 (dk_at dksX3_inserts_2 3 rfl rfl)
theorem dX3_inserts_51 : decode cX3_inserts 51 = .ok (.dup2, 1) := dk_92 (dk_at dksX3_inserts_2 5 rfl rfl)
theorem dX3_inserts_52 : decode cX3_inserts 52 = .ok (.iaload, 1) := dk_46 (dk_at dksX3_inserts_2 6 rfl rfl)
theorem dX3_inserts_53 : decode cX3_inserts 53 = .ok (.iconst 1, 1) := dk_4 (dk_at dksX3_inserts_2 7 rfl rfl)
theorem dX3_inserts_54 : decode cX3_inserts 54 = .ok (.iadd, 1) := dk_96 (dk_at dksX3_inserts_2 8 rfl rfl)
theorem dX3_inserts_55 : decode cX3_inserts 55 = .ok (.iastore, 1) := dk_79 (dk_at dksX3_inserts_2 9 rfl rfl)
theorem dX3_inserts_56 : decode cX3_inserts 56 = .ok (.aload_n 0, 1) := dk_42 (dk_at dksX3_inserts_2 10 rfl rfl)
theorem dX3_inserts_57 : decode cX3_inserts 57 = .ok (.iconst 0, 1) := dk_3 (dk_at dksX3_inserts_2 11 rfl rfl)
theorem dX3_inserts_58 : decode cX3_inserts 58 = .ok (.iconst 0, 1) := dk_3 (dk_at dksX3_inserts_2 12 rfl rfl)
theorem dX3_inserts_59 : decode cX3_inserts 59 = .ok (.iload_n 1, 1) := dk_27 (dk_at dksX3_inserts_2 13 rfl rfl)
theorem dX3_inserts_60 : decode cX3_inserts 60 = .ok (.invokevirtual 137, 3) := dk_182 0 137 (dk_at dksX3_inserts_2 14 rfl rfl)
theorem dX3_inserts_63 : decode cX3_inserts 63 = .ok (.aload_n 0, 1) := dk_42 (dk_at dksX3_inserts_2 17 rfl rfl)
theorem dX3_inserts_64 : decode cX3_inserts 64 = .ok (.iconst 0, 1) := dk_3 (dk_at dksX3_inserts_2 18 rfl rfl)
theorem dX3_inserts_65 : decode cX3_inserts 65 = .ok (.iconst 1, 1) := dk_4 (dk_at dksX3_inserts_2 19 rfl rfl)
theorem dX3_inserts_66 : decode cX3_inserts 66 = .ok (.iload_n 2, 1) := dk_28 (dk_at dksX3_inserts_2 20 rfl rfl)
theorem dX3_inserts_67 : decode cX3_inserts 67 = .ok (.invokevirtual 137, 3) := dk_182 0 137 (dk_at dksX3_inserts_2 21 rfl rfl)
theorem dX3_inserts_70 : decode cX3_inserts 70 = .ok (.aload_n 0, 1) := dk_42 (dk_at dksX3_inserts_3 0 rfl rfl)
theorem dX3_inserts_71 : decode cX3_inserts 71 = .ok (.iconst 0, 1) := dk_3 (dk_at dksX3_inserts_3 1 rfl rfl)
theorem dX3_inserts_72 : decode cX3_inserts 72 = .ok (.iconst 2, 1) := dk_5 (dk_at dksX3_inserts_3 2 rfl rfl)
theorem dX3_inserts_73 : decode cX3_inserts 73 = .ok (.iload_n 3, 1) := dk_29 (dk_at dksX3_inserts_3 3 rfl rfl)
theorem dX3_inserts_74 : decode cX3_inserts 74 = .ok (.invokevirtual 137, 3) := dk_182 0 137 (dk_at dksX3_inserts_3 4 rfl rfl)
theorem dX3_inserts_77 : decode cX3_inserts 77 = .ok (.return_, 1) := dk_177 (dk_at dksX3_inserts_3 7 rfl rfl)
abbrev cX3_reverse : ByteArray := prog_24_method_63_code
def yX3_reverse : MethodName := ⟨RX3, "reverse", "()I"⟩
def dkwX3_reverse_0 : List UInt8 := [42, 8, 182, 1, 64, 172]
abbrev dktX3_reverse_0 : List UInt8 := dkwX3_reverse_0 ++ []
theorem dksX3_reverse_0 : cX3_reverse.data.toList.drop 0 = dktX3_reverse_0 := by decide +kernel
theorem dX3_reverse_0 : decode cX3_reverse 0 = .ok (.aload_n 0, 1) := dk_42 (dk_at dksX3_reverse_0 0 rfl rfl)
theorem dX3_reverse_1 : decode cX3_reverse 1 = .ok (.iconst 5, 1) := dk_8 (dk_at dksX3_reverse_0 1 rfl rfl)
theorem dX3_reverse_2 : decode cX3_reverse 2 = .ok (.invokevirtual 320, 3) := dk_182 1 64 (dk_at dksX3_reverse_0 2 rfl rfl)
theorem dX3_reverse_5 : decode cX3_reverse 5 = .ok (.ireturn, 1) := dk_172 (dk_at dksX3_reverse_0 5 rfl rfl)
abbrev cX3_repeat : ByteArray := prog_24_method_64_code
def yX3_repeat : MethodName := ⟨RX3, "repeat", "(I)I"⟩
def dkwX3_repeat_3 : List UInt8 := [42, 182, 0, 208, 42, 6, 27, 4, 182, 1, 61, 42, 182, 0, 211, 42, 182, 0, 199, 42, 180, 0, 141, 172]
abbrev dktX3_repeat_3 : List UInt8 := dkwX3_repeat_3 ++ []
def dkwX3_repeat_2 : List UInt8 := [104, 17, 3, 231, 163, 0, 12, 42, 180, 0, 147, 16, 20, 161, 0, 11, 42, 16, 7, 5, 182, 0, 202, 172]
abbrev dktX3_repeat_2 : List UInt8 := dkwX3_repeat_2 ++ dktX3_repeat_3
def dkwX3_repeat_1 : List UInt8 := [182, 1, 49, 153, 0, 5, 3, 172, 42, 180, 0, 141, 27, 104, 16, 99, 163, 0, 24, 42, 180, 0, 150, 27]
abbrev dktX3_repeat_1 : List UInt8 := dkwX3_repeat_1 ++ dktX3_repeat_2
def dkwX3_repeat_0 : List UInt8 := [42, 3, 181, 0, 111, 27, 5, 16, 9, 184, 0, 121, 154, 0, 9, 42, 4, 182, 0, 117, 172, 42, 5]
abbrev dktX3_repeat_0 : List UInt8 := dkwX3_repeat_0 ++ dktX3_repeat_1
theorem dksX3_repeat_0 : cX3_repeat.data.toList.drop 0 = dktX3_repeat_0 := by decide +kernel
theorem dksX3_repeat_1 : cX3_repeat.data.toList.drop 23 = dktX3_repeat_1 := dk_seg dksX3_repeat_0 23 rfl rfl
theorem dksX3_repeat_2 : cX3_repeat.data.toList.drop 47 = dktX3_repeat_2 := dk_seg dksX3_repeat_1 24 rfl rfl
theorem dksX3_repeat_3 : cX3_repeat.data.toList.drop 71 = dktX3_repeat_3 := dk_seg dksX3_repeat_2 24 rfl rfl
theorem dX3_repeat_0 : decode cX3_repeat 0 = .ok (.aload_n 0, 1) := dk_42 (dk_at dksX3_repeat_0 0 rfl rfl)
theorem dX3_repeat_1 : decode cX3_repeat 1 = .ok (.iconst 0, 1) := dk_3 (dk_at dksX3_repeat_0 1 rfl rfl)
theorem dX3_repeat_2 : decode cX3_repeat 2 = .ok (.putfield 111, 3) := dk_181 0 111 (dk_at dksX3_repeat_0 2 rfl rfl)
theorem dX3_repeat_5 : decode cX3_repeat 5 = .ok (.iload_n 1, 1) := dk_27 (dk_at dksX3_repeat_0 5 rfl rfl)
theorem dX3_repeat_6 : decode cX3_repeat 6 = .ok (.iconst 2, 1) := dk_5 (dk_at dksX3_repeat_0 6 rfl rfl)
theorem dX3_repeat_7 : decode cX3_repeat 7 = .ok (.bipush 9, 2) := dk_16 9 (dk_at dksX3_repeat_0 7 rfl rfl)
theorem dX3_repeat_9 : decode cX3_repeat 9 = .ok (.invokestatic 121, 3) := dk_184 0 121 (dk_at dksX3_repeat_0 9 rfl rfl)
theorem dX3_repeat_12 : decode cX3_repeat 12 = .ok (.ifCond .ne 9, 3) := dk_154 0 9 (dk_at dksX3_repeat_0 12 rfl rfl)
theorem dX3_repeat_15 : decode cX3_repeat 15 = .ok (.aload_n 0, 1) := dk_42 (dk_at dksX3_repeat_0 15 rfl rfl)
theorem dX3_repeat_16 : decode cX3_repeat 16 = .ok (.iconst 1, 1) := dk_4 (dk_at dksX3_repeat_0 16 rfl rfl)
theorem dX3_repeat_17 : decode cX3_repeat 17 = .ok (.invokevirtual 117, 3) := dk_182 0 117 (dk_at dksX3_repeat_0 17 rfl rfl)
theorem dX3_repeat_20 : decode cX3_repeat 20 = .ok (.ireturn, 1) := dk_172 (dk_at dksX3_repeat_0 20 rfl rfl)
theorem dX3_repeat_21 : decode cX3_repeat 21 = .ok (.aload_n 0, 1) := dk_42 (dk_at dksX3_repeat_0 21 rfl rfl)
theorem dX3_repeat_22 : decode cX3_repeat 22 = .ok (.iconst 2, 1) := dk_5 (dk_at dksX3_repeat_0 22 rfl rfl)
theorem dX3_repeat_23 : decode cX3_repeat 23 = .ok (.invokevirtual 305, 3) := dk_182 1 49 (dk_at dksX3_repeat_1 0 rfl rfl)
theorem dX3_repeat_26 : decode cX3_repeat 26 = .ok (.ifCond .eq 5, 3) := dk_153 0 5 (dk_at dksX3_repeat_1 3 rfl rfl)
theorem dX3_repeat_29 : decode cX3_repeat 29 = .ok (.iconst 0, 1) := dk_3 (dk_at dksX3_repeat_1 6 rfl rfl)
theorem dX3_repeat_30 : decode cX3_repeat 30 = .ok (.ireturn, 1) := dk_172 (dk_at dksX3_repeat_1 7 rfl rfl)
theorem dX3_repeat_31 : decode cX3_repeat 31 = .ok (.aload_n 0, 1) := dk_42 (dk_at dksX3_repeat_1 8 rfl rfl)
theorem dX3_repeat_32 : decode cX3_repeat 32 = .ok (.getfield 141, 3) := dk_180 0 141 (dk_at dksX3_repeat_1 9 rfl rfl)
theorem dX3_repeat_35 : decode cX3_repeat 35 = .ok (.iload_n 1, 1) := dk_27 (dk_at dksX3_repeat_1 12 rfl rfl)
theorem dX3_repeat_36 : decode cX3_repeat 36 = .ok (.imul, 1) := dk_104 (dk_at dksX3_repeat_1 13 rfl rfl)
theorem dX3_repeat_37 : decode cX3_repeat 37 = .ok (.bipush 99, 2) := dk_16 99 (dk_at dksX3_repeat_1 14 rfl rfl)
theorem dX3_repeat_39 : decode cX3_repeat 39 = .ok (.if_icmp .gt 24, 3) := dk_163 0 24 (dk_at dksX3_repeat_1 16 rfl rfl)
theorem dX3_repeat_42 : decode cX3_repeat 42 = .ok (.aload_n 0, 1) := dk_42 (dk_at dksX3_repeat_1 19 rfl rfl)
theorem dX3_repeat_43 : decode cX3_repeat 43 = .ok (.getfield 150, 3) := dk_180 0 150 (dk_at dksX3_repeat_1 20 rfl rfl)
theorem dX3_repeat_46 : decode cX3_repeat 46 = .ok (.iload_n 1, 1) := dk_27 (dk_at dksX3_repeat_1 23 rfl rfl)
theorem dX3_repeat_47 : decode cX3_repeat 47 = .ok (.imul, 1) := dk_104 (dk_at dksX3_repeat_2 0 rfl rfl)
theorem dX3_repeat_48 : decode cX3_repeat 48 = .ok (.sipush 999, 3) := dk_17 3 231 (dk_at dksX3_repeat_2 1 rfl rfl)
theorem dX3_repeat_51 : decode cX3_repeat 51 = .ok (.if_icmp .gt 12, 3) := dk_163 0 12 (dk_at dksX3_repeat_2 4 rfl rfl)
theorem dX3_repeat_54 : decode cX3_repeat 54 = .ok (.aload_n 0, 1) := dk_42 (dk_at dksX3_repeat_2 7 rfl rfl)
theorem dX3_repeat_55 : decode cX3_repeat 55 = .ok (.getfield 147, 3) := dk_180 0 147 (dk_at dksX3_repeat_2 8 rfl rfl)
theorem dX3_repeat_58 : decode cX3_repeat 58 = .ok (.bipush 20, 2) := dk_16 20 (dk_at dksX3_repeat_2 11 rfl rfl)
theorem dX3_repeat_60 : decode cX3_repeat 60 = .ok (.if_icmp .lt 11, 3) := dk_161 0 11 (dk_at dksX3_repeat_2 13 rfl rfl)
theorem dX3_repeat_63 : decode cX3_repeat 63 = .ok (.aload_n 0, 1) := dk_42 (dk_at dksX3_repeat_2 16 rfl rfl)
theorem dX3_repeat_64 : decode cX3_repeat 64 = .ok (.bipush 7, 2) := dk_16 7 (dk_at dksX3_repeat_2 17 rfl rfl)
theorem dX3_repeat_66 : decode cX3_repeat 66 = .ok (.iconst 2, 1) := dk_5 (dk_at dksX3_repeat_2 19 rfl rfl)
theorem dX3_repeat_67 : decode cX3_repeat 67 = .ok (.invokevirtual 202, 3) := dk_182 0 202 (dk_at dksX3_repeat_2 20 rfl rfl)
theorem dX3_repeat_70 : decode cX3_repeat 70 = .ok (.ireturn, 1) := dk_172 (dk_at dksX3_repeat_2 23 rfl rfl)
theorem dX3_repeat_71 : decode cX3_repeat 71 = .ok (.aload_n 0, 1) := dk_42 (dk_at dksX3_repeat_3 0 rfl rfl)
theorem dX3_repeat_72 : decode cX3_repeat 72 = .ok (.invokevirtual 208, 3) := dk_182 0 208 (dk_at dksX3_repeat_3 1 rfl rfl)
theorem dX3_repeat_75 : decode cX3_repeat 75 = .ok (.aload_n 0, 1) := dk_42 (dk_at dksX3_repeat_3 4 rfl rfl)
theorem dX3_repeat_76 : decode cX3_repeat 76 = .ok (.iconst 3, 1) := dk_6 (dk_at dksX3_repeat_3 5 rfl rfl)
theorem dX3_repeat_77 : decode cX3_repeat 77 = .ok (.iload_n 1, 1) := dk_27 (dk_at dksX3_repeat_3 6 rfl rfl)
theorem dX3_repeat_78 : decode cX3_repeat 78 = .ok (.iconst 1, 1) := dk_4 (dk_at dksX3_repeat_3 7 rfl rfl)
theorem dX3_repeat_79 : decode cX3_repeat 79 = .ok (.invokevirtual 317, 3) := dk_182 1 61 (dk_at dksX3_repeat_3 8 rfl rfl)
theorem dX3_repeat_82 : decode cX3_repeat 82 = .ok (.aload_n 0, 1) := dk_42 (dk_at dksX3_repeat_3 11 rfl rfl)
theorem dX3_repeat_83 : decode cX3_repeat 83 = .ok (.invokevirtual 211, 3) := dk_182 0 211 (dk_at dksX3_repeat_3 12 rfl rfl)
theorem dX3_repeat_86 : decode cX3_repeat 86 = .ok (.aload_n 0, 1) := dk_42 (dk_at dksX3_repeat_3 15 rfl rfl)
theorem dX3_repeat_87 : decode cX3_repeat 87 = .ok (.invokevirtual 199, 3) := dk_182 0 199 (dk_at dksX3_repeat_3 16 rfl rfl)
theorem dX3_repeat_90 : decode cX3_repeat 90 = .ok (.aload_n 0, 1) := dk_42 (dk_at dksX3_repeat_3 19 rfl rfl)
theorem dX3_repeat_91 : decode cX3_repeat 91 = .ok (.getfield 141, 3) := dk_180 0 141 (dk_at dksX3_repeat_3 20 rfl rfl)
theorem dX3_repeat_94 : decode cX3_repeat 94 = .ok (.ireturn, 1) := dk_172 (dk_at dksX3_repeat_3 23 rfl rfl)
abbrev cX3_exchange : ByteArray := prog_24_method_65_code
def yX3_exchange : MethodName := ⟨RX3, "exchange", "(II)I"⟩
def dkwX3_exchange_8 : List UInt8 := [182, 0, 202, 172, 42, 182, 0, 211, 29, 172]
abbrev dktX3_exchange_8 : List UInt8 := dkwX3_exchange_8 ++ []
def dkwX3_exchange_7 : List UInt8 := [96, 62, 132, 5, 1, 167, 255, 153, 132, 4, 1, 167, 255, 127, 29, 154, 0, 11, 42, 16, 6, 5]
abbrev dktX3_exchange_7 : List UInt8 := dkwX3_exchange_7 ++ dktX3_exchange_8
def dkwX3_exchange_6 : List UInt8 := [167, 0, 5, 21, 7, 79, 29, 21, 7, 27, 159, 0, 9, 21, 7, 28, 160, 0, 7, 4, 167, 0, 4, 3]
abbrev dktX3_exchange_6 : List UInt8 := dkwX3_exchange_6 ++ dktX3_exchange_7
def dkwX3_exchange_5 : List UInt8 := [180, 0, 7, 21, 6, 21, 7, 27, 160, 0, 7, 28, 167, 0, 15, 21, 7, 28, 160, 0, 7, 27]
abbrev dktX3_exchange_5 : List UInt8 := dkwX3_exchange_5 ++ dktX3_exchange_6
def dkwX3_exchange_4 : List UInt8 := [42, 21, 4, 6, 182, 0, 133, 96, 21, 5, 96, 54, 6, 42, 180, 0, 7, 21, 6, 46, 54, 7, 42]
abbrev dktX3_exchange_4 : List UInt8 := dkwX3_exchange_4 ++ dktX3_exchange_5
def dkwX3_exchange_3 : List UInt8 := [182, 0, 162, 4, 163, 0, 13, 42, 21, 4, 7, 182, 0, 133, 167, 0, 4, 3, 162, 0, 83, 17, 25, 245]
abbrev dktX3_exchange_3 : List UInt8 := dkwX3_exchange_3 ++ dktX3_exchange_4
def dkwX3_exchange_2 : List UInt8 := [180, 0, 7, 16, 43, 46, 162, 0, 123, 27, 28, 159, 0, 118, 3, 54, 5, 21, 5, 42, 21, 4]
abbrev dktX3_exchange_2 : List UInt8 := dkwX3_exchange_2 ++ dktX3_exchange_3
def dkwX3_exchange_1 : List UInt8 := [172, 42, 5, 182, 1, 49, 153, 0, 5, 3, 172, 42, 182, 0, 208, 3, 62, 3, 54, 4, 21, 4, 42]
abbrev dktX3_exchange_1 : List UInt8 := dkwX3_exchange_1 ++ dktX3_exchange_2
def dkwX3_exchange_0 : List UInt8 := [42, 3, 181, 0, 111, 27, 184, 0, 214, 153, 0, 10, 28, 184, 0, 214, 154, 0, 9, 42, 4, 182, 0, 117]
abbrev dktX3_exchange_0 : List UInt8 := dkwX3_exchange_0 ++ dktX3_exchange_1
theorem dksX3_exchange_0 : cX3_exchange.data.toList.drop 0 = dktX3_exchange_0 := by decide +kernel
theorem dksX3_exchange_1 : cX3_exchange.data.toList.drop 24 = dktX3_exchange_1 := dk_seg dksX3_exchange_0 24 rfl rfl
theorem dksX3_exchange_2 : cX3_exchange.data.toList.drop 47 = dktX3_exchange_2 := dk_seg dksX3_exchange_1 23 rfl rfl
theorem dksX3_exchange_3 : cX3_exchange.data.toList.drop 69 = dktX3_exchange_3 := dk_seg dksX3_exchange_2 22 rfl rfl
theorem dksX3_exchange_4 : cX3_exchange.data.toList.drop 93 = dktX3_exchange_4 := dk_seg dksX3_exchange_3 24 rfl rfl
theorem dksX3_exchange_5 : cX3_exchange.data.toList.drop 116 = dktX3_exchange_5 := dk_seg dksX3_exchange_4 23 rfl rfl
theorem dksX3_exchange_6 : cX3_exchange.data.toList.drop 138 = dktX3_exchange_6 := dk_seg dksX3_exchange_5 22 rfl rfl
theorem dksX3_exchange_7 : cX3_exchange.data.toList.drop 162 = dktX3_exchange_7 := dk_seg dksX3_exchange_6 24 rfl rfl
theorem dksX3_exchange_8 : cX3_exchange.data.toList.drop 184 = dktX3_exchange_8 := dk_seg dksX3_exchange_7 22 rfl rfl
theorem dX3_exchange_0 : decode cX3_exchange 0 = .ok (.aload_n 0, 1) := dk_42 (dk_at dksX3_exchange_0 0 rfl rfl)
theorem dX3_exchange_1 : decode cX3_exchange 1 = .ok (.iconst 0, 1) := dk_3 (dk_at dksX3_exchange_0 1 rfl rfl)
theorem dX3_exchange_2 : decode cX3_exchange 2 = .ok (.putfield 111, 3) := dk_181 0 111 (dk_at dksX3_exchange_0 2 rfl rfl)
theorem dX3_exchange_5 : decode cX3_exchange 5 = .ok (.iload_n 1, 1) := dk_27 (dk_at dksX3_exchange_0 5 rfl rfl)
theorem dX3_exchange_6 : decode cX3_exchange 6 = .ok (.invokestatic 214, 3) := dk_184 0 214 (dk_at dksX3_exchange_0 6 rfl rfl)
theorem dX3_exchange_9 : decode cX3_exchange 9 = .ok (.ifCond .eq 10, 3) := dk_153 0 10 (dk_at dksX3_exchange_0 9 rfl rfl)
theorem dX3_exchange_12 : decode cX3_exchange 12 = .ok (.iload_n 2, 1) := dk_28 (dk_at dksX3_exchange_0 12 rfl rfl)
theorem dX3_exchange_13 : decode cX3_exchange 13 = .ok (.invokestatic 214, 3) := dk_184 0 214 (dk_at dksX3_exchange_0 13 rfl rfl)
theorem dX3_exchange_16 : decode cX3_exchange 16 = .ok (.ifCond .ne 9, 3) := dk_154 0 9 (dk_at dksX3_exchange_0 16 rfl rfl)
theorem dX3_exchange_19 : decode cX3_exchange 19 = .ok (.aload_n 0, 1) := dk_42 (dk_at dksX3_exchange_0 19 rfl rfl)
theorem dX3_exchange_20 : decode cX3_exchange 20 = .ok (.iconst 1, 1) := dk_4 (dk_at dksX3_exchange_0 20 rfl rfl)
theorem dX3_exchange_21 : decode cX3_exchange 21 = .ok (.invokevirtual 117, 3) := dk_182 0 117 (dk_at dksX3_exchange_0 21 rfl rfl)
theorem dX3_exchange_24 : decode cX3_exchange 24 = .ok (.ireturn, 1) := dk_172 (dk_at dksX3_exchange_1 0 rfl rfl)
theorem dX3_exchange_25 : decode cX3_exchange 25 = .ok (.aload_n 0, 1) := dk_42 (dk_at dksX3_exchange_1 1 rfl rfl)
theorem dX3_exchange_26 : decode cX3_exchange 26 = .ok (.iconst 2, 1) := dk_5 (dk_at dksX3_exchange_1 2 rfl rfl)
theorem dX3_exchange_27 : decode cX3_exchange 27 = .ok (.invokevirtual 305, 3) := dk_182 1 49 (dk_at dksX3_exchange_1 3 rfl rfl)
theorem dX3_exchange_30 : decode cX3_exchange 30 = .ok (.ifCond .eq 5, 3) := dk_153 0 5 (dk_at dksX3_exchange_1 6 rfl rfl)
theorem dX3_exchange_33 : decode cX3_exchange 33 = .ok (.iconst 0, 1) := dk_3 (dk_at dksX3_exchange_1 9 rfl rfl)
theorem dX3_exchange_34 : decode cX3_exchange 34 = .ok (.ireturn, 1) := dk_172 (dk_at dksX3_exchange_1 10 rfl rfl)
theorem dX3_exchange_35 : decode cX3_exchange 35 = .ok (.aload_n 0, 1) := dk_42 (dk_at dksX3_exchange_1 11 rfl rfl)
theorem dX3_exchange_36 : decode cX3_exchange 36 = .ok (.invokevirtual 208, 3) := dk_182 0 208 (dk_at dksX3_exchange_1 12 rfl rfl)
theorem dX3_exchange_39 : decode cX3_exchange 39 = .ok (.iconst 0, 1) := dk_3 (dk_at dksX3_exchange_1 15 rfl rfl)
theorem dX3_exchange_40 : decode cX3_exchange 40 = .ok (.istore_n 3, 1) := dk_62 (dk_at dksX3_exchange_1 16 rfl rfl)
theorem dX3_exchange_41 : decode cX3_exchange 41 = .ok (.iconst 0, 1) := dk_3 (dk_at dksX3_exchange_1 17 rfl rfl)
theorem dX3_exchange_42 : decode cX3_exchange 42 = .ok (.istore 4, 2) := dk_54 4 (dk_at dksX3_exchange_1 18 rfl rfl)
theorem dX3_exchange_44 : decode cX3_exchange 44 = .ok (.iload 4, 2) := dk_21 4 (dk_at dksX3_exchange_1 20 rfl rfl)
theorem dX3_exchange_46 : decode cX3_exchange 46 = .ok (.aload_n 0, 1) := dk_42 (dk_at dksX3_exchange_1 22 rfl rfl)
theorem dX3_exchange_47 : decode cX3_exchange 47 = .ok (.getfield 7, 3) := dk_180 0 7 (dk_at dksX3_exchange_2 0 rfl rfl)
theorem dX3_exchange_50 : decode cX3_exchange 50 = .ok (.bipush 43, 2) := dk_16 43 (dk_at dksX3_exchange_2 3 rfl rfl)
theorem dX3_exchange_52 : decode cX3_exchange 52 = .ok (.iaload, 1) := dk_46 (dk_at dksX3_exchange_2 5 rfl rfl)
theorem dX3_exchange_53 : decode cX3_exchange 53 = .ok (.if_icmp .ge 123, 3) := dk_162 0 123 (dk_at dksX3_exchange_2 6 rfl rfl)
theorem dX3_exchange_56 : decode cX3_exchange 56 = .ok (.iload_n 1, 1) := dk_27 (dk_at dksX3_exchange_2 9 rfl rfl)
theorem dX3_exchange_57 : decode cX3_exchange 57 = .ok (.iload_n 2, 1) := dk_28 (dk_at dksX3_exchange_2 10 rfl rfl)
theorem dX3_exchange_58 : decode cX3_exchange 58 = .ok (.if_icmp .eq 118, 3) := dk_159 0 118 (dk_at dksX3_exchange_2 11 rfl rfl)
theorem dX3_exchange_61 : decode cX3_exchange 61 = .ok (.iconst 0, 1) := dk_3 (dk_at dksX3_exchange_2 14 rfl rfl)
theorem dX3_exchange_62 : decode cX3_exchange 62 = .ok (.istore 5, 2) := dk_54 5 (dk_at dksX3_exchange_2 15 rfl rfl)
theorem dX3_exchange_64 : decode cX3_exchange 64 = .ok (.iload 5, 2) := dk_21 5 (dk_at dksX3_exchange_2 17 rfl rfl)
theorem dX3_exchange_66 : decode cX3_exchange 66 = .ok (.aload_n 0, 1) := dk_42 (dk_at dksX3_exchange_2 19 rfl rfl)
theorem dX3_exchange_67 : decode cX3_exchange 67 = .ok (.iload 4, 2) := dk_21 4 (dk_at dksX3_exchange_2 20 rfl rfl)
theorem dX3_exchange_69 : decode cX3_exchange 69 = .ok (.invokevirtual 162, 3) := dk_182 0 162 (dk_at dksX3_exchange_3 0 rfl rfl)
theorem dX3_exchange_72 : decode cX3_exchange 72 = .ok (.iconst 1, 1) := dk_4 (dk_at dksX3_exchange_3 3 rfl rfl)
theorem dX3_exchange_73 : decode cX3_exchange 73 = .ok (.if_icmp .gt 13, 3) := dk_163 0 13 (dk_at dksX3_exchange_3 4 rfl rfl)
theorem dX3_exchange_76 : decode cX3_exchange 76 = .ok (.aload_n 0, 1) := dk_42 (dk_at dksX3_exchange_3 7 rfl rfl)
theorem dX3_exchange_77 : decode cX3_exchange 77 = .ok (.iload 4, 2) := dk_21 4 (dk_at dksX3_exchange_3 8 rfl rfl)
theorem dX3_exchange_79 : decode cX3_exchange 79 = .ok (.iconst 4, 1) := dk_7 (dk_at dksX3_exchange_3 10 rfl rfl)
theorem dX3_exchange_80 : decode cX3_exchange 80 = .ok (.invokevirtual 133, 3) := dk_182 0 133 (dk_at dksX3_exchange_3 11 rfl rfl)
theorem dX3_exchange_83 : decode cX3_exchange 83 = .ok (.goto 4, 3) := dk_167 0 4 (dk_at dksX3_exchange_3 14 rfl rfl)
theorem dX3_exchange_86 : decode cX3_exchange 86 = .ok (.iconst 0, 1) := dk_3 (dk_at dksX3_exchange_3 17 rfl rfl)
theorem dX3_exchange_87 : decode cX3_exchange 87 = .ok (.if_icmp .ge 83, 3) := dk_162 0 83 (dk_at dksX3_exchange_3 18 rfl rfl)
theorem dX3_exchange_90 : decode cX3_exchange 90 = .ok (.sipush 6645, 3) := dk_17 25 245 (dk_at dksX3_exchange_3 21 rfl rfl)
theorem dX3_exchange_93 : decode cX3_exchange 93 = .ok (.aload_n 0, 1) := dk_42 (dk_at dksX3_exchange_4 0 rfl rfl)
theorem dX3_exchange_94 : decode cX3_exchange 94 = .ok (.iload 4, 2) := dk_21 4 (dk_at dksX3_exchange_4 1 rfl rfl)
theorem dX3_exchange_96 : decode cX3_exchange 96 = .ok (.iconst 3, 1) := dk_6 (dk_at dksX3_exchange_4 3 rfl rfl)
theorem dX3_exchange_97 : decode cX3_exchange 97 = .ok (.invokevirtual 133, 3) := dk_182 0 133 (dk_at dksX3_exchange_4 4 rfl rfl)
theorem dX3_exchange_100 : decode cX3_exchange 100 = .ok (.iadd, 1) := dk_96 (dk_at dksX3_exchange_4 7 rfl rfl)
theorem dX3_exchange_101 : decode cX3_exchange 101 = .ok (.iload 5, 2) := dk_21 5 (dk_at dksX3_exchange_4 8 rfl rfl)
theorem dX3_exchange_103 : decode cX3_exchange 103 = .ok (.iadd, 1) := dk_96 (dk_at dksX3_exchange_4 10 rfl rfl)
theorem dX3_exchange_104 : decode cX3_exchange 104 = .ok (.istore 6, 2) := dk_54 6 (dk_at dksX3_exchange_4 11 rfl rfl)
theorem dX3_exchange_106 : decode cX3_exchange 106 = .ok (.aload_n 0, 1) := dk_42 (dk_at dksX3_exchange_4 13 rfl rfl)
theorem dX3_exchange_107 : decode cX3_exchange 107 = .ok (.getfield 7, 3) := dk_180 0 7 (dk_at dksX3_exchange_4 14 rfl rfl)
theorem dX3_exchange_110 : decode cX3_exchange 110 = .ok (.iload 6, 2) := dk_21 6 (dk_at dksX3_exchange_4 17 rfl rfl)
theorem dX3_exchange_112 : decode cX3_exchange 112 = .ok (.iaload, 1) := dk_46 (dk_at dksX3_exchange_4 19 rfl rfl)
theorem dX3_exchange_113 : decode cX3_exchange 113 = .ok (.istore 7, 2) := dk_54 7 (dk_at dksX3_exchange_4 20 rfl rfl)
theorem dX3_exchange_115 : decode cX3_exchange 115 = .ok (.aload_n 0, 1) := dk_42 (dk_at dksX3_exchange_4 22 rfl rfl)
theorem dX3_exchange_116 : decode cX3_exchange 116 = .ok (.getfield 7, 3) := dk_180 0 7 (dk_at dksX3_exchange_5 0 rfl rfl)
theorem dX3_exchange_119 : decode cX3_exchange 119 = .ok (.iload 6, 2) := dk_21 6 (dk_at dksX3_exchange_5 3 rfl rfl)
theorem dX3_exchange_121 : decode cX3_exchange 121 = .ok (.iload 7, 2) := dk_21 7 (dk_at dksX3_exchange_5 5 rfl rfl)
theorem dX3_exchange_123 : decode cX3_exchange 123 = .ok (.iload_n 1, 1) := dk_27 (dk_at dksX3_exchange_5 7 rfl rfl)
theorem dX3_exchange_124 : decode cX3_exchange 124 = .ok (.if_icmp .ne 7, 3) := dk_160 0 7 (dk_at dksX3_exchange_5 8 rfl rfl)
theorem dX3_exchange_127 : decode cX3_exchange 127 = .ok (.iload_n 2, 1) := dk_28 (dk_at dksX3_exchange_5 11 rfl rfl)
theorem dX3_exchange_128 : decode cX3_exchange 128 = .ok (.goto 15, 3) := dk_167 0 15 (dk_at dksX3_exchange_5 12 rfl rfl)
theorem dX3_exchange_131 : decode cX3_exchange 131 = .ok (.iload 7, 2) := dk_21 7 (dk_at dksX3_exchange_5 15 rfl rfl)
theorem dX3_exchange_133 : decode cX3_exchange 133 = .ok (.iload_n 2, 1) := dk_28 (dk_at dksX3_exchange_5 17 rfl rfl)
theorem dX3_exchange_134 : decode cX3_exchange 134 = .ok (.if_icmp .ne 7, 3) := dk_160 0 7 (dk_at dksX3_exchange_5 18 rfl rfl)
theorem dX3_exchange_137 : decode cX3_exchange 137 = .ok (.iload_n 1, 1) := dk_27 (dk_at dksX3_exchange_5 21 rfl rfl)
theorem dX3_exchange_138 : decode cX3_exchange 138 = .ok (.goto 5, 3) := dk_167 0 5 (dk_at dksX3_exchange_6 0 rfl rfl)
theorem dX3_exchange_141 : decode cX3_exchange 141 = .ok (.iload 7, 2) := dk_21 7 (dk_at dksX3_exchange_6 3 rfl rfl)
theorem dX3_exchange_143 : decode cX3_exchange 143 = .ok (.iastore, 1) := dk_79 (dk_at dksX3_exchange_6 5 rfl rfl)
theorem dX3_exchange_144 : decode cX3_exchange 144 = .ok (.iload_n 3, 1) := dk_29 (dk_at dksX3_exchange_6 6 rfl rfl)
theorem dX3_exchange_145 : decode cX3_exchange 145 = .ok (.iload 7, 2) := dk_21 7 (dk_at dksX3_exchange_6 7 rfl rfl)
theorem dX3_exchange_147 : decode cX3_exchange 147 = .ok (.iload_n 1, 1) := dk_27 (dk_at dksX3_exchange_6 9 rfl rfl)
theorem dX3_exchange_148 : decode cX3_exchange 148 = .ok (.if_icmp .eq 9, 3) := dk_159 0 9 (dk_at dksX3_exchange_6 10 rfl rfl)
theorem dX3_exchange_151 : decode cX3_exchange 151 = .ok (.iload 7, 2) := dk_21 7 (dk_at dksX3_exchange_6 13 rfl rfl)
theorem dX3_exchange_153 : decode cX3_exchange 153 = .ok (.iload_n 2, 1) := dk_28 (dk_at dksX3_exchange_6 15 rfl rfl)
theorem dX3_exchange_154 : decode cX3_exchange 154 = .ok (.if_icmp .ne 7, 3) := dk_160 0 7 (dk_at dksX3_exchange_6 16 rfl rfl)
theorem dX3_exchange_157 : decode cX3_exchange 157 = .ok (.iconst 1, 1) := dk_4 (dk_at dksX3_exchange_6 19 rfl rfl)
theorem dX3_exchange_158 : decode cX3_exchange 158 = .ok (.goto 4, 3) := dk_167 0 4 (dk_at dksX3_exchange_6 20 rfl rfl)
theorem dX3_exchange_161 : decode cX3_exchange 161 = .ok (.iconst 0, 1) := dk_3 (dk_at dksX3_exchange_6 23 rfl rfl)
theorem dX3_exchange_162 : decode cX3_exchange 162 = .ok (.iadd, 1) := dk_96 (dk_at dksX3_exchange_7 0 rfl rfl)
theorem dX3_exchange_163 : decode cX3_exchange 163 = .ok (.istore_n 3, 1) := dk_62 (dk_at dksX3_exchange_7 1 rfl rfl)
theorem dX3_exchange_164 : decode cX3_exchange 164 = .ok (.iinc 5 1, 3) := dk_132 5 1 (dk_at dksX3_exchange_7 2 rfl rfl)
theorem dX3_exchange_167 : decode cX3_exchange 167 = .ok (.goto (-103), 3) := dk_167 255 153 (dk_at dksX3_exchange_7 5 rfl rfl)
theorem dX3_exchange_170 : decode cX3_exchange 170 = .ok (.iinc 4 1, 3) := dk_132 4 1 (dk_at dksX3_exchange_7 8 rfl rfl)
theorem dX3_exchange_173 : decode cX3_exchange 173 = .ok (.goto (-129), 3) := dk_167 255 127 (dk_at dksX3_exchange_7 11 rfl rfl)
theorem dX3_exchange_176 : decode cX3_exchange 176 = .ok (.iload_n 3, 1) := dk_29 (dk_at dksX3_exchange_7 14 rfl rfl)
theorem dX3_exchange_177 : decode cX3_exchange 177 = .ok (.ifCond .ne 11, 3) := dk_154 0 11 (dk_at dksX3_exchange_7 15 rfl rfl)
theorem dX3_exchange_180 : decode cX3_exchange 180 = .ok (.aload_n 0, 1) := dk_42 (dk_at dksX3_exchange_7 18 rfl rfl)
theorem dX3_exchange_181 : decode cX3_exchange 181 = .ok (.bipush 6, 2) := dk_16 6 (dk_at dksX3_exchange_7 19 rfl rfl)
theorem dX3_exchange_183 : decode cX3_exchange 183 = .ok (.iconst 2, 1) := dk_5 (dk_at dksX3_exchange_7 21 rfl rfl)
theorem dX3_exchange_184 : decode cX3_exchange 184 = .ok (.invokevirtual 202, 3) := dk_182 0 202 (dk_at dksX3_exchange_8 0 rfl rfl)
theorem dX3_exchange_187 : decode cX3_exchange 187 = .ok (.ireturn, 1) := dk_172 (dk_at dksX3_exchange_8 3 rfl rfl)
theorem dX3_exchange_188 : decode cX3_exchange 188 = .ok (.aload_n 0, 1) := dk_42 (dk_at dksX3_exchange_8 4 rfl rfl)
theorem dX3_exchange_189 : decode cX3_exchange 189 = .ok (.invokevirtual 211, 3) := dk_182 0 211 (dk_at dksX3_exchange_8 5 rfl rfl)
theorem dX3_exchange_192 : decode cX3_exchange 192 = .ok (.iload_n 3, 1) := dk_29 (dk_at dksX3_exchange_8 8 rfl rfl)
theorem dX3_exchange_193 : decode cX3_exchange 193 = .ok (.ireturn, 1) := dk_172 (dk_at dksX3_exchange_8 9 rfl rfl)
abbrev cX3_tree : ByteArray := prog_24_method_67_code
def yX3_tree : MethodName := ⟨RX3, "tree", "(I)I"⟩
def dkwX3_tree_4 : List UInt8 := [180, 0, 144, 172]
abbrev dktX3_tree_4 : List UInt8 := dkwX3_tree_4 ++ []
def dkwX3_tree_3 : List UInt8 := [42, 180, 0, 7, 16, 43, 46, 172, 42, 180, 0, 147, 172, 42, 182, 1, 67, 172, 42, 180, 0, 141, 172, 42]
abbrev dktX3_tree_3 : List UInt8 := dkwX3_tree_3 ++ dktX3_tree_4
def dkwX3_tree_2 : List UInt8 := [170, 0, 0, 0, 52, 0, 0, 0, 0, 0, 0, 0, 3, 0, 0, 0, 29, 0, 0, 0, 37, 0, 0, 0, 42, 0, 0, 0, 47]
abbrev dktX3_tree_2 : List UInt8 := dkwX3_tree_2 ++ dktX3_tree_3
def dkwX3_tree_1 : List UInt8 := [182, 1, 49, 153, 0, 5, 3, 172, 27]
abbrev dktX3_tree_1 : List UInt8 := dkwX3_tree_1 ++ dktX3_tree_2
def dkwX3_tree_0 : List UInt8 := [42, 3, 181, 0, 111, 27, 3, 7, 184, 0, 121, 154, 0, 9, 42, 4, 182, 0, 117, 172, 42, 5]
abbrev dktX3_tree_0 : List UInt8 := dkwX3_tree_0 ++ dktX3_tree_1
theorem dksX3_tree_0 : cX3_tree.data.toList.drop 0 = dktX3_tree_0 := by decide +kernel
theorem dksX3_tree_1 : cX3_tree.data.toList.drop 22 = dktX3_tree_1 := dk_seg dksX3_tree_0 22 rfl rfl
theorem dksX3_tree_2 : cX3_tree.data.toList.drop 31 = dktX3_tree_2 := dk_seg dksX3_tree_1 9 rfl rfl
theorem dksX3_tree_3 : cX3_tree.data.toList.drop 60 = dktX3_tree_3 := dk_seg dksX3_tree_2 29 rfl rfl
theorem dksX3_tree_4 : cX3_tree.data.toList.drop 84 = dktX3_tree_4 := dk_seg dksX3_tree_3 24 rfl rfl
theorem dX3_tree_0 : decode cX3_tree 0 = .ok (.aload_n 0, 1) := dk_42 (dk_at dksX3_tree_0 0 rfl rfl)
theorem dX3_tree_1 : decode cX3_tree 1 = .ok (.iconst 0, 1) := dk_3 (dk_at dksX3_tree_0 1 rfl rfl)
theorem dX3_tree_2 : decode cX3_tree 2 = .ok (.putfield 111, 3) := dk_181 0 111 (dk_at dksX3_tree_0 2 rfl rfl)
theorem dX3_tree_5 : decode cX3_tree 5 = .ok (.iload_n 1, 1) := dk_27 (dk_at dksX3_tree_0 5 rfl rfl)
theorem dX3_tree_6 : decode cX3_tree 6 = .ok (.iconst 0, 1) := dk_3 (dk_at dksX3_tree_0 6 rfl rfl)
theorem dX3_tree_7 : decode cX3_tree 7 = .ok (.iconst 4, 1) := dk_7 (dk_at dksX3_tree_0 7 rfl rfl)
theorem dX3_tree_8 : decode cX3_tree 8 = .ok (.invokestatic 121, 3) := dk_184 0 121 (dk_at dksX3_tree_0 8 rfl rfl)
theorem dX3_tree_11 : decode cX3_tree 11 = .ok (.ifCond .ne 9, 3) := dk_154 0 9 (dk_at dksX3_tree_0 11 rfl rfl)
theorem dX3_tree_14 : decode cX3_tree 14 = .ok (.aload_n 0, 1) := dk_42 (dk_at dksX3_tree_0 14 rfl rfl)
theorem dX3_tree_15 : decode cX3_tree 15 = .ok (.iconst 1, 1) := dk_4 (dk_at dksX3_tree_0 15 rfl rfl)
theorem dX3_tree_16 : decode cX3_tree 16 = .ok (.invokevirtual 117, 3) := dk_182 0 117 (dk_at dksX3_tree_0 16 rfl rfl)
theorem dX3_tree_19 : decode cX3_tree 19 = .ok (.ireturn, 1) := dk_172 (dk_at dksX3_tree_0 19 rfl rfl)
theorem dX3_tree_20 : decode cX3_tree 20 = .ok (.aload_n 0, 1) := dk_42 (dk_at dksX3_tree_0 20 rfl rfl)
theorem dX3_tree_21 : decode cX3_tree 21 = .ok (.iconst 2, 1) := dk_5 (dk_at dksX3_tree_0 21 rfl rfl)
theorem dX3_tree_22 : decode cX3_tree 22 = .ok (.invokevirtual 305, 3) := dk_182 1 49 (dk_at dksX3_tree_1 0 rfl rfl)
theorem dX3_tree_25 : decode cX3_tree 25 = .ok (.ifCond .eq 5, 3) := dk_153 0 5 (dk_at dksX3_tree_1 3 rfl rfl)
theorem dX3_tree_28 : decode cX3_tree 28 = .ok (.iconst 0, 1) := dk_3 (dk_at dksX3_tree_1 6 rfl rfl)
theorem dX3_tree_29 : decode cX3_tree 29 = .ok (.ireturn, 1) := dk_172 (dk_at dksX3_tree_1 7 rfl rfl)
theorem dX3_tree_30 : decode cX3_tree 30 = .ok (.iload_n 1, 1) := dk_27 (dk_at dksX3_tree_1 8 rfl rfl)
theorem dX3_tree_31 : decode cX3_tree 31 = .ok (.tableswitch 52 0 3 #[29, 37, 42, 47], 29) := by decide +kernel
theorem dX3_tree_60 : decode cX3_tree 60 = .ok (.aload_n 0, 1) := dk_42 (dk_at dksX3_tree_3 0 rfl rfl)
theorem dX3_tree_61 : decode cX3_tree 61 = .ok (.getfield 7, 3) := dk_180 0 7 (dk_at dksX3_tree_3 1 rfl rfl)
theorem dX3_tree_64 : decode cX3_tree 64 = .ok (.bipush 43, 2) := dk_16 43 (dk_at dksX3_tree_3 4 rfl rfl)
theorem dX3_tree_66 : decode cX3_tree 66 = .ok (.iaload, 1) := dk_46 (dk_at dksX3_tree_3 6 rfl rfl)
theorem dX3_tree_67 : decode cX3_tree 67 = .ok (.ireturn, 1) := dk_172 (dk_at dksX3_tree_3 7 rfl rfl)
theorem dX3_tree_68 : decode cX3_tree 68 = .ok (.aload_n 0, 1) := dk_42 (dk_at dksX3_tree_3 8 rfl rfl)
theorem dX3_tree_69 : decode cX3_tree 69 = .ok (.getfield 147, 3) := dk_180 0 147 (dk_at dksX3_tree_3 9 rfl rfl)
theorem dX3_tree_72 : decode cX3_tree 72 = .ok (.ireturn, 1) := dk_172 (dk_at dksX3_tree_3 12 rfl rfl)
theorem dX3_tree_73 : decode cX3_tree 73 = .ok (.aload_n 0, 1) := dk_42 (dk_at dksX3_tree_3 13 rfl rfl)
theorem dX3_tree_74 : decode cX3_tree 74 = .ok (.invokevirtual 323, 3) := dk_182 1 67 (dk_at dksX3_tree_3 14 rfl rfl)
theorem dX3_tree_77 : decode cX3_tree 77 = .ok (.ireturn, 1) := dk_172 (dk_at dksX3_tree_3 17 rfl rfl)
theorem dX3_tree_78 : decode cX3_tree 78 = .ok (.aload_n 0, 1) := dk_42 (dk_at dksX3_tree_3 18 rfl rfl)
theorem dX3_tree_79 : decode cX3_tree 79 = .ok (.getfield 141, 3) := dk_180 0 141 (dk_at dksX3_tree_3 19 rfl rfl)
theorem dX3_tree_82 : decode cX3_tree 82 = .ok (.ireturn, 1) := dk_172 (dk_at dksX3_tree_3 22 rfl rfl)
theorem dX3_tree_83 : decode cX3_tree 83 = .ok (.aload_n 0, 1) := dk_42 (dk_at dksX3_tree_3 23 rfl rfl)
theorem dX3_tree_84 : decode cX3_tree 84 = .ok (.getfield 144, 3) := dk_180 0 144 (dk_at dksX3_tree_4 0 rfl rfl)
theorem dX3_tree_87 : decode cX3_tree 87 = .ok (.ireturn, 1) := dk_172 (dk_at dksX3_tree_4 3 rfl rfl)
abbrev cX3_leaves : ByteArray := prog_24_method_66_code
def yX3_leaves : MethodName := ⟨RX3, "leaves", "()I"⟩
def dkwX3_leaves_1 : List UInt8 := [163, 0, 7, 4, 167, 0, 4, 3, 96, 60, 132, 2, 1, 167, 255, 225, 27, 172]
abbrev dktX3_leaves_1 : List UInt8 := dkwX3_leaves_1 ++ []
def dkwX3_leaves_0 : List UInt8 := [3, 60, 3, 61, 28, 42, 180, 0, 7, 16, 43, 46, 162, 0, 26, 27, 42, 28, 182, 0, 162, 5]
abbrev dktX3_leaves_0 : List UInt8 := dkwX3_leaves_0 ++ dktX3_leaves_1
theorem dksX3_leaves_0 : cX3_leaves.data.toList.drop 0 = dktX3_leaves_0 := by decide +kernel
theorem dksX3_leaves_1 : cX3_leaves.data.toList.drop 22 = dktX3_leaves_1 := dk_seg dksX3_leaves_0 22 rfl rfl
theorem dX3_leaves_0 : decode cX3_leaves 0 = .ok (.iconst 0, 1) := dk_3 (dk_at dksX3_leaves_0 0 rfl rfl)
theorem dX3_leaves_1 : decode cX3_leaves 1 = .ok (.istore_n 1, 1) := dk_60 (dk_at dksX3_leaves_0 1 rfl rfl)
theorem dX3_leaves_2 : decode cX3_leaves 2 = .ok (.iconst 0, 1) := dk_3 (dk_at dksX3_leaves_0 2 rfl rfl)
theorem dX3_leaves_3 : decode cX3_leaves 3 = .ok (.istore_n 2, 1) := dk_61 (dk_at dksX3_leaves_0 3 rfl rfl)
theorem dX3_leaves_4 : decode cX3_leaves 4 = .ok (.iload_n 2, 1) := dk_28 (dk_at dksX3_leaves_0 4 rfl rfl)
theorem dX3_leaves_5 : decode cX3_leaves 5 = .ok (.aload_n 0, 1) := dk_42 (dk_at dksX3_leaves_0 5 rfl rfl)
theorem dX3_leaves_6 : decode cX3_leaves 6 = .ok (.getfield 7, 3) := dk_180 0 7 (dk_at dksX3_leaves_0 6 rfl rfl)
theorem dX3_leaves_9 : decode cX3_leaves 9 = .ok (.bipush 43, 2) := dk_16 43 (dk_at dksX3_leaves_0 9 rfl rfl)
theorem dX3_leaves_11 : decode cX3_leaves 11 = .ok (.iaload, 1) := dk_46 (dk_at dksX3_leaves_0 11 rfl rfl)
theorem dX3_leaves_12 : decode cX3_leaves 12 = .ok (.if_icmp .ge 26, 3) := dk_162 0 26 (dk_at dksX3_leaves_0 12 rfl rfl)
theorem dX3_leaves_15 : decode cX3_leaves 15 = .ok (.iload_n 1, 1) := dk_27 (dk_at dksX3_leaves_0 15 rfl rfl)
theorem dX3_leaves_16 : decode cX3_leaves 16 = .ok (.aload_n 0, 1) := dk_42 (dk_at dksX3_leaves_0 16 rfl rfl)
theorem dX3_leaves_17 : decode cX3_leaves 17 = .ok (.iload_n 2, 1) := dk_28 (dk_at dksX3_leaves_0 17 rfl rfl)
theorem dX3_leaves_18 : decode cX3_leaves 18 = .ok (.invokevirtual 162, 3) := dk_182 0 162 (dk_at dksX3_leaves_0 18 rfl rfl)
theorem dX3_leaves_21 : decode cX3_leaves 21 = .ok (.iconst 2, 1) := dk_5 (dk_at dksX3_leaves_0 21 rfl rfl)
theorem dX3_leaves_22 : decode cX3_leaves 22 = .ok (.if_icmp .gt 7, 3) := dk_163 0 7 (dk_at dksX3_leaves_1 0 rfl rfl)
theorem dX3_leaves_25 : decode cX3_leaves 25 = .ok (.iconst 1, 1) := dk_4 (dk_at dksX3_leaves_1 3 rfl rfl)
theorem dX3_leaves_26 : decode cX3_leaves 26 = .ok (.goto 4, 3) := dk_167 0 4 (dk_at dksX3_leaves_1 4 rfl rfl)
theorem dX3_leaves_29 : decode cX3_leaves 29 = .ok (.iconst 0, 1) := dk_3 (dk_at dksX3_leaves_1 7 rfl rfl)
theorem dX3_leaves_30 : decode cX3_leaves 30 = .ok (.iadd, 1) := dk_96 (dk_at dksX3_leaves_1 8 rfl rfl)
theorem dX3_leaves_31 : decode cX3_leaves 31 = .ok (.istore_n 1, 1) := dk_60 (dk_at dksX3_leaves_1 9 rfl rfl)
theorem dX3_leaves_32 : decode cX3_leaves 32 = .ok (.iinc 2 1, 3) := dk_132 2 1 (dk_at dksX3_leaves_1 10 rfl rfl)
theorem dX3_leaves_35 : decode cX3_leaves 35 = .ok (.goto (-31), 3) := dk_167 255 225 (dk_at dksX3_leaves_1 13 rfl rfl)
theorem dX3_leaves_38 : decode cX3_leaves 38 = .ok (.iload_n 1, 1) := dk_27 (dk_at dksX3_leaves_1 16 rfl rfl)
theorem dX3_leaves_39 : decode cX3_leaves 39 = .ok (.ireturn, 1) := dk_172 (dk_at dksX3_leaves_1 17 rfl rfl)
abbrev cX3_step : ByteArray := prog_24_method_74_code
def yX3_step : MethodName := ⟨RX3, "step", "(II)C"⟩
def dkwX3_step_2 : List UInt8 := [16, 100, 27, 104, 28, 96, 46, 184, 1, 38, 167, 0, 9, 42, 6, 182, 0, 117, 146, 172]
abbrev dktX3_step_2 : List UInt8 := dkwX3_step_2 ++ []
def dkwX3_step_1 : List UInt8 := [153, 0, 5, 3, 172, 28, 3, 42, 180, 0, 141, 4, 100, 184, 0, 121, 153, 0, 20, 42, 180, 0, 36]
abbrev dktX3_step_1 : List UInt8 := dkwX3_step_1 ++ dktX3_step_2
def dkwX3_step_0 : List UInt8 := [42, 3, 181, 0, 111, 27, 184, 0, 214, 154, 0, 10, 42, 4, 182, 0, 117, 146, 172, 42, 5, 182, 1, 49]
abbrev dktX3_step_0 : List UInt8 := dkwX3_step_0 ++ dktX3_step_1
theorem dksX3_step_0 : cX3_step.data.toList.drop 0 = dktX3_step_0 := by decide +kernel
theorem dksX3_step_1 : cX3_step.data.toList.drop 24 = dktX3_step_1 := dk_seg dksX3_step_0 24 rfl rfl
theorem dksX3_step_2 : cX3_step.data.toList.drop 47 = dktX3_step_2 := dk_seg dksX3_step_1 23 rfl rfl
theorem dX3_step_0 : decode cX3_step 0 = .ok (.aload_n 0, 1) := dk_42 (dk_at dksX3_step_0 0 rfl rfl)
theorem dX3_step_1 : decode cX3_step 1 = .ok (.iconst 0, 1) := dk_3 (dk_at dksX3_step_0 1 rfl rfl)
theorem dX3_step_2 : decode cX3_step 2 = .ok (.putfield 111, 3) := dk_181 0 111 (dk_at dksX3_step_0 2 rfl rfl)
theorem dX3_step_5 : decode cX3_step 5 = .ok (.iload_n 1, 1) := dk_27 (dk_at dksX3_step_0 5 rfl rfl)
theorem dX3_step_6 : decode cX3_step 6 = .ok (.invokestatic 214, 3) := dk_184 0 214 (dk_at dksX3_step_0 6 rfl rfl)
theorem dX3_step_9 : decode cX3_step 9 = .ok (.ifCond .ne 10, 3) := dk_154 0 10 (dk_at dksX3_step_0 9 rfl rfl)
theorem dX3_step_12 : decode cX3_step 12 = .ok (.aload_n 0, 1) := dk_42 (dk_at dksX3_step_0 12 rfl rfl)
theorem dX3_step_13 : decode cX3_step 13 = .ok (.iconst 1, 1) := dk_4 (dk_at dksX3_step_0 13 rfl rfl)
theorem dX3_step_14 : decode cX3_step 14 = .ok (.invokevirtual 117, 3) := dk_182 0 117 (dk_at dksX3_step_0 14 rfl rfl)
theorem dX3_step_17 : decode cX3_step 17 = .ok (.i2c, 1) := dk_146 (dk_at dksX3_step_0 17 rfl rfl)
theorem dX3_step_18 : decode cX3_step 18 = .ok (.ireturn, 1) := dk_172 (dk_at dksX3_step_0 18 rfl rfl)
theorem dX3_step_19 : decode cX3_step 19 = .ok (.aload_n 0, 1) := dk_42 (dk_at dksX3_step_0 19 rfl rfl)
theorem dX3_step_20 : decode cX3_step 20 = .ok (.iconst 2, 1) := dk_5 (dk_at dksX3_step_0 20 rfl rfl)
theorem dX3_step_21 : decode cX3_step 21 = .ok (.invokevirtual 305, 3) := dk_182 1 49 (dk_at dksX3_step_0 21 rfl rfl)
theorem dX3_step_24 : decode cX3_step 24 = .ok (.ifCond .eq 5, 3) := dk_153 0 5 (dk_at dksX3_step_1 0 rfl rfl)
theorem dX3_step_27 : decode cX3_step 27 = .ok (.iconst 0, 1) := dk_3 (dk_at dksX3_step_1 3 rfl rfl)
theorem dX3_step_28 : decode cX3_step 28 = .ok (.ireturn, 1) := dk_172 (dk_at dksX3_step_1 4 rfl rfl)
theorem dX3_step_29 : decode cX3_step 29 = .ok (.iload_n 2, 1) := dk_28 (dk_at dksX3_step_1 5 rfl rfl)
theorem dX3_step_30 : decode cX3_step 30 = .ok (.iconst 0, 1) := dk_3 (dk_at dksX3_step_1 6 rfl rfl)
theorem dX3_step_31 : decode cX3_step 31 = .ok (.aload_n 0, 1) := dk_42 (dk_at dksX3_step_1 7 rfl rfl)
theorem dX3_step_32 : decode cX3_step 32 = .ok (.getfield 141, 3) := dk_180 0 141 (dk_at dksX3_step_1 8 rfl rfl)
theorem dX3_step_35 : decode cX3_step 35 = .ok (.iconst 1, 1) := dk_4 (dk_at dksX3_step_1 11 rfl rfl)
theorem dX3_step_36 : decode cX3_step 36 = .ok (.isub, 1) := dk_100 (dk_at dksX3_step_1 12 rfl rfl)
theorem dX3_step_37 : decode cX3_step 37 = .ok (.invokestatic 121, 3) := dk_184 0 121 (dk_at dksX3_step_1 13 rfl rfl)
theorem dX3_step_40 : decode cX3_step 40 = .ok (.ifCond .eq 20, 3) := dk_153 0 20 (dk_at dksX3_step_1 16 rfl rfl)
theorem dX3_step_43 : decode cX3_step 43 = .ok (.aload_n 0, 1) := dk_42 (dk_at dksX3_step_1 19 rfl rfl)
theorem dX3_step_44 : decode cX3_step 44 = .ok (.getfield 36, 3) := dk_180 0 36 (dk_at dksX3_step_1 20 rfl rfl)
theorem dX3_step_47 : decode cX3_step 47 = .ok (.bipush 100, 2) := dk_16 100 (dk_at dksX3_step_2 0 rfl rfl)
theorem dX3_step_49 : decode cX3_step 49 = .ok (.iload_n 1, 1) := dk_27 (dk_at dksX3_step_2 2 rfl rfl)
theorem dX3_step_50 : decode cX3_step 50 = .ok (.imul, 1) := dk_104 (dk_at dksX3_step_2 3 rfl rfl)
theorem dX3_step_51 : decode cX3_step 51 = .ok (.iload_n 2, 1) := dk_28 (dk_at dksX3_step_2 4 rfl rfl)
theorem dX3_step_52 : decode cX3_step 52 = .ok (.iadd, 1) := dk_96 (dk_at dksX3_step_2 5 rfl rfl)
theorem dX3_step_53 : decode cX3_step 53 = .ok (.iaload, 1) := dk_46 (dk_at dksX3_step_2 6 rfl rfl)
theorem dX3_step_54 : decode cX3_step 54 = .ok (.invokestatic 294, 3) := dk_184 1 38 (dk_at dksX3_step_2 7 rfl rfl)
theorem dX3_step_57 : decode cX3_step 57 = .ok (.goto 9, 3) := dk_167 0 9 (dk_at dksX3_step_2 10 rfl rfl)
theorem dX3_step_60 : decode cX3_step 60 = .ok (.aload_n 0, 1) := dk_42 (dk_at dksX3_step_2 13 rfl rfl)
theorem dX3_step_61 : decode cX3_step 61 = .ok (.iconst 3, 1) := dk_6 (dk_at dksX3_step_2 14 rfl rfl)
theorem dX3_step_62 : decode cX3_step 62 = .ok (.invokevirtual 117, 3) := dk_182 0 117 (dk_at dksX3_step_2 15 rfl rfl)
theorem dX3_step_65 : decode cX3_step 65 = .ok (.i2c, 1) := dk_146 (dk_at dksX3_step_2 18 rfl rfl)
theorem dX3_step_66 : decode cX3_step 66 = .ok (.ireturn, 1) := dk_172 (dk_at dksX3_step_2 19 rfl rfl)
abbrev cX3_position : ByteArray := prog_24_method_75_code
def yX3_position : MethodName := ⟨RX3, "position", "(IIZ)I"⟩
def dkwX3_position_3 : List UInt8 := [28, 182, 1, 86, 172]
abbrev dktX3_position_3 : List UInt8 := dkwX3_position_3 ++ []
def dkwX3_position_2 : List UInt8 := [154, 0, 9, 42, 6, 182, 0, 117, 172, 29, 153, 0, 12, 42, 27, 28, 182, 1, 83, 167, 0, 9, 42, 27]
abbrev dktX3_position_2 : List UInt8 := dkwX3_position_2 ++ dktX3_position_3
def dkwX3_position_1 : List UInt8 := [153, 0, 5, 3, 172, 28, 3, 42, 180, 0, 141, 184, 0, 121, 153, 0, 11, 42, 27, 182, 1, 80]
abbrev dktX3_position_1 : List UInt8 := dkwX3_position_1 ++ dktX3_position_2
def dkwX3_position_0 : List UInt8 := [42, 3, 181, 0, 111, 27, 184, 0, 214, 154, 0, 9, 42, 4, 182, 0, 117, 172, 42, 5, 182, 1, 49]
abbrev dktX3_position_0 : List UInt8 := dkwX3_position_0 ++ dktX3_position_1
theorem dksX3_position_0 : cX3_position.data.toList.drop 0 = dktX3_position_0 := by decide +kernel
theorem dksX3_position_1 : cX3_position.data.toList.drop 23 = dktX3_position_1 := dk_seg dksX3_position_0 23 rfl rfl
theorem dksX3_position_2 : cX3_position.data.toList.drop 45 = dktX3_position_2 := dk_seg dksX3_position_1 22 rfl rfl
theorem dksX3_position_3 : cX3_position.data.toList.drop 69 = dktX3_position_3 := dk_seg dksX3_position_2 24 rfl rfl
theorem dX3_position_0 : decode cX3_position 0 = .ok (.aload_n 0, 1) := dk_42 (dk_at dksX3_position_0 0 rfl rfl)
theorem dX3_position_1 : decode cX3_position 1 = .ok (.iconst 0, 1) := dk_3 (dk_at dksX3_position_0 1 rfl rfl)
theorem dX3_position_2 : decode cX3_position 2 = .ok (.putfield 111, 3) := dk_181 0 111 (dk_at dksX3_position_0 2 rfl rfl)
theorem dX3_position_5 : decode cX3_position 5 = .ok (.iload_n 1, 1) := dk_27 (dk_at dksX3_position_0 5 rfl rfl)
theorem dX3_position_6 : decode cX3_position 6 = .ok (.invokestatic 214, 3) := dk_184 0 214 (dk_at dksX3_position_0 6 rfl rfl)
theorem dX3_position_9 : decode cX3_position 9 = .ok (.ifCond .ne 9, 3) := dk_154 0 9 (dk_at dksX3_position_0 9 rfl rfl)
theorem dX3_position_12 : decode cX3_position 12 = .ok (.aload_n 0, 1) := dk_42 (dk_at dksX3_position_0 12 rfl rfl)
theorem dX3_position_13 : decode cX3_position 13 = .ok (.iconst 1, 1) := dk_4 (dk_at dksX3_position_0 13 rfl rfl)
theorem dX3_position_14 : decode cX3_position 14 = .ok (.invokevirtual 117, 3) := dk_182 0 117 (dk_at dksX3_position_0 14 rfl rfl)
theorem dX3_position_17 : decode cX3_position 17 = .ok (.ireturn, 1) := dk_172 (dk_at dksX3_position_0 17 rfl rfl)
theorem dX3_position_18 : decode cX3_position 18 = .ok (.aload_n 0, 1) := dk_42 (dk_at dksX3_position_0 18 rfl rfl)
theorem dX3_position_19 : decode cX3_position 19 = .ok (.iconst 2, 1) := dk_5 (dk_at dksX3_position_0 19 rfl rfl)
theorem dX3_position_20 : decode cX3_position 20 = .ok (.invokevirtual 305, 3) := dk_182 1 49 (dk_at dksX3_position_0 20 rfl rfl)
theorem dX3_position_23 : decode cX3_position 23 = .ok (.ifCond .eq 5, 3) := dk_153 0 5 (dk_at dksX3_position_1 0 rfl rfl)
theorem dX3_position_26 : decode cX3_position 26 = .ok (.iconst 0, 1) := dk_3 (dk_at dksX3_position_1 3 rfl rfl)
theorem dX3_position_27 : decode cX3_position 27 = .ok (.ireturn, 1) := dk_172 (dk_at dksX3_position_1 4 rfl rfl)
theorem dX3_position_28 : decode cX3_position 28 = .ok (.iload_n 2, 1) := dk_28 (dk_at dksX3_position_1 5 rfl rfl)
theorem dX3_position_29 : decode cX3_position 29 = .ok (.iconst 0, 1) := dk_3 (dk_at dksX3_position_1 6 rfl rfl)
theorem dX3_position_30 : decode cX3_position 30 = .ok (.aload_n 0, 1) := dk_42 (dk_at dksX3_position_1 7 rfl rfl)
theorem dX3_position_31 : decode cX3_position 31 = .ok (.getfield 141, 3) := dk_180 0 141 (dk_at dksX3_position_1 8 rfl rfl)
theorem dX3_position_34 : decode cX3_position 34 = .ok (.invokestatic 121, 3) := dk_184 0 121 (dk_at dksX3_position_1 11 rfl rfl)
theorem dX3_position_37 : decode cX3_position 37 = .ok (.ifCond .eq 11, 3) := dk_153 0 11 (dk_at dksX3_position_1 14 rfl rfl)
theorem dX3_position_40 : decode cX3_position 40 = .ok (.aload_n 0, 1) := dk_42 (dk_at dksX3_position_1 17 rfl rfl)
theorem dX3_position_41 : decode cX3_position 41 = .ok (.iload_n 1, 1) := dk_27 (dk_at dksX3_position_1 18 rfl rfl)
theorem dX3_position_42 : decode cX3_position 42 = .ok (.invokevirtual 336, 3) := dk_182 1 80 (dk_at dksX3_position_1 19 rfl rfl)
theorem dX3_position_45 : decode cX3_position 45 = .ok (.ifCond .ne 9, 3) := dk_154 0 9 (dk_at dksX3_position_2 0 rfl rfl)
theorem dX3_position_48 : decode cX3_position 48 = .ok (.aload_n 0, 1) := dk_42 (dk_at dksX3_position_2 3 rfl rfl)
theorem dX3_position_49 : decode cX3_position 49 = .ok (.iconst 3, 1) := dk_6 (dk_at dksX3_position_2 4 rfl rfl)
theorem dX3_position_50 : decode cX3_position 50 = .ok (.invokevirtual 117, 3) := dk_182 0 117 (dk_at dksX3_position_2 5 rfl rfl)
theorem dX3_position_53 : decode cX3_position 53 = .ok (.ireturn, 1) := dk_172 (dk_at dksX3_position_2 8 rfl rfl)
theorem dX3_position_54 : decode cX3_position 54 = .ok (.iload_n 3, 1) := dk_29 (dk_at dksX3_position_2 9 rfl rfl)
theorem dX3_position_55 : decode cX3_position 55 = .ok (.ifCond .eq 12, 3) := dk_153 0 12 (dk_at dksX3_position_2 10 rfl rfl)
theorem dX3_position_58 : decode cX3_position 58 = .ok (.aload_n 0, 1) := dk_42 (dk_at dksX3_position_2 13 rfl rfl)
theorem dX3_position_59 : decode cX3_position 59 = .ok (.iload_n 1, 1) := dk_27 (dk_at dksX3_position_2 14 rfl rfl)
theorem dX3_position_60 : decode cX3_position 60 = .ok (.iload_n 2, 1) := dk_28 (dk_at dksX3_position_2 15 rfl rfl)
theorem dX3_position_61 : decode cX3_position 61 = .ok (.invokevirtual 339, 3) := dk_182 1 83 (dk_at dksX3_position_2 16 rfl rfl)
theorem dX3_position_64 : decode cX3_position 64 = .ok (.goto 9, 3) := dk_167 0 9 (dk_at dksX3_position_2 19 rfl rfl)
theorem dX3_position_67 : decode cX3_position 67 = .ok (.aload_n 0, 1) := dk_42 (dk_at dksX3_position_2 22 rfl rfl)
theorem dX3_position_68 : decode cX3_position 68 = .ok (.iload_n 1, 1) := dk_27 (dk_at dksX3_position_2 23 rfl rfl)
theorem dX3_position_69 : decode cX3_position 69 = .ok (.iload_n 2, 1) := dk_28 (dk_at dksX3_position_3 0 rfl rfl)
theorem dX3_position_70 : decode cX3_position 70 = .ok (.invokevirtual 342, 3) := dk_182 1 86 (dk_at dksX3_position_3 1 rfl rfl)
theorem dX3_position_73 : decode cX3_position 73 = .ok (.ireturn, 1) := dk_172 (dk_at dksX3_position_3 4 rfl rfl)
abbrev cX3_takesPart : ByteArray := prog_24_method_68_code
def yX3_takesPart : MethodName := ⟨RX3, "takesPart", "(I)Z"⟩
def dkwX3_takesPart_0 : List UInt8 := [42, 180, 0, 7, 5, 27, 96, 46, 2, 159, 0, 7, 4, 167, 0, 4, 3, 172]
abbrev dktX3_takesPart_0 : List UInt8 := dkwX3_takesPart_0 ++ []
theorem dksX3_takesPart_0 : cX3_takesPart.data.toList.drop 0 = dktX3_takesPart_0 := by decide +kernel
theorem dX3_takesPart_0 : decode cX3_takesPart 0 = .ok (.aload_n 0, 1) := dk_42 (dk_at dksX3_takesPart_0 0 rfl rfl)
theorem dX3_takesPart_1 : decode cX3_takesPart 1 = .ok (.getfield 7, 3) := dk_180 0 7 (dk_at dksX3_takesPart_0 1 rfl rfl)
theorem dX3_takesPart_4 : decode cX3_takesPart 4 = .ok (.iconst 2, 1) := dk_5 (dk_at dksX3_takesPart_0 4 rfl rfl)
theorem dX3_takesPart_5 : decode cX3_takesPart 5 = .ok (.iload_n 1, 1) := dk_27 (dk_at dksX3_takesPart_0 5 rfl rfl)
theorem dX3_takesPart_6 : decode cX3_takesPart 6 = .ok (.iadd, 1) := dk_96 (dk_at dksX3_takesPart_0 6 rfl rfl)
theorem dX3_takesPart_7 : decode cX3_takesPart 7 = .ok (.iaload, 1) := dk_46 (dk_at dksX3_takesPart_0 7 rfl rfl)
theorem dX3_takesPart_8 : decode cX3_takesPart 8 = .ok (.iconst (-1), 1) := dk_2 (dk_at dksX3_takesPart_0 8 rfl rfl)
theorem dX3_takesPart_9 : decode cX3_takesPart 9 = .ok (.if_icmp .eq 7, 3) := dk_159 0 7 (dk_at dksX3_takesPart_0 9 rfl rfl)
theorem dX3_takesPart_12 : decode cX3_takesPart 12 = .ok (.iconst 1, 1) := dk_4 (dk_at dksX3_takesPart_0 12 rfl rfl)
theorem dX3_takesPart_13 : decode cX3_takesPart 13 = .ok (.goto 4, 3) := dk_167 0 4 (dk_at dksX3_takesPart_0 13 rfl rfl)
theorem dX3_takesPart_16 : decode cX3_takesPart 16 = .ok (.iconst 0, 1) := dk_3 (dk_at dksX3_takesPart_0 16 rfl rfl)
theorem dX3_takesPart_17 : decode cX3_takesPart 17 = .ok (.ireturn, 1) := dk_172 (dk_at dksX3_takesPart_0 17 rfl rfl)
abbrev cX3_row : ByteArray := prog_24_method_73_code
def yX3_row : MethodName := ⟨RX3, "row", "(II)I"⟩
def dkwX3_row_0 : List UInt8 := [42, 180, 0, 7, 5, 27, 96, 46, 42, 180, 0, 7, 3, 46, 108, 42, 27, 28, 4, 182, 1, 76, 96, 172]
abbrev dktX3_row_0 : List UInt8 := dkwX3_row_0 ++ []
theorem dksX3_row_0 : cX3_row.data.toList.drop 0 = dktX3_row_0 := by decide +kernel
theorem dX3_row_0 : decode cX3_row 0 = .ok (.aload_n 0, 1) := dk_42 (dk_at dksX3_row_0 0 rfl rfl)
theorem dX3_row_1 : decode cX3_row 1 = .ok (.getfield 7, 3) := dk_180 0 7 (dk_at dksX3_row_0 1 rfl rfl)
theorem dX3_row_4 : decode cX3_row 4 = .ok (.iconst 2, 1) := dk_5 (dk_at dksX3_row_0 4 rfl rfl)
theorem dX3_row_5 : decode cX3_row 5 = .ok (.iload_n 1, 1) := dk_27 (dk_at dksX3_row_0 5 rfl rfl)
theorem dX3_row_6 : decode cX3_row 6 = .ok (.iadd, 1) := dk_96 (dk_at dksX3_row_0 6 rfl rfl)
theorem dX3_row_7 : decode cX3_row 7 = .ok (.iaload, 1) := dk_46 (dk_at dksX3_row_0 7 rfl rfl)
theorem dX3_row_8 : decode cX3_row 8 = .ok (.aload_n 0, 1) := dk_42 (dk_at dksX3_row_0 8 rfl rfl)
theorem dX3_row_9 : decode cX3_row 9 = .ok (.getfield 7, 3) := dk_180 0 7 (dk_at dksX3_row_0 9 rfl rfl)
theorem dX3_row_12 : decode cX3_row 12 = .ok (.iconst 0, 1) := dk_3 (dk_at dksX3_row_0 12 rfl rfl)
theorem dX3_row_13 : decode cX3_row 13 = .ok (.iaload, 1) := dk_46 (dk_at dksX3_row_0 13 rfl rfl)
theorem dX3_row_14 : decode cX3_row 14 = .ok (.idiv, 1) := dk_108 (dk_at dksX3_row_0 14 rfl rfl)
theorem dX3_row_15 : decode cX3_row 15 = .ok (.aload_n 0, 1) := dk_42 (dk_at dksX3_row_0 15 rfl rfl)
theorem dX3_row_16 : decode cX3_row 16 = .ok (.iload_n 1, 1) := dk_27 (dk_at dksX3_row_0 16 rfl rfl)
theorem dX3_row_17 : decode cX3_row 17 = .ok (.iload_n 2, 1) := dk_28 (dk_at dksX3_row_0 17 rfl rfl)
theorem dX3_row_18 : decode cX3_row 18 = .ok (.iconst 1, 1) := dk_4 (dk_at dksX3_row_0 18 rfl rfl)
theorem dX3_row_19 : decode cX3_row 19 = .ok (.invokevirtual 332, 3) := dk_182 1 76 (dk_at dksX3_row_0 19 rfl rfl)
theorem dX3_row_22 : decode cX3_row 22 = .ok (.iadd, 1) := dk_96 (dk_at dksX3_row_0 22 rfl rfl)
theorem dX3_row_23 : decode cX3_row 23 = .ok (.ireturn, 1) := dk_172 (dk_at dksX3_row_0 23 rfl rfl)
abbrev cX3_moved : ByteArray := prog_24_method_71_code
def yX3_moved : MethodName := ⟨RX3, "moved", "(IIZ)I"⟩
def dkwX3_moved_2 : List UInt8 := [184, 1, 73, 96, 54, 4, 132, 5, 1, 167, 255, 205, 21, 4, 172]
abbrev dktX3_moved_2 : List UInt8 := dkwX3_moved_2 ++ []
def dkwX3_moved_1 : List UInt8 := [27, 104, 21, 5, 96, 46, 184, 1, 70, 167, 0, 18, 42, 180, 0, 36, 16, 100, 27, 104, 21, 5, 96, 46]
abbrev dktX3_moved_1 : List UInt8 := dkwX3_moved_1 ++ dktX3_moved_2
def dkwX3_moved_0 : List UInt8 := [3, 54, 4, 3, 54, 5, 21, 5, 28, 162, 0, 51, 21, 4, 29, 153, 0, 21, 42, 180, 0, 36, 16, 100]
abbrev dktX3_moved_0 : List UInt8 := dkwX3_moved_0 ++ dktX3_moved_1
theorem dksX3_moved_0 : cX3_moved.data.toList.drop 0 = dktX3_moved_0 := by decide +kernel
theorem dksX3_moved_1 : cX3_moved.data.toList.drop 24 = dktX3_moved_1 := dk_seg dksX3_moved_0 24 rfl rfl
theorem dksX3_moved_2 : cX3_moved.data.toList.drop 48 = dktX3_moved_2 := dk_seg dksX3_moved_1 24 rfl rfl
theorem dX3_moved_0 : decode cX3_moved 0 = .ok (.iconst 0, 1) := dk_3 (dk_at dksX3_moved_0 0 rfl rfl)
theorem dX3_moved_1 : decode cX3_moved 1 = .ok (.istore 4, 2) := dk_54 4 (dk_at dksX3_moved_0 1 rfl rfl)
theorem dX3_moved_3 : decode cX3_moved 3 = .ok (.iconst 0, 1) := dk_3 (dk_at dksX3_moved_0 3 rfl rfl)
theorem dX3_moved_4 : decode cX3_moved 4 = .ok (.istore 5, 2) := dk_54 5 (dk_at dksX3_moved_0 4 rfl rfl)
theorem dX3_moved_6 : decode cX3_moved 6 = .ok (.iload 5, 2) := dk_21 5 (dk_at dksX3_moved_0 6 rfl rfl)
theorem dX3_moved_8 : decode cX3_moved 8 = .ok (.iload_n 2, 1) := dk_28 (dk_at dksX3_moved_0 8 rfl rfl)
theorem dX3_moved_9 : decode cX3_moved 9 = .ok (.if_icmp .ge 51, 3) := dk_162 0 51 (dk_at dksX3_moved_0 9 rfl rfl)
theorem dX3_moved_12 : decode cX3_moved 12 = .ok (.iload 4, 2) := dk_21 4 (dk_at dksX3_moved_0 12 rfl rfl)
theorem dX3_moved_14 : decode cX3_moved 14 = .ok (.iload_n 3, 1) := dk_29 (dk_at dksX3_moved_0 14 rfl rfl)
theorem dX3_moved_15 : decode cX3_moved 15 = .ok (.ifCond .eq 21, 3) := dk_153 0 21 (dk_at dksX3_moved_0 15 rfl rfl)
theorem dX3_moved_18 : decode cX3_moved 18 = .ok (.aload_n 0, 1) := dk_42 (dk_at dksX3_moved_0 18 rfl rfl)
theorem dX3_moved_19 : decode cX3_moved 19 = .ok (.getfield 36, 3) := dk_180 0 36 (dk_at dksX3_moved_0 19 rfl rfl)
theorem dX3_moved_22 : decode cX3_moved 22 = .ok (.bipush 100, 2) := dk_16 100 (dk_at dksX3_moved_0 22 rfl rfl)
theorem dX3_moved_24 : decode cX3_moved 24 = .ok (.iload_n 1, 1) := dk_27 (dk_at dksX3_moved_1 0 rfl rfl)
theorem dX3_moved_25 : decode cX3_moved 25 = .ok (.imul, 1) := dk_104 (dk_at dksX3_moved_1 1 rfl rfl)
theorem dX3_moved_26 : decode cX3_moved 26 = .ok (.iload 5, 2) := dk_21 5 (dk_at dksX3_moved_1 2 rfl rfl)
theorem dX3_moved_28 : decode cX3_moved 28 = .ok (.iadd, 1) := dk_96 (dk_at dksX3_moved_1 4 rfl rfl)
theorem dX3_moved_29 : decode cX3_moved 29 = .ok (.iaload, 1) := dk_46 (dk_at dksX3_moved_1 5 rfl rfl)
theorem dX3_moved_30 : decode cX3_moved 30 = .ok (.invokestatic 326, 3) := dk_184 1 70 (dk_at dksX3_moved_1 6 rfl rfl)
theorem dX3_moved_33 : decode cX3_moved 33 = .ok (.goto 18, 3) := dk_167 0 18 (dk_at dksX3_moved_1 9 rfl rfl)
theorem dX3_moved_36 : decode cX3_moved 36 = .ok (.aload_n 0, 1) := dk_42 (dk_at dksX3_moved_1 12 rfl rfl)
theorem dX3_moved_37 : decode cX3_moved 37 = .ok (.getfield 36, 3) := dk_180 0 36 (dk_at dksX3_moved_1 13 rfl rfl)
theorem dX3_moved_40 : decode cX3_moved 40 = .ok (.bipush 100, 2) := dk_16 100 (dk_at dksX3_moved_1 16 rfl rfl)
theorem dX3_moved_42 : decode cX3_moved 42 = .ok (.iload_n 1, 1) := dk_27 (dk_at dksX3_moved_1 18 rfl rfl)
theorem dX3_moved_43 : decode cX3_moved 43 = .ok (.imul, 1) := dk_104 (dk_at dksX3_moved_1 19 rfl rfl)
theorem dX3_moved_44 : decode cX3_moved 44 = .ok (.iload 5, 2) := dk_21 5 (dk_at dksX3_moved_1 20 rfl rfl)
theorem dX3_moved_46 : decode cX3_moved 46 = .ok (.iadd, 1) := dk_96 (dk_at dksX3_moved_1 22 rfl rfl)
theorem dX3_moved_47 : decode cX3_moved 47 = .ok (.iaload, 1) := dk_46 (dk_at dksX3_moved_1 23 rfl rfl)
theorem dX3_moved_48 : decode cX3_moved 48 = .ok (.invokestatic 329, 3) := dk_184 1 73 (dk_at dksX3_moved_2 0 rfl rfl)
theorem dX3_moved_51 : decode cX3_moved 51 = .ok (.iadd, 1) := dk_96 (dk_at dksX3_moved_2 3 rfl rfl)
theorem dX3_moved_52 : decode cX3_moved 52 = .ok (.istore 4, 2) := dk_54 4 (dk_at dksX3_moved_2 4 rfl rfl)
theorem dX3_moved_54 : decode cX3_moved 54 = .ok (.iinc 5 1, 3) := dk_132 5 1 (dk_at dksX3_moved_2 6 rfl rfl)
theorem dX3_moved_57 : decode cX3_moved 57 = .ok (.goto (-51), 3) := dk_167 255 205 (dk_at dksX3_moved_2 9 rfl rfl)
theorem dX3_moved_60 : decode cX3_moved 60 = .ok (.iload 4, 2) := dk_21 4 (dk_at dksX3_moved_2 12 rfl rfl)
theorem dX3_moved_62 : decode cX3_moved 62 = .ok (.ireturn, 1) := dk_172 (dk_at dksX3_moved_2 14 rfl rfl)
abbrev cX3_along : ByteArray := prog_24_method_70_code
def yX3_along : MethodName := ⟨RX3, "along", "(I)I"⟩
def dkwX3_along_0 : List UInt8 := [26, 4, 160, 0, 7, 4, 167, 0, 13, 26, 5, 160, 0, 7, 2, 167, 0, 4, 3, 172]
abbrev dktX3_along_0 : List UInt8 := dkwX3_along_0 ++ []
theorem dksX3_along_0 : cX3_along.data.toList.drop 0 = dktX3_along_0 := by decide +kernel
theorem dX3_along_0 : decode cX3_along 0 = .ok (.iload_n 0, 1) := dk_26 (dk_at dksX3_along_0 0 rfl rfl)
theorem dX3_along_1 : decode cX3_along 1 = .ok (.iconst 1, 1) := dk_4 (dk_at dksX3_along_0 1 rfl rfl)
theorem dX3_along_2 : decode cX3_along 2 = .ok (.if_icmp .ne 7, 3) := dk_160 0 7 (dk_at dksX3_along_0 2 rfl rfl)
theorem dX3_along_5 : decode cX3_along 5 = .ok (.iconst 1, 1) := dk_4 (dk_at dksX3_along_0 5 rfl rfl)
theorem dX3_along_6 : decode cX3_along 6 = .ok (.goto 13, 3) := dk_167 0 13 (dk_at dksX3_along_0 6 rfl rfl)
theorem dX3_along_9 : decode cX3_along 9 = .ok (.iload_n 0, 1) := dk_26 (dk_at dksX3_along_0 9 rfl rfl)
theorem dX3_along_10 : decode cX3_along 10 = .ok (.iconst 2, 1) := dk_5 (dk_at dksX3_along_0 10 rfl rfl)
theorem dX3_along_11 : decode cX3_along 11 = .ok (.if_icmp .ne 7, 3) := dk_160 0 7 (dk_at dksX3_along_0 11 rfl rfl)
theorem dX3_along_14 : decode cX3_along 14 = .ok (.iconst (-1), 1) := dk_2 (dk_at dksX3_along_0 14 rfl rfl)
theorem dX3_along_15 : decode cX3_along 15 = .ok (.goto 4, 3) := dk_167 0 4 (dk_at dksX3_along_0 15 rfl rfl)
theorem dX3_along_18 : decode cX3_along 18 = .ok (.iconst 0, 1) := dk_3 (dk_at dksX3_along_0 18 rfl rfl)
theorem dX3_along_19 : decode cX3_along 19 = .ok (.ireturn, 1) := dk_172 (dk_at dksX3_along_0 19 rfl rfl)
abbrev cX3_across : ByteArray := prog_24_method_69_code
def yX3_across : MethodName := ⟨RX3, "across", "(I)I"⟩
def dkwX3_across_0 : List UInt8 := [26, 6, 160, 0, 7, 4, 167, 0, 13, 26, 7, 160, 0, 7, 2, 167, 0, 4, 3, 172]
abbrev dktX3_across_0 : List UInt8 := dkwX3_across_0 ++ []
theorem dksX3_across_0 : cX3_across.data.toList.drop 0 = dktX3_across_0 := by decide +kernel
theorem dX3_across_0 : decode cX3_across 0 = .ok (.iload_n 0, 1) := dk_26 (dk_at dksX3_across_0 0 rfl rfl)
theorem dX3_across_1 : decode cX3_across 1 = .ok (.iconst 3, 1) := dk_6 (dk_at dksX3_across_0 1 rfl rfl)
theorem dX3_across_2 : decode cX3_across 2 = .ok (.if_icmp .ne 7, 3) := dk_160 0 7 (dk_at dksX3_across_0 2 rfl rfl)
theorem dX3_across_5 : decode cX3_across 5 = .ok (.iconst 1, 1) := dk_4 (dk_at dksX3_across_0 5 rfl rfl)
theorem dX3_across_6 : decode cX3_across 6 = .ok (.goto 13, 3) := dk_167 0 13 (dk_at dksX3_across_0 6 rfl rfl)
theorem dX3_across_9 : decode cX3_across 9 = .ok (.iload_n 0, 1) := dk_26 (dk_at dksX3_across_0 9 rfl rfl)
theorem dX3_across_10 : decode cX3_across 10 = .ok (.iconst 4, 1) := dk_7 (dk_at dksX3_across_0 10 rfl rfl)
theorem dX3_across_11 : decode cX3_across 11 = .ok (.if_icmp .ne 7, 3) := dk_160 0 7 (dk_at dksX3_across_0 11 rfl rfl)
theorem dX3_across_14 : decode cX3_across 14 = .ok (.iconst (-1), 1) := dk_2 (dk_at dksX3_across_0 14 rfl rfl)
theorem dX3_across_15 : decode cX3_across 15 = .ok (.goto 4, 3) := dk_167 0 4 (dk_at dksX3_across_0 15 rfl rfl)
theorem dX3_across_18 : decode cX3_across 18 = .ok (.iconst 0, 1) := dk_3 (dk_at dksX3_across_0 18 rfl rfl)
theorem dX3_across_19 : decode cX3_across 19 = .ok (.ireturn, 1) := dk_172 (dk_at dksX3_across_0 19 rfl rfl)
abbrev cX3_column : ByteArray := prog_24_method_72_code
def yX3_column : MethodName := ⟨RX3, "column", "(II)I"⟩
def dkwX3_column_0 : List UInt8 := [42, 180, 0, 7, 5, 27, 96, 46, 42, 180, 0, 7, 3, 46, 112, 42, 27, 28, 3, 182, 1, 76, 96, 172]
abbrev dktX3_column_0 : List UInt8 := dkwX3_column_0 ++ []
theorem dksX3_column_0 : cX3_column.data.toList.drop 0 = dktX3_column_0 := by decide +kernel
theorem dX3_column_0 : decode cX3_column 0 = .ok (.aload_n 0, 1) := dk_42 (dk_at dksX3_column_0 0 rfl rfl)
theorem dX3_column_1 : decode cX3_column 1 = .ok (.getfield 7, 3) := dk_180 0 7 (dk_at dksX3_column_0 1 rfl rfl)
theorem dX3_column_4 : decode cX3_column 4 = .ok (.iconst 2, 1) := dk_5 (dk_at dksX3_column_0 4 rfl rfl)
theorem dX3_column_5 : decode cX3_column 5 = .ok (.iload_n 1, 1) := dk_27 (dk_at dksX3_column_0 5 rfl rfl)
theorem dX3_column_6 : decode cX3_column 6 = .ok (.iadd, 1) := dk_96 (dk_at dksX3_column_0 6 rfl rfl)
theorem dX3_column_7 : decode cX3_column 7 = .ok (.iaload, 1) := dk_46 (dk_at dksX3_column_0 7 rfl rfl)
theorem dX3_column_8 : decode cX3_column 8 = .ok (.aload_n 0, 1) := dk_42 (dk_at dksX3_column_0 8 rfl rfl)
theorem dX3_column_9 : decode cX3_column 9 = .ok (.getfield 7, 3) := dk_180 0 7 (dk_at dksX3_column_0 9 rfl rfl)
theorem dX3_column_12 : decode cX3_column 12 = .ok (.iconst 0, 1) := dk_3 (dk_at dksX3_column_0 12 rfl rfl)
theorem dX3_column_13 : decode cX3_column 13 = .ok (.iaload, 1) := dk_46 (dk_at dksX3_column_0 13 rfl rfl)
theorem dX3_column_14 : decode cX3_column 14 = .ok (.irem, 1) := dk_112 (dk_at dksX3_column_0 14 rfl rfl)
theorem dX3_column_15 : decode cX3_column 15 = .ok (.aload_n 0, 1) := dk_42 (dk_at dksX3_column_0 15 rfl rfl)
theorem dX3_column_16 : decode cX3_column 16 = .ok (.iload_n 1, 1) := dk_27 (dk_at dksX3_column_0 16 rfl rfl)
theorem dX3_column_17 : decode cX3_column 17 = .ok (.iload_n 2, 1) := dk_28 (dk_at dksX3_column_0 17 rfl rfl)
theorem dX3_column_18 : decode cX3_column 18 = .ok (.iconst 0, 1) := dk_3 (dk_at dksX3_column_0 18 rfl rfl)
theorem dX3_column_19 : decode cX3_column 19 = .ok (.invokevirtual 332, 3) := dk_182 1 76 (dk_at dksX3_column_0 19 rfl rfl)
theorem dX3_column_22 : decode cX3_column 22 = .ok (.iadd, 1) := dk_96 (dk_at dksX3_column_0 22 rfl rfl)
theorem dX3_column_23 : decode cX3_column 23 = .ok (.ireturn, 1) := dk_172 (dk_at dksX3_column_0 23 rfl rfl)
abbrev cX3_problemCount : ByteArray := prog_24_method_81_code
def yX3_problemCount : MethodName := ⟨RX3, "problemCount", "(I)I"⟩
def dkwX3_problemCount_1 : List UInt8 := [182, 1, 49, 153, 0, 5, 3, 172, 42, 27, 2, 182, 1, 117, 42, 180, 1, 96, 172]
abbrev dktX3_problemCount_1 : List UInt8 := dkwX3_problemCount_1 ++ []
def dkwX3_problemCount_0 : List UInt8 := [42, 3, 181, 0, 111, 27, 3, 7, 184, 0, 121, 154, 0, 9, 42, 4, 182, 0, 117, 172, 42, 5]
abbrev dktX3_problemCount_0 : List UInt8 := dkwX3_problemCount_0 ++ dktX3_problemCount_1
theorem dksX3_problemCount_0 : cX3_problemCount.data.toList.drop 0 = dktX3_problemCount_0 := by decide +kernel
theorem dksX3_problemCount_1 : cX3_problemCount.data.toList.drop 22 = dktX3_problemCount_1 := dk_seg dksX3_problemCount_0 22 rfl rfl
theorem dX3_problemCount_0 : decode cX3_problemCount 0 = .ok (.aload_n 0, 1) := dk_42 (dk_at dksX3_problemCount_0 0 rfl rfl)
theorem dX3_problemCount_1 : decode cX3_problemCount 1 = .ok (.iconst 0, 1) := dk_3 (dk_at dksX3_problemCount_0 1 rfl rfl)
theorem dX3_problemCount_2 : decode cX3_problemCount 2 = .ok (.putfield 111, 3) := dk_181 0 111 (dk_at dksX3_problemCount_0 2 rfl rfl)
theorem dX3_problemCount_5 : decode cX3_problemCount 5 = .ok (.iload_n 1, 1) := dk_27 (dk_at dksX3_problemCount_0 5 rfl rfl)
theorem dX3_problemCount_6 : decode cX3_problemCount 6 = .ok (.iconst 0, 1) := dk_3 (dk_at dksX3_problemCount_0 6 rfl rfl)
theorem dX3_problemCount_7 : decode cX3_problemCount 7 = .ok (.iconst 4, 1) := dk_7 (dk_at dksX3_problemCount_0 7 rfl rfl)
theorem dX3_problemCount_8 : decode cX3_problemCount 8 = .ok (.invokestatic 121, 3) := dk_184 0 121 (dk_at dksX3_problemCount_0 8 rfl rfl)
theorem dX3_problemCount_11 : decode cX3_problemCount 11 = .ok (.ifCond .ne 9, 3) := dk_154 0 9 (dk_at dksX3_problemCount_0 11 rfl rfl)
theorem dX3_problemCount_14 : decode cX3_problemCount 14 = .ok (.aload_n 0, 1) := dk_42 (dk_at dksX3_problemCount_0 14 rfl rfl)
theorem dX3_problemCount_15 : decode cX3_problemCount 15 = .ok (.iconst 1, 1) := dk_4 (dk_at dksX3_problemCount_0 15 rfl rfl)
theorem dX3_problemCount_16 : decode cX3_problemCount 16 = .ok (.invokevirtual 117, 3) := dk_182 0 117 (dk_at dksX3_problemCount_0 16 rfl rfl)
theorem dX3_problemCount_19 : decode cX3_problemCount 19 = .ok (.ireturn, 1) := dk_172 (dk_at dksX3_problemCount_0 19 rfl rfl)
theorem dX3_problemCount_20 : decode cX3_problemCount 20 = .ok (.aload_n 0, 1) := dk_42 (dk_at dksX3_problemCount_0 20 rfl rfl)
theorem dX3_problemCount_21 : decode cX3_problemCount 21 = .ok (.iconst 2, 1) := dk_5 (dk_at dksX3_problemCount_0 21 rfl rfl)
theorem dX3_problemCount_22 : decode cX3_problemCount 22 = .ok (.invokevirtual 305, 3) := dk_182 1 49 (dk_at dksX3_problemCount_1 0 rfl rfl)
theorem dX3_problemCount_25 : decode cX3_problemCount 25 = .ok (.ifCond .eq 5, 3) := dk_153 0 5 (dk_at dksX3_problemCount_1 3 rfl rfl)
theorem dX3_problemCount_28 : decode cX3_problemCount 28 = .ok (.iconst 0, 1) := dk_3 (dk_at dksX3_problemCount_1 6 rfl rfl)
theorem dX3_problemCount_29 : decode cX3_problemCount 29 = .ok (.ireturn, 1) := dk_172 (dk_at dksX3_problemCount_1 7 rfl rfl)
theorem dX3_problemCount_30 : decode cX3_problemCount 30 = .ok (.aload_n 0, 1) := dk_42 (dk_at dksX3_problemCount_1 8 rfl rfl)
theorem dX3_problemCount_31 : decode cX3_problemCount 31 = .ok (.iload_n 1, 1) := dk_27 (dk_at dksX3_problemCount_1 9 rfl rfl)
theorem dX3_problemCount_32 : decode cX3_problemCount 32 = .ok (.iconst (-1), 1) := dk_2 (dk_at dksX3_problemCount_1 10 rfl rfl)
theorem dX3_problemCount_33 : decode cX3_problemCount 33 = .ok (.invokevirtual 373, 3) := dk_182 1 117 (dk_at dksX3_problemCount_1 11 rfl rfl)
theorem dX3_problemCount_36 : decode cX3_problemCount 36 = .ok (.aload_n 0, 1) := dk_42 (dk_at dksX3_problemCount_1 14 rfl rfl)
theorem dX3_problemCount_37 : decode cX3_problemCount 37 = .ok (.getfield 352, 3) := dk_180 1 96 (dk_at dksX3_problemCount_1 15 rfl rfl)
theorem dX3_problemCount_40 : decode cX3_problemCount 40 = .ok (.ireturn, 1) := dk_172 (dk_at dksX3_problemCount_1 18 rfl rfl)
abbrev cX3_searches : ByteArray := prog_24_method_79_code
def yX3_searches : MethodName := ⟨RX3, "searches", "(II)V"⟩
def dkwX3_searches_2 : List UInt8 := [132, 4, 1, 167, 255, 229, 132, 3, 1, 167, 255, 212, 177]
abbrev dktX3_searches_2 : List UInt8 := dkwX3_searches_2 ++ []
def dkwX3_searches_1 : List UInt8 := [7, 163, 0, 27, 27, 153, 0, 9, 27, 21, 4, 160, 0, 11, 42, 29, 21, 4, 28, 182, 1, 99]
abbrev dktX3_searches_1 : List UInt8 := dkwX3_searches_1 ++ dktX3_searches_2
def dkwX3_searches_0 : List UInt8 := [42, 182, 1, 93, 42, 3, 181, 1, 96, 3, 62, 29, 42, 180, 0, 141, 163, 0, 42, 4, 54, 4, 21, 4]
abbrev dktX3_searches_0 : List UInt8 := dkwX3_searches_0 ++ dktX3_searches_1
theorem dksX3_searches_0 : cX3_searches.data.toList.drop 0 = dktX3_searches_0 := by decide +kernel
theorem dksX3_searches_1 : cX3_searches.data.toList.drop 24 = dktX3_searches_1 := dk_seg dksX3_searches_0 24 rfl rfl
theorem dksX3_searches_2 : cX3_searches.data.toList.drop 46 = dktX3_searches_2 := dk_seg dksX3_searches_1 22 rfl rfl
theorem dX3_searches_0 : decode cX3_searches 0 = .ok (.aload_n 0, 1) := dk_42 (dk_at dksX3_searches_0 0 rfl rfl)
theorem dX3_searches_1 : decode cX3_searches 1 = .ok (.invokevirtual 349, 3) := dk_182 1 93 (dk_at dksX3_searches_0 1 rfl rfl)
theorem dX3_searches_4 : decode cX3_searches 4 = .ok (.aload_n 0, 1) := dk_42 (dk_at dksX3_searches_0 4 rfl rfl)
theorem dX3_searches_5 : decode cX3_searches 5 = .ok (.iconst 0, 1) := dk_3 (dk_at dksX3_searches_0 5 rfl rfl)
theorem dX3_searches_6 : decode cX3_searches 6 = .ok (.putfield 352, 3) := dk_181 1 96 (dk_at dksX3_searches_0 6 rfl rfl)
theorem dX3_searches_9 : decode cX3_searches 9 = .ok (.iconst 0, 1) := dk_3 (dk_at dksX3_searches_0 9 rfl rfl)
theorem dX3_searches_10 : decode cX3_searches 10 = .ok (.istore_n 3, 1) := dk_62 (dk_at dksX3_searches_0 10 rfl rfl)
theorem dX3_searches_11 : decode cX3_searches 11 = .ok (.iload_n 3, 1) := dk_29 (dk_at dksX3_searches_0 11 rfl rfl)
theorem dX3_searches_12 : decode cX3_searches 12 = .ok (.aload_n 0, 1) := dk_42 (dk_at dksX3_searches_0 12 rfl rfl)
theorem dX3_searches_13 : decode cX3_searches 13 = .ok (.getfield 141, 3) := dk_180 0 141 (dk_at dksX3_searches_0 13 rfl rfl)
theorem dX3_searches_16 : decode cX3_searches 16 = .ok (.if_icmp .gt 42, 3) := dk_163 0 42 (dk_at dksX3_searches_0 16 rfl rfl)
theorem dX3_searches_19 : decode cX3_searches 19 = .ok (.iconst 1, 1) := dk_4 (dk_at dksX3_searches_0 19 rfl rfl)
theorem dX3_searches_20 : decode cX3_searches 20 = .ok (.istore 4, 2) := dk_54 4 (dk_at dksX3_searches_0 20 rfl rfl)
theorem dX3_searches_22 : decode cX3_searches 22 = .ok (.iload 4, 2) := dk_21 4 (dk_at dksX3_searches_0 22 rfl rfl)
theorem dX3_searches_24 : decode cX3_searches 24 = .ok (.iconst 4, 1) := dk_7 (dk_at dksX3_searches_1 0 rfl rfl)
theorem dX3_searches_25 : decode cX3_searches 25 = .ok (.if_icmp .gt 27, 3) := dk_163 0 27 (dk_at dksX3_searches_1 1 rfl rfl)
theorem dX3_searches_28 : decode cX3_searches 28 = .ok (.iload_n 1, 1) := dk_27 (dk_at dksX3_searches_1 4 rfl rfl)
theorem dX3_searches_29 : decode cX3_searches 29 = .ok (.ifCond .eq 9, 3) := dk_153 0 9 (dk_at dksX3_searches_1 5 rfl rfl)
theorem dX3_searches_32 : decode cX3_searches 32 = .ok (.iload_n 1, 1) := dk_27 (dk_at dksX3_searches_1 8 rfl rfl)
theorem dX3_searches_33 : decode cX3_searches 33 = .ok (.iload 4, 2) := dk_21 4 (dk_at dksX3_searches_1 9 rfl rfl)
theorem dX3_searches_35 : decode cX3_searches 35 = .ok (.if_icmp .ne 11, 3) := dk_160 0 11 (dk_at dksX3_searches_1 11 rfl rfl)
theorem dX3_searches_38 : decode cX3_searches 38 = .ok (.aload_n 0, 1) := dk_42 (dk_at dksX3_searches_1 14 rfl rfl)
theorem dX3_searches_39 : decode cX3_searches 39 = .ok (.iload_n 3, 1) := dk_29 (dk_at dksX3_searches_1 15 rfl rfl)
theorem dX3_searches_40 : decode cX3_searches 40 = .ok (.iload 4, 2) := dk_21 4 (dk_at dksX3_searches_1 16 rfl rfl)
theorem dX3_searches_42 : decode cX3_searches 42 = .ok (.iload_n 2, 1) := dk_28 (dk_at dksX3_searches_1 18 rfl rfl)
theorem dX3_searches_43 : decode cX3_searches 43 = .ok (.invokevirtual 355, 3) := dk_182 1 99 (dk_at dksX3_searches_1 19 rfl rfl)
theorem dX3_searches_46 : decode cX3_searches 46 = .ok (.iinc 4 1, 3) := dk_132 4 1 (dk_at dksX3_searches_2 0 rfl rfl)
theorem dX3_searches_49 : decode cX3_searches 49 = .ok (.goto (-27), 3) := dk_167 255 229 (dk_at dksX3_searches_2 3 rfl rfl)
theorem dX3_searches_52 : decode cX3_searches 52 = .ok (.iinc 3 1, 3) := dk_132 3 1 (dk_at dksX3_searches_2 6 rfl rfl)
theorem dX3_searches_55 : decode cX3_searches 55 = .ok (.goto (-44), 3) := dk_167 255 212 (dk_at dksX3_searches_2 9 rfl rfl)
theorem dX3_searches_58 : decode cX3_searches 58 = .ok (.return_, 1) := dk_177 (dk_at dksX3_searches_2 12 rfl rfl)
abbrev cX3_places : ByteArray := prog_24_method_76_code
def yX3_places : MethodName := ⟨RX3, "places", "()V"⟩
def dkwX3_places_6 : List UInt8 := [79, 132, 2, 1, 167, 255, 119, 132, 1, 1, 167, 255, 105, 177]
abbrev dktX3_places_6 : List UInt8 := dkwX3_places_6 ++ []
def dkwX3_places_5 : List UInt8 := [27, 104, 28, 96, 4, 100, 46, 42, 180, 0, 36, 16, 100, 27, 104, 28, 96, 4, 100, 46, 184, 1, 70, 96]
abbrev dktX3_places_5 : List UInt8 := dkwX3_places_5 ++ dktX3_places_6
def dkwX3_places_4 : List UInt8 := [42, 180, 0, 7, 5, 27, 96, 46, 42, 180, 0, 7, 3, 46, 108, 167, 0, 33, 42, 180, 0, 86, 16, 100]
abbrev dktX3_places_4 : List UInt8 := dkwX3_places_4 ++ dktX3_places_5
def dkwX3_places_3 : List UInt8 := [28, 96, 4, 100, 46, 184, 1, 73, 96, 79, 42, 180, 0, 86, 16, 100, 27, 104, 28, 96, 28, 154, 0, 21]
abbrev dktX3_places_3 : List UInt8 := dkwX3_places_3 ++ dktX3_places_4
def dkwX3_places_2 : List UInt8 := [167, 0, 33, 42, 180, 0, 83, 16, 100, 27, 104, 28, 96, 4, 100, 46, 42, 180, 0, 36, 16, 100, 27, 104]
abbrev dktX3_places_2 : List UInt8 := dkwX3_places_2 ++ dktX3_places_3
def dkwX3_places_1 : List UInt8 := [27, 104, 28, 96, 28, 154, 0, 21, 42, 180, 0, 7, 5, 27, 96, 46, 42, 180, 0, 7, 3, 46, 112]
abbrev dktX3_places_1 : List UInt8 := dkwX3_places_1 ++ dktX3_places_2
def dkwX3_places_0 : List UInt8 := [3, 60, 27, 16, 8, 162, 0, 151, 3, 61, 28, 42, 180, 0, 141, 163, 0, 135, 42, 180, 0, 83, 16, 100]
abbrev dktX3_places_0 : List UInt8 := dkwX3_places_0 ++ dktX3_places_1
theorem dksX3_places_0 : cX3_places.data.toList.drop 0 = dktX3_places_0 := by decide +kernel
theorem dksX3_places_1 : cX3_places.data.toList.drop 24 = dktX3_places_1 := dk_seg dksX3_places_0 24 rfl rfl
theorem dksX3_places_2 : cX3_places.data.toList.drop 47 = dktX3_places_2 := dk_seg dksX3_places_1 23 rfl rfl
theorem dksX3_places_3 : cX3_places.data.toList.drop 71 = dktX3_places_3 := dk_seg dksX3_places_2 24 rfl rfl
theorem dksX3_places_4 : cX3_places.data.toList.drop 95 = dktX3_places_4 := dk_seg dksX3_places_3 24 rfl rfl
theorem dksX3_places_5 : cX3_places.data.toList.drop 119 = dktX3_places_5 := dk_seg dksX3_places_4 24 rfl rfl
theorem dksX3_places_6 : cX3_places.data.toList.drop 143 = dktX3_places_6 := dk_seg dksX3_places_5 24 rfl rfl
theorem dX3_places_0 : decode cX3_places 0 = .ok (.iconst 0, 1) := dk_3 (dk_at dksX3_places_0 0 rfl rfl)
theorem dX3_places_1 : decode cX3_places 1 = .ok (.istore_n 1, 1) := dk_60 (dk_at dksX3_places_0 1 rfl rfl)
theorem dX3_places_2 : decode cX3_places 2 = .ok (.iload_n 1, 1) := dk_27 (dk_at dksX3_places_0 2 rfl rfl)
theorem dX3_places_3 : decode cX3_places 3 = .ok (.bipush 8, 2) := dk_16 8 (dk_at dksX3_places_0 3 rfl rfl)
theorem dX3_places_5 : decode cX3_places 5 = .ok (.if_icmp .ge 151, 3) := dk_162 0 151 (dk_at dksX3_places_0 5 rfl rfl)
theorem dX3_places_8 : decode cX3_places 8 = .ok (.iconst 0, 1) := dk_3 (dk_at dksX3_places_0 8 rfl rfl)
theorem dX3_places_9 : decode cX3_places 9 = .ok (.istore_n 2, 1) := dk_61 (dk_at dksX3_places_0 9 rfl rfl)
theorem dX3_places_10 : decode cX3_places 10 = .ok (.iload_n 2, 1) := dk_28 (dk_at dksX3_places_0 10 rfl rfl)
theorem dX3_places_11 : decode cX3_places 11 = .ok (.aload_n 0, 1) := dk_42 (dk_at dksX3_places_0 11 rfl rfl)
theorem dX3_places_12 : decode cX3_places 12 = .ok (.getfield 141, 3) := dk_180 0 141 (dk_at dksX3_places_0 12 rfl rfl)
theorem dX3_places_15 : decode cX3_places 15 = .ok (.if_icmp .gt 135, 3) := dk_163 0 135 (dk_at dksX3_places_0 15 rfl rfl)
theorem dX3_places_18 : decode cX3_places 18 = .ok (.aload_n 0, 1) := dk_42 (dk_at dksX3_places_0 18 rfl rfl)
theorem dX3_places_19 : decode cX3_places 19 = .ok (.getfield 83, 3) := dk_180 0 83 (dk_at dksX3_places_0 19 rfl rfl)
theorem dX3_places_22 : decode cX3_places 22 = .ok (.bipush 100, 2) := dk_16 100 (dk_at dksX3_places_0 22 rfl rfl)
theorem dX3_places_24 : decode cX3_places 24 = .ok (.iload_n 1, 1) := dk_27 (dk_at dksX3_places_1 0 rfl rfl)
theorem dX3_places_25 : decode cX3_places 25 = .ok (.imul, 1) := dk_104 (dk_at dksX3_places_1 1 rfl rfl)
theorem dX3_places_26 : decode cX3_places 26 = .ok (.iload_n 2, 1) := dk_28 (dk_at dksX3_places_1 2 rfl rfl)
theorem dX3_places_27 : decode cX3_places 27 = .ok (.iadd, 1) := dk_96 (dk_at dksX3_places_1 3 rfl rfl)
theorem dX3_places_28 : decode cX3_places 28 = .ok (.iload_n 2, 1) := dk_28 (dk_at dksX3_places_1 4 rfl rfl)
theorem dX3_places_29 : decode cX3_places 29 = .ok (.ifCond .ne 21, 3) := dk_154 0 21 (dk_at dksX3_places_1 5 rfl rfl)
theorem dX3_places_32 : decode cX3_places 32 = .ok (.aload_n 0, 1) := dk_42 (dk_at dksX3_places_1 8 rfl rfl)
theorem dX3_places_33 : decode cX3_places 33 = .ok (.getfield 7, 3) := dk_180 0 7 (dk_at dksX3_places_1 9 rfl rfl)
theorem dX3_places_36 : decode cX3_places 36 = .ok (.iconst 2, 1) := dk_5 (dk_at dksX3_places_1 12 rfl rfl)
theorem dX3_places_37 : decode cX3_places 37 = .ok (.iload_n 1, 1) := dk_27 (dk_at dksX3_places_1 13 rfl rfl)
theorem dX3_places_38 : decode cX3_places 38 = .ok (.iadd, 1) := dk_96 (dk_at dksX3_places_1 14 rfl rfl)
theorem dX3_places_39 : decode cX3_places 39 = .ok (.iaload, 1) := dk_46 (dk_at dksX3_places_1 15 rfl rfl)
theorem dX3_places_40 : decode cX3_places 40 = .ok (.aload_n 0, 1) := dk_42 (dk_at dksX3_places_1 16 rfl rfl)
theorem dX3_places_41 : decode cX3_places 41 = .ok (.getfield 7, 3) := dk_180 0 7 (dk_at dksX3_places_1 17 rfl rfl)
theorem dX3_places_44 : decode cX3_places 44 = .ok (.iconst 0, 1) := dk_3 (dk_at dksX3_places_1 20 rfl rfl)
theorem dX3_places_45 : decode cX3_places 45 = .ok (.iaload, 1) := dk_46 (dk_at dksX3_places_1 21 rfl rfl)
theorem dX3_places_46 : decode cX3_places 46 = .ok (.irem, 1) := dk_112 (dk_at dksX3_places_1 22 rfl rfl)
theorem dX3_places_47 : decode cX3_places 47 = .ok (.goto 33, 3) := dk_167 0 33 (dk_at dksX3_places_2 0 rfl rfl)
theorem dX3_places_50 : decode cX3_places 50 = .ok (.aload_n 0, 1) := dk_42 (dk_at dksX3_places_2 3 rfl rfl)
theorem dX3_places_51 : decode cX3_places 51 = .ok (.getfield 83, 3) := dk_180 0 83 (dk_at dksX3_places_2 4 rfl rfl)
theorem dX3_places_54 : decode cX3_places 54 = .ok (.bipush 100, 2) := dk_16 100 (dk_at dksX3_places_2 7 rfl rfl)
theorem dX3_places_56 : decode cX3_places 56 = .ok (.iload_n 1, 1) := dk_27 (dk_at dksX3_places_2 9 rfl rfl)
theorem dX3_places_57 : decode cX3_places 57 = .ok (.imul, 1) := dk_104 (dk_at dksX3_places_2 10 rfl rfl)
theorem dX3_places_58 : decode cX3_places 58 = .ok (.iload_n 2, 1) := dk_28 (dk_at dksX3_places_2 11 rfl rfl)
theorem dX3_places_59 : decode cX3_places 59 = .ok (.iadd, 1) := dk_96 (dk_at dksX3_places_2 12 rfl rfl)
theorem dX3_places_60 : decode cX3_places 60 = .ok (.iconst 1, 1) := dk_4 (dk_at dksX3_places_2 13 rfl rfl)
theorem dX3_places_61 : decode cX3_places 61 = .ok (.isub, 1) := dk_100 (dk_at dksX3_places_2 14 rfl rfl)
theorem dX3_places_62 : decode cX3_places 62 = .ok (.iaload, 1) := dk_46 (dk_at dksX3_places_2 15 rfl rfl)
theorem dX3_places_63 : decode cX3_places 63 = .ok (.aload_n 0, 1) := dk_42 (dk_at dksX3_places_2 16 rfl rfl)
theorem dX3_places_64 : decode cX3_places 64 = .ok (.getfield 36, 3) := dk_180 0 36 (dk_at dksX3_places_2 17 rfl rfl)
theorem dX3_places_67 : decode cX3_places 67 = .ok (.bipush 100, 2) := dk_16 100 (dk_at dksX3_places_2 20 rfl rfl)
theorem dX3_places_69 : decode cX3_places 69 = .ok (.iload_n 1, 1) := dk_27 (dk_at dksX3_places_2 22 rfl rfl)
theorem dX3_places_70 : decode cX3_places 70 = .ok (.imul, 1) := dk_104 (dk_at dksX3_places_2 23 rfl rfl)
theorem dX3_places_71 : decode cX3_places 71 = .ok (.iload_n 2, 1) := dk_28 (dk_at dksX3_places_3 0 rfl rfl)
theorem dX3_places_72 : decode cX3_places 72 = .ok (.iadd, 1) := dk_96 (dk_at dksX3_places_3 1 rfl rfl)
theorem dX3_places_73 : decode cX3_places 73 = .ok (.iconst 1, 1) := dk_4 (dk_at dksX3_places_3 2 rfl rfl)
theorem dX3_places_74 : decode cX3_places 74 = .ok (.isub, 1) := dk_100 (dk_at dksX3_places_3 3 rfl rfl)
theorem dX3_places_75 : decode cX3_places 75 = .ok (.iaload, 1) := dk_46 (dk_at dksX3_places_3 4 rfl rfl)
theorem dX3_places_76 : decode cX3_places 76 = .ok (.invokestatic 329, 3) := dk_184 1 73 (dk_at dksX3_places_3 5 rfl rfl)
theorem dX3_places_79 : decode cX3_places 79 = .ok (.iadd, 1) := dk_96 (dk_at dksX3_places_3 8 rfl rfl)
theorem dX3_places_80 : decode cX3_places 80 = .ok (.iastore, 1) := dk_79 (dk_at dksX3_places_3 9 rfl rfl)
theorem dX3_places_81 : decode cX3_places 81 = .ok (.aload_n 0, 1) := dk_42 (dk_at dksX3_places_3 10 rfl rfl)
theorem dX3_places_82 : decode cX3_places 82 = .ok (.getfield 86, 3) := dk_180 0 86 (dk_at dksX3_places_3 11 rfl rfl)
theorem dX3_places_85 : decode cX3_places 85 = .ok (.bipush 100, 2) := dk_16 100 (dk_at dksX3_places_3 14 rfl rfl)
theorem dX3_places_87 : decode cX3_places 87 = .ok (.iload_n 1, 1) := dk_27 (dk_at dksX3_places_3 16 rfl rfl)
theorem dX3_places_88 : decode cX3_places 88 = .ok (.imul, 1) := dk_104 (dk_at dksX3_places_3 17 rfl rfl)
theorem dX3_places_89 : decode cX3_places 89 = .ok (.iload_n 2, 1) := dk_28 (dk_at dksX3_places_3 18 rfl rfl)
theorem dX3_places_90 : decode cX3_places 90 = .ok (.iadd, 1) := dk_96 (dk_at dksX3_places_3 19 rfl rfl)
theorem dX3_places_91 : decode cX3_places 91 = .ok (.iload_n 2, 1) := dk_28 (dk_at dksX3_places_3 20 rfl rfl)
theorem dX3_places_92 : decode cX3_places 92 = .ok (.ifCond .ne 21, 3) := dk_154 0 21 (dk_at dksX3_places_3 21 rfl rfl)
theorem dX3_places_95 : decode cX3_places 95 = .ok (.aload_n 0, 1) := dk_42 (dk_at dksX3_places_4 0 rfl rfl)
theorem dX3_places_96 : decode cX3_places 96 = .ok (.getfield 7, 3) := dk_180 0 7 (dk_at dksX3_places_4 1 rfl rfl)
theorem dX3_places_99 : decode cX3_places 99 = .ok (.iconst 2, 1) := dk_5 (dk_at dksX3_places_4 4 rfl rfl)
theorem dX3_places_100 : decode cX3_places 100 = .ok (.iload_n 1, 1) := dk_27 (dk_at dksX3_places_4 5 rfl rfl)
theorem dX3_places_101 : decode cX3_places 101 = .ok (.iadd, 1) := dk_96 (dk_at dksX3_places_4 6 rfl rfl)
theorem dX3_places_102 : decode cX3_places 102 = .ok (.iaload, 1) := dk_46 (dk_at dksX3_places_4 7 rfl rfl)
theorem dX3_places_103 : decode cX3_places 103 = .ok (.aload_n 0, 1) := dk_42 (dk_at dksX3_places_4 8 rfl rfl)
theorem dX3_places_104 : decode cX3_places 104 = .ok (.getfield 7, 3) := dk_180 0 7 (dk_at dksX3_places_4 9 rfl rfl)
theorem dX3_places_107 : decode cX3_places 107 = .ok (.iconst 0, 1) := dk_3 (dk_at dksX3_places_4 12 rfl rfl)
theorem dX3_places_108 : decode cX3_places 108 = .ok (.iaload, 1) := dk_46 (dk_at dksX3_places_4 13 rfl rfl)
theorem dX3_places_109 : decode cX3_places 109 = .ok (.idiv, 1) := dk_108 (dk_at dksX3_places_4 14 rfl rfl)
theorem dX3_places_110 : decode cX3_places 110 = .ok (.goto 33, 3) := dk_167 0 33 (dk_at dksX3_places_4 15 rfl rfl)
theorem dX3_places_113 : decode cX3_places 113 = .ok (.aload_n 0, 1) := dk_42 (dk_at dksX3_places_4 18 rfl rfl)
theorem dX3_places_114 : decode cX3_places 114 = .ok (.getfield 86, 3) := dk_180 0 86 (dk_at dksX3_places_4 19 rfl rfl)
theorem dX3_places_117 : decode cX3_places 117 = .ok (.bipush 100, 2) := dk_16 100 (dk_at dksX3_places_4 22 rfl rfl)
theorem dX3_places_119 : decode cX3_places 119 = .ok (.iload_n 1, 1) := dk_27 (dk_at dksX3_places_5 0 rfl rfl)
theorem dX3_places_120 : decode cX3_places 120 = .ok (.imul, 1) := dk_104 (dk_at dksX3_places_5 1 rfl rfl)
theorem dX3_places_121 : decode cX3_places 121 = .ok (.iload_n 2, 1) := dk_28 (dk_at dksX3_places_5 2 rfl rfl)
theorem dX3_places_122 : decode cX3_places 122 = .ok (.iadd, 1) := dk_96 (dk_at dksX3_places_5 3 rfl rfl)
theorem dX3_places_123 : decode cX3_places 123 = .ok (.iconst 1, 1) := dk_4 (dk_at dksX3_places_5 4 rfl rfl)
theorem dX3_places_124 : decode cX3_places 124 = .ok (.isub, 1) := dk_100 (dk_at dksX3_places_5 5 rfl rfl)
theorem dX3_places_125 : decode cX3_places 125 = .ok (.iaload, 1) := dk_46 (dk_at dksX3_places_5 6 rfl rfl)
theorem dX3_places_126 : decode cX3_places 126 = .ok (.aload_n 0, 1) := dk_42 (dk_at dksX3_places_5 7 rfl rfl)
theorem dX3_places_127 : decode cX3_places 127 = .ok (.getfield 36, 3) := dk_180 0 36 (dk_at dksX3_places_5 8 rfl rfl)
theorem dX3_places_130 : decode cX3_places 130 = .ok (.bipush 100, 2) := dk_16 100 (dk_at dksX3_places_5 11 rfl rfl)
theorem dX3_places_132 : decode cX3_places 132 = .ok (.iload_n 1, 1) := dk_27 (dk_at dksX3_places_5 13 rfl rfl)
theorem dX3_places_133 : decode cX3_places 133 = .ok (.imul, 1) := dk_104 (dk_at dksX3_places_5 14 rfl rfl)
theorem dX3_places_134 : decode cX3_places 134 = .ok (.iload_n 2, 1) := dk_28 (dk_at dksX3_places_5 15 rfl rfl)
theorem dX3_places_135 : decode cX3_places 135 = .ok (.iadd, 1) := dk_96 (dk_at dksX3_places_5 16 rfl rfl)
theorem dX3_places_136 : decode cX3_places 136 = .ok (.iconst 1, 1) := dk_4 (dk_at dksX3_places_5 17 rfl rfl)
theorem dX3_places_137 : decode cX3_places 137 = .ok (.isub, 1) := dk_100 (dk_at dksX3_places_5 18 rfl rfl)
theorem dX3_places_138 : decode cX3_places 138 = .ok (.iaload, 1) := dk_46 (dk_at dksX3_places_5 19 rfl rfl)
theorem dX3_places_139 : decode cX3_places 139 = .ok (.invokestatic 326, 3) := dk_184 1 70 (dk_at dksX3_places_5 20 rfl rfl)
theorem dX3_places_142 : decode cX3_places 142 = .ok (.iadd, 1) := dk_96 (dk_at dksX3_places_5 23 rfl rfl)
theorem dX3_places_143 : decode cX3_places 143 = .ok (.iastore, 1) := dk_79 (dk_at dksX3_places_6 0 rfl rfl)
theorem dX3_places_144 : decode cX3_places 144 = .ok (.iinc 2 1, 3) := dk_132 2 1 (dk_at dksX3_places_6 1 rfl rfl)
theorem dX3_places_147 : decode cX3_places 147 = .ok (.goto (-137), 3) := dk_167 255 119 (dk_at dksX3_places_6 4 rfl rfl)
theorem dX3_places_150 : decode cX3_places 150 = .ok (.iinc 1 1, 3) := dk_132 1 1 (dk_at dksX3_places_6 7 rfl rfl)
theorem dX3_places_153 : decode cX3_places 153 = .ok (.goto (-151), 3) := dk_167 255 105 (dk_at dksX3_places_6 10 rfl rfl)
theorem dX3_places_156 : decode cX3_places 156 = .ok (.return_, 1) := dk_177 (dk_at dksX3_places_6 13 rfl rfl)
abbrev cX3_looks : ByteArray := prog_24_method_80_code
def yX3_looks : MethodName := ⟨RX3, "looks", "(III)V"⟩
def dkwX3_looks_5 : List UInt8 := [96, 181, 1, 96, 132, 6, 1, 167, 255, 175, 132, 5, 1, 167, 255, 147, 177]
abbrev dktX3_looks_5 : List UInt8 := dkwX3_looks_5 ++ []
def dkwX3_looks_4 : List UInt8 := [181, 1, 111, 42, 21, 4, 153, 0, 8, 21, 6, 167, 0, 4, 2, 181, 1, 114, 42, 89, 180, 1, 96, 4]
abbrev dktX3_looks_4 : List UInt8 := dkwX3_looks_4 ++ dktX3_looks_5
def dkwX3_looks_3 : List UInt8 := [153, 0, 52, 42, 180, 1, 96, 29, 160, 0, 34, 42, 27, 181, 1, 105, 42, 28, 181, 1, 108, 42, 21, 5]
abbrev dktX3_looks_3 : List UInt8 := dkwX3_looks_3 ++ dktX3_looks_4
def dkwX3_looks_2 : List UInt8 := [153, 0, 8, 16, 8, 167, 0, 4, 4, 162, 0, 71, 42, 27, 28, 21, 5, 21, 6, 182, 1, 102]
abbrev dktX3_looks_2 : List UInt8 := dkwX3_looks_2 ++ dktX3_looks_3
def dkwX3_looks_1 : List UInt8 := [162, 0, 108, 21, 4, 153, 0, 10, 21, 5, 4, 96, 167, 0, 4, 3, 54, 6, 21, 6, 21, 4]
abbrev dktX3_looks_1 : List UInt8 := dkwX3_looks_1 ++ dktX3_looks_2
def dkwX3_looks_0 : List UInt8 := [28, 5, 159, 0, 8, 28, 6, 160, 0, 7, 4, 167, 0, 4, 3, 54, 4, 3, 54, 5, 21, 5, 16, 8]
abbrev dktX3_looks_0 : List UInt8 := dkwX3_looks_0 ++ dktX3_looks_1
theorem dksX3_looks_0 : cX3_looks.data.toList.drop 0 = dktX3_looks_0 := by decide +kernel
theorem dksX3_looks_1 : cX3_looks.data.toList.drop 24 = dktX3_looks_1 := dk_seg dksX3_looks_0 24 rfl rfl
theorem dksX3_looks_2 : cX3_looks.data.toList.drop 46 = dktX3_looks_2 := dk_seg dksX3_looks_1 22 rfl rfl
theorem dksX3_looks_3 : cX3_looks.data.toList.drop 68 = dktX3_looks_3 := dk_seg dksX3_looks_2 22 rfl rfl
theorem dksX3_looks_4 : cX3_looks.data.toList.drop 92 = dktX3_looks_4 := dk_seg dksX3_looks_3 24 rfl rfl
theorem dksX3_looks_5 : cX3_looks.data.toList.drop 116 = dktX3_looks_5 := dk_seg dksX3_looks_4 24 rfl rfl
theorem dX3_looks_0 : decode cX3_looks 0 = .ok (.iload_n 2, 1) := dk_28 (dk_at dksX3_looks_0 0 rfl rfl)
theorem dX3_looks_1 : decode cX3_looks 1 = .ok (.iconst 2, 1) := dk_5 (dk_at dksX3_looks_0 1 rfl rfl)
theorem dX3_looks_2 : decode cX3_looks 2 = .ok (.if_icmp .eq 8, 3) := dk_159 0 8 (dk_at dksX3_looks_0 2 rfl rfl)
theorem dX3_looks_5 : decode cX3_looks 5 = .ok (.iload_n 2, 1) := dk_28 (dk_at dksX3_looks_0 5 rfl rfl)
theorem dX3_looks_6 : decode cX3_looks 6 = .ok (.iconst 3, 1) := dk_6 (dk_at dksX3_looks_0 6 rfl rfl)
theorem dX3_looks_7 : decode cX3_looks 7 = .ok (.if_icmp .ne 7, 3) := dk_160 0 7 (dk_at dksX3_looks_0 7 rfl rfl)
theorem dX3_looks_10 : decode cX3_looks 10 = .ok (.iconst 1, 1) := dk_4 (dk_at dksX3_looks_0 10 rfl rfl)
theorem dX3_looks_11 : decode cX3_looks 11 = .ok (.goto 4, 3) := dk_167 0 4 (dk_at dksX3_looks_0 11 rfl rfl)
theorem dX3_looks_14 : decode cX3_looks 14 = .ok (.iconst 0, 1) := dk_3 (dk_at dksX3_looks_0 14 rfl rfl)
theorem dX3_looks_15 : decode cX3_looks 15 = .ok (.istore 4, 2) := dk_54 4 (dk_at dksX3_looks_0 15 rfl rfl)
theorem dX3_looks_17 : decode cX3_looks 17 = .ok (.iconst 0, 1) := dk_3 (dk_at dksX3_looks_0 17 rfl rfl)
theorem dX3_looks_18 : decode cX3_looks 18 = .ok (.istore 5, 2) := dk_54 5 (dk_at dksX3_looks_0 18 rfl rfl)
theorem dX3_looks_20 : decode cX3_looks 20 = .ok (.iload 5, 2) := dk_21 5 (dk_at dksX3_looks_0 20 rfl rfl)
theorem dX3_looks_22 : decode cX3_looks 22 = .ok (.bipush 8, 2) := dk_16 8 (dk_at dksX3_looks_0 22 rfl rfl)
theorem dX3_looks_24 : decode cX3_looks 24 = .ok (.if_icmp .ge 108, 3) := dk_162 0 108 (dk_at dksX3_looks_1 0 rfl rfl)
theorem dX3_looks_27 : decode cX3_looks 27 = .ok (.iload 4, 2) := dk_21 4 (dk_at dksX3_looks_1 3 rfl rfl)
theorem dX3_looks_29 : decode cX3_looks 29 = .ok (.ifCond .eq 10, 3) := dk_153 0 10 (dk_at dksX3_looks_1 5 rfl rfl)
theorem dX3_looks_32 : decode cX3_looks 32 = .ok (.iload 5, 2) := dk_21 5 (dk_at dksX3_looks_1 8 rfl rfl)
theorem dX3_looks_34 : decode cX3_looks 34 = .ok (.iconst 1, 1) := dk_4 (dk_at dksX3_looks_1 10 rfl rfl)
theorem dX3_looks_35 : decode cX3_looks 35 = .ok (.iadd, 1) := dk_96 (dk_at dksX3_looks_1 11 rfl rfl)
theorem dX3_looks_36 : decode cX3_looks 36 = .ok (.goto 4, 3) := dk_167 0 4 (dk_at dksX3_looks_1 12 rfl rfl)
theorem dX3_looks_39 : decode cX3_looks 39 = .ok (.iconst 0, 1) := dk_3 (dk_at dksX3_looks_1 15 rfl rfl)
theorem dX3_looks_40 : decode cX3_looks 40 = .ok (.istore 6, 2) := dk_54 6 (dk_at dksX3_looks_1 16 rfl rfl)
theorem dX3_looks_42 : decode cX3_looks 42 = .ok (.iload 6, 2) := dk_21 6 (dk_at dksX3_looks_1 18 rfl rfl)
theorem dX3_looks_44 : decode cX3_looks 44 = .ok (.iload 4, 2) := dk_21 4 (dk_at dksX3_looks_1 20 rfl rfl)
theorem dX3_looks_46 : decode cX3_looks 46 = .ok (.ifCond .eq 8, 3) := dk_153 0 8 (dk_at dksX3_looks_2 0 rfl rfl)
theorem dX3_looks_49 : decode cX3_looks 49 = .ok (.bipush 8, 2) := dk_16 8 (dk_at dksX3_looks_2 3 rfl rfl)
theorem dX3_looks_51 : decode cX3_looks 51 = .ok (.goto 4, 3) := dk_167 0 4 (dk_at dksX3_looks_2 5 rfl rfl)
theorem dX3_looks_54 : decode cX3_looks 54 = .ok (.iconst 1, 1) := dk_4 (dk_at dksX3_looks_2 8 rfl rfl)
theorem dX3_looks_55 : decode cX3_looks 55 = .ok (.if_icmp .ge 71, 3) := dk_162 0 71 (dk_at dksX3_looks_2 9 rfl rfl)
theorem dX3_looks_58 : decode cX3_looks 58 = .ok (.aload_n 0, 1) := dk_42 (dk_at dksX3_looks_2 12 rfl rfl)
theorem dX3_looks_59 : decode cX3_looks 59 = .ok (.iload_n 1, 1) := dk_27 (dk_at dksX3_looks_2 13 rfl rfl)
theorem dX3_looks_60 : decode cX3_looks 60 = .ok (.iload_n 2, 1) := dk_28 (dk_at dksX3_looks_2 14 rfl rfl)
theorem dX3_looks_61 : decode cX3_looks 61 = .ok (.iload 5, 2) := dk_21 5 (dk_at dksX3_looks_2 15 rfl rfl)
theorem dX3_looks_63 : decode cX3_looks 63 = .ok (.iload 6, 2) := dk_21 6 (dk_at dksX3_looks_2 17 rfl rfl)
theorem dX3_looks_65 : decode cX3_looks 65 = .ok (.invokevirtual 358, 3) := dk_182 1 102 (dk_at dksX3_looks_2 19 rfl rfl)
theorem dX3_looks_68 : decode cX3_looks 68 = .ok (.ifCond .eq 52, 3) := dk_153 0 52 (dk_at dksX3_looks_3 0 rfl rfl)
theorem dX3_looks_71 : decode cX3_looks 71 = .ok (.aload_n 0, 1) := dk_42 (dk_at dksX3_looks_3 3 rfl rfl)
theorem dX3_looks_72 : decode cX3_looks 72 = .ok (.getfield 352, 3) := dk_180 1 96 (dk_at dksX3_looks_3 4 rfl rfl)
theorem dX3_looks_75 : decode cX3_looks 75 = .ok (.iload_n 3, 1) := dk_29 (dk_at dksX3_looks_3 7 rfl rfl)
theorem dX3_looks_76 : decode cX3_looks 76 = .ok (.if_icmp .ne 34, 3) := dk_160 0 34 (dk_at dksX3_looks_3 8 rfl rfl)
theorem dX3_looks_79 : decode cX3_looks 79 = .ok (.aload_n 0, 1) := dk_42 (dk_at dksX3_looks_3 11 rfl rfl)
theorem dX3_looks_80 : decode cX3_looks 80 = .ok (.iload_n 1, 1) := dk_27 (dk_at dksX3_looks_3 12 rfl rfl)
theorem dX3_looks_81 : decode cX3_looks 81 = .ok (.putfield 361, 3) := dk_181 1 105 (dk_at dksX3_looks_3 13 rfl rfl)
theorem dX3_looks_84 : decode cX3_looks 84 = .ok (.aload_n 0, 1) := dk_42 (dk_at dksX3_looks_3 16 rfl rfl)
theorem dX3_looks_85 : decode cX3_looks 85 = .ok (.iload_n 2, 1) := dk_28 (dk_at dksX3_looks_3 17 rfl rfl)
theorem dX3_looks_86 : decode cX3_looks 86 = .ok (.putfield 364, 3) := dk_181 1 108 (dk_at dksX3_looks_3 18 rfl rfl)
theorem dX3_looks_89 : decode cX3_looks 89 = .ok (.aload_n 0, 1) := dk_42 (dk_at dksX3_looks_3 21 rfl rfl)
theorem dX3_looks_90 : decode cX3_looks 90 = .ok (.iload 5, 2) := dk_21 5 (dk_at dksX3_looks_3 22 rfl rfl)
theorem dX3_looks_92 : decode cX3_looks 92 = .ok (.putfield 367, 3) := dk_181 1 111 (dk_at dksX3_looks_4 0 rfl rfl)
theorem dX3_looks_95 : decode cX3_looks 95 = .ok (.aload_n 0, 1) := dk_42 (dk_at dksX3_looks_4 3 rfl rfl)
theorem dX3_looks_96 : decode cX3_looks 96 = .ok (.iload 4, 2) := dk_21 4 (dk_at dksX3_looks_4 4 rfl rfl)
theorem dX3_looks_98 : decode cX3_looks 98 = .ok (.ifCond .eq 8, 3) := dk_153 0 8 (dk_at dksX3_looks_4 6 rfl rfl)
theorem dX3_looks_101 : decode cX3_looks 101 = .ok (.iload 6, 2) := dk_21 6 (dk_at dksX3_looks_4 9 rfl rfl)
theorem dX3_looks_103 : decode cX3_looks 103 = .ok (.goto 4, 3) := dk_167 0 4 (dk_at dksX3_looks_4 11 rfl rfl)
theorem dX3_looks_106 : decode cX3_looks 106 = .ok (.iconst (-1), 1) := dk_2 (dk_at dksX3_looks_4 14 rfl rfl)
theorem dX3_looks_107 : decode cX3_looks 107 = .ok (.putfield 370, 3) := dk_181 1 114 (dk_at dksX3_looks_4 15 rfl rfl)
theorem dX3_looks_110 : decode cX3_looks 110 = .ok (.aload_n 0, 1) := dk_42 (dk_at dksX3_looks_4 18 rfl rfl)
theorem dX3_looks_111 : decode cX3_looks 111 = .ok (.dup, 1) := dk_89 (dk_at dksX3_looks_4 19 rfl rfl)
theorem dX3_looks_112 : decode cX3_looks 112 = .ok (.getfield 352, 3) := dk_180 1 96 (dk_at dksX3_looks_4 20 rfl rfl)
theorem dX3_looks_115 : decode cX3_looks 115 = .ok (.iconst 1, 1) := dk_4 (dk_at dksX3_looks_4 23 rfl rfl)
theorem dX3_looks_116 : decode cX3_looks 116 = .ok (.iadd, 1) := dk_96 (dk_at dksX3_looks_5 0 rfl rfl)
theorem dX3_looks_117 : decode cX3_looks 117 = .ok (.putfield 352, 3) := dk_181 1 96 (dk_at dksX3_looks_5 1 rfl rfl)
theorem dX3_looks_120 : decode cX3_looks 120 = .ok (.iinc 6 1, 3) := dk_132 6 1 (dk_at dksX3_looks_5 4 rfl rfl)
theorem dX3_looks_123 : decode cX3_looks 123 = .ok (.goto (-81), 3) := dk_167 255 175 (dk_at dksX3_looks_5 7 rfl rfl)
theorem dX3_looks_126 : decode cX3_looks 126 = .ok (.iinc 5 1, 3) := dk_132 5 1 (dk_at dksX3_looks_5 10 rfl rfl)
theorem dX3_looks_129 : decode cX3_looks 129 = .ok (.goto (-109), 3) := dk_167 255 147 (dk_at dksX3_looks_5 13 rfl rfl)
theorem dX3_looks_132 : decode cX3_looks 132 = .ok (.return_, 1) := dk_177 (dk_at dksX3_looks_5 16 rfl rfl)
abbrev cX3_isProblem : ByteArray := prog_24_method_78_code
def yX3_isProblem : MethodName := ⟨RX3, "isProblem", "(IIII)Z"⟩
def dkwX3_isProblem_7 : List UInt8 := [153, 0, 21, 42, 29, 27, 4, 100, 21, 4, 27, 182, 1, 89, 153, 0, 7, 4, 167, 0, 4, 3, 172]
abbrev dktX3_isProblem_7 : List UInt8 := dkwX3_isProblem_7 ++ []
def dkwX3_isProblem_6 : List UInt8 := [100, 21, 4, 27, 4, 100, 182, 1, 89, 154, 0, 35, 42, 29, 27, 21, 4, 27, 4, 100, 182, 1, 89]
abbrev dktX3_isProblem_6 : List UInt8 := dkwX3_isProblem_6 ++ dktX3_isProblem_7
def dkwX3_isProblem_5 : List UInt8 := [172, 28, 5, 160, 0, 13, 42, 29, 27, 21, 4, 27, 182, 1, 89, 172, 27, 158, 0, 51, 42, 29, 27, 4]
abbrev dktX3_isProblem_5 : List UInt8 := dkwX3_isProblem_5 ++ dktX3_isProblem_6
def dkwX3_isProblem_4 : List UInt8 := [4, 100, 184, 0, 121, 154, 0, 7, 4, 167, 0, 4, 3, 172, 42, 21, 4, 182, 1, 80, 154, 0, 5, 3]
abbrev dktX3_isProblem_4 : List UInt8 := dkwX3_isProblem_4 ++ dktX3_isProblem_5
def dkwX3_isProblem_3 : List UInt8 := [184, 0, 121, 153, 0, 29, 42, 180, 0, 86, 16, 100, 29, 104, 27, 96, 46, 3, 42, 180, 0, 7, 4, 46]
abbrev dktX3_isProblem_3 : List UInt8 := dkwX3_isProblem_3 ++ dktX3_isProblem_4
def dkwX3_isProblem_2 : List UInt8 := [160, 0, 61, 42, 180, 0, 83, 16, 100, 29, 104, 27, 96, 46, 3, 42, 180, 0, 7, 3, 46, 4, 100]
abbrev dktX3_isProblem_2 : List UInt8 := dkwX3_isProblem_2 ++ dktX3_isProblem_3
def dkwX3_isProblem_1 : List UInt8 := [182, 1, 80, 154, 0, 7, 4, 167, 0, 4, 3, 172, 42, 29, 182, 1, 80, 154, 0, 5, 3, 172, 28, 4]
abbrev dktX3_isProblem_1 : List UInt8 := dkwX3_isProblem_1 ++ dktX3_isProblem_2
def dkwX3_isProblem_0 : List UInt8 := [28, 7, 160, 0, 33, 27, 154, 0, 27, 42, 180, 0, 144, 29, 122, 4, 126, 4, 160, 0, 15, 42, 29]
abbrev dktX3_isProblem_0 : List UInt8 := dkwX3_isProblem_0 ++ dktX3_isProblem_1
theorem dksX3_isProblem_0 : cX3_isProblem.data.toList.drop 0 = dktX3_isProblem_0 := by decide +kernel
theorem dksX3_isProblem_1 : cX3_isProblem.data.toList.drop 23 = dktX3_isProblem_1 := dk_seg dksX3_isProblem_0 23 rfl rfl
theorem dksX3_isProblem_2 : cX3_isProblem.data.toList.drop 47 = dktX3_isProblem_2 := dk_seg dksX3_isProblem_1 24 rfl rfl
theorem dksX3_isProblem_3 : cX3_isProblem.data.toList.drop 70 = dktX3_isProblem_3 := dk_seg dksX3_isProblem_2 23 rfl rfl
theorem dksX3_isProblem_4 : cX3_isProblem.data.toList.drop 94 = dktX3_isProblem_4 := dk_seg dksX3_isProblem_3 24 rfl rfl
theorem dksX3_isProblem_5 : cX3_isProblem.data.toList.drop 118 = dktX3_isProblem_5 := dk_seg dksX3_isProblem_4 24 rfl rfl
theorem dksX3_isProblem_6 : cX3_isProblem.data.toList.drop 142 = dktX3_isProblem_6 := dk_seg dksX3_isProblem_5 24 rfl rfl
theorem dksX3_isProblem_7 : cX3_isProblem.data.toList.drop 165 = dktX3_isProblem_7 := dk_seg dksX3_isProblem_6 23 rfl rfl
theorem dX3_isProblem_0 : decode cX3_isProblem 0 = .ok (.iload_n 2, 1) := dk_28 (dk_at dksX3_isProblem_0 0 rfl rfl)
theorem dX3_isProblem_1 : decode cX3_isProblem 1 = .ok (.iconst 4, 1) := dk_7 (dk_at dksX3_isProblem_0 1 rfl rfl)
theorem dX3_isProblem_2 : decode cX3_isProblem 2 = .ok (.if_icmp .ne 33, 3) := dk_160 0 33 (dk_at dksX3_isProblem_0 2 rfl rfl)
theorem dX3_isProblem_5 : decode cX3_isProblem 5 = .ok (.iload_n 1, 1) := dk_27 (dk_at dksX3_isProblem_0 5 rfl rfl)
theorem dX3_isProblem_6 : decode cX3_isProblem 6 = .ok (.ifCond .ne 27, 3) := dk_154 0 27 (dk_at dksX3_isProblem_0 6 rfl rfl)
theorem dX3_isProblem_9 : decode cX3_isProblem 9 = .ok (.aload_n 0, 1) := dk_42 (dk_at dksX3_isProblem_0 9 rfl rfl)
theorem dX3_isProblem_10 : decode cX3_isProblem 10 = .ok (.getfield 144, 3) := dk_180 0 144 (dk_at dksX3_isProblem_0 10 rfl rfl)
theorem dX3_isProblem_13 : decode cX3_isProblem 13 = .ok (.iload_n 3, 1) := dk_29 (dk_at dksX3_isProblem_0 13 rfl rfl)
theorem dX3_isProblem_14 : decode cX3_isProblem 14 = .ok (.ishr, 1) := dk_122 (dk_at dksX3_isProblem_0 14 rfl rfl)
theorem dX3_isProblem_15 : decode cX3_isProblem 15 = .ok (.iconst 1, 1) := dk_4 (dk_at dksX3_isProblem_0 15 rfl rfl)
theorem dX3_isProblem_16 : decode cX3_isProblem 16 = .ok (.iand, 1) := dk_126 (dk_at dksX3_isProblem_0 16 rfl rfl)
theorem dX3_isProblem_17 : decode cX3_isProblem 17 = .ok (.iconst 1, 1) := dk_4 (dk_at dksX3_isProblem_0 17 rfl rfl)
theorem dX3_isProblem_18 : decode cX3_isProblem 18 = .ok (.if_icmp .ne 15, 3) := dk_160 0 15 (dk_at dksX3_isProblem_0 18 rfl rfl)
theorem dX3_isProblem_21 : decode cX3_isProblem 21 = .ok (.aload_n 0, 1) := dk_42 (dk_at dksX3_isProblem_0 21 rfl rfl)
theorem dX3_isProblem_22 : decode cX3_isProblem 22 = .ok (.iload_n 3, 1) := dk_29 (dk_at dksX3_isProblem_0 22 rfl rfl)
theorem dX3_isProblem_23 : decode cX3_isProblem 23 = .ok (.invokevirtual 336, 3) := dk_182 1 80 (dk_at dksX3_isProblem_1 0 rfl rfl)
theorem dX3_isProblem_26 : decode cX3_isProblem 26 = .ok (.ifCond .ne 7, 3) := dk_154 0 7 (dk_at dksX3_isProblem_1 3 rfl rfl)
theorem dX3_isProblem_29 : decode cX3_isProblem 29 = .ok (.iconst 1, 1) := dk_4 (dk_at dksX3_isProblem_1 6 rfl rfl)
theorem dX3_isProblem_30 : decode cX3_isProblem 30 = .ok (.goto 4, 3) := dk_167 0 4 (dk_at dksX3_isProblem_1 7 rfl rfl)
theorem dX3_isProblem_33 : decode cX3_isProblem 33 = .ok (.iconst 0, 1) := dk_3 (dk_at dksX3_isProblem_1 10 rfl rfl)
theorem dX3_isProblem_34 : decode cX3_isProblem 34 = .ok (.ireturn, 1) := dk_172 (dk_at dksX3_isProblem_1 11 rfl rfl)
theorem dX3_isProblem_35 : decode cX3_isProblem 35 = .ok (.aload_n 0, 1) := dk_42 (dk_at dksX3_isProblem_1 12 rfl rfl)
theorem dX3_isProblem_36 : decode cX3_isProblem 36 = .ok (.iload_n 3, 1) := dk_29 (dk_at dksX3_isProblem_1 13 rfl rfl)
theorem dX3_isProblem_37 : decode cX3_isProblem 37 = .ok (.invokevirtual 336, 3) := dk_182 1 80 (dk_at dksX3_isProblem_1 14 rfl rfl)
theorem dX3_isProblem_40 : decode cX3_isProblem 40 = .ok (.ifCond .ne 5, 3) := dk_154 0 5 (dk_at dksX3_isProblem_1 17 rfl rfl)
theorem dX3_isProblem_43 : decode cX3_isProblem 43 = .ok (.iconst 0, 1) := dk_3 (dk_at dksX3_isProblem_1 20 rfl rfl)
theorem dX3_isProblem_44 : decode cX3_isProblem 44 = .ok (.ireturn, 1) := dk_172 (dk_at dksX3_isProblem_1 21 rfl rfl)
theorem dX3_isProblem_45 : decode cX3_isProblem 45 = .ok (.iload_n 2, 1) := dk_28 (dk_at dksX3_isProblem_1 22 rfl rfl)
theorem dX3_isProblem_46 : decode cX3_isProblem 46 = .ok (.iconst 1, 1) := dk_4 (dk_at dksX3_isProblem_1 23 rfl rfl)
theorem dX3_isProblem_47 : decode cX3_isProblem 47 = .ok (.if_icmp .ne 61, 3) := dk_160 0 61 (dk_at dksX3_isProblem_2 0 rfl rfl)
theorem dX3_isProblem_50 : decode cX3_isProblem 50 = .ok (.aload_n 0, 1) := dk_42 (dk_at dksX3_isProblem_2 3 rfl rfl)
theorem dX3_isProblem_51 : decode cX3_isProblem 51 = .ok (.getfield 83, 3) := dk_180 0 83 (dk_at dksX3_isProblem_2 4 rfl rfl)
theorem dX3_isProblem_54 : decode cX3_isProblem 54 = .ok (.bipush 100, 2) := dk_16 100 (dk_at dksX3_isProblem_2 7 rfl rfl)
theorem dX3_isProblem_56 : decode cX3_isProblem 56 = .ok (.iload_n 3, 1) := dk_29 (dk_at dksX3_isProblem_2 9 rfl rfl)
theorem dX3_isProblem_57 : decode cX3_isProblem 57 = .ok (.imul, 1) := dk_104 (dk_at dksX3_isProblem_2 10 rfl rfl)
theorem dX3_isProblem_58 : decode cX3_isProblem 58 = .ok (.iload_n 1, 1) := dk_27 (dk_at dksX3_isProblem_2 11 rfl rfl)
theorem dX3_isProblem_59 : decode cX3_isProblem 59 = .ok (.iadd, 1) := dk_96 (dk_at dksX3_isProblem_2 12 rfl rfl)
theorem dX3_isProblem_60 : decode cX3_isProblem 60 = .ok (.iaload, 1) := dk_46 (dk_at dksX3_isProblem_2 13 rfl rfl)
theorem dX3_isProblem_61 : decode cX3_isProblem 61 = .ok (.iconst 0, 1) := dk_3 (dk_at dksX3_isProblem_2 14 rfl rfl)
theorem dX3_isProblem_62 : decode cX3_isProblem 62 = .ok (.aload_n 0, 1) := dk_42 (dk_at dksX3_isProblem_2 15 rfl rfl)
theorem dX3_isProblem_63 : decode cX3_isProblem 63 = .ok (.getfield 7, 3) := dk_180 0 7 (dk_at dksX3_isProblem_2 16 rfl rfl)
theorem dX3_isProblem_66 : decode cX3_isProblem 66 = .ok (.iconst 0, 1) := dk_3 (dk_at dksX3_isProblem_2 19 rfl rfl)
theorem dX3_isProblem_67 : decode cX3_isProblem 67 = .ok (.iaload, 1) := dk_46 (dk_at dksX3_isProblem_2 20 rfl rfl)
theorem dX3_isProblem_68 : decode cX3_isProblem 68 = .ok (.iconst 1, 1) := dk_4 (dk_at dksX3_isProblem_2 21 rfl rfl)
theorem dX3_isProblem_69 : decode cX3_isProblem 69 = .ok (.isub, 1) := dk_100 (dk_at dksX3_isProblem_2 22 rfl rfl)
theorem dX3_isProblem_70 : decode cX3_isProblem 70 = .ok (.invokestatic 121, 3) := dk_184 0 121 (dk_at dksX3_isProblem_3 0 rfl rfl)
theorem dX3_isProblem_73 : decode cX3_isProblem 73 = .ok (.ifCond .eq 29, 3) := dk_153 0 29 (dk_at dksX3_isProblem_3 3 rfl rfl)
theorem dX3_isProblem_76 : decode cX3_isProblem 76 = .ok (.aload_n 0, 1) := dk_42 (dk_at dksX3_isProblem_3 6 rfl rfl)
theorem dX3_isProblem_77 : decode cX3_isProblem 77 = .ok (.getfield 86, 3) := dk_180 0 86 (dk_at dksX3_isProblem_3 7 rfl rfl)
theorem dX3_isProblem_80 : decode cX3_isProblem 80 = .ok (.bipush 100, 2) := dk_16 100 (dk_at dksX3_isProblem_3 10 rfl rfl)
theorem dX3_isProblem_82 : decode cX3_isProblem 82 = .ok (.iload_n 3, 1) := dk_29 (dk_at dksX3_isProblem_3 12 rfl rfl)
theorem dX3_isProblem_83 : decode cX3_isProblem 83 = .ok (.imul, 1) := dk_104 (dk_at dksX3_isProblem_3 13 rfl rfl)
theorem dX3_isProblem_84 : decode cX3_isProblem 84 = .ok (.iload_n 1, 1) := dk_27 (dk_at dksX3_isProblem_3 14 rfl rfl)
theorem dX3_isProblem_85 : decode cX3_isProblem 85 = .ok (.iadd, 1) := dk_96 (dk_at dksX3_isProblem_3 15 rfl rfl)
theorem dX3_isProblem_86 : decode cX3_isProblem 86 = .ok (.iaload, 1) := dk_46 (dk_at dksX3_isProblem_3 16 rfl rfl)
theorem dX3_isProblem_87 : decode cX3_isProblem 87 = .ok (.iconst 0, 1) := dk_3 (dk_at dksX3_isProblem_3 17 rfl rfl)
theorem dX3_isProblem_88 : decode cX3_isProblem 88 = .ok (.aload_n 0, 1) := dk_42 (dk_at dksX3_isProblem_3 18 rfl rfl)
theorem dX3_isProblem_89 : decode cX3_isProblem 89 = .ok (.getfield 7, 3) := dk_180 0 7 (dk_at dksX3_isProblem_3 19 rfl rfl)
theorem dX3_isProblem_92 : decode cX3_isProblem 92 = .ok (.iconst 1, 1) := dk_4 (dk_at dksX3_isProblem_3 22 rfl rfl)
theorem dX3_isProblem_93 : decode cX3_isProblem 93 = .ok (.iaload, 1) := dk_46 (dk_at dksX3_isProblem_3 23 rfl rfl)
theorem dX3_isProblem_94 : decode cX3_isProblem 94 = .ok (.iconst 1, 1) := dk_4 (dk_at dksX3_isProblem_4 0 rfl rfl)
theorem dX3_isProblem_95 : decode cX3_isProblem 95 = .ok (.isub, 1) := dk_100 (dk_at dksX3_isProblem_4 1 rfl rfl)
theorem dX3_isProblem_96 : decode cX3_isProblem 96 = .ok (.invokestatic 121, 3) := dk_184 0 121 (dk_at dksX3_isProblem_4 2 rfl rfl)
theorem dX3_isProblem_99 : decode cX3_isProblem 99 = .ok (.ifCond .ne 7, 3) := dk_154 0 7 (dk_at dksX3_isProblem_4 5 rfl rfl)
theorem dX3_isProblem_102 : decode cX3_isProblem 102 = .ok (.iconst 1, 1) := dk_4 (dk_at dksX3_isProblem_4 8 rfl rfl)
theorem dX3_isProblem_103 : decode cX3_isProblem 103 = .ok (.goto 4, 3) := dk_167 0 4 (dk_at dksX3_isProblem_4 9 rfl rfl)
theorem dX3_isProblem_106 : decode cX3_isProblem 106 = .ok (.iconst 0, 1) := dk_3 (dk_at dksX3_isProblem_4 12 rfl rfl)
theorem dX3_isProblem_107 : decode cX3_isProblem 107 = .ok (.ireturn, 1) := dk_172 (dk_at dksX3_isProblem_4 13 rfl rfl)
theorem dX3_isProblem_108 : decode cX3_isProblem 108 = .ok (.aload_n 0, 1) := dk_42 (dk_at dksX3_isProblem_4 14 rfl rfl)
theorem dX3_isProblem_109 : decode cX3_isProblem 109 = .ok (.iload 4, 2) := dk_21 4 (dk_at dksX3_isProblem_4 15 rfl rfl)
theorem dX3_isProblem_111 : decode cX3_isProblem 111 = .ok (.invokevirtual 336, 3) := dk_182 1 80 (dk_at dksX3_isProblem_4 17 rfl rfl)
theorem dX3_isProblem_114 : decode cX3_isProblem 114 = .ok (.ifCond .ne 5, 3) := dk_154 0 5 (dk_at dksX3_isProblem_4 20 rfl rfl)
theorem dX3_isProblem_117 : decode cX3_isProblem 117 = .ok (.iconst 0, 1) := dk_3 (dk_at dksX3_isProblem_4 23 rfl rfl)
theorem dX3_isProblem_118 : decode cX3_isProblem 118 = .ok (.ireturn, 1) := dk_172 (dk_at dksX3_isProblem_5 0 rfl rfl)
theorem dX3_isProblem_119 : decode cX3_isProblem 119 = .ok (.iload_n 2, 1) := dk_28 (dk_at dksX3_isProblem_5 1 rfl rfl)
theorem dX3_isProblem_120 : decode cX3_isProblem 120 = .ok (.iconst 2, 1) := dk_5 (dk_at dksX3_isProblem_5 2 rfl rfl)
theorem dX3_isProblem_121 : decode cX3_isProblem 121 = .ok (.if_icmp .ne 13, 3) := dk_160 0 13 (dk_at dksX3_isProblem_5 3 rfl rfl)
theorem dX3_isProblem_124 : decode cX3_isProblem 124 = .ok (.aload_n 0, 1) := dk_42 (dk_at dksX3_isProblem_5 6 rfl rfl)
theorem dX3_isProblem_125 : decode cX3_isProblem 125 = .ok (.iload_n 3, 1) := dk_29 (dk_at dksX3_isProblem_5 7 rfl rfl)
theorem dX3_isProblem_126 : decode cX3_isProblem 126 = .ok (.iload_n 1, 1) := dk_27 (dk_at dksX3_isProblem_5 8 rfl rfl)
theorem dX3_isProblem_127 : decode cX3_isProblem 127 = .ok (.iload 4, 2) := dk_21 4 (dk_at dksX3_isProblem_5 9 rfl rfl)
theorem dX3_isProblem_129 : decode cX3_isProblem 129 = .ok (.iload_n 1, 1) := dk_27 (dk_at dksX3_isProblem_5 11 rfl rfl)
theorem dX3_isProblem_130 : decode cX3_isProblem 130 = .ok (.invokevirtual 345, 3) := dk_182 1 89 (dk_at dksX3_isProblem_5 12 rfl rfl)
theorem dX3_isProblem_133 : decode cX3_isProblem 133 = .ok (.ireturn, 1) := dk_172 (dk_at dksX3_isProblem_5 15 rfl rfl)
theorem dX3_isProblem_134 : decode cX3_isProblem 134 = .ok (.iload_n 1, 1) := dk_27 (dk_at dksX3_isProblem_5 16 rfl rfl)
theorem dX3_isProblem_135 : decode cX3_isProblem 135 = .ok (.ifCond .le 51, 3) := dk_158 0 51 (dk_at dksX3_isProblem_5 17 rfl rfl)
theorem dX3_isProblem_138 : decode cX3_isProblem 138 = .ok (.aload_n 0, 1) := dk_42 (dk_at dksX3_isProblem_5 20 rfl rfl)
theorem dX3_isProblem_139 : decode cX3_isProblem 139 = .ok (.iload_n 3, 1) := dk_29 (dk_at dksX3_isProblem_5 21 rfl rfl)
theorem dX3_isProblem_140 : decode cX3_isProblem 140 = .ok (.iload_n 1, 1) := dk_27 (dk_at dksX3_isProblem_5 22 rfl rfl)
theorem dX3_isProblem_141 : decode cX3_isProblem 141 = .ok (.iconst 1, 1) := dk_4 (dk_at dksX3_isProblem_5 23 rfl rfl)
theorem dX3_isProblem_142 : decode cX3_isProblem 142 = .ok (.isub, 1) := dk_100 (dk_at dksX3_isProblem_6 0 rfl rfl)
theorem dX3_isProblem_143 : decode cX3_isProblem 143 = .ok (.iload 4, 2) := dk_21 4 (dk_at dksX3_isProblem_6 1 rfl rfl)
theorem dX3_isProblem_145 : decode cX3_isProblem 145 = .ok (.iload_n 1, 1) := dk_27 (dk_at dksX3_isProblem_6 3 rfl rfl)
theorem dX3_isProblem_146 : decode cX3_isProblem 146 = .ok (.iconst 1, 1) := dk_4 (dk_at dksX3_isProblem_6 4 rfl rfl)
theorem dX3_isProblem_147 : decode cX3_isProblem 147 = .ok (.isub, 1) := dk_100 (dk_at dksX3_isProblem_6 5 rfl rfl)
theorem dX3_isProblem_148 : decode cX3_isProblem 148 = .ok (.invokevirtual 345, 3) := dk_182 1 89 (dk_at dksX3_isProblem_6 6 rfl rfl)
theorem dX3_isProblem_151 : decode cX3_isProblem 151 = .ok (.ifCond .ne 35, 3) := dk_154 0 35 (dk_at dksX3_isProblem_6 9 rfl rfl)
theorem dX3_isProblem_154 : decode cX3_isProblem 154 = .ok (.aload_n 0, 1) := dk_42 (dk_at dksX3_isProblem_6 12 rfl rfl)
theorem dX3_isProblem_155 : decode cX3_isProblem 155 = .ok (.iload_n 3, 1) := dk_29 (dk_at dksX3_isProblem_6 13 rfl rfl)
theorem dX3_isProblem_156 : decode cX3_isProblem 156 = .ok (.iload_n 1, 1) := dk_27 (dk_at dksX3_isProblem_6 14 rfl rfl)
theorem dX3_isProblem_157 : decode cX3_isProblem 157 = .ok (.iload 4, 2) := dk_21 4 (dk_at dksX3_isProblem_6 15 rfl rfl)
theorem dX3_isProblem_159 : decode cX3_isProblem 159 = .ok (.iload_n 1, 1) := dk_27 (dk_at dksX3_isProblem_6 17 rfl rfl)
theorem dX3_isProblem_160 : decode cX3_isProblem 160 = .ok (.iconst 1, 1) := dk_4 (dk_at dksX3_isProblem_6 18 rfl rfl)
theorem dX3_isProblem_161 : decode cX3_isProblem 161 = .ok (.isub, 1) := dk_100 (dk_at dksX3_isProblem_6 19 rfl rfl)
theorem dX3_isProblem_162 : decode cX3_isProblem 162 = .ok (.invokevirtual 345, 3) := dk_182 1 89 (dk_at dksX3_isProblem_6 20 rfl rfl)
theorem dX3_isProblem_165 : decode cX3_isProblem 165 = .ok (.ifCond .eq 21, 3) := dk_153 0 21 (dk_at dksX3_isProblem_7 0 rfl rfl)
theorem dX3_isProblem_168 : decode cX3_isProblem 168 = .ok (.aload_n 0, 1) := dk_42 (dk_at dksX3_isProblem_7 3 rfl rfl)
theorem dX3_isProblem_169 : decode cX3_isProblem 169 = .ok (.iload_n 3, 1) := dk_29 (dk_at dksX3_isProblem_7 4 rfl rfl)
theorem dX3_isProblem_170 : decode cX3_isProblem 170 = .ok (.iload_n 1, 1) := dk_27 (dk_at dksX3_isProblem_7 5 rfl rfl)
theorem dX3_isProblem_171 : decode cX3_isProblem 171 = .ok (.iconst 1, 1) := dk_4 (dk_at dksX3_isProblem_7 6 rfl rfl)
theorem dX3_isProblem_172 : decode cX3_isProblem 172 = .ok (.isub, 1) := dk_100 (dk_at dksX3_isProblem_7 7 rfl rfl)
theorem dX3_isProblem_173 : decode cX3_isProblem 173 = .ok (.iload 4, 2) := dk_21 4 (dk_at dksX3_isProblem_7 8 rfl rfl)
theorem dX3_isProblem_175 : decode cX3_isProblem 175 = .ok (.iload_n 1, 1) := dk_27 (dk_at dksX3_isProblem_7 10 rfl rfl)
theorem dX3_isProblem_176 : decode cX3_isProblem 176 = .ok (.invokevirtual 345, 3) := dk_182 1 89 (dk_at dksX3_isProblem_7 11 rfl rfl)
theorem dX3_isProblem_179 : decode cX3_isProblem 179 = .ok (.ifCond .eq 7, 3) := dk_153 0 7 (dk_at dksX3_isProblem_7 14 rfl rfl)
theorem dX3_isProblem_182 : decode cX3_isProblem 182 = .ok (.iconst 1, 1) := dk_4 (dk_at dksX3_isProblem_7 17 rfl rfl)
theorem dX3_isProblem_183 : decode cX3_isProblem 183 = .ok (.goto 4, 3) := dk_167 0 4 (dk_at dksX3_isProblem_7 18 rfl rfl)
theorem dX3_isProblem_186 : decode cX3_isProblem 186 = .ok (.iconst 0, 1) := dk_3 (dk_at dksX3_isProblem_7 21 rfl rfl)
theorem dX3_isProblem_187 : decode cX3_isProblem 187 = .ok (.ireturn, 1) := dk_172 (dk_at dksX3_isProblem_7 22 rfl rfl)
abbrev cX3_areSame : ByteArray := prog_24_method_77_code
def yX3_areSame : MethodName := ⟨RX3, "areSame", "(IIII)Z"⟩
def dkwX3_areSame_2 : List UInt8 := [96, 46, 160, 0, 7, 4, 167, 0, 4, 3, 172]
abbrev dktX3_areSame_2 : List UInt8 := dkwX3_areSame_2 ++ []
def dkwX3_areSame_1 : List UInt8 := [160, 0, 33, 42, 180, 0, 86, 16, 100, 27, 104, 28, 96, 46, 42, 180, 0, 86, 16, 100, 29, 104, 21, 4]
abbrev dktX3_areSame_1 : List UInt8 := dkwX3_areSame_1 ++ dktX3_areSame_2
def dkwX3_areSame_0 : List UInt8 := [42, 180, 0, 83, 16, 100, 27, 104, 28, 96, 46, 42, 180, 0, 83, 16, 100, 29, 104, 21, 4, 96, 46]
abbrev dktX3_areSame_0 : List UInt8 := dkwX3_areSame_0 ++ dktX3_areSame_1
theorem dksX3_areSame_0 : cX3_areSame.data.toList.drop 0 = dktX3_areSame_0 := by decide +kernel
theorem dksX3_areSame_1 : cX3_areSame.data.toList.drop 23 = dktX3_areSame_1 := dk_seg dksX3_areSame_0 23 rfl rfl
theorem dksX3_areSame_2 : cX3_areSame.data.toList.drop 47 = dktX3_areSame_2 := dk_seg dksX3_areSame_1 24 rfl rfl
theorem dX3_areSame_0 : decode cX3_areSame 0 = .ok (.aload_n 0, 1) := dk_42 (dk_at dksX3_areSame_0 0 rfl rfl)
theorem dX3_areSame_1 : decode cX3_areSame 1 = .ok (.getfield 83, 3) := dk_180 0 83 (dk_at dksX3_areSame_0 1 rfl rfl)
theorem dX3_areSame_4 : decode cX3_areSame 4 = .ok (.bipush 100, 2) := dk_16 100 (dk_at dksX3_areSame_0 4 rfl rfl)
theorem dX3_areSame_6 : decode cX3_areSame 6 = .ok (.iload_n 1, 1) := dk_27 (dk_at dksX3_areSame_0 6 rfl rfl)
theorem dX3_areSame_7 : decode cX3_areSame 7 = .ok (.imul, 1) := dk_104 (dk_at dksX3_areSame_0 7 rfl rfl)
theorem dX3_areSame_8 : decode cX3_areSame 8 = .ok (.iload_n 2, 1) := dk_28 (dk_at dksX3_areSame_0 8 rfl rfl)
theorem dX3_areSame_9 : decode cX3_areSame 9 = .ok (.iadd, 1) := dk_96 (dk_at dksX3_areSame_0 9 rfl rfl)
theorem dX3_areSame_10 : decode cX3_areSame 10 = .ok (.iaload, 1) := dk_46 (dk_at dksX3_areSame_0 10 rfl rfl)
theorem dX3_areSame_11 : decode cX3_areSame 11 = .ok (.aload_n 0, 1) := dk_42 (dk_at dksX3_areSame_0 11 rfl rfl)
theorem dX3_areSame_12 : decode cX3_areSame 12 = .ok (.getfield 83, 3) := dk_180 0 83 (dk_at dksX3_areSame_0 12 rfl rfl)
theorem dX3_areSame_15 : decode cX3_areSame 15 = .ok (.bipush 100, 2) := dk_16 100 (dk_at dksX3_areSame_0 15 rfl rfl)
theorem dX3_areSame_17 : decode cX3_areSame 17 = .ok (.iload_n 3, 1) := dk_29 (dk_at dksX3_areSame_0 17 rfl rfl)
theorem dX3_areSame_18 : decode cX3_areSame 18 = .ok (.imul, 1) := dk_104 (dk_at dksX3_areSame_0 18 rfl rfl)
theorem dX3_areSame_19 : decode cX3_areSame 19 = .ok (.iload 4, 2) := dk_21 4 (dk_at dksX3_areSame_0 19 rfl rfl)
theorem dX3_areSame_21 : decode cX3_areSame 21 = .ok (.iadd, 1) := dk_96 (dk_at dksX3_areSame_0 21 rfl rfl)
theorem dX3_areSame_22 : decode cX3_areSame 22 = .ok (.iaload, 1) := dk_46 (dk_at dksX3_areSame_0 22 rfl rfl)
theorem dX3_areSame_23 : decode cX3_areSame 23 = .ok (.if_icmp .ne 33, 3) := dk_160 0 33 (dk_at dksX3_areSame_1 0 rfl rfl)
theorem dX3_areSame_26 : decode cX3_areSame 26 = .ok (.aload_n 0, 1) := dk_42 (dk_at dksX3_areSame_1 3 rfl rfl)
theorem dX3_areSame_27 : decode cX3_areSame 27 = .ok (.getfield 86, 3) := dk_180 0 86 (dk_at dksX3_areSame_1 4 rfl rfl)
theorem dX3_areSame_30 : decode cX3_areSame 30 = .ok (.bipush 100, 2) := dk_16 100 (dk_at dksX3_areSame_1 7 rfl rfl)
theorem dX3_areSame_32 : decode cX3_areSame 32 = .ok (.iload_n 1, 1) := dk_27 (dk_at dksX3_areSame_1 9 rfl rfl)
theorem dX3_areSame_33 : decode cX3_areSame 33 = .ok (.imul, 1) := dk_104 (dk_at dksX3_areSame_1 10 rfl rfl)
theorem dX3_areSame_34 : decode cX3_areSame 34 = .ok (.iload_n 2, 1) := dk_28 (dk_at dksX3_areSame_1 11 rfl rfl)
theorem dX3_areSame_35 : decode cX3_areSame 35 = .ok (.iadd, 1) := dk_96 (dk_at dksX3_areSame_1 12 rfl rfl)
theorem dX3_areSame_36 : decode cX3_areSame 36 = .ok (.iaload, 1) := dk_46 (dk_at dksX3_areSame_1 13 rfl rfl)
theorem dX3_areSame_37 : decode cX3_areSame 37 = .ok (.aload_n 0, 1) := dk_42 (dk_at dksX3_areSame_1 14 rfl rfl)
theorem dX3_areSame_38 : decode cX3_areSame 38 = .ok (.getfield 86, 3) := dk_180 0 86 (dk_at dksX3_areSame_1 15 rfl rfl)
theorem dX3_areSame_41 : decode cX3_areSame 41 = .ok (.bipush 100, 2) := dk_16 100 (dk_at dksX3_areSame_1 18 rfl rfl)
theorem dX3_areSame_43 : decode cX3_areSame 43 = .ok (.iload_n 3, 1) := dk_29 (dk_at dksX3_areSame_1 20 rfl rfl)
theorem dX3_areSame_44 : decode cX3_areSame 44 = .ok (.imul, 1) := dk_104 (dk_at dksX3_areSame_1 21 rfl rfl)
theorem dX3_areSame_45 : decode cX3_areSame 45 = .ok (.iload 4, 2) := dk_21 4 (dk_at dksX3_areSame_1 22 rfl rfl)
theorem dX3_areSame_47 : decode cX3_areSame 47 = .ok (.iadd, 1) := dk_96 (dk_at dksX3_areSame_2 0 rfl rfl)
theorem dX3_areSame_48 : decode cX3_areSame 48 = .ok (.iaload, 1) := dk_46 (dk_at dksX3_areSame_2 1 rfl rfl)
theorem dX3_areSame_49 : decode cX3_areSame 49 = .ok (.if_icmp .ne 7, 3) := dk_160 0 7 (dk_at dksX3_areSame_2 2 rfl rfl)
theorem dX3_areSame_52 : decode cX3_areSame 52 = .ok (.iconst 1, 1) := dk_4 (dk_at dksX3_areSame_2 5 rfl rfl)
theorem dX3_areSame_53 : decode cX3_areSame 53 = .ok (.goto 4, 3) := dk_167 0 4 (dk_at dksX3_areSame_2 6 rfl rfl)
theorem dX3_areSame_56 : decode cX3_areSame 56 = .ok (.iconst 0, 1) := dk_3 (dk_at dksX3_areSame_2 9 rfl rfl)
theorem dX3_areSame_57 : decode cX3_areSame 57 = .ok (.ireturn, 1) := dk_172 (dk_at dksX3_areSame_2 10 rfl rfl)
abbrev cX3_problem : ByteArray := prog_24_method_82_code
def yX3_problem : MethodName := ⟨RX3, "problem", "(II)I"⟩
def dkwX3_problem_4 : List UInt8 := [180, 1, 114, 172]
abbrev dktX3_problem_4 : List UInt8 := dkwX3_problem_4 ++ []
def dkwX3_problem_3 : List UInt8 := [4, 160, 0, 10, 42, 180, 1, 108, 167, 0, 19, 28, 5, 160, 0, 10, 42, 180, 1, 111, 167, 0, 7, 42]
abbrev dktX3_problem_3 : List UInt8 := dkwX3_problem_3 ++ dktX3_problem_4
def dkwX3_problem_2 : List UInt8 := [184, 0, 121, 154, 0, 9, 42, 6, 182, 0, 117, 172, 28, 154, 0, 10, 42, 180, 1, 105, 167, 0, 31, 28]
abbrev dktX3_problem_2 : List UInt8 := dkwX3_problem_2 ++ dktX3_problem_3
def dkwX3_problem_1 : List UInt8 := [182, 1, 49, 153, 0, 5, 3, 172, 42, 3, 27, 182, 1, 117, 27, 3, 42, 180, 1, 96, 4, 100]
abbrev dktX3_problem_1 : List UInt8 := dkwX3_problem_1 ++ dktX3_problem_2
def dkwX3_problem_0 : List UInt8 := [42, 3, 181, 0, 111, 28, 3, 6, 184, 0, 121, 154, 0, 9, 42, 4, 182, 0, 117, 172, 42, 5]
abbrev dktX3_problem_0 : List UInt8 := dkwX3_problem_0 ++ dktX3_problem_1
theorem dksX3_problem_0 : cX3_problem.data.toList.drop 0 = dktX3_problem_0 := by decide +kernel
theorem dksX3_problem_1 : cX3_problem.data.toList.drop 22 = dktX3_problem_1 := dk_seg dksX3_problem_0 22 rfl rfl
theorem dksX3_problem_2 : cX3_problem.data.toList.drop 44 = dktX3_problem_2 := dk_seg dksX3_problem_1 22 rfl rfl
theorem dksX3_problem_3 : cX3_problem.data.toList.drop 68 = dktX3_problem_3 := dk_seg dksX3_problem_2 24 rfl rfl
theorem dksX3_problem_4 : cX3_problem.data.toList.drop 92 = dktX3_problem_4 := dk_seg dksX3_problem_3 24 rfl rfl
theorem dX3_problem_0 : decode cX3_problem 0 = .ok (.aload_n 0, 1) := dk_42 (dk_at dksX3_problem_0 0 rfl rfl)
theorem dX3_problem_1 : decode cX3_problem 1 = .ok (.iconst 0, 1) := dk_3 (dk_at dksX3_problem_0 1 rfl rfl)
theorem dX3_problem_2 : decode cX3_problem 2 = .ok (.putfield 111, 3) := dk_181 0 111 (dk_at dksX3_problem_0 2 rfl rfl)
theorem dX3_problem_5 : decode cX3_problem 5 = .ok (.iload_n 2, 1) := dk_28 (dk_at dksX3_problem_0 5 rfl rfl)
theorem dX3_problem_6 : decode cX3_problem 6 = .ok (.iconst 0, 1) := dk_3 (dk_at dksX3_problem_0 6 rfl rfl)
theorem dX3_problem_7 : decode cX3_problem 7 = .ok (.iconst 3, 1) := dk_6 (dk_at dksX3_problem_0 7 rfl rfl)
theorem dX3_problem_8 : decode cX3_problem 8 = .ok (.invokestatic 121, 3) := dk_184 0 121 (dk_at dksX3_problem_0 8 rfl rfl)
theorem dX3_problem_11 : decode cX3_problem 11 = .ok (.ifCond .ne 9, 3) := dk_154 0 9 (dk_at dksX3_problem_0 11 rfl rfl)
theorem dX3_problem_14 : decode cX3_problem 14 = .ok (.aload_n 0, 1) := dk_42 (dk_at dksX3_problem_0 14 rfl rfl)
theorem dX3_problem_15 : decode cX3_problem 15 = .ok (.iconst 1, 1) := dk_4 (dk_at dksX3_problem_0 15 rfl rfl)
theorem dX3_problem_16 : decode cX3_problem 16 = .ok (.invokevirtual 117, 3) := dk_182 0 117 (dk_at dksX3_problem_0 16 rfl rfl)
theorem dX3_problem_19 : decode cX3_problem 19 = .ok (.ireturn, 1) := dk_172 (dk_at dksX3_problem_0 19 rfl rfl)
theorem dX3_problem_20 : decode cX3_problem 20 = .ok (.aload_n 0, 1) := dk_42 (dk_at dksX3_problem_0 20 rfl rfl)
theorem dX3_problem_21 : decode cX3_problem 21 = .ok (.iconst 2, 1) := dk_5 (dk_at dksX3_problem_0 21 rfl rfl)
theorem dX3_problem_22 : decode cX3_problem 22 = .ok (.invokevirtual 305, 3) := dk_182 1 49 (dk_at dksX3_problem_1 0 rfl rfl)
theorem dX3_problem_25 : decode cX3_problem 25 = .ok (.ifCond .eq 5, 3) := dk_153 0 5 (dk_at dksX3_problem_1 3 rfl rfl)
theorem dX3_problem_28 : decode cX3_problem 28 = .ok (.iconst 0, 1) := dk_3 (dk_at dksX3_problem_1 6 rfl rfl)
theorem dX3_problem_29 : decode cX3_problem 29 = .ok (.ireturn, 1) := dk_172 (dk_at dksX3_problem_1 7 rfl rfl)
theorem dX3_problem_30 : decode cX3_problem 30 = .ok (.aload_n 0, 1) := dk_42 (dk_at dksX3_problem_1 8 rfl rfl)
theorem dX3_problem_31 : decode cX3_problem 31 = .ok (.iconst 0, 1) := dk_3 (dk_at dksX3_problem_1 9 rfl rfl)
theorem dX3_problem_32 : decode cX3_problem 32 = .ok (.iload_n 1, 1) := dk_27 (dk_at dksX3_problem_1 10 rfl rfl)
theorem dX3_problem_33 : decode cX3_problem 33 = .ok (.invokevirtual 373, 3) := dk_182 1 117 (dk_at dksX3_problem_1 11 rfl rfl)
theorem dX3_problem_36 : decode cX3_problem 36 = .ok (.iload_n 1, 1) := dk_27 (dk_at dksX3_problem_1 14 rfl rfl)
theorem dX3_problem_37 : decode cX3_problem 37 = .ok (.iconst 0, 1) := dk_3 (dk_at dksX3_problem_1 15 rfl rfl)
theorem dX3_problem_38 : decode cX3_problem 38 = .ok (.aload_n 0, 1) := dk_42 (dk_at dksX3_problem_1 16 rfl rfl)
theorem dX3_problem_39 : decode cX3_problem 39 = .ok (.getfield 352, 3) := dk_180 1 96 (dk_at dksX3_problem_1 17 rfl rfl)
theorem dX3_problem_42 : decode cX3_problem 42 = .ok (.iconst 1, 1) := dk_4 (dk_at dksX3_problem_1 20 rfl rfl)
theorem dX3_problem_43 : decode cX3_problem 43 = .ok (.isub, 1) := dk_100 (dk_at dksX3_problem_1 21 rfl rfl)
theorem dX3_problem_44 : decode cX3_problem 44 = .ok (.invokestatic 121, 3) := dk_184 0 121 (dk_at dksX3_problem_2 0 rfl rfl)
theorem dX3_problem_47 : decode cX3_problem 47 = .ok (.ifCond .ne 9, 3) := dk_154 0 9 (dk_at dksX3_problem_2 3 rfl rfl)
theorem dX3_problem_50 : decode cX3_problem 50 = .ok (.aload_n 0, 1) := dk_42 (dk_at dksX3_problem_2 6 rfl rfl)
theorem dX3_problem_51 : decode cX3_problem 51 = .ok (.iconst 3, 1) := dk_6 (dk_at dksX3_problem_2 7 rfl rfl)
theorem dX3_problem_52 : decode cX3_problem 52 = .ok (.invokevirtual 117, 3) := dk_182 0 117 (dk_at dksX3_problem_2 8 rfl rfl)
theorem dX3_problem_55 : decode cX3_problem 55 = .ok (.ireturn, 1) := dk_172 (dk_at dksX3_problem_2 11 rfl rfl)
theorem dX3_problem_56 : decode cX3_problem 56 = .ok (.iload_n 2, 1) := dk_28 (dk_at dksX3_problem_2 12 rfl rfl)
theorem dX3_problem_57 : decode cX3_problem 57 = .ok (.ifCond .ne 10, 3) := dk_154 0 10 (dk_at dksX3_problem_2 13 rfl rfl)
theorem dX3_problem_60 : decode cX3_problem 60 = .ok (.aload_n 0, 1) := dk_42 (dk_at dksX3_problem_2 16 rfl rfl)
theorem dX3_problem_61 : decode cX3_problem 61 = .ok (.getfield 361, 3) := dk_180 1 105 (dk_at dksX3_problem_2 17 rfl rfl)
theorem dX3_problem_64 : decode cX3_problem 64 = .ok (.goto 31, 3) := dk_167 0 31 (dk_at dksX3_problem_2 20 rfl rfl)
theorem dX3_problem_67 : decode cX3_problem 67 = .ok (.iload_n 2, 1) := dk_28 (dk_at dksX3_problem_2 23 rfl rfl)
theorem dX3_problem_68 : decode cX3_problem 68 = .ok (.iconst 1, 1) := dk_4 (dk_at dksX3_problem_3 0 rfl rfl)
theorem dX3_problem_69 : decode cX3_problem 69 = .ok (.if_icmp .ne 10, 3) := dk_160 0 10 (dk_at dksX3_problem_3 1 rfl rfl)
theorem dX3_problem_72 : decode cX3_problem 72 = .ok (.aload_n 0, 1) := dk_42 (dk_at dksX3_problem_3 4 rfl rfl)
theorem dX3_problem_73 : decode cX3_problem 73 = .ok (.getfield 364, 3) := dk_180 1 108 (dk_at dksX3_problem_3 5 rfl rfl)
theorem dX3_problem_76 : decode cX3_problem 76 = .ok (.goto 19, 3) := dk_167 0 19 (dk_at dksX3_problem_3 8 rfl rfl)
theorem dX3_problem_79 : decode cX3_problem 79 = .ok (.iload_n 2, 1) := dk_28 (dk_at dksX3_problem_3 11 rfl rfl)
theorem dX3_problem_80 : decode cX3_problem 80 = .ok (.iconst 2, 1) := dk_5 (dk_at dksX3_problem_3 12 rfl rfl)
theorem dX3_problem_81 : decode cX3_problem 81 = .ok (.if_icmp .ne 10, 3) := dk_160 0 10 (dk_at dksX3_problem_3 13 rfl rfl)
theorem dX3_problem_84 : decode cX3_problem 84 = .ok (.aload_n 0, 1) := dk_42 (dk_at dksX3_problem_3 16 rfl rfl)
theorem dX3_problem_85 : decode cX3_problem 85 = .ok (.getfield 367, 3) := dk_180 1 111 (dk_at dksX3_problem_3 17 rfl rfl)
theorem dX3_problem_88 : decode cX3_problem 88 = .ok (.goto 7, 3) := dk_167 0 7 (dk_at dksX3_problem_3 20 rfl rfl)
theorem dX3_problem_91 : decode cX3_problem 91 = .ok (.aload_n 0, 1) := dk_42 (dk_at dksX3_problem_3 23 rfl rfl)
theorem dX3_problem_92 : decode cX3_problem 92 = .ok (.getfield 370, 3) := dk_180 1 114 (dk_at dksX3_problem_4 0 rfl rfl)
theorem dX3_problem_95 : decode cX3_problem 95 = .ok (.ireturn, 1) := dk_172 (dk_at dksX3_problem_4 3 rfl rfl)
abbrev cX3_cue : ByteArray := prog_24_method_83_code
def yX3_cue : MethodName := ⟨RX3, "cue", "(I)I"⟩
def dkwX3_cue_3 : List UInt8 := [172]
abbrev dktX3_cue_3 : List UInt8 := dkwX3_cue_3 ++ []
def dkwX3_cue_2 : List UInt8 := [180, 0, 39, 28, 46, 161, 0, 18, 29, 42, 180, 0, 39, 28, 46, 100, 62, 132, 2, 1, 167, 255, 234, 28]
abbrev dktX3_cue_2 : List UInt8 := dkwX3_cue_2 ++ dktX3_cue_3
def dkwX3_cue_1 : List UInt8 := [180, 0, 150, 4, 100, 184, 0, 121, 154, 0, 9, 42, 5, 182, 0, 117, 172, 3, 61, 27, 62, 29, 42]
abbrev dktX3_cue_1 : List UInt8 := dkwX3_cue_1 ++ dktX3_cue_2
def dkwX3_cue_0 : List UInt8 := [42, 4, 182, 1, 49, 153, 0, 5, 3, 172, 27, 2, 160, 0, 8, 42, 180, 0, 150, 172, 27, 3, 42]
abbrev dktX3_cue_0 : List UInt8 := dkwX3_cue_0 ++ dktX3_cue_1
theorem dksX3_cue_0 : cX3_cue.data.toList.drop 0 = dktX3_cue_0 := by decide +kernel
theorem dksX3_cue_1 : cX3_cue.data.toList.drop 23 = dktX3_cue_1 := dk_seg dksX3_cue_0 23 rfl rfl
theorem dksX3_cue_2 : cX3_cue.data.toList.drop 46 = dktX3_cue_2 := dk_seg dksX3_cue_1 23 rfl rfl
theorem dksX3_cue_3 : cX3_cue.data.toList.drop 70 = dktX3_cue_3 := dk_seg dksX3_cue_2 24 rfl rfl
theorem dX3_cue_0 : decode cX3_cue 0 = .ok (.aload_n 0, 1) := dk_42 (dk_at dksX3_cue_0 0 rfl rfl)
theorem dX3_cue_1 : decode cX3_cue 1 = .ok (.iconst 1, 1) := dk_4 (dk_at dksX3_cue_0 1 rfl rfl)
theorem dX3_cue_2 : decode cX3_cue 2 = .ok (.invokevirtual 305, 3) := dk_182 1 49 (dk_at dksX3_cue_0 2 rfl rfl)
theorem dX3_cue_5 : decode cX3_cue 5 = .ok (.ifCond .eq 5, 3) := dk_153 0 5 (dk_at dksX3_cue_0 5 rfl rfl)
theorem dX3_cue_8 : decode cX3_cue 8 = .ok (.iconst 0, 1) := dk_3 (dk_at dksX3_cue_0 8 rfl rfl)
theorem dX3_cue_9 : decode cX3_cue 9 = .ok (.ireturn, 1) := dk_172 (dk_at dksX3_cue_0 9 rfl rfl)
theorem dX3_cue_10 : decode cX3_cue 10 = .ok (.iload_n 1, 1) := dk_27 (dk_at dksX3_cue_0 10 rfl rfl)
theorem dX3_cue_11 : decode cX3_cue 11 = .ok (.iconst (-1), 1) := dk_2 (dk_at dksX3_cue_0 11 rfl rfl)
theorem dX3_cue_12 : decode cX3_cue 12 = .ok (.if_icmp .ne 8, 3) := dk_160 0 8 (dk_at dksX3_cue_0 12 rfl rfl)
theorem dX3_cue_15 : decode cX3_cue 15 = .ok (.aload_n 0, 1) := dk_42 (dk_at dksX3_cue_0 15 rfl rfl)
theorem dX3_cue_16 : decode cX3_cue 16 = .ok (.getfield 150, 3) := dk_180 0 150 (dk_at dksX3_cue_0 16 rfl rfl)
theorem dX3_cue_19 : decode cX3_cue 19 = .ok (.ireturn, 1) := dk_172 (dk_at dksX3_cue_0 19 rfl rfl)
theorem dX3_cue_20 : decode cX3_cue 20 = .ok (.iload_n 1, 1) := dk_27 (dk_at dksX3_cue_0 20 rfl rfl)
theorem dX3_cue_21 : decode cX3_cue 21 = .ok (.iconst 0, 1) := dk_3 (dk_at dksX3_cue_0 21 rfl rfl)
theorem dX3_cue_22 : decode cX3_cue 22 = .ok (.aload_n 0, 1) := dk_42 (dk_at dksX3_cue_0 22 rfl rfl)
theorem dX3_cue_23 : decode cX3_cue 23 = .ok (.getfield 150, 3) := dk_180 0 150 (dk_at dksX3_cue_1 0 rfl rfl)
theorem dX3_cue_26 : decode cX3_cue 26 = .ok (.iconst 1, 1) := dk_4 (dk_at dksX3_cue_1 3 rfl rfl)
theorem dX3_cue_27 : decode cX3_cue 27 = .ok (.isub, 1) := dk_100 (dk_at dksX3_cue_1 4 rfl rfl)
theorem dX3_cue_28 : decode cX3_cue 28 = .ok (.invokestatic 121, 3) := dk_184 0 121 (dk_at dksX3_cue_1 5 rfl rfl)
theorem dX3_cue_31 : decode cX3_cue 31 = .ok (.ifCond .ne 9, 3) := dk_154 0 9 (dk_at dksX3_cue_1 8 rfl rfl)
theorem dX3_cue_34 : decode cX3_cue 34 = .ok (.aload_n 0, 1) := dk_42 (dk_at dksX3_cue_1 11 rfl rfl)
theorem dX3_cue_35 : decode cX3_cue 35 = .ok (.iconst 2, 1) := dk_5 (dk_at dksX3_cue_1 12 rfl rfl)
theorem dX3_cue_36 : decode cX3_cue 36 = .ok (.invokevirtual 117, 3) := dk_182 0 117 (dk_at dksX3_cue_1 13 rfl rfl)
theorem dX3_cue_39 : decode cX3_cue 39 = .ok (.ireturn, 1) := dk_172 (dk_at dksX3_cue_1 16 rfl rfl)
theorem dX3_cue_40 : decode cX3_cue 40 = .ok (.iconst 0, 1) := dk_3 (dk_at dksX3_cue_1 17 rfl rfl)
theorem dX3_cue_41 : decode cX3_cue 41 = .ok (.istore_n 2, 1) := dk_61 (dk_at dksX3_cue_1 18 rfl rfl)
theorem dX3_cue_42 : decode cX3_cue 42 = .ok (.iload_n 1, 1) := dk_27 (dk_at dksX3_cue_1 19 rfl rfl)
theorem dX3_cue_43 : decode cX3_cue 43 = .ok (.istore_n 3, 1) := dk_62 (dk_at dksX3_cue_1 20 rfl rfl)
theorem dX3_cue_44 : decode cX3_cue 44 = .ok (.iload_n 3, 1) := dk_29 (dk_at dksX3_cue_1 21 rfl rfl)
theorem dX3_cue_45 : decode cX3_cue 45 = .ok (.aload_n 0, 1) := dk_42 (dk_at dksX3_cue_1 22 rfl rfl)
theorem dX3_cue_46 : decode cX3_cue 46 = .ok (.getfield 39, 3) := dk_180 0 39 (dk_at dksX3_cue_2 0 rfl rfl)
theorem dX3_cue_49 : decode cX3_cue 49 = .ok (.iload_n 2, 1) := dk_28 (dk_at dksX3_cue_2 3 rfl rfl)
theorem dX3_cue_50 : decode cX3_cue 50 = .ok (.iaload, 1) := dk_46 (dk_at dksX3_cue_2 4 rfl rfl)
theorem dX3_cue_51 : decode cX3_cue 51 = .ok (.if_icmp .lt 18, 3) := dk_161 0 18 (dk_at dksX3_cue_2 5 rfl rfl)
theorem dX3_cue_54 : decode cX3_cue 54 = .ok (.iload_n 3, 1) := dk_29 (dk_at dksX3_cue_2 8 rfl rfl)
theorem dX3_cue_55 : decode cX3_cue 55 = .ok (.aload_n 0, 1) := dk_42 (dk_at dksX3_cue_2 9 rfl rfl)
theorem dX3_cue_56 : decode cX3_cue 56 = .ok (.getfield 39, 3) := dk_180 0 39 (dk_at dksX3_cue_2 10 rfl rfl)
theorem dX3_cue_59 : decode cX3_cue 59 = .ok (.iload_n 2, 1) := dk_28 (dk_at dksX3_cue_2 13 rfl rfl)
theorem dX3_cue_60 : decode cX3_cue 60 = .ok (.iaload, 1) := dk_46 (dk_at dksX3_cue_2 14 rfl rfl)
theorem dX3_cue_61 : decode cX3_cue 61 = .ok (.isub, 1) := dk_100 (dk_at dksX3_cue_2 15 rfl rfl)
theorem dX3_cue_62 : decode cX3_cue 62 = .ok (.istore_n 3, 1) := dk_62 (dk_at dksX3_cue_2 16 rfl rfl)
theorem dX3_cue_63 : decode cX3_cue 63 = .ok (.iinc 2 1, 3) := dk_132 2 1 (dk_at dksX3_cue_2 17 rfl rfl)
theorem dX3_cue_66 : decode cX3_cue 66 = .ok (.goto (-22), 3) := dk_167 255 234 (dk_at dksX3_cue_2 20 rfl rfl)
theorem dX3_cue_69 : decode cX3_cue 69 = .ok (.iload_n 2, 1) := dk_28 (dk_at dksX3_cue_2 23 rfl rfl)
theorem dX3_cue_70 : decode cX3_cue 70 = .ok (.ireturn, 1) := dk_172 (dk_at dksX3_cue_3 0 rfl rfl)
abbrev cX3_displacement : ByteArray := prog_24_method_84_code
def yX3_displacement : MethodName := ⟨RX3, "displacement", "(IZ)I"⟩
def dkwX3_displacement_1 : List UInt8 := [153, 0, 7, 3, 167, 0, 13, 42, 27, 42, 180, 0, 141, 28, 182, 1, 76, 172]
abbrev dktX3_displacement_1 : List UInt8 := dkwX3_displacement_1 ++ []
def dkwX3_displacement_0 : List UInt8 := [42, 3, 181, 0, 111, 27, 184, 0, 214, 154, 0, 9, 42, 4, 182, 0, 117, 172, 42, 5, 182, 1, 49]
abbrev dktX3_displacement_0 : List UInt8 := dkwX3_displacement_0 ++ dktX3_displacement_1
theorem dksX3_displacement_0 : cX3_displacement.data.toList.drop 0 = dktX3_displacement_0 := by decide +kernel
theorem dksX3_displacement_1 : cX3_displacement.data.toList.drop 23 = dktX3_displacement_1 := dk_seg dksX3_displacement_0 23 rfl rfl
theorem dX3_displacement_0 : decode cX3_displacement 0 = .ok (.aload_n 0, 1) := dk_42 (dk_at dksX3_displacement_0 0 rfl rfl)
theorem dX3_displacement_1 : decode cX3_displacement 1 = .ok (.iconst 0, 1) := dk_3 (dk_at dksX3_displacement_0 1 rfl rfl)
theorem dX3_displacement_2 : decode cX3_displacement 2 = .ok (.putfield 111, 3) := dk_181 0 111 (dk_at dksX3_displacement_0 2 rfl rfl)
theorem dX3_displacement_5 : decode cX3_displacement 5 = .ok (.iload_n 1, 1) := dk_27 (dk_at dksX3_displacement_0 5 rfl rfl)
theorem dX3_displacement_6 : decode cX3_displacement 6 = .ok (.invokestatic 214, 3) := dk_184 0 214 (dk_at dksX3_displacement_0 6 rfl rfl)
theorem dX3_displacement_9 : decode cX3_displacement 9 = .ok (.ifCond .ne 9, 3) := dk_154 0 9 (dk_at dksX3_displacement_0 9 rfl rfl)
theorem dX3_displacement_12 : decode cX3_displacement 12 = .ok (.aload_n 0, 1) := dk_42 (dk_at dksX3_displacement_0 12 rfl rfl)
theorem dX3_displacement_13 : decode cX3_displacement 13 = .ok (.iconst 1, 1) := dk_4 (dk_at dksX3_displacement_0 13 rfl rfl)
theorem dX3_displacement_14 : decode cX3_displacement 14 = .ok (.invokevirtual 117, 3) := dk_182 0 117 (dk_at dksX3_displacement_0 14 rfl rfl)
theorem dX3_displacement_17 : decode cX3_displacement 17 = .ok (.ireturn, 1) := dk_172 (dk_at dksX3_displacement_0 17 rfl rfl)
theorem dX3_displacement_18 : decode cX3_displacement 18 = .ok (.aload_n 0, 1) := dk_42 (dk_at dksX3_displacement_0 18 rfl rfl)
theorem dX3_displacement_19 : decode cX3_displacement 19 = .ok (.iconst 2, 1) := dk_5 (dk_at dksX3_displacement_0 19 rfl rfl)
theorem dX3_displacement_20 : decode cX3_displacement 20 = .ok (.invokevirtual 305, 3) := dk_182 1 49 (dk_at dksX3_displacement_0 20 rfl rfl)
theorem dX3_displacement_23 : decode cX3_displacement 23 = .ok (.ifCond .eq 7, 3) := dk_153 0 7 (dk_at dksX3_displacement_1 0 rfl rfl)
theorem dX3_displacement_26 : decode cX3_displacement 26 = .ok (.iconst 0, 1) := dk_3 (dk_at dksX3_displacement_1 3 rfl rfl)
theorem dX3_displacement_27 : decode cX3_displacement 27 = .ok (.goto 13, 3) := dk_167 0 13 (dk_at dksX3_displacement_1 4 rfl rfl)
theorem dX3_displacement_30 : decode cX3_displacement 30 = .ok (.aload_n 0, 1) := dk_42 (dk_at dksX3_displacement_1 7 rfl rfl)
theorem dX3_displacement_31 : decode cX3_displacement 31 = .ok (.iload_n 1, 1) := dk_27 (dk_at dksX3_displacement_1 8 rfl rfl)
theorem dX3_displacement_32 : decode cX3_displacement 32 = .ok (.aload_n 0, 1) := dk_42 (dk_at dksX3_displacement_1 9 rfl rfl)
theorem dX3_displacement_33 : decode cX3_displacement 33 = .ok (.getfield 141, 3) := dk_180 0 141 (dk_at dksX3_displacement_1 10 rfl rfl)
theorem dX3_displacement_36 : decode cX3_displacement 36 = .ok (.iload_n 2, 1) := dk_28 (dk_at dksX3_displacement_1 13 rfl rfl)
theorem dX3_displacement_37 : decode cX3_displacement 37 = .ok (.invokevirtual 332, 3) := dk_182 1 76 (dk_at dksX3_displacement_1 14 rfl rfl)
theorem dX3_displacement_40 : decode cX3_displacement 40 = .ok (.ireturn, 1) := dk_172 (dk_at dksX3_displacement_1 17 rfl rfl)
abbrev cX3_meanSteps : ByteArray := prog_24_method_86_code
def yX3_meanSteps : MethodName := ⟨RX3, "meanSteps", "()D"⟩
def dkwX3_meanSteps_3 : List UInt8 := [3, 181, 0, 111, 28, 154, 0, 7, 14, 167, 0, 8, 27, 135, 28, 135, 111, 175]
abbrev dktX3_meanSteps_3 : List UInt8 := dkwX3_meanSteps_3 ++ []
def dkwX3_meanSteps_2 : List UInt8 := [180, 0, 144, 29, 122, 4, 126, 96, 61, 132, 3, 1, 167, 255, 212, 42, 28, 154, 0, 7, 5, 167, 0, 4]
abbrev dktX3_meanSteps_2 : List UInt8 := dkwX3_meanSteps_2 ++ dktX3_meanSteps_3
def dkwX3_meanSteps_1 : List UInt8 := [180, 0, 144, 29, 122, 4, 126, 4, 160, 0, 11, 42, 29, 182, 1, 120, 167, 0, 4, 3, 96, 60, 28, 42]
abbrev dktX3_meanSteps_1 : List UInt8 := dkwX3_meanSteps_1 ++ dktX3_meanSteps_2
def dkwX3_meanSteps_0 : List UInt8 := [42, 4, 182, 1, 49, 153, 0, 5, 14, 175, 3, 60, 3, 61, 3, 62, 29, 16, 8, 162, 0, 44, 27, 42]
abbrev dktX3_meanSteps_0 : List UInt8 := dkwX3_meanSteps_0 ++ dktX3_meanSteps_1
theorem dksX3_meanSteps_0 : cX3_meanSteps.data.toList.drop 0 = dktX3_meanSteps_0 := by decide +kernel
theorem dksX3_meanSteps_1 : cX3_meanSteps.data.toList.drop 24 = dktX3_meanSteps_1 := dk_seg dksX3_meanSteps_0 24 rfl rfl
theorem dksX3_meanSteps_2 : cX3_meanSteps.data.toList.drop 48 = dktX3_meanSteps_2 := dk_seg dksX3_meanSteps_1 24 rfl rfl
theorem dksX3_meanSteps_3 : cX3_meanSteps.data.toList.drop 72 = dktX3_meanSteps_3 := dk_seg dksX3_meanSteps_2 24 rfl rfl
theorem dX3_meanSteps_0 : decode cX3_meanSteps 0 = .ok (.aload_n 0, 1) := dk_42 (dk_at dksX3_meanSteps_0 0 rfl rfl)
theorem dX3_meanSteps_1 : decode cX3_meanSteps 1 = .ok (.iconst 1, 1) := dk_4 (dk_at dksX3_meanSteps_0 1 rfl rfl)
theorem dX3_meanSteps_2 : decode cX3_meanSteps 2 = .ok (.invokevirtual 305, 3) := dk_182 1 49 (dk_at dksX3_meanSteps_0 2 rfl rfl)
theorem dX3_meanSteps_5 : decode cX3_meanSteps 5 = .ok (.ifCond .eq 5, 3) := dk_153 0 5 (dk_at dksX3_meanSteps_0 5 rfl rfl)
theorem dX3_meanSteps_8 : decode cX3_meanSteps 8 = .ok (.dconst 0, 1) := dk_14 (dk_at dksX3_meanSteps_0 8 rfl rfl)
theorem dX3_meanSteps_9 : decode cX3_meanSteps 9 = .ok (.dreturn, 1) := dk_175 (dk_at dksX3_meanSteps_0 9 rfl rfl)
theorem dX3_meanSteps_10 : decode cX3_meanSteps 10 = .ok (.iconst 0, 1) := dk_3 (dk_at dksX3_meanSteps_0 10 rfl rfl)
theorem dX3_meanSteps_11 : decode cX3_meanSteps 11 = .ok (.istore_n 1, 1) := dk_60 (dk_at dksX3_meanSteps_0 11 rfl rfl)
theorem dX3_meanSteps_12 : decode cX3_meanSteps 12 = .ok (.iconst 0, 1) := dk_3 (dk_at dksX3_meanSteps_0 12 rfl rfl)
theorem dX3_meanSteps_13 : decode cX3_meanSteps 13 = .ok (.istore_n 2, 1) := dk_61 (dk_at dksX3_meanSteps_0 13 rfl rfl)
theorem dX3_meanSteps_14 : decode cX3_meanSteps 14 = .ok (.iconst 0, 1) := dk_3 (dk_at dksX3_meanSteps_0 14 rfl rfl)
theorem dX3_meanSteps_15 : decode cX3_meanSteps 15 = .ok (.istore_n 3, 1) := dk_62 (dk_at dksX3_meanSteps_0 15 rfl rfl)
theorem dX3_meanSteps_16 : decode cX3_meanSteps 16 = .ok (.iload_n 3, 1) := dk_29 (dk_at dksX3_meanSteps_0 16 rfl rfl)
theorem dX3_meanSteps_17 : decode cX3_meanSteps 17 = .ok (.bipush 8, 2) := dk_16 8 (dk_at dksX3_meanSteps_0 17 rfl rfl)
theorem dX3_meanSteps_19 : decode cX3_meanSteps 19 = .ok (.if_icmp .ge 44, 3) := dk_162 0 44 (dk_at dksX3_meanSteps_0 19 rfl rfl)
theorem dX3_meanSteps_22 : decode cX3_meanSteps 22 = .ok (.iload_n 1, 1) := dk_27 (dk_at dksX3_meanSteps_0 22 rfl rfl)
theorem dX3_meanSteps_23 : decode cX3_meanSteps 23 = .ok (.aload_n 0, 1) := dk_42 (dk_at dksX3_meanSteps_0 23 rfl rfl)
theorem dX3_meanSteps_24 : decode cX3_meanSteps 24 = .ok (.getfield 144, 3) := dk_180 0 144 (dk_at dksX3_meanSteps_1 0 rfl rfl)
theorem dX3_meanSteps_27 : decode cX3_meanSteps 27 = .ok (.iload_n 3, 1) := dk_29 (dk_at dksX3_meanSteps_1 3 rfl rfl)
theorem dX3_meanSteps_28 : decode cX3_meanSteps 28 = .ok (.ishr, 1) := dk_122 (dk_at dksX3_meanSteps_1 4 rfl rfl)
theorem dX3_meanSteps_29 : decode cX3_meanSteps 29 = .ok (.iconst 1, 1) := dk_4 (dk_at dksX3_meanSteps_1 5 rfl rfl)
theorem dX3_meanSteps_30 : decode cX3_meanSteps 30 = .ok (.iand, 1) := dk_126 (dk_at dksX3_meanSteps_1 6 rfl rfl)
theorem dX3_meanSteps_31 : decode cX3_meanSteps 31 = .ok (.iconst 1, 1) := dk_4 (dk_at dksX3_meanSteps_1 7 rfl rfl)
theorem dX3_meanSteps_32 : decode cX3_meanSteps 32 = .ok (.if_icmp .ne 11, 3) := dk_160 0 11 (dk_at dksX3_meanSteps_1 8 rfl rfl)
theorem dX3_meanSteps_35 : decode cX3_meanSteps 35 = .ok (.aload_n 0, 1) := dk_42 (dk_at dksX3_meanSteps_1 11 rfl rfl)
theorem dX3_meanSteps_36 : decode cX3_meanSteps 36 = .ok (.iload_n 3, 1) := dk_29 (dk_at dksX3_meanSteps_1 12 rfl rfl)
theorem dX3_meanSteps_37 : decode cX3_meanSteps 37 = .ok (.invokevirtual 376, 3) := dk_182 1 120 (dk_at dksX3_meanSteps_1 13 rfl rfl)
theorem dX3_meanSteps_40 : decode cX3_meanSteps 40 = .ok (.goto 4, 3) := dk_167 0 4 (dk_at dksX3_meanSteps_1 16 rfl rfl)
theorem dX3_meanSteps_43 : decode cX3_meanSteps 43 = .ok (.iconst 0, 1) := dk_3 (dk_at dksX3_meanSteps_1 19 rfl rfl)
theorem dX3_meanSteps_44 : decode cX3_meanSteps 44 = .ok (.iadd, 1) := dk_96 (dk_at dksX3_meanSteps_1 20 rfl rfl)
theorem dX3_meanSteps_45 : decode cX3_meanSteps 45 = .ok (.istore_n 1, 1) := dk_60 (dk_at dksX3_meanSteps_1 21 rfl rfl)
theorem dX3_meanSteps_46 : decode cX3_meanSteps 46 = .ok (.iload_n 2, 1) := dk_28 (dk_at dksX3_meanSteps_1 22 rfl rfl)
theorem dX3_meanSteps_47 : decode cX3_meanSteps 47 = .ok (.aload_n 0, 1) := dk_42 (dk_at dksX3_meanSteps_1 23 rfl rfl)
theorem dX3_meanSteps_48 : decode cX3_meanSteps 48 = .ok (.getfield 144, 3) := dk_180 0 144 (dk_at dksX3_meanSteps_2 0 rfl rfl)
theorem dX3_meanSteps_51 : decode cX3_meanSteps 51 = .ok (.iload_n 3, 1) := dk_29 (dk_at dksX3_meanSteps_2 3 rfl rfl)
theorem dX3_meanSteps_52 : decode cX3_meanSteps 52 = .ok (.ishr, 1) := dk_122 (dk_at dksX3_meanSteps_2 4 rfl rfl)
theorem dX3_meanSteps_53 : decode cX3_meanSteps 53 = .ok (.iconst 1, 1) := dk_4 (dk_at dksX3_meanSteps_2 5 rfl rfl)
theorem dX3_meanSteps_54 : decode cX3_meanSteps 54 = .ok (.iand, 1) := dk_126 (dk_at dksX3_meanSteps_2 6 rfl rfl)
theorem dX3_meanSteps_55 : decode cX3_meanSteps 55 = .ok (.iadd, 1) := dk_96 (dk_at dksX3_meanSteps_2 7 rfl rfl)
theorem dX3_meanSteps_56 : decode cX3_meanSteps 56 = .ok (.istore_n 2, 1) := dk_61 (dk_at dksX3_meanSteps_2 8 rfl rfl)
theorem dX3_meanSteps_57 : decode cX3_meanSteps 57 = .ok (.iinc 3 1, 3) := dk_132 3 1 (dk_at dksX3_meanSteps_2 9 rfl rfl)
theorem dX3_meanSteps_60 : decode cX3_meanSteps 60 = .ok (.goto (-44), 3) := dk_167 255 212 (dk_at dksX3_meanSteps_2 12 rfl rfl)
theorem dX3_meanSteps_63 : decode cX3_meanSteps 63 = .ok (.aload_n 0, 1) := dk_42 (dk_at dksX3_meanSteps_2 15 rfl rfl)
theorem dX3_meanSteps_64 : decode cX3_meanSteps 64 = .ok (.iload_n 2, 1) := dk_28 (dk_at dksX3_meanSteps_2 16 rfl rfl)
theorem dX3_meanSteps_65 : decode cX3_meanSteps 65 = .ok (.ifCond .ne 7, 3) := dk_154 0 7 (dk_at dksX3_meanSteps_2 17 rfl rfl)
theorem dX3_meanSteps_68 : decode cX3_meanSteps 68 = .ok (.iconst 2, 1) := dk_5 (dk_at dksX3_meanSteps_2 20 rfl rfl)
theorem dX3_meanSteps_69 : decode cX3_meanSteps 69 = .ok (.goto 4, 3) := dk_167 0 4 (dk_at dksX3_meanSteps_2 21 rfl rfl)
theorem dX3_meanSteps_72 : decode cX3_meanSteps 72 = .ok (.iconst 0, 1) := dk_3 (dk_at dksX3_meanSteps_3 0 rfl rfl)
theorem dX3_meanSteps_73 : decode cX3_meanSteps 73 = .ok (.putfield 111, 3) := dk_181 0 111 (dk_at dksX3_meanSteps_3 1 rfl rfl)
theorem dX3_meanSteps_76 : decode cX3_meanSteps 76 = .ok (.iload_n 2, 1) := dk_28 (dk_at dksX3_meanSteps_3 4 rfl rfl)
theorem dX3_meanSteps_77 : decode cX3_meanSteps 77 = .ok (.ifCond .ne 7, 3) := dk_154 0 7 (dk_at dksX3_meanSteps_3 5 rfl rfl)
theorem dX3_meanSteps_80 : decode cX3_meanSteps 80 = .ok (.dconst 0, 1) := dk_14 (dk_at dksX3_meanSteps_3 8 rfl rfl)
theorem dX3_meanSteps_81 : decode cX3_meanSteps 81 = .ok (.goto 8, 3) := dk_167 0 8 (dk_at dksX3_meanSteps_3 9 rfl rfl)
theorem dX3_meanSteps_84 : decode cX3_meanSteps 84 = .ok (.iload_n 1, 1) := dk_27 (dk_at dksX3_meanSteps_3 12 rfl rfl)
theorem dX3_meanSteps_85 : decode cX3_meanSteps 85 = .ok (.i2d, 1) := dk_135 (dk_at dksX3_meanSteps_3 13 rfl rfl)
theorem dX3_meanSteps_86 : decode cX3_meanSteps 86 = .ok (.iload_n 2, 1) := dk_28 (dk_at dksX3_meanSteps_3 14 rfl rfl)
theorem dX3_meanSteps_87 : decode cX3_meanSteps 87 = .ok (.i2d, 1) := dk_135 (dk_at dksX3_meanSteps_3 15 rfl rfl)
theorem dX3_meanSteps_88 : decode cX3_meanSteps 88 = .ok (.ddiv, 1) := dk_111 (dk_at dksX3_meanSteps_3 16 rfl rfl)
theorem dX3_meanSteps_89 : decode cX3_meanSteps 89 = .ok (.dreturn, 1) := dk_175 (dk_at dksX3_meanSteps_3 17 rfl rfl)
abbrev cX3_movingSteps : ByteArray := prog_24_method_85_code
def yX3_movingSteps : MethodName := ⟨RX3, "movingSteps", "(I)I"⟩
def dkwX3_movingSteps_1 : List UInt8 := [153, 0, 7, 4, 167, 0, 4, 3, 96, 61, 132, 3, 1, 167, 255, 223, 28, 172]
abbrev dktX3_movingSteps_1 : List UInt8 := dkwX3_movingSteps_1 ++ []
def dkwX3_movingSteps_0 : List UInt8 := [3, 61, 3, 62, 29, 42, 180, 0, 141, 162, 0, 31, 28, 42, 180, 0, 36, 16, 100, 27, 104, 29, 96, 46]
abbrev dktX3_movingSteps_0 : List UInt8 := dkwX3_movingSteps_0 ++ dktX3_movingSteps_1
theorem dksX3_movingSteps_0 : cX3_movingSteps.data.toList.drop 0 = dktX3_movingSteps_0 := by decide +kernel
theorem dksX3_movingSteps_1 : cX3_movingSteps.data.toList.drop 24 = dktX3_movingSteps_1 := dk_seg dksX3_movingSteps_0 24 rfl rfl
theorem dX3_movingSteps_0 : decode cX3_movingSteps 0 = .ok (.iconst 0, 1) := dk_3 (dk_at dksX3_movingSteps_0 0 rfl rfl)
theorem dX3_movingSteps_1 : decode cX3_movingSteps 1 = .ok (.istore_n 2, 1) := dk_61 (dk_at dksX3_movingSteps_0 1 rfl rfl)
theorem dX3_movingSteps_2 : decode cX3_movingSteps 2 = .ok (.iconst 0, 1) := dk_3 (dk_at dksX3_movingSteps_0 2 rfl rfl)
theorem dX3_movingSteps_3 : decode cX3_movingSteps 3 = .ok (.istore_n 3, 1) := dk_62 (dk_at dksX3_movingSteps_0 3 rfl rfl)
theorem dX3_movingSteps_4 : decode cX3_movingSteps 4 = .ok (.iload_n 3, 1) := dk_29 (dk_at dksX3_movingSteps_0 4 rfl rfl)
theorem dX3_movingSteps_5 : decode cX3_movingSteps 5 = .ok (.aload_n 0, 1) := dk_42 (dk_at dksX3_movingSteps_0 5 rfl rfl)
theorem dX3_movingSteps_6 : decode cX3_movingSteps 6 = .ok (.getfield 141, 3) := dk_180 0 141 (dk_at dksX3_movingSteps_0 6 rfl rfl)
theorem dX3_movingSteps_9 : decode cX3_movingSteps 9 = .ok (.if_icmp .ge 31, 3) := dk_162 0 31 (dk_at dksX3_movingSteps_0 9 rfl rfl)
theorem dX3_movingSteps_12 : decode cX3_movingSteps 12 = .ok (.iload_n 2, 1) := dk_28 (dk_at dksX3_movingSteps_0 12 rfl rfl)
theorem dX3_movingSteps_13 : decode cX3_movingSteps 13 = .ok (.aload_n 0, 1) := dk_42 (dk_at dksX3_movingSteps_0 13 rfl rfl)
theorem dX3_movingSteps_14 : decode cX3_movingSteps 14 = .ok (.getfield 36, 3) := dk_180 0 36 (dk_at dksX3_movingSteps_0 14 rfl rfl)
theorem dX3_movingSteps_17 : decode cX3_movingSteps 17 = .ok (.bipush 100, 2) := dk_16 100 (dk_at dksX3_movingSteps_0 17 rfl rfl)
theorem dX3_movingSteps_19 : decode cX3_movingSteps 19 = .ok (.iload_n 1, 1) := dk_27 (dk_at dksX3_movingSteps_0 19 rfl rfl)
theorem dX3_movingSteps_20 : decode cX3_movingSteps 20 = .ok (.imul, 1) := dk_104 (dk_at dksX3_movingSteps_0 20 rfl rfl)
theorem dX3_movingSteps_21 : decode cX3_movingSteps 21 = .ok (.iload_n 3, 1) := dk_29 (dk_at dksX3_movingSteps_0 21 rfl rfl)
theorem dX3_movingSteps_22 : decode cX3_movingSteps 22 = .ok (.iadd, 1) := dk_96 (dk_at dksX3_movingSteps_0 22 rfl rfl)
theorem dX3_movingSteps_23 : decode cX3_movingSteps 23 = .ok (.iaload, 1) := dk_46 (dk_at dksX3_movingSteps_0 23 rfl rfl)
theorem dX3_movingSteps_24 : decode cX3_movingSteps 24 = .ok (.ifCond .eq 7, 3) := dk_153 0 7 (dk_at dksX3_movingSteps_1 0 rfl rfl)
theorem dX3_movingSteps_27 : decode cX3_movingSteps 27 = .ok (.iconst 1, 1) := dk_4 (dk_at dksX3_movingSteps_1 3 rfl rfl)
theorem dX3_movingSteps_28 : decode cX3_movingSteps 28 = .ok (.goto 4, 3) := dk_167 0 4 (dk_at dksX3_movingSteps_1 4 rfl rfl)
theorem dX3_movingSteps_31 : decode cX3_movingSteps 31 = .ok (.iconst 0, 1) := dk_3 (dk_at dksX3_movingSteps_1 7 rfl rfl)
theorem dX3_movingSteps_32 : decode cX3_movingSteps 32 = .ok (.iadd, 1) := dk_96 (dk_at dksX3_movingSteps_1 8 rfl rfl)
theorem dX3_movingSteps_33 : decode cX3_movingSteps 33 = .ok (.istore_n 2, 1) := dk_61 (dk_at dksX3_movingSteps_1 9 rfl rfl)
theorem dX3_movingSteps_34 : decode cX3_movingSteps 34 = .ok (.iinc 3 1, 3) := dk_132 3 1 (dk_at dksX3_movingSteps_1 10 rfl rfl)
theorem dX3_movingSteps_37 : decode cX3_movingSteps 37 = .ok (.goto (-33), 3) := dk_167 255 223 (dk_at dksX3_movingSteps_1 13 rfl rfl)
theorem dX3_movingSteps_40 : decode cX3_movingSteps 40 = .ok (.iload_n 2, 1) := dk_28 (dk_at dksX3_movingSteps_1 16 rfl rfl)
theorem dX3_movingSteps_41 : decode cX3_movingSteps 41 = .ok (.ireturn, 1) := dk_172 (dk_at dksX3_movingSteps_1 17 rfl rfl)
abbrev cX3_movingShare : ByteArray := prog_24_method_87_code
def yX3_movingShare : MethodName := ⟨RX3, "movingShare", "(I)F"⟩
def dkwX3_movingShare_3 : List UInt8 := [134, 110, 174]
abbrev dktX3_movingShare_3 : List UInt8 := dkwX3_movingShare_3 ++ []
def dkwX3_movingShare_2 : List UInt8 := [181, 0, 111, 42, 180, 0, 141, 154, 0, 7, 11, 167, 0, 15, 42, 27, 182, 1, 120, 134, 42, 180, 0, 141]
abbrev dktX3_movingShare_2 : List UInt8 := dkwX3_movingShare_2 ++ dktX3_movingShare_3
def dkwX3_movingShare_1 : List UInt8 := [5, 182, 1, 49, 153, 0, 5, 11, 174, 42, 42, 180, 0, 141, 154, 0, 7, 6, 167, 0, 4, 3]
abbrev dktX3_movingShare_1 : List UInt8 := dkwX3_movingShare_1 ++ dktX3_movingShare_2
def dkwX3_movingShare_0 : List UInt8 := [42, 27, 184, 0, 214, 153, 0, 7, 3, 167, 0, 4, 4, 181, 0, 111, 42, 180, 0, 111, 157, 0, 11, 42]
abbrev dktX3_movingShare_0 : List UInt8 := dkwX3_movingShare_0 ++ dktX3_movingShare_1
theorem dksX3_movingShare_0 : cX3_movingShare.data.toList.drop 0 = dktX3_movingShare_0 := by decide +kernel
theorem dksX3_movingShare_1 : cX3_movingShare.data.toList.drop 24 = dktX3_movingShare_1 := dk_seg dksX3_movingShare_0 24 rfl rfl
theorem dksX3_movingShare_2 : cX3_movingShare.data.toList.drop 46 = dktX3_movingShare_2 := dk_seg dksX3_movingShare_1 22 rfl rfl
theorem dksX3_movingShare_3 : cX3_movingShare.data.toList.drop 70 = dktX3_movingShare_3 := dk_seg dksX3_movingShare_2 24 rfl rfl
theorem dX3_movingShare_0 : decode cX3_movingShare 0 = .ok (.aload_n 0, 1) := dk_42 (dk_at dksX3_movingShare_0 0 rfl rfl)
theorem dX3_movingShare_1 : decode cX3_movingShare 1 = .ok (.iload_n 1, 1) := dk_27 (dk_at dksX3_movingShare_0 1 rfl rfl)
theorem dX3_movingShare_2 : decode cX3_movingShare 2 = .ok (.invokestatic 214, 3) := dk_184 0 214 (dk_at dksX3_movingShare_0 2 rfl rfl)
theorem dX3_movingShare_5 : decode cX3_movingShare 5 = .ok (.ifCond .eq 7, 3) := dk_153 0 7 (dk_at dksX3_movingShare_0 5 rfl rfl)
theorem dX3_movingShare_8 : decode cX3_movingShare 8 = .ok (.iconst 0, 1) := dk_3 (dk_at dksX3_movingShare_0 8 rfl rfl)
theorem dX3_movingShare_9 : decode cX3_movingShare 9 = .ok (.goto 4, 3) := dk_167 0 4 (dk_at dksX3_movingShare_0 9 rfl rfl)
theorem dX3_movingShare_12 : decode cX3_movingShare 12 = .ok (.iconst 1, 1) := dk_4 (dk_at dksX3_movingShare_0 12 rfl rfl)
theorem dX3_movingShare_13 : decode cX3_movingShare 13 = .ok (.putfield 111, 3) := dk_181 0 111 (dk_at dksX3_movingShare_0 13 rfl rfl)
theorem dX3_movingShare_16 : decode cX3_movingShare 16 = .ok (.aload_n 0, 1) := dk_42 (dk_at dksX3_movingShare_0 16 rfl rfl)
theorem dX3_movingShare_17 : decode cX3_movingShare 17 = .ok (.getfield 111, 3) := dk_180 0 111 (dk_at dksX3_movingShare_0 17 rfl rfl)
theorem dX3_movingShare_20 : decode cX3_movingShare 20 = .ok (.ifCond .gt 11, 3) := dk_157 0 11 (dk_at dksX3_movingShare_0 20 rfl rfl)
theorem dX3_movingShare_23 : decode cX3_movingShare 23 = .ok (.aload_n 0, 1) := dk_42 (dk_at dksX3_movingShare_0 23 rfl rfl)
theorem dX3_movingShare_24 : decode cX3_movingShare 24 = .ok (.iconst 2, 1) := dk_5 (dk_at dksX3_movingShare_1 0 rfl rfl)
theorem dX3_movingShare_25 : decode cX3_movingShare 25 = .ok (.invokevirtual 305, 3) := dk_182 1 49 (dk_at dksX3_movingShare_1 1 rfl rfl)
theorem dX3_movingShare_28 : decode cX3_movingShare 28 = .ok (.ifCond .eq 5, 3) := dk_153 0 5 (dk_at dksX3_movingShare_1 4 rfl rfl)
theorem dX3_movingShare_31 : decode cX3_movingShare 31 = .ok (.fconst 0, 1) := dk_11 (dk_at dksX3_movingShare_1 7 rfl rfl)
theorem dX3_movingShare_32 : decode cX3_movingShare 32 = .ok (.freturn, 1) := dk_174 (dk_at dksX3_movingShare_1 8 rfl rfl)
theorem dX3_movingShare_33 : decode cX3_movingShare 33 = .ok (.aload_n 0, 1) := dk_42 (dk_at dksX3_movingShare_1 9 rfl rfl)
theorem dX3_movingShare_34 : decode cX3_movingShare 34 = .ok (.aload_n 0, 1) := dk_42 (dk_at dksX3_movingShare_1 10 rfl rfl)
theorem dX3_movingShare_35 : decode cX3_movingShare 35 = .ok (.getfield 141, 3) := dk_180 0 141 (dk_at dksX3_movingShare_1 11 rfl rfl)
theorem dX3_movingShare_38 : decode cX3_movingShare 38 = .ok (.ifCond .ne 7, 3) := dk_154 0 7 (dk_at dksX3_movingShare_1 14 rfl rfl)
theorem dX3_movingShare_41 : decode cX3_movingShare 41 = .ok (.iconst 3, 1) := dk_6 (dk_at dksX3_movingShare_1 17 rfl rfl)
theorem dX3_movingShare_42 : decode cX3_movingShare 42 = .ok (.goto 4, 3) := dk_167 0 4 (dk_at dksX3_movingShare_1 18 rfl rfl)
theorem dX3_movingShare_45 : decode cX3_movingShare 45 = .ok (.iconst 0, 1) := dk_3 (dk_at dksX3_movingShare_1 21 rfl rfl)
theorem dX3_movingShare_46 : decode cX3_movingShare 46 = .ok (.putfield 111, 3) := dk_181 0 111 (dk_at dksX3_movingShare_2 0 rfl rfl)
theorem dX3_movingShare_49 : decode cX3_movingShare 49 = .ok (.aload_n 0, 1) := dk_42 (dk_at dksX3_movingShare_2 3 rfl rfl)
theorem dX3_movingShare_50 : decode cX3_movingShare 50 = .ok (.getfield 141, 3) := dk_180 0 141 (dk_at dksX3_movingShare_2 4 rfl rfl)
theorem dX3_movingShare_53 : decode cX3_movingShare 53 = .ok (.ifCond .ne 7, 3) := dk_154 0 7 (dk_at dksX3_movingShare_2 7 rfl rfl)
theorem dX3_movingShare_56 : decode cX3_movingShare 56 = .ok (.fconst 0, 1) := dk_11 (dk_at dksX3_movingShare_2 10 rfl rfl)
theorem dX3_movingShare_57 : decode cX3_movingShare 57 = .ok (.goto 15, 3) := dk_167 0 15 (dk_at dksX3_movingShare_2 11 rfl rfl)
theorem dX3_movingShare_60 : decode cX3_movingShare 60 = .ok (.aload_n 0, 1) := dk_42 (dk_at dksX3_movingShare_2 14 rfl rfl)
theorem dX3_movingShare_61 : decode cX3_movingShare 61 = .ok (.iload_n 1, 1) := dk_27 (dk_at dksX3_movingShare_2 15 rfl rfl)
theorem dX3_movingShare_62 : decode cX3_movingShare 62 = .ok (.invokevirtual 376, 3) := dk_182 1 120 (dk_at dksX3_movingShare_2 16 rfl rfl)
theorem dX3_movingShare_65 : decode cX3_movingShare 65 = .ok (.i2f, 1) := dk_134 (dk_at dksX3_movingShare_2 19 rfl rfl)
theorem dX3_movingShare_66 : decode cX3_movingShare 66 = .ok (.aload_n 0, 1) := dk_42 (dk_at dksX3_movingShare_2 20 rfl rfl)
theorem dX3_movingShare_67 : decode cX3_movingShare 67 = .ok (.getfield 141, 3) := dk_180 0 141 (dk_at dksX3_movingShare_2 21 rfl rfl)
theorem dX3_movingShare_70 : decode cX3_movingShare 70 = .ok (.i2f, 1) := dk_134 (dk_at dksX3_movingShare_3 0 rfl rfl)
theorem dX3_movingShare_71 : decode cX3_movingShare 71 = .ok (.fdiv, 1) := dk_110 (dk_at dksX3_movingShare_3 1 rfl rfl)
theorem dX3_movingShare_72 : decode cX3_movingShare 72 = .ok (.freturn, 1) := dk_174 (dk_at dksX3_movingShare_3 2 rfl rfl)
abbrev cX3_setFormation : ByteArray := prog_24_method_88_code
def yX3_setFormation : MethodName := ⟨RX3, "setFormation", "(III)I"⟩
def dkwX3_setFormation_2 : List UInt8 := [96, 28, 29, 182, 0, 221, 172]
abbrev dktX3_setFormation_2 : List UInt8 := dkwX3_setFormation_2 ++ []
def dkwX3_setFormation_1 : List UInt8 := [159, 0, 17, 42, 29, 182, 0, 218, 154, 0, 9, 42, 4, 182, 0, 117, 172, 42, 16, 10, 16, 8, 27, 104]
abbrev dktX3_setFormation_1 : List UInt8 := dkwX3_setFormation_1 ++ dktX3_setFormation_2
def dkwX3_setFormation_0 : List UInt8 := [42, 3, 181, 0, 111, 27, 3, 6, 184, 0, 121, 153, 0, 23, 28, 184, 0, 214, 153, 0, 16, 29, 2]
abbrev dktX3_setFormation_0 : List UInt8 := dkwX3_setFormation_0 ++ dktX3_setFormation_1
theorem dksX3_setFormation_0 : cX3_setFormation.data.toList.drop 0 = dktX3_setFormation_0 := by decide +kernel
theorem dksX3_setFormation_1 : cX3_setFormation.data.toList.drop 23 = dktX3_setFormation_1 := dk_seg dksX3_setFormation_0 23 rfl rfl
theorem dksX3_setFormation_2 : cX3_setFormation.data.toList.drop 47 = dktX3_setFormation_2 := dk_seg dksX3_setFormation_1 24 rfl rfl
theorem dX3_setFormation_0 : decode cX3_setFormation 0 = .ok (.aload_n 0, 1) := dk_42 (dk_at dksX3_setFormation_0 0 rfl rfl)
theorem dX3_setFormation_1 : decode cX3_setFormation 1 = .ok (.iconst 0, 1) := dk_3 (dk_at dksX3_setFormation_0 1 rfl rfl)
theorem dX3_setFormation_2 : decode cX3_setFormation 2 = .ok (.putfield 111, 3) := dk_181 0 111 (dk_at dksX3_setFormation_0 2 rfl rfl)
theorem dX3_setFormation_5 : decode cX3_setFormation 5 = .ok (.iload_n 1, 1) := dk_27 (dk_at dksX3_setFormation_0 5 rfl rfl)
theorem dX3_setFormation_6 : decode cX3_setFormation 6 = .ok (.iconst 0, 1) := dk_3 (dk_at dksX3_setFormation_0 6 rfl rfl)
theorem dX3_setFormation_7 : decode cX3_setFormation 7 = .ok (.iconst 3, 1) := dk_6 (dk_at dksX3_setFormation_0 7 rfl rfl)
theorem dX3_setFormation_8 : decode cX3_setFormation 8 = .ok (.invokestatic 121, 3) := dk_184 0 121 (dk_at dksX3_setFormation_0 8 rfl rfl)
theorem dX3_setFormation_11 : decode cX3_setFormation 11 = .ok (.ifCond .eq 23, 3) := dk_153 0 23 (dk_at dksX3_setFormation_0 11 rfl rfl)
theorem dX3_setFormation_14 : decode cX3_setFormation 14 = .ok (.iload_n 2, 1) := dk_28 (dk_at dksX3_setFormation_0 14 rfl rfl)
theorem dX3_setFormation_15 : decode cX3_setFormation 15 = .ok (.invokestatic 214, 3) := dk_184 0 214 (dk_at dksX3_setFormation_0 15 rfl rfl)
theorem dX3_setFormation_18 : decode cX3_setFormation 18 = .ok (.ifCond .eq 16, 3) := dk_153 0 16 (dk_at dksX3_setFormation_0 18 rfl rfl)
theorem dX3_setFormation_21 : decode cX3_setFormation 21 = .ok (.iload_n 3, 1) := dk_29 (dk_at dksX3_setFormation_0 21 rfl rfl)
theorem dX3_setFormation_22 : decode cX3_setFormation 22 = .ok (.iconst (-1), 1) := dk_2 (dk_at dksX3_setFormation_0 22 rfl rfl)
theorem dX3_setFormation_23 : decode cX3_setFormation 23 = .ok (.if_icmp .eq 17, 3) := dk_159 0 17 (dk_at dksX3_setFormation_1 0 rfl rfl)
theorem dX3_setFormation_26 : decode cX3_setFormation 26 = .ok (.aload_n 0, 1) := dk_42 (dk_at dksX3_setFormation_1 3 rfl rfl)
theorem dX3_setFormation_27 : decode cX3_setFormation 27 = .ok (.iload_n 3, 1) := dk_29 (dk_at dksX3_setFormation_1 4 rfl rfl)
theorem dX3_setFormation_28 : decode cX3_setFormation 28 = .ok (.invokevirtual 218, 3) := dk_182 0 218 (dk_at dksX3_setFormation_1 5 rfl rfl)
theorem dX3_setFormation_31 : decode cX3_setFormation 31 = .ok (.ifCond .ne 9, 3) := dk_154 0 9 (dk_at dksX3_setFormation_1 8 rfl rfl)
theorem dX3_setFormation_34 : decode cX3_setFormation 34 = .ok (.aload_n 0, 1) := dk_42 (dk_at dksX3_setFormation_1 11 rfl rfl)
theorem dX3_setFormation_35 : decode cX3_setFormation 35 = .ok (.iconst 1, 1) := dk_4 (dk_at dksX3_setFormation_1 12 rfl rfl)
theorem dX3_setFormation_36 : decode cX3_setFormation 36 = .ok (.invokevirtual 117, 3) := dk_182 0 117 (dk_at dksX3_setFormation_1 13 rfl rfl)
theorem dX3_setFormation_39 : decode cX3_setFormation 39 = .ok (.ireturn, 1) := dk_172 (dk_at dksX3_setFormation_1 16 rfl rfl)
theorem dX3_setFormation_40 : decode cX3_setFormation 40 = .ok (.aload_n 0, 1) := dk_42 (dk_at dksX3_setFormation_1 17 rfl rfl)
theorem dX3_setFormation_41 : decode cX3_setFormation 41 = .ok (.bipush 10, 2) := dk_16 10 (dk_at dksX3_setFormation_1 18 rfl rfl)
theorem dX3_setFormation_43 : decode cX3_setFormation 43 = .ok (.bipush 8, 2) := dk_16 8 (dk_at dksX3_setFormation_1 20 rfl rfl)
theorem dX3_setFormation_45 : decode cX3_setFormation 45 = .ok (.iload_n 1, 1) := dk_27 (dk_at dksX3_setFormation_1 22 rfl rfl)
theorem dX3_setFormation_46 : decode cX3_setFormation 46 = .ok (.imul, 1) := dk_104 (dk_at dksX3_setFormation_1 23 rfl rfl)
theorem dX3_setFormation_47 : decode cX3_setFormation 47 = .ok (.iadd, 1) := dk_96 (dk_at dksX3_setFormation_2 0 rfl rfl)
theorem dX3_setFormation_48 : decode cX3_setFormation 48 = .ok (.iload_n 2, 1) := dk_28 (dk_at dksX3_setFormation_2 1 rfl rfl)
theorem dX3_setFormation_49 : decode cX3_setFormation 49 = .ok (.iload_n 3, 1) := dk_29 (dk_at dksX3_setFormation_2 2 rfl rfl)
theorem dX3_setFormation_50 : decode cX3_setFormation 50 = .ok (.invokevirtual 221, 3) := dk_182 0 221 (dk_at dksX3_setFormation_2 3 rfl rfl)
theorem dX3_setFormation_53 : decode cX3_setFormation 53 = .ok (.ireturn, 1) := dk_172 (dk_at dksX3_setFormation_2 6 rfl rfl)
abbrev cX3_distance : ByteArray := prog_24_method_92_code
def yX3_distance : MethodName := ⟨RX3, "distance", "(II)I"⟩
def dkwX3_distance_6 : List UInt8 := [132, 4, 1, 167, 255, 173, 29, 172]
abbrev dktX3_distance_6 : List UInt8 := dkwX3_distance_6 ++ []
def dkwX3_distance_5 : List UInt8 := [21, 4, 104, 28, 96, 46, 21, 5, 42, 180, 0, 7, 3, 46, 108, 100, 184, 1, 129, 96, 96, 62]
abbrev dktX3_distance_5 : List UInt8 := dkwX3_distance_5 ++ dktX3_distance_6
def dkwX3_distance_4 : List UInt8 := [104, 28, 96, 46, 21, 5, 42, 180, 0, 7, 3, 46, 112, 100, 184, 1, 129, 42, 180, 0, 86, 16, 100]
abbrev dktX3_distance_4 : List UInt8 := dkwX3_distance_4 ++ dktX3_distance_5
def dkwX3_distance_3 : List UInt8 := [182, 1, 126, 153, 0, 66, 42, 27, 21, 4, 182, 1, 123, 54, 5, 29, 42, 180, 0, 83, 16, 100, 21, 4]
abbrev dktX3_distance_3 : List UInt8 := dkwX3_distance_3 ++ dktX3_distance_4
def dkwX3_distance_2 : List UInt8 := [182, 0, 117, 172, 42, 182, 1, 93, 3, 62, 3, 54, 4, 21, 4, 16, 8, 162, 0, 82, 42, 27, 21, 4]
abbrev dktX3_distance_2 : List UInt8 := dkwX3_distance_2 ++ dktX3_distance_3
def dkwX3_distance_1 : List UInt8 := [182, 1, 49, 153, 0, 5, 3, 172, 28, 3, 42, 180, 0, 141, 184, 0, 121, 154, 0, 9, 42, 6]
abbrev dktX3_distance_1 : List UInt8 := dkwX3_distance_1 ++ dktX3_distance_2
def dkwX3_distance_0 : List UInt8 := [42, 3, 181, 0, 111, 27, 3, 6, 184, 0, 121, 154, 0, 9, 42, 4, 182, 0, 117, 172, 42, 5]
abbrev dktX3_distance_0 : List UInt8 := dkwX3_distance_0 ++ dktX3_distance_1
theorem dksX3_distance_0 : cX3_distance.data.toList.drop 0 = dktX3_distance_0 := by decide +kernel
theorem dksX3_distance_1 : cX3_distance.data.toList.drop 22 = dktX3_distance_1 := dk_seg dksX3_distance_0 22 rfl rfl
theorem dksX3_distance_2 : cX3_distance.data.toList.drop 44 = dktX3_distance_2 := dk_seg dksX3_distance_1 22 rfl rfl
theorem dksX3_distance_3 : cX3_distance.data.toList.drop 68 = dktX3_distance_3 := dk_seg dksX3_distance_2 24 rfl rfl
theorem dksX3_distance_4 : cX3_distance.data.toList.drop 92 = dktX3_distance_4 := dk_seg dksX3_distance_3 24 rfl rfl
theorem dksX3_distance_5 : cX3_distance.data.toList.drop 115 = dktX3_distance_5 := dk_seg dksX3_distance_4 23 rfl rfl
theorem dksX3_distance_6 : cX3_distance.data.toList.drop 137 = dktX3_distance_6 := dk_seg dksX3_distance_5 22 rfl rfl
theorem dX3_distance_0 : decode cX3_distance 0 = .ok (.aload_n 0, 1) := dk_42 (dk_at dksX3_distance_0 0 rfl rfl)
theorem dX3_distance_1 : decode cX3_distance 1 = .ok (.iconst 0, 1) := dk_3 (dk_at dksX3_distance_0 1 rfl rfl)
theorem dX3_distance_2 : decode cX3_distance 2 = .ok (.putfield 111, 3) := dk_181 0 111 (dk_at dksX3_distance_0 2 rfl rfl)
theorem dX3_distance_5 : decode cX3_distance 5 = .ok (.iload_n 1, 1) := dk_27 (dk_at dksX3_distance_0 5 rfl rfl)
theorem dX3_distance_6 : decode cX3_distance 6 = .ok (.iconst 0, 1) := dk_3 (dk_at dksX3_distance_0 6 rfl rfl)
theorem dX3_distance_7 : decode cX3_distance 7 = .ok (.iconst 3, 1) := dk_6 (dk_at dksX3_distance_0 7 rfl rfl)
theorem dX3_distance_8 : decode cX3_distance 8 = .ok (.invokestatic 121, 3) := dk_184 0 121 (dk_at dksX3_distance_0 8 rfl rfl)
theorem dX3_distance_11 : decode cX3_distance 11 = .ok (.ifCond .ne 9, 3) := dk_154 0 9 (dk_at dksX3_distance_0 11 rfl rfl)
theorem dX3_distance_14 : decode cX3_distance 14 = .ok (.aload_n 0, 1) := dk_42 (dk_at dksX3_distance_0 14 rfl rfl)
theorem dX3_distance_15 : decode cX3_distance 15 = .ok (.iconst 1, 1) := dk_4 (dk_at dksX3_distance_0 15 rfl rfl)
theorem dX3_distance_16 : decode cX3_distance 16 = .ok (.invokevirtual 117, 3) := dk_182 0 117 (dk_at dksX3_distance_0 16 rfl rfl)
theorem dX3_distance_19 : decode cX3_distance 19 = .ok (.ireturn, 1) := dk_172 (dk_at dksX3_distance_0 19 rfl rfl)
theorem dX3_distance_20 : decode cX3_distance 20 = .ok (.aload_n 0, 1) := dk_42 (dk_at dksX3_distance_0 20 rfl rfl)
theorem dX3_distance_21 : decode cX3_distance 21 = .ok (.iconst 2, 1) := dk_5 (dk_at dksX3_distance_0 21 rfl rfl)
theorem dX3_distance_22 : decode cX3_distance 22 = .ok (.invokevirtual 305, 3) := dk_182 1 49 (dk_at dksX3_distance_1 0 rfl rfl)
theorem dX3_distance_25 : decode cX3_distance 25 = .ok (.ifCond .eq 5, 3) := dk_153 0 5 (dk_at dksX3_distance_1 3 rfl rfl)
theorem dX3_distance_28 : decode cX3_distance 28 = .ok (.iconst 0, 1) := dk_3 (dk_at dksX3_distance_1 6 rfl rfl)
theorem dX3_distance_29 : decode cX3_distance 29 = .ok (.ireturn, 1) := dk_172 (dk_at dksX3_distance_1 7 rfl rfl)
theorem dX3_distance_30 : decode cX3_distance 30 = .ok (.iload_n 2, 1) := dk_28 (dk_at dksX3_distance_1 8 rfl rfl)
theorem dX3_distance_31 : decode cX3_distance 31 = .ok (.iconst 0, 1) := dk_3 (dk_at dksX3_distance_1 9 rfl rfl)
theorem dX3_distance_32 : decode cX3_distance 32 = .ok (.aload_n 0, 1) := dk_42 (dk_at dksX3_distance_1 10 rfl rfl)
theorem dX3_distance_33 : decode cX3_distance 33 = .ok (.getfield 141, 3) := dk_180 0 141 (dk_at dksX3_distance_1 11 rfl rfl)
theorem dX3_distance_36 : decode cX3_distance 36 = .ok (.invokestatic 121, 3) := dk_184 0 121 (dk_at dksX3_distance_1 14 rfl rfl)
theorem dX3_distance_39 : decode cX3_distance 39 = .ok (.ifCond .ne 9, 3) := dk_154 0 9 (dk_at dksX3_distance_1 17 rfl rfl)
theorem dX3_distance_42 : decode cX3_distance 42 = .ok (.aload_n 0, 1) := dk_42 (dk_at dksX3_distance_1 20 rfl rfl)
theorem dX3_distance_43 : decode cX3_distance 43 = .ok (.iconst 3, 1) := dk_6 (dk_at dksX3_distance_1 21 rfl rfl)
theorem dX3_distance_44 : decode cX3_distance 44 = .ok (.invokevirtual 117, 3) := dk_182 0 117 (dk_at dksX3_distance_2 0 rfl rfl)
theorem dX3_distance_47 : decode cX3_distance 47 = .ok (.ireturn, 1) := dk_172 (dk_at dksX3_distance_2 3 rfl rfl)
theorem dX3_distance_48 : decode cX3_distance 48 = .ok (.aload_n 0, 1) := dk_42 (dk_at dksX3_distance_2 4 rfl rfl)
theorem dX3_distance_49 : decode cX3_distance 49 = .ok (.invokevirtual 349, 3) := dk_182 1 93 (dk_at dksX3_distance_2 5 rfl rfl)
theorem dX3_distance_52 : decode cX3_distance 52 = .ok (.iconst 0, 1) := dk_3 (dk_at dksX3_distance_2 8 rfl rfl)
theorem dX3_distance_53 : decode cX3_distance 53 = .ok (.istore_n 3, 1) := dk_62 (dk_at dksX3_distance_2 9 rfl rfl)
theorem dX3_distance_54 : decode cX3_distance 54 = .ok (.iconst 0, 1) := dk_3 (dk_at dksX3_distance_2 10 rfl rfl)
theorem dX3_distance_55 : decode cX3_distance 55 = .ok (.istore 4, 2) := dk_54 4 (dk_at dksX3_distance_2 11 rfl rfl)
theorem dX3_distance_57 : decode cX3_distance 57 = .ok (.iload 4, 2) := dk_21 4 (dk_at dksX3_distance_2 13 rfl rfl)
theorem dX3_distance_59 : decode cX3_distance 59 = .ok (.bipush 8, 2) := dk_16 8 (dk_at dksX3_distance_2 15 rfl rfl)
theorem dX3_distance_61 : decode cX3_distance 61 = .ok (.if_icmp .ge 82, 3) := dk_162 0 82 (dk_at dksX3_distance_2 17 rfl rfl)
theorem dX3_distance_64 : decode cX3_distance 64 = .ok (.aload_n 0, 1) := dk_42 (dk_at dksX3_distance_2 20 rfl rfl)
theorem dX3_distance_65 : decode cX3_distance 65 = .ok (.iload_n 1, 1) := dk_27 (dk_at dksX3_distance_2 21 rfl rfl)
theorem dX3_distance_66 : decode cX3_distance 66 = .ok (.iload 4, 2) := dk_21 4 (dk_at dksX3_distance_2 22 rfl rfl)
theorem dX3_distance_68 : decode cX3_distance 68 = .ok (.invokevirtual 382, 3) := dk_182 1 126 (dk_at dksX3_distance_3 0 rfl rfl)
theorem dX3_distance_71 : decode cX3_distance 71 = .ok (.ifCond .eq 66, 3) := dk_153 0 66 (dk_at dksX3_distance_3 3 rfl rfl)
theorem dX3_distance_74 : decode cX3_distance 74 = .ok (.aload_n 0, 1) := dk_42 (dk_at dksX3_distance_3 6 rfl rfl)
theorem dX3_distance_75 : decode cX3_distance 75 = .ok (.iload_n 1, 1) := dk_27 (dk_at dksX3_distance_3 7 rfl rfl)
theorem dX3_distance_76 : decode cX3_distance 76 = .ok (.iload 4, 2) := dk_21 4 (dk_at dksX3_distance_3 8 rfl rfl)
theorem dX3_distance_78 : decode cX3_distance 78 = .ok (.invokevirtual 379, 3) := dk_182 1 123 (dk_at dksX3_distance_3 10 rfl rfl)
theorem dX3_distance_81 : decode cX3_distance 81 = .ok (.istore 5, 2) := dk_54 5 (dk_at dksX3_distance_3 13 rfl rfl)
theorem dX3_distance_83 : decode cX3_distance 83 = .ok (.iload_n 3, 1) := dk_29 (dk_at dksX3_distance_3 15 rfl rfl)
theorem dX3_distance_84 : decode cX3_distance 84 = .ok (.aload_n 0, 1) := dk_42 (dk_at dksX3_distance_3 16 rfl rfl)
theorem dX3_distance_85 : decode cX3_distance 85 = .ok (.getfield 83, 3) := dk_180 0 83 (dk_at dksX3_distance_3 17 rfl rfl)
theorem dX3_distance_88 : decode cX3_distance 88 = .ok (.bipush 100, 2) := dk_16 100 (dk_at dksX3_distance_3 20 rfl rfl)
theorem dX3_distance_90 : decode cX3_distance 90 = .ok (.iload 4, 2) := dk_21 4 (dk_at dksX3_distance_3 22 rfl rfl)
theorem dX3_distance_92 : decode cX3_distance 92 = .ok (.imul, 1) := dk_104 (dk_at dksX3_distance_4 0 rfl rfl)
theorem dX3_distance_93 : decode cX3_distance 93 = .ok (.iload_n 2, 1) := dk_28 (dk_at dksX3_distance_4 1 rfl rfl)
theorem dX3_distance_94 : decode cX3_distance 94 = .ok (.iadd, 1) := dk_96 (dk_at dksX3_distance_4 2 rfl rfl)
theorem dX3_distance_95 : decode cX3_distance 95 = .ok (.iaload, 1) := dk_46 (dk_at dksX3_distance_4 3 rfl rfl)
theorem dX3_distance_96 : decode cX3_distance 96 = .ok (.iload 5, 2) := dk_21 5 (dk_at dksX3_distance_4 4 rfl rfl)
theorem dX3_distance_98 : decode cX3_distance 98 = .ok (.aload_n 0, 1) := dk_42 (dk_at dksX3_distance_4 6 rfl rfl)
theorem dX3_distance_99 : decode cX3_distance 99 = .ok (.getfield 7, 3) := dk_180 0 7 (dk_at dksX3_distance_4 7 rfl rfl)
theorem dX3_distance_102 : decode cX3_distance 102 = .ok (.iconst 0, 1) := dk_3 (dk_at dksX3_distance_4 10 rfl rfl)
theorem dX3_distance_103 : decode cX3_distance 103 = .ok (.iaload, 1) := dk_46 (dk_at dksX3_distance_4 11 rfl rfl)
theorem dX3_distance_104 : decode cX3_distance 104 = .ok (.irem, 1) := dk_112 (dk_at dksX3_distance_4 12 rfl rfl)
theorem dX3_distance_105 : decode cX3_distance 105 = .ok (.isub, 1) := dk_100 (dk_at dksX3_distance_4 13 rfl rfl)
theorem dX3_distance_106 : decode cX3_distance 106 = .ok (.invokestatic 385, 3) := dk_184 1 129 (dk_at dksX3_distance_4 14 rfl rfl)
theorem dX3_distance_109 : decode cX3_distance 109 = .ok (.aload_n 0, 1) := dk_42 (dk_at dksX3_distance_4 17 rfl rfl)
theorem dX3_distance_110 : decode cX3_distance 110 = .ok (.getfield 86, 3) := dk_180 0 86 (dk_at dksX3_distance_4 18 rfl rfl)
theorem dX3_distance_113 : decode cX3_distance 113 = .ok (.bipush 100, 2) := dk_16 100 (dk_at dksX3_distance_4 21 rfl rfl)
theorem dX3_distance_115 : decode cX3_distance 115 = .ok (.iload 4, 2) := dk_21 4 (dk_at dksX3_distance_5 0 rfl rfl)
theorem dX3_distance_117 : decode cX3_distance 117 = .ok (.imul, 1) := dk_104 (dk_at dksX3_distance_5 2 rfl rfl)
theorem dX3_distance_118 : decode cX3_distance 118 = .ok (.iload_n 2, 1) := dk_28 (dk_at dksX3_distance_5 3 rfl rfl)
theorem dX3_distance_119 : decode cX3_distance 119 = .ok (.iadd, 1) := dk_96 (dk_at dksX3_distance_5 4 rfl rfl)
theorem dX3_distance_120 : decode cX3_distance 120 = .ok (.iaload, 1) := dk_46 (dk_at dksX3_distance_5 5 rfl rfl)
theorem dX3_distance_121 : decode cX3_distance 121 = .ok (.iload 5, 2) := dk_21 5 (dk_at dksX3_distance_5 6 rfl rfl)
theorem dX3_distance_123 : decode cX3_distance 123 = .ok (.aload_n 0, 1) := dk_42 (dk_at dksX3_distance_5 8 rfl rfl)
theorem dX3_distance_124 : decode cX3_distance 124 = .ok (.getfield 7, 3) := dk_180 0 7 (dk_at dksX3_distance_5 9 rfl rfl)
theorem dX3_distance_127 : decode cX3_distance 127 = .ok (.iconst 0, 1) := dk_3 (dk_at dksX3_distance_5 12 rfl rfl)
theorem dX3_distance_128 : decode cX3_distance 128 = .ok (.iaload, 1) := dk_46 (dk_at dksX3_distance_5 13 rfl rfl)
theorem dX3_distance_129 : decode cX3_distance 129 = .ok (.idiv, 1) := dk_108 (dk_at dksX3_distance_5 14 rfl rfl)
theorem dX3_distance_130 : decode cX3_distance 130 = .ok (.isub, 1) := dk_100 (dk_at dksX3_distance_5 15 rfl rfl)
theorem dX3_distance_131 : decode cX3_distance 131 = .ok (.invokestatic 385, 3) := dk_184 1 129 (dk_at dksX3_distance_5 16 rfl rfl)
theorem dX3_distance_134 : decode cX3_distance 134 = .ok (.iadd, 1) := dk_96 (dk_at dksX3_distance_5 19 rfl rfl)
theorem dX3_distance_135 : decode cX3_distance 135 = .ok (.iadd, 1) := dk_96 (dk_at dksX3_distance_5 20 rfl rfl)
theorem dX3_distance_136 : decode cX3_distance 136 = .ok (.istore_n 3, 1) := dk_62 (dk_at dksX3_distance_5 21 rfl rfl)
theorem dX3_distance_137 : decode cX3_distance 137 = .ok (.iinc 4 1, 3) := dk_132 4 1 (dk_at dksX3_distance_6 0 rfl rfl)
theorem dX3_distance_140 : decode cX3_distance 140 = .ok (.goto (-83), 3) := dk_167 255 173 (dk_at dksX3_distance_6 3 rfl rfl)
theorem dX3_distance_143 : decode cX3_distance 143 = .ok (.iload_n 3, 1) := dk_29 (dk_at dksX3_distance_6 6 rfl rfl)
theorem dX3_distance_144 : decode cX3_distance 144 = .ok (.ireturn, 1) := dk_172 (dk_at dksX3_distance_6 7 rfl rfl)
abbrev cX3_isIn : ByteArray := prog_24_method_90_code
def yX3_isIn : MethodName := ⟨RX3, "isIn", "(II)Z"⟩
def dkwX3_isIn_0 : List UInt8 := [42, 27, 28, 182, 1, 123, 2, 159, 0, 15, 42, 28, 182, 1, 80, 153, 0, 7, 4, 167, 0, 4, 3, 172]
abbrev dktX3_isIn_0 : List UInt8 := dkwX3_isIn_0 ++ []
theorem dksX3_isIn_0 : cX3_isIn.data.toList.drop 0 = dktX3_isIn_0 := by decide +kernel
theorem dX3_isIn_0 : decode cX3_isIn 0 = .ok (.aload_n 0, 1) := dk_42 (dk_at dksX3_isIn_0 0 rfl rfl)
theorem dX3_isIn_1 : decode cX3_isIn 1 = .ok (.iload_n 1, 1) := dk_27 (dk_at dksX3_isIn_0 1 rfl rfl)
theorem dX3_isIn_2 : decode cX3_isIn 2 = .ok (.iload_n 2, 1) := dk_28 (dk_at dksX3_isIn_0 2 rfl rfl)
theorem dX3_isIn_3 : decode cX3_isIn 3 = .ok (.invokevirtual 379, 3) := dk_182 1 123 (dk_at dksX3_isIn_0 3 rfl rfl)
theorem dX3_isIn_6 : decode cX3_isIn 6 = .ok (.iconst (-1), 1) := dk_2 (dk_at dksX3_isIn_0 6 rfl rfl)
theorem dX3_isIn_7 : decode cX3_isIn 7 = .ok (.if_icmp .eq 15, 3) := dk_159 0 15 (dk_at dksX3_isIn_0 7 rfl rfl)
theorem dX3_isIn_10 : decode cX3_isIn 10 = .ok (.aload_n 0, 1) := dk_42 (dk_at dksX3_isIn_0 10 rfl rfl)
theorem dX3_isIn_11 : decode cX3_isIn 11 = .ok (.iload_n 2, 1) := dk_28 (dk_at dksX3_isIn_0 11 rfl rfl)
theorem dX3_isIn_12 : decode cX3_isIn 12 = .ok (.invokevirtual 336, 3) := dk_182 1 80 (dk_at dksX3_isIn_0 12 rfl rfl)
theorem dX3_isIn_15 : decode cX3_isIn 15 = .ok (.ifCond .eq 7, 3) := dk_153 0 7 (dk_at dksX3_isIn_0 15 rfl rfl)
theorem dX3_isIn_18 : decode cX3_isIn 18 = .ok (.iconst 1, 1) := dk_4 (dk_at dksX3_isIn_0 18 rfl rfl)
theorem dX3_isIn_19 : decode cX3_isIn 19 = .ok (.goto 4, 3) := dk_167 0 4 (dk_at dksX3_isIn_0 19 rfl rfl)
theorem dX3_isIn_22 : decode cX3_isIn 22 = .ok (.iconst 0, 1) := dk_3 (dk_at dksX3_isIn_0 22 rfl rfl)
theorem dX3_isIn_23 : decode cX3_isIn 23 = .ok (.ireturn, 1) := dk_172 (dk_at dksX3_isIn_0 23 rfl rfl)
abbrev cX3_formed : ByteArray := prog_24_method_89_code
def yX3_formed : MethodName := ⟨RX3, "formed", "(II)I"⟩
def dkwX3_formed_0 : List UInt8 := [42, 180, 0, 7, 16, 10, 16, 8, 27, 104, 96, 28, 96, 46, 172]
abbrev dktX3_formed_0 : List UInt8 := dkwX3_formed_0 ++ []
theorem dksX3_formed_0 : cX3_formed.data.toList.drop 0 = dktX3_formed_0 := by decide +kernel
theorem dX3_formed_0 : decode cX3_formed 0 = .ok (.aload_n 0, 1) := dk_42 (dk_at dksX3_formed_0 0 rfl rfl)
theorem dX3_formed_1 : decode cX3_formed 1 = .ok (.getfield 7, 3) := dk_180 0 7 (dk_at dksX3_formed_0 1 rfl rfl)
theorem dX3_formed_4 : decode cX3_formed 4 = .ok (.bipush 10, 2) := dk_16 10 (dk_at dksX3_formed_0 4 rfl rfl)
theorem dX3_formed_6 : decode cX3_formed 6 = .ok (.bipush 8, 2) := dk_16 8 (dk_at dksX3_formed_0 6 rfl rfl)
theorem dX3_formed_8 : decode cX3_formed 8 = .ok (.iload_n 1, 1) := dk_27 (dk_at dksX3_formed_0 8 rfl rfl)
theorem dX3_formed_9 : decode cX3_formed 9 = .ok (.imul, 1) := dk_104 (dk_at dksX3_formed_0 9 rfl rfl)
theorem dX3_formed_10 : decode cX3_formed 10 = .ok (.iadd, 1) := dk_96 (dk_at dksX3_formed_0 10 rfl rfl)
theorem dX3_formed_11 : decode cX3_formed 11 = .ok (.iload_n 2, 1) := dk_28 (dk_at dksX3_formed_0 11 rfl rfl)
theorem dX3_formed_12 : decode cX3_formed 12 = .ok (.iadd, 1) := dk_96 (dk_at dksX3_formed_0 12 rfl rfl)
theorem dX3_formed_13 : decode cX3_formed 13 = .ok (.iaload, 1) := dk_46 (dk_at dksX3_formed_0 13 rfl rfl)
theorem dX3_formed_14 : decode cX3_formed 14 = .ok (.ireturn, 1) := dk_172 (dk_at dksX3_formed_0 14 rfl rfl)
abbrev cX3_amount : ByteArray := prog_24_method_91_code
def yX3_amount : MethodName := ⟨RX3, "amount", "(I)I"⟩
def dkwX3_amount_0 : List UInt8 := [26, 156, 0, 8, 26, 116, 167, 0, 4, 26, 172]
abbrev dktX3_amount_0 : List UInt8 := dkwX3_amount_0 ++ []
theorem dksX3_amount_0 : cX3_amount.data.toList.drop 0 = dktX3_amount_0 := by decide +kernel
theorem dX3_amount_0 : decode cX3_amount 0 = .ok (.iload_n 0, 1) := dk_26 (dk_at dksX3_amount_0 0 rfl rfl)
theorem dX3_amount_1 : decode cX3_amount 1 = .ok (.ifCond .ge 8, 3) := dk_156 0 8 (dk_at dksX3_amount_0 1 rfl rfl)
theorem dX3_amount_4 : decode cX3_amount 4 = .ok (.iload_n 0, 1) := dk_26 (dk_at dksX3_amount_0 4 rfl rfl)
theorem dX3_amount_5 : decode cX3_amount 5 = .ok (.ineg, 1) := dk_116 (dk_at dksX3_amount_0 5 rfl rfl)
theorem dX3_amount_6 : decode cX3_amount 6 = .ok (.goto 4, 3) := dk_167 0 4 (dk_at dksX3_amount_0 6 rfl rfl)
theorem dX3_amount_9 : decode cX3_amount 9 = .ok (.iload_n 0, 1) := dk_26 (dk_at dksX3_amount_0 9 rfl rfl)
theorem dX3_amount_10 : decode cX3_amount 10 = .ok (.ireturn, 1) := dk_172 (dk_at dksX3_amount_0 10 rfl rfl)
abbrev cX3_plan : ByteArray := prog_24_method_100_code
def yX3_plan : MethodName := ⟨RX3, "plan", "(I)I"⟩
def dkwX3_plan_16 : List UInt8 := [132, 7, 1, 167, 255, 220, 42, 182, 0, 211, 28, 172]
abbrev dktX3_plan_16 : List UInt8 := dkwX3_plan_16 ++ []
def dkwX3_plan_15 : List UInt8 := [21, 7, 182, 1, 126, 153, 0, 19, 42, 180, 0, 92, 21, 7, 46, 158, 0, 9, 42, 21, 7, 182, 1, 154]
abbrev dktX3_plan_15 : List UInt8 := dkwX3_plan_15 ++ dktX3_plan_16
def dkwX3_plan_14 : List UInt8 := [164, 0, 11, 42, 16, 6, 3, 29, 182, 0, 241, 3, 54, 7, 21, 7, 16, 8, 162, 0, 35, 42, 27]
abbrev dktX3_plan_14 : List UInt8 := dkwX3_plan_14 ++ dktX3_plan_15
def dkwX3_plan_13 : List UInt8 := [16, 7, 3, 4, 182, 1, 61, 42, 3, 5, 42, 3, 5, 182, 0, 133, 4, 96, 182, 0, 137, 29, 4]
abbrev dktX3_plan_13 : List UInt8 := dkwX3_plan_13 ++ dktX3_plan_14
def dkwX3_plan_12 : List UInt8 := [16, 20, 164, 0, 11, 42, 16, 7, 5, 182, 0, 202, 172, 42, 182, 0, 208, 21, 5, 154, 0, 11, 42]
abbrev dktX3_plan_12 : List UInt8 := dkwX3_plan_12 ++ dktX3_plan_13
def dkwX3_plan_11 : List UInt8 := [163, 0, 28, 21, 6, 16, 20, 164, 0, 29, 21, 6, 42, 180, 0, 147, 163, 0, 12, 42, 180, 0, 147]
abbrev dktX3_plan_11 : List UInt8 := dkwX3_plan_11 ++ dktX3_plan_12
def dkwX3_plan_10 : List UInt8 := [164, 0, 10, 42, 180, 0, 147, 167, 0, 5, 21, 4, 4, 96, 54, 6, 42, 180, 0, 141, 28, 96, 16, 99]
abbrev dktX3_plan_10 : List UInt8 := dkwX3_plan_10 ++ dktX3_plan_11
def dkwX3_plan_9 : List UInt8 := [96, 164, 0, 10, 42, 180, 0, 147, 167, 0, 30, 21, 4, 4, 96, 167, 0, 23, 42, 180, 0, 147, 21, 4]
abbrev dktX3_plan_9 : List UInt8 := dkwX3_plan_9 ++ dktX3_plan_10
def dkwX3_plan_8 : List UInt8 := [16, 7, 160, 0, 7, 4, 167, 0, 4, 3, 54, 5, 21, 5, 153, 0, 28, 42, 180, 0, 147, 21, 4, 4]
abbrev dktX3_plan_8 : List UInt8 := dkwX3_plan_8 ++ dktX3_plan_9
def dkwX3_plan_7 : List UInt8 := [16, 6, 5, 182, 0, 202, 172, 29, 4, 164, 0, 7, 5, 167, 0, 4, 4, 54, 4, 42, 3, 182, 0, 162]
abbrev dktX3_plan_7 : List UInt8 := dkwX3_plan_7 ++ dktX3_plan_8
def dkwX3_plan_6 : List UInt8 := [21, 4, 46, 158, 0, 7, 4, 167, 0, 4, 3, 96, 62, 132, 4, 1, 167, 255, 178, 29, 154, 0, 11, 42]
abbrev dktX3_plan_6 : List UInt8 := dkwX3_plan_6 ++ dktX3_plan_7
def dkwX3_plan_5 : List UInt8 := [21, 4, 46, 28, 164, 0, 13, 42, 180, 0, 92, 21, 4, 46, 167, 0, 4, 28, 61, 29, 42, 180, 0, 92]
abbrev dktX3_plan_5 : List UInt8 := dkwX3_plan_5 ++ dktX3_plan_6
def dkwX3_plan_4 : List UInt8 := [153, 0, 61, 42, 27, 21, 4, 182, 1, 151, 154, 0, 10, 42, 8, 5, 182, 0, 202, 172, 42, 180, 0, 92]
abbrev dktX3_plan_4 : List UInt8 := dkwX3_plan_4 ++ dktX3_plan_5
def dkwX3_plan_3 : List UInt8 := [167, 255, 240, 3, 61, 3, 62, 3, 54, 4, 21, 4, 16, 8, 162, 0, 77, 42, 27, 21, 4, 182, 1, 126]
abbrev dktX3_plan_3 : List UInt8 := dkwX3_plan_3 ++ dktX3_plan_4
def dkwX3_plan_2 : List UInt8 := [182, 0, 202, 172, 3, 61, 28, 16, 8, 162, 0, 16, 42, 180, 0, 98, 28, 3, 84, 132, 2, 1]
abbrev dktX3_plan_2 : List UInt8 := dkwX3_plan_2 ++ dktX3_plan_3
def dkwX3_plan_1 : List UInt8 := [182, 1, 49, 153, 0, 5, 3, 172, 42, 3, 2, 182, 1, 117, 42, 180, 1, 96, 158, 0, 10, 42, 7, 5]
abbrev dktX3_plan_1 : List UInt8 := dkwX3_plan_1 ++ dktX3_plan_2
def dkwX3_plan_0 : List UInt8 := [42, 3, 181, 0, 111, 27, 3, 6, 184, 0, 121, 154, 0, 9, 42, 4, 182, 0, 117, 172, 42, 5]
abbrev dktX3_plan_0 : List UInt8 := dkwX3_plan_0 ++ dktX3_plan_1
theorem dksX3_plan_0 : cX3_plan.data.toList.drop 0 = dktX3_plan_0 := by decide +kernel
theorem dksX3_plan_1 : cX3_plan.data.toList.drop 22 = dktX3_plan_1 := dk_seg dksX3_plan_0 22 rfl rfl
theorem dksX3_plan_2 : cX3_plan.data.toList.drop 46 = dktX3_plan_2 := dk_seg dksX3_plan_1 24 rfl rfl
theorem dksX3_plan_3 : cX3_plan.data.toList.drop 68 = dktX3_plan_3 := dk_seg dksX3_plan_2 22 rfl rfl
theorem dksX3_plan_4 : cX3_plan.data.toList.drop 92 = dktX3_plan_4 := dk_seg dksX3_plan_3 24 rfl rfl
theorem dksX3_plan_5 : cX3_plan.data.toList.drop 116 = dktX3_plan_5 := dk_seg dksX3_plan_4 24 rfl rfl
theorem dksX3_plan_6 : cX3_plan.data.toList.drop 140 = dktX3_plan_6 := dk_seg dksX3_plan_5 24 rfl rfl
theorem dksX3_plan_7 : cX3_plan.data.toList.drop 164 = dktX3_plan_7 := dk_seg dksX3_plan_6 24 rfl rfl
theorem dksX3_plan_8 : cX3_plan.data.toList.drop 188 = dktX3_plan_8 := dk_seg dksX3_plan_7 24 rfl rfl
theorem dksX3_plan_9 : cX3_plan.data.toList.drop 212 = dktX3_plan_9 := dk_seg dksX3_plan_8 24 rfl rfl
theorem dksX3_plan_10 : cX3_plan.data.toList.drop 236 = dktX3_plan_10 := dk_seg dksX3_plan_9 24 rfl rfl
theorem dksX3_plan_11 : cX3_plan.data.toList.drop 260 = dktX3_plan_11 := dk_seg dksX3_plan_10 24 rfl rfl
theorem dksX3_plan_12 : cX3_plan.data.toList.drop 283 = dktX3_plan_12 := dk_seg dksX3_plan_11 23 rfl rfl
theorem dksX3_plan_13 : cX3_plan.data.toList.drop 306 = dktX3_plan_13 := dk_seg dksX3_plan_12 23 rfl rfl
theorem dksX3_plan_14 : cX3_plan.data.toList.drop 329 = dktX3_plan_14 := dk_seg dksX3_plan_13 23 rfl rfl
theorem dksX3_plan_15 : cX3_plan.data.toList.drop 352 = dktX3_plan_15 := dk_seg dksX3_plan_14 23 rfl rfl
theorem dksX3_plan_16 : cX3_plan.data.toList.drop 376 = dktX3_plan_16 := dk_seg dksX3_plan_15 24 rfl rfl
theorem dX3_plan_0 : decode cX3_plan 0 = .ok (.aload_n 0, 1) := dk_42 (dk_at dksX3_plan_0 0 rfl rfl)
theorem dX3_plan_1 : decode cX3_plan 1 = .ok (.iconst 0, 1) := dk_3 (dk_at dksX3_plan_0 1 rfl rfl)
theorem dX3_plan_2 : decode cX3_plan 2 = .ok (.putfield 111, 3) := dk_181 0 111 (dk_at dksX3_plan_0 2 rfl rfl)
theorem dX3_plan_5 : decode cX3_plan 5 = .ok (.iload_n 1, 1) := dk_27 (dk_at dksX3_plan_0 5 rfl rfl)
theorem dX3_plan_6 : decode cX3_plan 6 = .ok (.iconst 0, 1) := dk_3 (dk_at dksX3_plan_0 6 rfl rfl)
theorem dX3_plan_7 : decode cX3_plan 7 = .ok (.iconst 3, 1) := dk_6 (dk_at dksX3_plan_0 7 rfl rfl)
theorem dX3_plan_8 : decode cX3_plan 8 = .ok (.invokestatic 121, 3) := dk_184 0 121 (dk_at dksX3_plan_0 8 rfl rfl)
theorem dX3_plan_11 : decode cX3_plan 11 = .ok (.ifCond .ne 9, 3) := dk_154 0 9 (dk_at dksX3_plan_0 11 rfl rfl)
theorem dX3_plan_14 : decode cX3_plan 14 = .ok (.aload_n 0, 1) := dk_42 (dk_at dksX3_plan_0 14 rfl rfl)
theorem dX3_plan_15 : decode cX3_plan 15 = .ok (.iconst 1, 1) := dk_4 (dk_at dksX3_plan_0 15 rfl rfl)
theorem dX3_plan_16 : decode cX3_plan 16 = .ok (.invokevirtual 117, 3) := dk_182 0 117 (dk_at dksX3_plan_0 16 rfl rfl)
theorem dX3_plan_19 : decode cX3_plan 19 = .ok (.ireturn, 1) := dk_172 (dk_at dksX3_plan_0 19 rfl rfl)
theorem dX3_plan_20 : decode cX3_plan 20 = .ok (.aload_n 0, 1) := dk_42 (dk_at dksX3_plan_0 20 rfl rfl)
theorem dX3_plan_21 : decode cX3_plan 21 = .ok (.iconst 2, 1) := dk_5 (dk_at dksX3_plan_0 21 rfl rfl)
theorem dX3_plan_22 : decode cX3_plan 22 = .ok (.invokevirtual 305, 3) := dk_182 1 49 (dk_at dksX3_plan_1 0 rfl rfl)
theorem dX3_plan_25 : decode cX3_plan 25 = .ok (.ifCond .eq 5, 3) := dk_153 0 5 (dk_at dksX3_plan_1 3 rfl rfl)
theorem dX3_plan_28 : decode cX3_plan 28 = .ok (.iconst 0, 1) := dk_3 (dk_at dksX3_plan_1 6 rfl rfl)
theorem dX3_plan_29 : decode cX3_plan 29 = .ok (.ireturn, 1) := dk_172 (dk_at dksX3_plan_1 7 rfl rfl)
theorem dX3_plan_30 : decode cX3_plan 30 = .ok (.aload_n 0, 1) := dk_42 (dk_at dksX3_plan_1 8 rfl rfl)
theorem dX3_plan_31 : decode cX3_plan 31 = .ok (.iconst 0, 1) := dk_3 (dk_at dksX3_plan_1 9 rfl rfl)
theorem dX3_plan_32 : decode cX3_plan 32 = .ok (.iconst (-1), 1) := dk_2 (dk_at dksX3_plan_1 10 rfl rfl)
theorem dX3_plan_33 : decode cX3_plan 33 = .ok (.invokevirtual 373, 3) := dk_182 1 117 (dk_at dksX3_plan_1 11 rfl rfl)
theorem dX3_plan_36 : decode cX3_plan 36 = .ok (.aload_n 0, 1) := dk_42 (dk_at dksX3_plan_1 14 rfl rfl)
theorem dX3_plan_37 : decode cX3_plan 37 = .ok (.getfield 352, 3) := dk_180 1 96 (dk_at dksX3_plan_1 15 rfl rfl)
theorem dX3_plan_40 : decode cX3_plan 40 = .ok (.ifCond .le 10, 3) := dk_158 0 10 (dk_at dksX3_plan_1 18 rfl rfl)
theorem dX3_plan_43 : decode cX3_plan 43 = .ok (.aload_n 0, 1) := dk_42 (dk_at dksX3_plan_1 21 rfl rfl)
theorem dX3_plan_44 : decode cX3_plan 44 = .ok (.iconst 4, 1) := dk_7 (dk_at dksX3_plan_1 22 rfl rfl)
theorem dX3_plan_45 : decode cX3_plan 45 = .ok (.iconst 2, 1) := dk_5 (dk_at dksX3_plan_1 23 rfl rfl)
theorem dX3_plan_46 : decode cX3_plan 46 = .ok (.invokevirtual 202, 3) := dk_182 0 202 (dk_at dksX3_plan_2 0 rfl rfl)
theorem dX3_plan_49 : decode cX3_plan 49 = .ok (.ireturn, 1) := dk_172 (dk_at dksX3_plan_2 3 rfl rfl)
theorem dX3_plan_50 : decode cX3_plan 50 = .ok (.iconst 0, 1) := dk_3 (dk_at dksX3_plan_2 4 rfl rfl)
theorem dX3_plan_51 : decode cX3_plan 51 = .ok (.istore_n 2, 1) := dk_61 (dk_at dksX3_plan_2 5 rfl rfl)
theorem dX3_plan_52 : decode cX3_plan 52 = .ok (.iload_n 2, 1) := dk_28 (dk_at dksX3_plan_2 6 rfl rfl)
theorem dX3_plan_53 : decode cX3_plan 53 = .ok (.bipush 8, 2) := dk_16 8 (dk_at dksX3_plan_2 7 rfl rfl)
theorem dX3_plan_55 : decode cX3_plan 55 = .ok (.if_icmp .ge 16, 3) := dk_162 0 16 (dk_at dksX3_plan_2 9 rfl rfl)
theorem dX3_plan_58 : decode cX3_plan 58 = .ok (.aload_n 0, 1) := dk_42 (dk_at dksX3_plan_2 12 rfl rfl)
theorem dX3_plan_59 : decode cX3_plan 59 = .ok (.getfield 98, 3) := dk_180 0 98 (dk_at dksX3_plan_2 13 rfl rfl)
theorem dX3_plan_62 : decode cX3_plan 62 = .ok (.iload_n 2, 1) := dk_28 (dk_at dksX3_plan_2 16 rfl rfl)
theorem dX3_plan_63 : decode cX3_plan 63 = .ok (.iconst 0, 1) := dk_3 (dk_at dksX3_plan_2 17 rfl rfl)
theorem dX3_plan_64 : decode cX3_plan 64 = .ok (.bastore, 1) := dk_84 (dk_at dksX3_plan_2 18 rfl rfl)
theorem dX3_plan_65 : decode cX3_plan 65 = .ok (.iinc 2 1, 3) := dk_132 2 1 (dk_at dksX3_plan_2 19 rfl rfl)
theorem dX3_plan_68 : decode cX3_plan 68 = .ok (.goto (-16), 3) := dk_167 255 240 (dk_at dksX3_plan_3 0 rfl rfl)
theorem dX3_plan_71 : decode cX3_plan 71 = .ok (.iconst 0, 1) := dk_3 (dk_at dksX3_plan_3 3 rfl rfl)
theorem dX3_plan_72 : decode cX3_plan 72 = .ok (.istore_n 2, 1) := dk_61 (dk_at dksX3_plan_3 4 rfl rfl)
theorem dX3_plan_73 : decode cX3_plan 73 = .ok (.iconst 0, 1) := dk_3 (dk_at dksX3_plan_3 5 rfl rfl)
theorem dX3_plan_74 : decode cX3_plan 74 = .ok (.istore_n 3, 1) := dk_62 (dk_at dksX3_plan_3 6 rfl rfl)
theorem dX3_plan_75 : decode cX3_plan 75 = .ok (.iconst 0, 1) := dk_3 (dk_at dksX3_plan_3 7 rfl rfl)
theorem dX3_plan_76 : decode cX3_plan 76 = .ok (.istore 4, 2) := dk_54 4 (dk_at dksX3_plan_3 8 rfl rfl)
theorem dX3_plan_78 : decode cX3_plan 78 = .ok (.iload 4, 2) := dk_21 4 (dk_at dksX3_plan_3 10 rfl rfl)
theorem dX3_plan_80 : decode cX3_plan 80 = .ok (.bipush 8, 2) := dk_16 8 (dk_at dksX3_plan_3 12 rfl rfl)
theorem dX3_plan_82 : decode cX3_plan 82 = .ok (.if_icmp .ge 77, 3) := dk_162 0 77 (dk_at dksX3_plan_3 14 rfl rfl)
theorem dX3_plan_85 : decode cX3_plan 85 = .ok (.aload_n 0, 1) := dk_42 (dk_at dksX3_plan_3 17 rfl rfl)
theorem dX3_plan_86 : decode cX3_plan 86 = .ok (.iload_n 1, 1) := dk_27 (dk_at dksX3_plan_3 18 rfl rfl)
theorem dX3_plan_87 : decode cX3_plan 87 = .ok (.iload 4, 2) := dk_21 4 (dk_at dksX3_plan_3 19 rfl rfl)
theorem dX3_plan_89 : decode cX3_plan 89 = .ok (.invokevirtual 382, 3) := dk_182 1 126 (dk_at dksX3_plan_3 21 rfl rfl)
theorem dX3_plan_92 : decode cX3_plan 92 = .ok (.ifCond .eq 61, 3) := dk_153 0 61 (dk_at dksX3_plan_4 0 rfl rfl)
theorem dX3_plan_95 : decode cX3_plan 95 = .ok (.aload_n 0, 1) := dk_42 (dk_at dksX3_plan_4 3 rfl rfl)
theorem dX3_plan_96 : decode cX3_plan 96 = .ok (.iload_n 1, 1) := dk_27 (dk_at dksX3_plan_4 4 rfl rfl)
theorem dX3_plan_97 : decode cX3_plan 97 = .ok (.iload 4, 2) := dk_21 4 (dk_at dksX3_plan_4 5 rfl rfl)
theorem dX3_plan_99 : decode cX3_plan 99 = .ok (.invokevirtual 407, 3) := dk_182 1 151 (dk_at dksX3_plan_4 7 rfl rfl)
theorem dX3_plan_102 : decode cX3_plan 102 = .ok (.ifCond .ne 10, 3) := dk_154 0 10 (dk_at dksX3_plan_4 10 rfl rfl)
theorem dX3_plan_105 : decode cX3_plan 105 = .ok (.aload_n 0, 1) := dk_42 (dk_at dksX3_plan_4 13 rfl rfl)
theorem dX3_plan_106 : decode cX3_plan 106 = .ok (.iconst 5, 1) := dk_8 (dk_at dksX3_plan_4 14 rfl rfl)
theorem dX3_plan_107 : decode cX3_plan 107 = .ok (.iconst 2, 1) := dk_5 (dk_at dksX3_plan_4 15 rfl rfl)
theorem dX3_plan_108 : decode cX3_plan 108 = .ok (.invokevirtual 202, 3) := dk_182 0 202 (dk_at dksX3_plan_4 16 rfl rfl)
theorem dX3_plan_111 : decode cX3_plan 111 = .ok (.ireturn, 1) := dk_172 (dk_at dksX3_plan_4 19 rfl rfl)
theorem dX3_plan_112 : decode cX3_plan 112 = .ok (.aload_n 0, 1) := dk_42 (dk_at dksX3_plan_4 20 rfl rfl)
theorem dX3_plan_113 : decode cX3_plan 113 = .ok (.getfield 92, 3) := dk_180 0 92 (dk_at dksX3_plan_4 21 rfl rfl)
theorem dX3_plan_116 : decode cX3_plan 116 = .ok (.iload 4, 2) := dk_21 4 (dk_at dksX3_plan_5 0 rfl rfl)
theorem dX3_plan_118 : decode cX3_plan 118 = .ok (.iaload, 1) := dk_46 (dk_at dksX3_plan_5 2 rfl rfl)
theorem dX3_plan_119 : decode cX3_plan 119 = .ok (.iload_n 2, 1) := dk_28 (dk_at dksX3_plan_5 3 rfl rfl)
theorem dX3_plan_120 : decode cX3_plan 120 = .ok (.if_icmp .le 13, 3) := dk_164 0 13 (dk_at dksX3_plan_5 4 rfl rfl)
theorem dX3_plan_123 : decode cX3_plan 123 = .ok (.aload_n 0, 1) := dk_42 (dk_at dksX3_plan_5 7 rfl rfl)
theorem dX3_plan_124 : decode cX3_plan 124 = .ok (.getfield 92, 3) := dk_180 0 92 (dk_at dksX3_plan_5 8 rfl rfl)
theorem dX3_plan_127 : decode cX3_plan 127 = .ok (.iload 4, 2) := dk_21 4 (dk_at dksX3_plan_5 11 rfl rfl)
theorem dX3_plan_129 : decode cX3_plan 129 = .ok (.iaload, 1) := dk_46 (dk_at dksX3_plan_5 13 rfl rfl)
theorem dX3_plan_130 : decode cX3_plan 130 = .ok (.goto 4, 3) := dk_167 0 4 (dk_at dksX3_plan_5 14 rfl rfl)
theorem dX3_plan_133 : decode cX3_plan 133 = .ok (.iload_n 2, 1) := dk_28 (dk_at dksX3_plan_5 17 rfl rfl)
theorem dX3_plan_134 : decode cX3_plan 134 = .ok (.istore_n 2, 1) := dk_61 (dk_at dksX3_plan_5 18 rfl rfl)
theorem dX3_plan_135 : decode cX3_plan 135 = .ok (.iload_n 3, 1) := dk_29 (dk_at dksX3_plan_5 19 rfl rfl)
theorem dX3_plan_136 : decode cX3_plan 136 = .ok (.aload_n 0, 1) := dk_42 (dk_at dksX3_plan_5 20 rfl rfl)
theorem dX3_plan_137 : decode cX3_plan 137 = .ok (.getfield 92, 3) := dk_180 0 92 (dk_at dksX3_plan_5 21 rfl rfl)
theorem dX3_plan_140 : decode cX3_plan 140 = .ok (.iload 4, 2) := dk_21 4 (dk_at dksX3_plan_6 0 rfl rfl)
theorem dX3_plan_142 : decode cX3_plan 142 = .ok (.iaload, 1) := dk_46 (dk_at dksX3_plan_6 2 rfl rfl)
theorem dX3_plan_143 : decode cX3_plan 143 = .ok (.ifCond .le 7, 3) := dk_158 0 7 (dk_at dksX3_plan_6 3 rfl rfl)
theorem dX3_plan_146 : decode cX3_plan 146 = .ok (.iconst 1, 1) := dk_4 (dk_at dksX3_plan_6 6 rfl rfl)
theorem dX3_plan_147 : decode cX3_plan 147 = .ok (.goto 4, 3) := dk_167 0 4 (dk_at dksX3_plan_6 7 rfl rfl)
theorem dX3_plan_150 : decode cX3_plan 150 = .ok (.iconst 0, 1) := dk_3 (dk_at dksX3_plan_6 10 rfl rfl)
theorem dX3_plan_151 : decode cX3_plan 151 = .ok (.iadd, 1) := dk_96 (dk_at dksX3_plan_6 11 rfl rfl)
theorem dX3_plan_152 : decode cX3_plan 152 = .ok (.istore_n 3, 1) := dk_62 (dk_at dksX3_plan_6 12 rfl rfl)
theorem dX3_plan_153 : decode cX3_plan 153 = .ok (.iinc 4 1, 3) := dk_132 4 1 (dk_at dksX3_plan_6 13 rfl rfl)
theorem dX3_plan_156 : decode cX3_plan 156 = .ok (.goto (-78), 3) := dk_167 255 178 (dk_at dksX3_plan_6 16 rfl rfl)
theorem dX3_plan_159 : decode cX3_plan 159 = .ok (.iload_n 3, 1) := dk_29 (dk_at dksX3_plan_6 19 rfl rfl)
theorem dX3_plan_160 : decode cX3_plan 160 = .ok (.ifCond .ne 11, 3) := dk_154 0 11 (dk_at dksX3_plan_6 20 rfl rfl)
theorem dX3_plan_163 : decode cX3_plan 163 = .ok (.aload_n 0, 1) := dk_42 (dk_at dksX3_plan_6 23 rfl rfl)
theorem dX3_plan_164 : decode cX3_plan 164 = .ok (.bipush 6, 2) := dk_16 6 (dk_at dksX3_plan_7 0 rfl rfl)
theorem dX3_plan_166 : decode cX3_plan 166 = .ok (.iconst 2, 1) := dk_5 (dk_at dksX3_plan_7 2 rfl rfl)
theorem dX3_plan_167 : decode cX3_plan 167 = .ok (.invokevirtual 202, 3) := dk_182 0 202 (dk_at dksX3_plan_7 3 rfl rfl)
theorem dX3_plan_170 : decode cX3_plan 170 = .ok (.ireturn, 1) := dk_172 (dk_at dksX3_plan_7 6 rfl rfl)
theorem dX3_plan_171 : decode cX3_plan 171 = .ok (.iload_n 3, 1) := dk_29 (dk_at dksX3_plan_7 7 rfl rfl)
theorem dX3_plan_172 : decode cX3_plan 172 = .ok (.iconst 1, 1) := dk_4 (dk_at dksX3_plan_7 8 rfl rfl)
theorem dX3_plan_173 : decode cX3_plan 173 = .ok (.if_icmp .le 7, 3) := dk_164 0 7 (dk_at dksX3_plan_7 9 rfl rfl)
theorem dX3_plan_176 : decode cX3_plan 176 = .ok (.iconst 2, 1) := dk_5 (dk_at dksX3_plan_7 12 rfl rfl)
theorem dX3_plan_177 : decode cX3_plan 177 = .ok (.goto 4, 3) := dk_167 0 4 (dk_at dksX3_plan_7 13 rfl rfl)
theorem dX3_plan_180 : decode cX3_plan 180 = .ok (.iconst 1, 1) := dk_4 (dk_at dksX3_plan_7 16 rfl rfl)
theorem dX3_plan_181 : decode cX3_plan 181 = .ok (.istore 4, 2) := dk_54 4 (dk_at dksX3_plan_7 17 rfl rfl)
theorem dX3_plan_183 : decode cX3_plan 183 = .ok (.aload_n 0, 1) := dk_42 (dk_at dksX3_plan_7 19 rfl rfl)
theorem dX3_plan_184 : decode cX3_plan 184 = .ok (.iconst 0, 1) := dk_3 (dk_at dksX3_plan_7 20 rfl rfl)
theorem dX3_plan_185 : decode cX3_plan 185 = .ok (.invokevirtual 162, 3) := dk_182 0 162 (dk_at dksX3_plan_7 21 rfl rfl)
theorem dX3_plan_188 : decode cX3_plan 188 = .ok (.bipush 7, 2) := dk_16 7 (dk_at dksX3_plan_8 0 rfl rfl)
theorem dX3_plan_190 : decode cX3_plan 190 = .ok (.if_icmp .ne 7, 3) := dk_160 0 7 (dk_at dksX3_plan_8 2 rfl rfl)
theorem dX3_plan_193 : decode cX3_plan 193 = .ok (.iconst 1, 1) := dk_4 (dk_at dksX3_plan_8 5 rfl rfl)
theorem dX3_plan_194 : decode cX3_plan 194 = .ok (.goto 4, 3) := dk_167 0 4 (dk_at dksX3_plan_8 6 rfl rfl)
theorem dX3_plan_197 : decode cX3_plan 197 = .ok (.iconst 0, 1) := dk_3 (dk_at dksX3_plan_8 9 rfl rfl)
theorem dX3_plan_198 : decode cX3_plan 198 = .ok (.istore 5, 2) := dk_54 5 (dk_at dksX3_plan_8 10 rfl rfl)
theorem dX3_plan_200 : decode cX3_plan 200 = .ok (.iload 5, 2) := dk_21 5 (dk_at dksX3_plan_8 12 rfl rfl)
theorem dX3_plan_202 : decode cX3_plan 202 = .ok (.ifCond .eq 28, 3) := dk_153 0 28 (dk_at dksX3_plan_8 14 rfl rfl)
theorem dX3_plan_205 : decode cX3_plan 205 = .ok (.aload_n 0, 1) := dk_42 (dk_at dksX3_plan_8 17 rfl rfl)
theorem dX3_plan_206 : decode cX3_plan 206 = .ok (.getfield 147, 3) := dk_180 0 147 (dk_at dksX3_plan_8 18 rfl rfl)
theorem dX3_plan_209 : decode cX3_plan 209 = .ok (.iload 4, 2) := dk_21 4 (dk_at dksX3_plan_8 21 rfl rfl)
theorem dX3_plan_211 : decode cX3_plan 211 = .ok (.iconst 1, 1) := dk_4 (dk_at dksX3_plan_8 23 rfl rfl)
theorem dX3_plan_212 : decode cX3_plan 212 = .ok (.iadd, 1) := dk_96 (dk_at dksX3_plan_9 0 rfl rfl)
theorem dX3_plan_213 : decode cX3_plan 213 = .ok (.if_icmp .le 10, 3) := dk_164 0 10 (dk_at dksX3_plan_9 1 rfl rfl)
theorem dX3_plan_216 : decode cX3_plan 216 = .ok (.aload_n 0, 1) := dk_42 (dk_at dksX3_plan_9 4 rfl rfl)
theorem dX3_plan_217 : decode cX3_plan 217 = .ok (.getfield 147, 3) := dk_180 0 147 (dk_at dksX3_plan_9 5 rfl rfl)
theorem dX3_plan_220 : decode cX3_plan 220 = .ok (.goto 30, 3) := dk_167 0 30 (dk_at dksX3_plan_9 8 rfl rfl)
theorem dX3_plan_223 : decode cX3_plan 223 = .ok (.iload 4, 2) := dk_21 4 (dk_at dksX3_plan_9 11 rfl rfl)
theorem dX3_plan_225 : decode cX3_plan 225 = .ok (.iconst 1, 1) := dk_4 (dk_at dksX3_plan_9 13 rfl rfl)
theorem dX3_plan_226 : decode cX3_plan 226 = .ok (.iadd, 1) := dk_96 (dk_at dksX3_plan_9 14 rfl rfl)
theorem dX3_plan_227 : decode cX3_plan 227 = .ok (.goto 23, 3) := dk_167 0 23 (dk_at dksX3_plan_9 15 rfl rfl)
theorem dX3_plan_230 : decode cX3_plan 230 = .ok (.aload_n 0, 1) := dk_42 (dk_at dksX3_plan_9 18 rfl rfl)
theorem dX3_plan_231 : decode cX3_plan 231 = .ok (.getfield 147, 3) := dk_180 0 147 (dk_at dksX3_plan_9 19 rfl rfl)
theorem dX3_plan_234 : decode cX3_plan 234 = .ok (.iload 4, 2) := dk_21 4 (dk_at dksX3_plan_9 22 rfl rfl)
theorem dX3_plan_236 : decode cX3_plan 236 = .ok (.if_icmp .le 10, 3) := dk_164 0 10 (dk_at dksX3_plan_10 0 rfl rfl)
theorem dX3_plan_239 : decode cX3_plan 239 = .ok (.aload_n 0, 1) := dk_42 (dk_at dksX3_plan_10 3 rfl rfl)
theorem dX3_plan_240 : decode cX3_plan 240 = .ok (.getfield 147, 3) := dk_180 0 147 (dk_at dksX3_plan_10 4 rfl rfl)
theorem dX3_plan_243 : decode cX3_plan 243 = .ok (.goto 5, 3) := dk_167 0 5 (dk_at dksX3_plan_10 7 rfl rfl)
theorem dX3_plan_246 : decode cX3_plan 246 = .ok (.iload 4, 2) := dk_21 4 (dk_at dksX3_plan_10 10 rfl rfl)
theorem dX3_plan_248 : decode cX3_plan 248 = .ok (.iconst 1, 1) := dk_4 (dk_at dksX3_plan_10 12 rfl rfl)
theorem dX3_plan_249 : decode cX3_plan 249 = .ok (.iadd, 1) := dk_96 (dk_at dksX3_plan_10 13 rfl rfl)
theorem dX3_plan_250 : decode cX3_plan 250 = .ok (.istore 6, 2) := dk_54 6 (dk_at dksX3_plan_10 14 rfl rfl)
theorem dX3_plan_252 : decode cX3_plan 252 = .ok (.aload_n 0, 1) := dk_42 (dk_at dksX3_plan_10 16 rfl rfl)
theorem dX3_plan_253 : decode cX3_plan 253 = .ok (.getfield 141, 3) := dk_180 0 141 (dk_at dksX3_plan_10 17 rfl rfl)
theorem dX3_plan_256 : decode cX3_plan 256 = .ok (.iload_n 2, 1) := dk_28 (dk_at dksX3_plan_10 20 rfl rfl)
theorem dX3_plan_257 : decode cX3_plan 257 = .ok (.iadd, 1) := dk_96 (dk_at dksX3_plan_10 21 rfl rfl)
theorem dX3_plan_258 : decode cX3_plan 258 = .ok (.bipush 99, 2) := dk_16 99 (dk_at dksX3_plan_10 22 rfl rfl)
theorem dX3_plan_260 : decode cX3_plan 260 = .ok (.if_icmp .gt 28, 3) := dk_163 0 28 (dk_at dksX3_plan_11 0 rfl rfl)
theorem dX3_plan_263 : decode cX3_plan 263 = .ok (.iload 6, 2) := dk_21 6 (dk_at dksX3_plan_11 3 rfl rfl)
theorem dX3_plan_265 : decode cX3_plan 265 = .ok (.bipush 20, 2) := dk_16 20 (dk_at dksX3_plan_11 5 rfl rfl)
theorem dX3_plan_267 : decode cX3_plan 267 = .ok (.if_icmp .le 29, 3) := dk_164 0 29 (dk_at dksX3_plan_11 7 rfl rfl)
theorem dX3_plan_270 : decode cX3_plan 270 = .ok (.iload 6, 2) := dk_21 6 (dk_at dksX3_plan_11 10 rfl rfl)
theorem dX3_plan_272 : decode cX3_plan 272 = .ok (.aload_n 0, 1) := dk_42 (dk_at dksX3_plan_11 12 rfl rfl)
theorem dX3_plan_273 : decode cX3_plan 273 = .ok (.getfield 147, 3) := dk_180 0 147 (dk_at dksX3_plan_11 13 rfl rfl)
theorem dX3_plan_276 : decode cX3_plan 276 = .ok (.if_icmp .gt 12, 3) := dk_163 0 12 (dk_at dksX3_plan_11 16 rfl rfl)
theorem dX3_plan_279 : decode cX3_plan 279 = .ok (.aload_n 0, 1) := dk_42 (dk_at dksX3_plan_11 19 rfl rfl)
theorem dX3_plan_280 : decode cX3_plan 280 = .ok (.getfield 147, 3) := dk_180 0 147 (dk_at dksX3_plan_11 20 rfl rfl)
theorem dX3_plan_283 : decode cX3_plan 283 = .ok (.bipush 20, 2) := dk_16 20 (dk_at dksX3_plan_12 0 rfl rfl)
theorem dX3_plan_285 : decode cX3_plan 285 = .ok (.if_icmp .le 11, 3) := dk_164 0 11 (dk_at dksX3_plan_12 2 rfl rfl)
theorem dX3_plan_288 : decode cX3_plan 288 = .ok (.aload_n 0, 1) := dk_42 (dk_at dksX3_plan_12 5 rfl rfl)
theorem dX3_plan_289 : decode cX3_plan 289 = .ok (.bipush 7, 2) := dk_16 7 (dk_at dksX3_plan_12 6 rfl rfl)
theorem dX3_plan_291 : decode cX3_plan 291 = .ok (.iconst 2, 1) := dk_5 (dk_at dksX3_plan_12 8 rfl rfl)
theorem dX3_plan_292 : decode cX3_plan 292 = .ok (.invokevirtual 202, 3) := dk_182 0 202 (dk_at dksX3_plan_12 9 rfl rfl)
theorem dX3_plan_295 : decode cX3_plan 295 = .ok (.ireturn, 1) := dk_172 (dk_at dksX3_plan_12 12 rfl rfl)
theorem dX3_plan_296 : decode cX3_plan 296 = .ok (.aload_n 0, 1) := dk_42 (dk_at dksX3_plan_12 13 rfl rfl)
theorem dX3_plan_297 : decode cX3_plan 297 = .ok (.invokevirtual 208, 3) := dk_182 0 208 (dk_at dksX3_plan_12 14 rfl rfl)
theorem dX3_plan_300 : decode cX3_plan 300 = .ok (.iload 5, 2) := dk_21 5 (dk_at dksX3_plan_12 17 rfl rfl)
theorem dX3_plan_302 : decode cX3_plan 302 = .ok (.ifCond .ne 11, 3) := dk_154 0 11 (dk_at dksX3_plan_12 19 rfl rfl)
theorem dX3_plan_305 : decode cX3_plan 305 = .ok (.aload_n 0, 1) := dk_42 (dk_at dksX3_plan_12 22 rfl rfl)
theorem dX3_plan_306 : decode cX3_plan 306 = .ok (.bipush 7, 2) := dk_16 7 (dk_at dksX3_plan_13 0 rfl rfl)
theorem dX3_plan_308 : decode cX3_plan 308 = .ok (.iconst 0, 1) := dk_3 (dk_at dksX3_plan_13 2 rfl rfl)
theorem dX3_plan_309 : decode cX3_plan 309 = .ok (.iconst 1, 1) := dk_4 (dk_at dksX3_plan_13 3 rfl rfl)
theorem dX3_plan_310 : decode cX3_plan 310 = .ok (.invokevirtual 317, 3) := dk_182 1 61 (dk_at dksX3_plan_13 4 rfl rfl)
theorem dX3_plan_313 : decode cX3_plan 313 = .ok (.aload_n 0, 1) := dk_42 (dk_at dksX3_plan_13 7 rfl rfl)
theorem dX3_plan_314 : decode cX3_plan 314 = .ok (.iconst 0, 1) := dk_3 (dk_at dksX3_plan_13 8 rfl rfl)
theorem dX3_plan_315 : decode cX3_plan 315 = .ok (.iconst 2, 1) := dk_5 (dk_at dksX3_plan_13 9 rfl rfl)
theorem dX3_plan_316 : decode cX3_plan 316 = .ok (.aload_n 0, 1) := dk_42 (dk_at dksX3_plan_13 10 rfl rfl)
theorem dX3_plan_317 : decode cX3_plan 317 = .ok (.iconst 0, 1) := dk_3 (dk_at dksX3_plan_13 11 rfl rfl)
theorem dX3_plan_318 : decode cX3_plan 318 = .ok (.iconst 2, 1) := dk_5 (dk_at dksX3_plan_13 12 rfl rfl)
theorem dX3_plan_319 : decode cX3_plan 319 = .ok (.invokevirtual 133, 3) := dk_182 0 133 (dk_at dksX3_plan_13 13 rfl rfl)
theorem dX3_plan_322 : decode cX3_plan 322 = .ok (.iconst 1, 1) := dk_4 (dk_at dksX3_plan_13 16 rfl rfl)
theorem dX3_plan_323 : decode cX3_plan 323 = .ok (.iadd, 1) := dk_96 (dk_at dksX3_plan_13 17 rfl rfl)
theorem dX3_plan_324 : decode cX3_plan 324 = .ok (.invokevirtual 137, 3) := dk_182 0 137 (dk_at dksX3_plan_13 18 rfl rfl)
theorem dX3_plan_327 : decode cX3_plan 327 = .ok (.iload_n 3, 1) := dk_29 (dk_at dksX3_plan_13 21 rfl rfl)
theorem dX3_plan_328 : decode cX3_plan 328 = .ok (.iconst 1, 1) := dk_4 (dk_at dksX3_plan_13 22 rfl rfl)
theorem dX3_plan_329 : decode cX3_plan 329 = .ok (.if_icmp .le 11, 3) := dk_164 0 11 (dk_at dksX3_plan_14 0 rfl rfl)
theorem dX3_plan_332 : decode cX3_plan 332 = .ok (.aload_n 0, 1) := dk_42 (dk_at dksX3_plan_14 3 rfl rfl)
theorem dX3_plan_333 : decode cX3_plan 333 = .ok (.bipush 6, 2) := dk_16 6 (dk_at dksX3_plan_14 4 rfl rfl)
theorem dX3_plan_335 : decode cX3_plan 335 = .ok (.iconst 0, 1) := dk_3 (dk_at dksX3_plan_14 6 rfl rfl)
theorem dX3_plan_336 : decode cX3_plan 336 = .ok (.iload_n 3, 1) := dk_29 (dk_at dksX3_plan_14 7 rfl rfl)
theorem dX3_plan_337 : decode cX3_plan 337 = .ok (.invokevirtual 241, 3) := dk_182 0 241 (dk_at dksX3_plan_14 8 rfl rfl)
theorem dX3_plan_340 : decode cX3_plan 340 = .ok (.iconst 0, 1) := dk_3 (dk_at dksX3_plan_14 11 rfl rfl)
theorem dX3_plan_341 : decode cX3_plan 341 = .ok (.istore 7, 2) := dk_54 7 (dk_at dksX3_plan_14 12 rfl rfl)
theorem dX3_plan_343 : decode cX3_plan 343 = .ok (.iload 7, 2) := dk_21 7 (dk_at dksX3_plan_14 14 rfl rfl)
theorem dX3_plan_345 : decode cX3_plan 345 = .ok (.bipush 8, 2) := dk_16 8 (dk_at dksX3_plan_14 16 rfl rfl)
theorem dX3_plan_347 : decode cX3_plan 347 = .ok (.if_icmp .ge 35, 3) := dk_162 0 35 (dk_at dksX3_plan_14 18 rfl rfl)
theorem dX3_plan_350 : decode cX3_plan 350 = .ok (.aload_n 0, 1) := dk_42 (dk_at dksX3_plan_14 21 rfl rfl)
theorem dX3_plan_351 : decode cX3_plan 351 = .ok (.iload_n 1, 1) := dk_27 (dk_at dksX3_plan_14 22 rfl rfl)
theorem dX3_plan_352 : decode cX3_plan 352 = .ok (.iload 7, 2) := dk_21 7 (dk_at dksX3_plan_15 0 rfl rfl)
theorem dX3_plan_354 : decode cX3_plan 354 = .ok (.invokevirtual 382, 3) := dk_182 1 126 (dk_at dksX3_plan_15 2 rfl rfl)
theorem dX3_plan_357 : decode cX3_plan 357 = .ok (.ifCond .eq 19, 3) := dk_153 0 19 (dk_at dksX3_plan_15 5 rfl rfl)
theorem dX3_plan_360 : decode cX3_plan 360 = .ok (.aload_n 0, 1) := dk_42 (dk_at dksX3_plan_15 8 rfl rfl)
theorem dX3_plan_361 : decode cX3_plan 361 = .ok (.getfield 92, 3) := dk_180 0 92 (dk_at dksX3_plan_15 9 rfl rfl)
theorem dX3_plan_364 : decode cX3_plan 364 = .ok (.iload 7, 2) := dk_21 7 (dk_at dksX3_plan_15 12 rfl rfl)
theorem dX3_plan_366 : decode cX3_plan 366 = .ok (.iaload, 1) := dk_46 (dk_at dksX3_plan_15 14 rfl rfl)
theorem dX3_plan_367 : decode cX3_plan 367 = .ok (.ifCond .le 9, 3) := dk_158 0 9 (dk_at dksX3_plan_15 15 rfl rfl)
theorem dX3_plan_370 : decode cX3_plan 370 = .ok (.aload_n 0, 1) := dk_42 (dk_at dksX3_plan_15 18 rfl rfl)
theorem dX3_plan_371 : decode cX3_plan 371 = .ok (.iload 7, 2) := dk_21 7 (dk_at dksX3_plan_15 19 rfl rfl)
theorem dX3_plan_373 : decode cX3_plan 373 = .ok (.invokevirtual 410, 3) := dk_182 1 154 (dk_at dksX3_plan_15 21 rfl rfl)
theorem dX3_plan_376 : decode cX3_plan 376 = .ok (.iinc 7 1, 3) := dk_132 7 1 (dk_at dksX3_plan_16 0 rfl rfl)
theorem dX3_plan_379 : decode cX3_plan 379 = .ok (.goto (-36), 3) := dk_167 255 220 (dk_at dksX3_plan_16 3 rfl rfl)
theorem dX3_plan_382 : decode cX3_plan 382 = .ok (.aload_n 0, 1) := dk_42 (dk_at dksX3_plan_16 6 rfl rfl)
theorem dX3_plan_383 : decode cX3_plan 383 = .ok (.invokevirtual 211, 3) := dk_182 0 211 (dk_at dksX3_plan_16 7 rfl rfl)
theorem dX3_plan_386 : decode cX3_plan 386 = .ok (.iload_n 2, 1) := dk_28 (dk_at dksX3_plan_16 10 rfl rfl)
theorem dX3_plan_387 : decode cX3_plan 387 = .ok (.ireturn, 1) := dk_172 (dk_at dksX3_plan_16 11 rfl rfl)
abbrev cX3_finds : ByteArray := prog_24_method_98_code
def yX3_finds : MethodName := ⟨RX3, "finds", "(II)Z"⟩
def dkwX3_finds_18 : List UInt8 := [182, 1, 145, 4, 172]
abbrev dktX3_finds_18 : List UInt8 := dkwX3_finds_18 ++ []
def dkwX3_finds_17 : List UInt8 := [132, 9, 1, 167, 255, 168, 132, 8, 1, 167, 255, 152, 132, 7, 255, 167, 255, 138, 42, 27, 28, 21, 5]
abbrev dktX3_finds_17 : List UInt8 := dkwX3_finds_17 ++ dktX3_finds_18
def dkwX3_finds_16 : List UInt8 := [4, 96, 104, 42, 21, 8, 21, 9, 182, 1, 138, 96, 51, 153, 0, 7, 4, 167, 0, 4, 3, 84]
abbrev dktX3_finds_16 : List UInt8 := dkwX3_finds_16 ++ dktX3_finds_17
def dkwX3_finds_15 : List UInt8 := [21, 8, 42, 21, 8, 21, 9, 182, 1, 138, 182, 1, 141, 153, 0, 31, 42, 180, 0, 104, 16, 81, 21, 7]
abbrev dktX3_finds_15 : List UInt8 := dkwX3_finds_15 ++ dktX3_finds_16
def dkwX3_finds_14 : List UInt8 := [21, 8, 96, 42, 180, 0, 104, 16, 81, 21, 7, 104, 21, 8, 96, 51, 154, 0, 48, 42, 27, 28, 21, 7]
abbrev dktX3_finds_14 : List UInt8 := dkwX3_finds_14 ++ dktX3_finds_15
def dkwX3_finds_13 : List UInt8 := [21, 4, 162, 0, 103, 3, 54, 9, 21, 9, 8, 162, 0, 88, 42, 180, 0, 104, 16, 81, 21, 7, 104]
abbrev dktX3_finds_13 : List UInt8 := dkwX3_finds_13 ++ dktX3_finds_14
def dkwX3_finds_12 : List UInt8 := [21, 5, 104, 29, 96, 4, 84, 21, 5, 4, 100, 54, 7, 21, 7, 155, 0, 119, 3, 54, 8, 21, 8]
abbrev dktX3_finds_12 : List UInt8 := dkwX3_finds_12 ++ dktX3_finds_13
def dkwX3_finds_11 : List UInt8 := [162, 0, 17, 42, 180, 0, 104, 21, 7, 3, 84, 132, 7, 1, 167, 255, 237, 42, 180, 0, 104, 16, 81]
abbrev dktX3_finds_11 : List UInt8 := dkwX3_finds_11 ++ dktX3_finds_12
def dkwX3_finds_10 : List UInt8 := [132, 7, 255, 167, 255, 195, 21, 5, 2, 160, 0, 5, 3, 172, 3, 54, 7, 21, 7, 17, 6, 165]
abbrev dktX3_finds_10 : List UInt8 := dkwX3_finds_10 ++ dktX3_finds_11
def dkwX3_finds_9 : List UInt8 := [180, 0, 101, 16, 81, 21, 7, 104, 29, 96, 51, 153, 0, 8, 21, 7, 167, 0, 5, 21, 5, 54, 5]
abbrev dktX3_finds_9 : List UInt8 := dkwX3_finds_9 ++ dktX3_finds_10
def dkwX3_finds_8 : List UInt8 := [21, 7, 29, 182, 1, 135, 153, 0, 7, 4, 167, 0, 4, 3, 54, 6, 21, 6, 153, 0, 23, 42]
abbrev dktX3_finds_8 : List UInt8 := dkwX3_finds_8 ++ dktX3_finds_9
def dkwX3_finds_7 : List UInt8 := [2, 54, 5, 4, 54, 6, 16, 20, 54, 7, 21, 7, 155, 0, 62, 21, 6, 153, 0, 19, 42, 27, 28]
abbrev dktX3_finds_7 : List UInt8 := dkwX3_finds_7 ++ dktX3_finds_8
def dkwX3_finds_6 : List UInt8 := [182, 1, 138, 96, 4, 84, 132, 7, 1, 167, 255, 188, 132, 6, 1, 167, 255, 172, 132, 5, 1, 167, 255, 156]
abbrev dktX3_finds_6 : List UInt8 := dkwX3_finds_6 ++ dktX3_finds_7
def dkwX3_finds_5 : List UInt8 := [182, 1, 141, 153, 0, 25, 42, 180, 0, 101, 16, 81, 21, 5, 4, 96, 104, 42, 21, 6, 21, 7]
abbrev dktX3_finds_5 : List UInt8 := dkwX3_finds_5 ++ dktX3_finds_6
def dkwX3_finds_4 : List UInt8 := [104, 21, 6, 96, 51, 153, 0, 52, 42, 27, 28, 21, 5, 21, 6, 42, 21, 6, 21, 7, 182, 1, 138]
abbrev dktX3_finds_4 : List UInt8 := dkwX3_finds_4 ++ dktX3_finds_5
def dkwX3_finds_3 : List UInt8 := [21, 6, 21, 4, 162, 0, 83, 3, 54, 7, 21, 7, 8, 162, 0, 68, 42, 180, 0, 101, 16, 81, 21, 5]
abbrev dktX3_finds_3 : List UInt8 := dkwX3_finds_3 ++ dktX3_finds_4
def dkwX3_finds_2 : List UInt8 := [42, 180, 0, 101, 42, 28, 182, 1, 132, 4, 84, 3, 54, 5, 21, 5, 16, 20, 162, 0, 99, 3, 54, 6]
abbrev dktX3_finds_2 : List UInt8 := dkwX3_finds_2 ++ dktX3_finds_3
def dkwX3_finds_1 : List UInt8 := [54, 5, 21, 5, 17, 6, 165, 162, 0, 17, 42, 180, 0, 101, 21, 5, 3, 84, 132, 5, 1, 167, 255, 237]
abbrev dktX3_finds_1 : List UInt8 := dkwX3_finds_1 ++ dktX3_finds_2
def dkwX3_finds_0 : List UInt8 := [42, 27, 28, 182, 1, 123, 62, 42, 180, 0, 7, 3, 46, 42, 180, 0, 7, 4, 46, 104, 54, 4, 3]
abbrev dktX3_finds_0 : List UInt8 := dkwX3_finds_0 ++ dktX3_finds_1
theorem dksX3_finds_0 : cX3_finds.data.toList.drop 0 = dktX3_finds_0 := by decide +kernel
theorem dksX3_finds_1 : cX3_finds.data.toList.drop 23 = dktX3_finds_1 := dk_seg dksX3_finds_0 23 rfl rfl
theorem dksX3_finds_2 : cX3_finds.data.toList.drop 47 = dktX3_finds_2 := dk_seg dksX3_finds_1 24 rfl rfl
theorem dksX3_finds_3 : cX3_finds.data.toList.drop 71 = dktX3_finds_3 := dk_seg dksX3_finds_2 24 rfl rfl
theorem dksX3_finds_4 : cX3_finds.data.toList.drop 95 = dktX3_finds_4 := dk_seg dksX3_finds_3 24 rfl rfl
theorem dksX3_finds_5 : cX3_finds.data.toList.drop 118 = dktX3_finds_5 := dk_seg dksX3_finds_4 23 rfl rfl
theorem dksX3_finds_6 : cX3_finds.data.toList.drop 140 = dktX3_finds_6 := dk_seg dksX3_finds_5 22 rfl rfl
theorem dksX3_finds_7 : cX3_finds.data.toList.drop 164 = dktX3_finds_7 := dk_seg dksX3_finds_6 24 rfl rfl
theorem dksX3_finds_8 : cX3_finds.data.toList.drop 187 = dktX3_finds_8 := dk_seg dksX3_finds_7 23 rfl rfl
theorem dksX3_finds_9 : cX3_finds.data.toList.drop 209 = dktX3_finds_9 := dk_seg dksX3_finds_8 22 rfl rfl
theorem dksX3_finds_10 : cX3_finds.data.toList.drop 232 = dktX3_finds_10 := dk_seg dksX3_finds_9 23 rfl rfl
theorem dksX3_finds_11 : cX3_finds.data.toList.drop 254 = dktX3_finds_11 := dk_seg dksX3_finds_10 22 rfl rfl
theorem dksX3_finds_12 : cX3_finds.data.toList.drop 277 = dktX3_finds_12 := dk_seg dksX3_finds_11 23 rfl rfl
theorem dksX3_finds_13 : cX3_finds.data.toList.drop 300 = dktX3_finds_13 := dk_seg dksX3_finds_12 23 rfl rfl
theorem dksX3_finds_14 : cX3_finds.data.toList.drop 323 = dktX3_finds_14 := dk_seg dksX3_finds_13 23 rfl rfl
theorem dksX3_finds_15 : cX3_finds.data.toList.drop 347 = dktX3_finds_15 := dk_seg dksX3_finds_14 24 rfl rfl
theorem dksX3_finds_16 : cX3_finds.data.toList.drop 371 = dktX3_finds_16 := dk_seg dksX3_finds_15 24 rfl rfl
theorem dksX3_finds_17 : cX3_finds.data.toList.drop 393 = dktX3_finds_17 := dk_seg dksX3_finds_16 22 rfl rfl
theorem dksX3_finds_18 : cX3_finds.data.toList.drop 416 = dktX3_finds_18 := dk_seg dksX3_finds_17 23 rfl rfl
theorem dX3_finds_0 : decode cX3_finds 0 = .ok (.aload_n 0, 1) := dk_42 (dk_at dksX3_finds_0 0 rfl rfl)
theorem dX3_finds_1 : decode cX3_finds 1 = .ok (.iload_n 1, 1) := dk_27 (dk_at dksX3_finds_0 1 rfl rfl)
theorem dX3_finds_2 : decode cX3_finds 2 = .ok (.iload_n 2, 1) := dk_28 (dk_at dksX3_finds_0 2 rfl rfl)
theorem dX3_finds_3 : decode cX3_finds 3 = .ok (.invokevirtual 379, 3) := dk_182 1 123 (dk_at dksX3_finds_0 3 rfl rfl)
theorem dX3_finds_6 : decode cX3_finds 6 = .ok (.istore_n 3, 1) := dk_62 (dk_at dksX3_finds_0 6 rfl rfl)
theorem dX3_finds_7 : decode cX3_finds 7 = .ok (.aload_n 0, 1) := dk_42 (dk_at dksX3_finds_0 7 rfl rfl)
theorem dX3_finds_8 : decode cX3_finds 8 = .ok (.getfield 7, 3) := dk_180 0 7 (dk_at dksX3_finds_0 8 rfl rfl)
theorem dX3_finds_11 : decode cX3_finds 11 = .ok (.iconst 0, 1) := dk_3 (dk_at dksX3_finds_0 11 rfl rfl)
theorem dX3_finds_12 : decode cX3_finds 12 = .ok (.iaload, 1) := dk_46 (dk_at dksX3_finds_0 12 rfl rfl)
theorem dX3_finds_13 : decode cX3_finds 13 = .ok (.aload_n 0, 1) := dk_42 (dk_at dksX3_finds_0 13 rfl rfl)
theorem dX3_finds_14 : decode cX3_finds 14 = .ok (.getfield 7, 3) := dk_180 0 7 (dk_at dksX3_finds_0 14 rfl rfl)
theorem dX3_finds_17 : decode cX3_finds 17 = .ok (.iconst 1, 1) := dk_4 (dk_at dksX3_finds_0 17 rfl rfl)
theorem dX3_finds_18 : decode cX3_finds 18 = .ok (.iaload, 1) := dk_46 (dk_at dksX3_finds_0 18 rfl rfl)
theorem dX3_finds_19 : decode cX3_finds 19 = .ok (.imul, 1) := dk_104 (dk_at dksX3_finds_0 19 rfl rfl)
theorem dX3_finds_20 : decode cX3_finds 20 = .ok (.istore 4, 2) := dk_54 4 (dk_at dksX3_finds_0 20 rfl rfl)
theorem dX3_finds_22 : decode cX3_finds 22 = .ok (.iconst 0, 1) := dk_3 (dk_at dksX3_finds_0 22 rfl rfl)
theorem dX3_finds_23 : decode cX3_finds 23 = .ok (.istore 5, 2) := dk_54 5 (dk_at dksX3_finds_1 0 rfl rfl)
theorem dX3_finds_25 : decode cX3_finds 25 = .ok (.iload 5, 2) := dk_21 5 (dk_at dksX3_finds_1 2 rfl rfl)
theorem dX3_finds_27 : decode cX3_finds 27 = .ok (.sipush 1701, 3) := dk_17 6 165 (dk_at dksX3_finds_1 4 rfl rfl)
theorem dX3_finds_30 : decode cX3_finds 30 = .ok (.if_icmp .ge 17, 3) := dk_162 0 17 (dk_at dksX3_finds_1 7 rfl rfl)
theorem dX3_finds_33 : decode cX3_finds 33 = .ok (.aload_n 0, 1) := dk_42 (dk_at dksX3_finds_1 10 rfl rfl)
theorem dX3_finds_34 : decode cX3_finds 34 = .ok (.getfield 101, 3) := dk_180 0 101 (dk_at dksX3_finds_1 11 rfl rfl)
theorem dX3_finds_37 : decode cX3_finds 37 = .ok (.iload 5, 2) := dk_21 5 (dk_at dksX3_finds_1 14 rfl rfl)
theorem dX3_finds_39 : decode cX3_finds 39 = .ok (.iconst 0, 1) := dk_3 (dk_at dksX3_finds_1 16 rfl rfl)
theorem dX3_finds_40 : decode cX3_finds 40 = .ok (.bastore, 1) := dk_84 (dk_at dksX3_finds_1 17 rfl rfl)
theorem dX3_finds_41 : decode cX3_finds 41 = .ok (.iinc 5 1, 3) := dk_132 5 1 (dk_at dksX3_finds_1 18 rfl rfl)
theorem dX3_finds_44 : decode cX3_finds 44 = .ok (.goto (-19), 3) := dk_167 255 237 (dk_at dksX3_finds_1 21 rfl rfl)
theorem dX3_finds_47 : decode cX3_finds 47 = .ok (.aload_n 0, 1) := dk_42 (dk_at dksX3_finds_2 0 rfl rfl)
theorem dX3_finds_48 : decode cX3_finds 48 = .ok (.getfield 101, 3) := dk_180 0 101 (dk_at dksX3_finds_2 1 rfl rfl)
theorem dX3_finds_51 : decode cX3_finds 51 = .ok (.aload_n 0, 1) := dk_42 (dk_at dksX3_finds_2 4 rfl rfl)
theorem dX3_finds_52 : decode cX3_finds 52 = .ok (.iload_n 2, 1) := dk_28 (dk_at dksX3_finds_2 5 rfl rfl)
theorem dX3_finds_53 : decode cX3_finds 53 = .ok (.invokevirtual 388, 3) := dk_182 1 132 (dk_at dksX3_finds_2 6 rfl rfl)
theorem dX3_finds_56 : decode cX3_finds 56 = .ok (.iconst 1, 1) := dk_4 (dk_at dksX3_finds_2 9 rfl rfl)
theorem dX3_finds_57 : decode cX3_finds 57 = .ok (.bastore, 1) := dk_84 (dk_at dksX3_finds_2 10 rfl rfl)
theorem dX3_finds_58 : decode cX3_finds 58 = .ok (.iconst 0, 1) := dk_3 (dk_at dksX3_finds_2 11 rfl rfl)
theorem dX3_finds_59 : decode cX3_finds 59 = .ok (.istore 5, 2) := dk_54 5 (dk_at dksX3_finds_2 12 rfl rfl)
theorem dX3_finds_61 : decode cX3_finds 61 = .ok (.iload 5, 2) := dk_21 5 (dk_at dksX3_finds_2 14 rfl rfl)
theorem dX3_finds_63 : decode cX3_finds 63 = .ok (.bipush 20, 2) := dk_16 20 (dk_at dksX3_finds_2 16 rfl rfl)
theorem dX3_finds_65 : decode cX3_finds 65 = .ok (.if_icmp .ge 99, 3) := dk_162 0 99 (dk_at dksX3_finds_2 18 rfl rfl)
theorem dX3_finds_68 : decode cX3_finds 68 = .ok (.iconst 0, 1) := dk_3 (dk_at dksX3_finds_2 21 rfl rfl)
theorem dX3_finds_69 : decode cX3_finds 69 = .ok (.istore 6, 2) := dk_54 6 (dk_at dksX3_finds_2 22 rfl rfl)
theorem dX3_finds_71 : decode cX3_finds 71 = .ok (.iload 6, 2) := dk_21 6 (dk_at dksX3_finds_3 0 rfl rfl)
theorem dX3_finds_73 : decode cX3_finds 73 = .ok (.iload 4, 2) := dk_21 4 (dk_at dksX3_finds_3 2 rfl rfl)
theorem dX3_finds_75 : decode cX3_finds 75 = .ok (.if_icmp .ge 83, 3) := dk_162 0 83 (dk_at dksX3_finds_3 4 rfl rfl)
theorem dX3_finds_78 : decode cX3_finds 78 = .ok (.iconst 0, 1) := dk_3 (dk_at dksX3_finds_3 7 rfl rfl)
theorem dX3_finds_79 : decode cX3_finds 79 = .ok (.istore 7, 2) := dk_54 7 (dk_at dksX3_finds_3 8 rfl rfl)
theorem dX3_finds_81 : decode cX3_finds 81 = .ok (.iload 7, 2) := dk_21 7 (dk_at dksX3_finds_3 10 rfl rfl)
theorem dX3_finds_83 : decode cX3_finds 83 = .ok (.iconst 5, 1) := dk_8 (dk_at dksX3_finds_3 12 rfl rfl)
theorem dX3_finds_84 : decode cX3_finds 84 = .ok (.if_icmp .ge 68, 3) := dk_162 0 68 (dk_at dksX3_finds_3 13 rfl rfl)
theorem dX3_finds_87 : decode cX3_finds 87 = .ok (.aload_n 0, 1) := dk_42 (dk_at dksX3_finds_3 16 rfl rfl)
theorem dX3_finds_88 : decode cX3_finds 88 = .ok (.getfield 101, 3) := dk_180 0 101 (dk_at dksX3_finds_3 17 rfl rfl)
theorem dX3_finds_91 : decode cX3_finds 91 = .ok (.bipush 81, 2) := dk_16 81 (dk_at dksX3_finds_3 20 rfl rfl)
theorem dX3_finds_93 : decode cX3_finds 93 = .ok (.iload 5, 2) := dk_21 5 (dk_at dksX3_finds_3 22 rfl rfl)
theorem dX3_finds_95 : decode cX3_finds 95 = .ok (.imul, 1) := dk_104 (dk_at dksX3_finds_4 0 rfl rfl)
theorem dX3_finds_96 : decode cX3_finds 96 = .ok (.iload 6, 2) := dk_21 6 (dk_at dksX3_finds_4 1 rfl rfl)
theorem dX3_finds_98 : decode cX3_finds 98 = .ok (.iadd, 1) := dk_96 (dk_at dksX3_finds_4 3 rfl rfl)
theorem dX3_finds_99 : decode cX3_finds 99 = .ok (.baload, 1) := dk_51 (dk_at dksX3_finds_4 4 rfl rfl)
theorem dX3_finds_100 : decode cX3_finds 100 = .ok (.ifCond .eq 52, 3) := dk_153 0 52 (dk_at dksX3_finds_4 5 rfl rfl)
theorem dX3_finds_103 : decode cX3_finds 103 = .ok (.aload_n 0, 1) := dk_42 (dk_at dksX3_finds_4 8 rfl rfl)
theorem dX3_finds_104 : decode cX3_finds 104 = .ok (.iload_n 1, 1) := dk_27 (dk_at dksX3_finds_4 9 rfl rfl)
theorem dX3_finds_105 : decode cX3_finds 105 = .ok (.iload_n 2, 1) := dk_28 (dk_at dksX3_finds_4 10 rfl rfl)
theorem dX3_finds_106 : decode cX3_finds 106 = .ok (.iload 5, 2) := dk_21 5 (dk_at dksX3_finds_4 11 rfl rfl)
theorem dX3_finds_108 : decode cX3_finds 108 = .ok (.iload 6, 2) := dk_21 6 (dk_at dksX3_finds_4 13 rfl rfl)
theorem dX3_finds_110 : decode cX3_finds 110 = .ok (.aload_n 0, 1) := dk_42 (dk_at dksX3_finds_4 15 rfl rfl)
theorem dX3_finds_111 : decode cX3_finds 111 = .ok (.iload 6, 2) := dk_21 6 (dk_at dksX3_finds_4 16 rfl rfl)
theorem dX3_finds_113 : decode cX3_finds 113 = .ok (.iload 7, 2) := dk_21 7 (dk_at dksX3_finds_4 18 rfl rfl)
theorem dX3_finds_115 : decode cX3_finds 115 = .ok (.invokevirtual 394, 3) := dk_182 1 138 (dk_at dksX3_finds_4 20 rfl rfl)
theorem dX3_finds_118 : decode cX3_finds 118 = .ok (.invokevirtual 397, 3) := dk_182 1 141 (dk_at dksX3_finds_5 0 rfl rfl)
theorem dX3_finds_121 : decode cX3_finds 121 = .ok (.ifCond .eq 25, 3) := dk_153 0 25 (dk_at dksX3_finds_5 3 rfl rfl)
theorem dX3_finds_124 : decode cX3_finds 124 = .ok (.aload_n 0, 1) := dk_42 (dk_at dksX3_finds_5 6 rfl rfl)
theorem dX3_finds_125 : decode cX3_finds 125 = .ok (.getfield 101, 3) := dk_180 0 101 (dk_at dksX3_finds_5 7 rfl rfl)
theorem dX3_finds_128 : decode cX3_finds 128 = .ok (.bipush 81, 2) := dk_16 81 (dk_at dksX3_finds_5 10 rfl rfl)
theorem dX3_finds_130 : decode cX3_finds 130 = .ok (.iload 5, 2) := dk_21 5 (dk_at dksX3_finds_5 12 rfl rfl)
theorem dX3_finds_132 : decode cX3_finds 132 = .ok (.iconst 1, 1) := dk_4 (dk_at dksX3_finds_5 14 rfl rfl)
theorem dX3_finds_133 : decode cX3_finds 133 = .ok (.iadd, 1) := dk_96 (dk_at dksX3_finds_5 15 rfl rfl)
theorem dX3_finds_134 : decode cX3_finds 134 = .ok (.imul, 1) := dk_104 (dk_at dksX3_finds_5 16 rfl rfl)
theorem dX3_finds_135 : decode cX3_finds 135 = .ok (.aload_n 0, 1) := dk_42 (dk_at dksX3_finds_5 17 rfl rfl)
theorem dX3_finds_136 : decode cX3_finds 136 = .ok (.iload 6, 2) := dk_21 6 (dk_at dksX3_finds_5 18 rfl rfl)
theorem dX3_finds_138 : decode cX3_finds 138 = .ok (.iload 7, 2) := dk_21 7 (dk_at dksX3_finds_5 20 rfl rfl)
theorem dX3_finds_140 : decode cX3_finds 140 = .ok (.invokevirtual 394, 3) := dk_182 1 138 (dk_at dksX3_finds_6 0 rfl rfl)
theorem dX3_finds_143 : decode cX3_finds 143 = .ok (.iadd, 1) := dk_96 (dk_at dksX3_finds_6 3 rfl rfl)
theorem dX3_finds_144 : decode cX3_finds 144 = .ok (.iconst 1, 1) := dk_4 (dk_at dksX3_finds_6 4 rfl rfl)
theorem dX3_finds_145 : decode cX3_finds 145 = .ok (.bastore, 1) := dk_84 (dk_at dksX3_finds_6 5 rfl rfl)
theorem dX3_finds_146 : decode cX3_finds 146 = .ok (.iinc 7 1, 3) := dk_132 7 1 (dk_at dksX3_finds_6 6 rfl rfl)
theorem dX3_finds_149 : decode cX3_finds 149 = .ok (.goto (-68), 3) := dk_167 255 188 (dk_at dksX3_finds_6 9 rfl rfl)
theorem dX3_finds_152 : decode cX3_finds 152 = .ok (.iinc 6 1, 3) := dk_132 6 1 (dk_at dksX3_finds_6 12 rfl rfl)
theorem dX3_finds_155 : decode cX3_finds 155 = .ok (.goto (-84), 3) := dk_167 255 172 (dk_at dksX3_finds_6 15 rfl rfl)
theorem dX3_finds_158 : decode cX3_finds 158 = .ok (.iinc 5 1, 3) := dk_132 5 1 (dk_at dksX3_finds_6 18 rfl rfl)
theorem dX3_finds_161 : decode cX3_finds 161 = .ok (.goto (-100), 3) := dk_167 255 156 (dk_at dksX3_finds_6 21 rfl rfl)
theorem dX3_finds_164 : decode cX3_finds 164 = .ok (.iconst (-1), 1) := dk_2 (dk_at dksX3_finds_7 0 rfl rfl)
theorem dX3_finds_165 : decode cX3_finds 165 = .ok (.istore 5, 2) := dk_54 5 (dk_at dksX3_finds_7 1 rfl rfl)
theorem dX3_finds_167 : decode cX3_finds 167 = .ok (.iconst 1, 1) := dk_4 (dk_at dksX3_finds_7 3 rfl rfl)
theorem dX3_finds_168 : decode cX3_finds 168 = .ok (.istore 6, 2) := dk_54 6 (dk_at dksX3_finds_7 4 rfl rfl)
theorem dX3_finds_170 : decode cX3_finds 170 = .ok (.bipush 20, 2) := dk_16 20 (dk_at dksX3_finds_7 6 rfl rfl)
theorem dX3_finds_172 : decode cX3_finds 172 = .ok (.istore 7, 2) := dk_54 7 (dk_at dksX3_finds_7 8 rfl rfl)
theorem dX3_finds_174 : decode cX3_finds 174 = .ok (.iload 7, 2) := dk_21 7 (dk_at dksX3_finds_7 10 rfl rfl)
theorem dX3_finds_176 : decode cX3_finds 176 = .ok (.ifCond .lt 62, 3) := dk_155 0 62 (dk_at dksX3_finds_7 12 rfl rfl)
theorem dX3_finds_179 : decode cX3_finds 179 = .ok (.iload 6, 2) := dk_21 6 (dk_at dksX3_finds_7 15 rfl rfl)
theorem dX3_finds_181 : decode cX3_finds 181 = .ok (.ifCond .eq 19, 3) := dk_153 0 19 (dk_at dksX3_finds_7 17 rfl rfl)
theorem dX3_finds_184 : decode cX3_finds 184 = .ok (.aload_n 0, 1) := dk_42 (dk_at dksX3_finds_7 20 rfl rfl)
theorem dX3_finds_185 : decode cX3_finds 185 = .ok (.iload_n 1, 1) := dk_27 (dk_at dksX3_finds_7 21 rfl rfl)
theorem dX3_finds_186 : decode cX3_finds 186 = .ok (.iload_n 2, 1) := dk_28 (dk_at dksX3_finds_7 22 rfl rfl)
theorem dX3_finds_187 : decode cX3_finds 187 = .ok (.iload 7, 2) := dk_21 7 (dk_at dksX3_finds_8 0 rfl rfl)
theorem dX3_finds_189 : decode cX3_finds 189 = .ok (.iload_n 3, 1) := dk_29 (dk_at dksX3_finds_8 2 rfl rfl)
theorem dX3_finds_190 : decode cX3_finds 190 = .ok (.invokevirtual 391, 3) := dk_182 1 135 (dk_at dksX3_finds_8 3 rfl rfl)
theorem dX3_finds_193 : decode cX3_finds 193 = .ok (.ifCond .eq 7, 3) := dk_153 0 7 (dk_at dksX3_finds_8 6 rfl rfl)
theorem dX3_finds_196 : decode cX3_finds 196 = .ok (.iconst 1, 1) := dk_4 (dk_at dksX3_finds_8 9 rfl rfl)
theorem dX3_finds_197 : decode cX3_finds 197 = .ok (.goto 4, 3) := dk_167 0 4 (dk_at dksX3_finds_8 10 rfl rfl)
theorem dX3_finds_200 : decode cX3_finds 200 = .ok (.iconst 0, 1) := dk_3 (dk_at dksX3_finds_8 13 rfl rfl)
theorem dX3_finds_201 : decode cX3_finds 201 = .ok (.istore 6, 2) := dk_54 6 (dk_at dksX3_finds_8 14 rfl rfl)
theorem dX3_finds_203 : decode cX3_finds 203 = .ok (.iload 6, 2) := dk_21 6 (dk_at dksX3_finds_8 16 rfl rfl)
theorem dX3_finds_205 : decode cX3_finds 205 = .ok (.ifCond .eq 23, 3) := dk_153 0 23 (dk_at dksX3_finds_8 18 rfl rfl)
theorem dX3_finds_208 : decode cX3_finds 208 = .ok (.aload_n 0, 1) := dk_42 (dk_at dksX3_finds_8 21 rfl rfl)
theorem dX3_finds_209 : decode cX3_finds 209 = .ok (.getfield 101, 3) := dk_180 0 101 (dk_at dksX3_finds_9 0 rfl rfl)
theorem dX3_finds_212 : decode cX3_finds 212 = .ok (.bipush 81, 2) := dk_16 81 (dk_at dksX3_finds_9 3 rfl rfl)
theorem dX3_finds_214 : decode cX3_finds 214 = .ok (.iload 7, 2) := dk_21 7 (dk_at dksX3_finds_9 5 rfl rfl)
theorem dX3_finds_216 : decode cX3_finds 216 = .ok (.imul, 1) := dk_104 (dk_at dksX3_finds_9 7 rfl rfl)
theorem dX3_finds_217 : decode cX3_finds 217 = .ok (.iload_n 3, 1) := dk_29 (dk_at dksX3_finds_9 8 rfl rfl)
theorem dX3_finds_218 : decode cX3_finds 218 = .ok (.iadd, 1) := dk_96 (dk_at dksX3_finds_9 9 rfl rfl)
theorem dX3_finds_219 : decode cX3_finds 219 = .ok (.baload, 1) := dk_51 (dk_at dksX3_finds_9 10 rfl rfl)
theorem dX3_finds_220 : decode cX3_finds 220 = .ok (.ifCond .eq 8, 3) := dk_153 0 8 (dk_at dksX3_finds_9 11 rfl rfl)
theorem dX3_finds_223 : decode cX3_finds 223 = .ok (.iload 7, 2) := dk_21 7 (dk_at dksX3_finds_9 14 rfl rfl)
theorem dX3_finds_225 : decode cX3_finds 225 = .ok (.goto 5, 3) := dk_167 0 5 (dk_at dksX3_finds_9 16 rfl rfl)
theorem dX3_finds_228 : decode cX3_finds 228 = .ok (.iload 5, 2) := dk_21 5 (dk_at dksX3_finds_9 19 rfl rfl)
theorem dX3_finds_230 : decode cX3_finds 230 = .ok (.istore 5, 2) := dk_54 5 (dk_at dksX3_finds_9 21 rfl rfl)
theorem dX3_finds_232 : decode cX3_finds 232 = .ok (.iinc 7 (-1), 3) := dk_132 7 255 (dk_at dksX3_finds_10 0 rfl rfl)
theorem dX3_finds_235 : decode cX3_finds 235 = .ok (.goto (-61), 3) := dk_167 255 195 (dk_at dksX3_finds_10 3 rfl rfl)
theorem dX3_finds_238 : decode cX3_finds 238 = .ok (.iload 5, 2) := dk_21 5 (dk_at dksX3_finds_10 6 rfl rfl)
theorem dX3_finds_240 : decode cX3_finds 240 = .ok (.iconst (-1), 1) := dk_2 (dk_at dksX3_finds_10 8 rfl rfl)
theorem dX3_finds_241 : decode cX3_finds 241 = .ok (.if_icmp .ne 5, 3) := dk_160 0 5 (dk_at dksX3_finds_10 9 rfl rfl)
theorem dX3_finds_244 : decode cX3_finds 244 = .ok (.iconst 0, 1) := dk_3 (dk_at dksX3_finds_10 12 rfl rfl)
theorem dX3_finds_245 : decode cX3_finds 245 = .ok (.ireturn, 1) := dk_172 (dk_at dksX3_finds_10 13 rfl rfl)
theorem dX3_finds_246 : decode cX3_finds 246 = .ok (.iconst 0, 1) := dk_3 (dk_at dksX3_finds_10 14 rfl rfl)
theorem dX3_finds_247 : decode cX3_finds 247 = .ok (.istore 7, 2) := dk_54 7 (dk_at dksX3_finds_10 15 rfl rfl)
theorem dX3_finds_249 : decode cX3_finds 249 = .ok (.iload 7, 2) := dk_21 7 (dk_at dksX3_finds_10 17 rfl rfl)
theorem dX3_finds_251 : decode cX3_finds 251 = .ok (.sipush 1701, 3) := dk_17 6 165 (dk_at dksX3_finds_10 19 rfl rfl)
theorem dX3_finds_254 : decode cX3_finds 254 = .ok (.if_icmp .ge 17, 3) := dk_162 0 17 (dk_at dksX3_finds_11 0 rfl rfl)
theorem dX3_finds_257 : decode cX3_finds 257 = .ok (.aload_n 0, 1) := dk_42 (dk_at dksX3_finds_11 3 rfl rfl)
theorem dX3_finds_258 : decode cX3_finds 258 = .ok (.getfield 104, 3) := dk_180 0 104 (dk_at dksX3_finds_11 4 rfl rfl)
theorem dX3_finds_261 : decode cX3_finds 261 = .ok (.iload 7, 2) := dk_21 7 (dk_at dksX3_finds_11 7 rfl rfl)
theorem dX3_finds_263 : decode cX3_finds 263 = .ok (.iconst 0, 1) := dk_3 (dk_at dksX3_finds_11 9 rfl rfl)
theorem dX3_finds_264 : decode cX3_finds 264 = .ok (.bastore, 1) := dk_84 (dk_at dksX3_finds_11 10 rfl rfl)
theorem dX3_finds_265 : decode cX3_finds 265 = .ok (.iinc 7 1, 3) := dk_132 7 1 (dk_at dksX3_finds_11 11 rfl rfl)
theorem dX3_finds_268 : decode cX3_finds 268 = .ok (.goto (-19), 3) := dk_167 255 237 (dk_at dksX3_finds_11 14 rfl rfl)
theorem dX3_finds_271 : decode cX3_finds 271 = .ok (.aload_n 0, 1) := dk_42 (dk_at dksX3_finds_11 17 rfl rfl)
theorem dX3_finds_272 : decode cX3_finds 272 = .ok (.getfield 104, 3) := dk_180 0 104 (dk_at dksX3_finds_11 18 rfl rfl)
theorem dX3_finds_275 : decode cX3_finds 275 = .ok (.bipush 81, 2) := dk_16 81 (dk_at dksX3_finds_11 21 rfl rfl)
theorem dX3_finds_277 : decode cX3_finds 277 = .ok (.iload 5, 2) := dk_21 5 (dk_at dksX3_finds_12 0 rfl rfl)
theorem dX3_finds_279 : decode cX3_finds 279 = .ok (.imul, 1) := dk_104 (dk_at dksX3_finds_12 2 rfl rfl)
theorem dX3_finds_280 : decode cX3_finds 280 = .ok (.iload_n 3, 1) := dk_29 (dk_at dksX3_finds_12 3 rfl rfl)
theorem dX3_finds_281 : decode cX3_finds 281 = .ok (.iadd, 1) := dk_96 (dk_at dksX3_finds_12 4 rfl rfl)
theorem dX3_finds_282 : decode cX3_finds 282 = .ok (.iconst 1, 1) := dk_4 (dk_at dksX3_finds_12 5 rfl rfl)
theorem dX3_finds_283 : decode cX3_finds 283 = .ok (.bastore, 1) := dk_84 (dk_at dksX3_finds_12 6 rfl rfl)
theorem dX3_finds_284 : decode cX3_finds 284 = .ok (.iload 5, 2) := dk_21 5 (dk_at dksX3_finds_12 7 rfl rfl)
theorem dX3_finds_286 : decode cX3_finds 286 = .ok (.iconst 1, 1) := dk_4 (dk_at dksX3_finds_12 9 rfl rfl)
theorem dX3_finds_287 : decode cX3_finds 287 = .ok (.isub, 1) := dk_100 (dk_at dksX3_finds_12 10 rfl rfl)
theorem dX3_finds_288 : decode cX3_finds 288 = .ok (.istore 7, 2) := dk_54 7 (dk_at dksX3_finds_12 11 rfl rfl)
theorem dX3_finds_290 : decode cX3_finds 290 = .ok (.iload 7, 2) := dk_21 7 (dk_at dksX3_finds_12 13 rfl rfl)
theorem dX3_finds_292 : decode cX3_finds 292 = .ok (.ifCond .lt 119, 3) := dk_155 0 119 (dk_at dksX3_finds_12 15 rfl rfl)
theorem dX3_finds_295 : decode cX3_finds 295 = .ok (.iconst 0, 1) := dk_3 (dk_at dksX3_finds_12 18 rfl rfl)
theorem dX3_finds_296 : decode cX3_finds 296 = .ok (.istore 8, 2) := dk_54 8 (dk_at dksX3_finds_12 19 rfl rfl)
theorem dX3_finds_298 : decode cX3_finds 298 = .ok (.iload 8, 2) := dk_21 8 (dk_at dksX3_finds_12 21 rfl rfl)
theorem dX3_finds_300 : decode cX3_finds 300 = .ok (.iload 4, 2) := dk_21 4 (dk_at dksX3_finds_13 0 rfl rfl)
theorem dX3_finds_302 : decode cX3_finds 302 = .ok (.if_icmp .ge 103, 3) := dk_162 0 103 (dk_at dksX3_finds_13 2 rfl rfl)
theorem dX3_finds_305 : decode cX3_finds 305 = .ok (.iconst 0, 1) := dk_3 (dk_at dksX3_finds_13 5 rfl rfl)
theorem dX3_finds_306 : decode cX3_finds 306 = .ok (.istore 9, 2) := dk_54 9 (dk_at dksX3_finds_13 6 rfl rfl)
theorem dX3_finds_308 : decode cX3_finds 308 = .ok (.iload 9, 2) := dk_21 9 (dk_at dksX3_finds_13 8 rfl rfl)
theorem dX3_finds_310 : decode cX3_finds 310 = .ok (.iconst 5, 1) := dk_8 (dk_at dksX3_finds_13 10 rfl rfl)
theorem dX3_finds_311 : decode cX3_finds 311 = .ok (.if_icmp .ge 88, 3) := dk_162 0 88 (dk_at dksX3_finds_13 11 rfl rfl)
theorem dX3_finds_314 : decode cX3_finds 314 = .ok (.aload_n 0, 1) := dk_42 (dk_at dksX3_finds_13 14 rfl rfl)
theorem dX3_finds_315 : decode cX3_finds 315 = .ok (.getfield 104, 3) := dk_180 0 104 (dk_at dksX3_finds_13 15 rfl rfl)
theorem dX3_finds_318 : decode cX3_finds 318 = .ok (.bipush 81, 2) := dk_16 81 (dk_at dksX3_finds_13 18 rfl rfl)
theorem dX3_finds_320 : decode cX3_finds 320 = .ok (.iload 7, 2) := dk_21 7 (dk_at dksX3_finds_13 20 rfl rfl)
theorem dX3_finds_322 : decode cX3_finds 322 = .ok (.imul, 1) := dk_104 (dk_at dksX3_finds_13 22 rfl rfl)
theorem dX3_finds_323 : decode cX3_finds 323 = .ok (.iload 8, 2) := dk_21 8 (dk_at dksX3_finds_14 0 rfl rfl)
theorem dX3_finds_325 : decode cX3_finds 325 = .ok (.iadd, 1) := dk_96 (dk_at dksX3_finds_14 2 rfl rfl)
theorem dX3_finds_326 : decode cX3_finds 326 = .ok (.aload_n 0, 1) := dk_42 (dk_at dksX3_finds_14 3 rfl rfl)
theorem dX3_finds_327 : decode cX3_finds 327 = .ok (.getfield 104, 3) := dk_180 0 104 (dk_at dksX3_finds_14 4 rfl rfl)
theorem dX3_finds_330 : decode cX3_finds 330 = .ok (.bipush 81, 2) := dk_16 81 (dk_at dksX3_finds_14 7 rfl rfl)
theorem dX3_finds_332 : decode cX3_finds 332 = .ok (.iload 7, 2) := dk_21 7 (dk_at dksX3_finds_14 9 rfl rfl)
theorem dX3_finds_334 : decode cX3_finds 334 = .ok (.imul, 1) := dk_104 (dk_at dksX3_finds_14 11 rfl rfl)
theorem dX3_finds_335 : decode cX3_finds 335 = .ok (.iload 8, 2) := dk_21 8 (dk_at dksX3_finds_14 12 rfl rfl)
theorem dX3_finds_337 : decode cX3_finds 337 = .ok (.iadd, 1) := dk_96 (dk_at dksX3_finds_14 14 rfl rfl)
theorem dX3_finds_338 : decode cX3_finds 338 = .ok (.baload, 1) := dk_51 (dk_at dksX3_finds_14 15 rfl rfl)
theorem dX3_finds_339 : decode cX3_finds 339 = .ok (.ifCond .ne 48, 3) := dk_154 0 48 (dk_at dksX3_finds_14 16 rfl rfl)
theorem dX3_finds_342 : decode cX3_finds 342 = .ok (.aload_n 0, 1) := dk_42 (dk_at dksX3_finds_14 19 rfl rfl)
theorem dX3_finds_343 : decode cX3_finds 343 = .ok (.iload_n 1, 1) := dk_27 (dk_at dksX3_finds_14 20 rfl rfl)
theorem dX3_finds_344 : decode cX3_finds 344 = .ok (.iload_n 2, 1) := dk_28 (dk_at dksX3_finds_14 21 rfl rfl)
theorem dX3_finds_345 : decode cX3_finds 345 = .ok (.iload 7, 2) := dk_21 7 (dk_at dksX3_finds_14 22 rfl rfl)
theorem dX3_finds_347 : decode cX3_finds 347 = .ok (.iload 8, 2) := dk_21 8 (dk_at dksX3_finds_15 0 rfl rfl)
theorem dX3_finds_349 : decode cX3_finds 349 = .ok (.aload_n 0, 1) := dk_42 (dk_at dksX3_finds_15 2 rfl rfl)
theorem dX3_finds_350 : decode cX3_finds 350 = .ok (.iload 8, 2) := dk_21 8 (dk_at dksX3_finds_15 3 rfl rfl)
theorem dX3_finds_352 : decode cX3_finds 352 = .ok (.iload 9, 2) := dk_21 9 (dk_at dksX3_finds_15 5 rfl rfl)
theorem dX3_finds_354 : decode cX3_finds 354 = .ok (.invokevirtual 394, 3) := dk_182 1 138 (dk_at dksX3_finds_15 7 rfl rfl)
theorem dX3_finds_357 : decode cX3_finds 357 = .ok (.invokevirtual 397, 3) := dk_182 1 141 (dk_at dksX3_finds_15 10 rfl rfl)
theorem dX3_finds_360 : decode cX3_finds 360 = .ok (.ifCond .eq 31, 3) := dk_153 0 31 (dk_at dksX3_finds_15 13 rfl rfl)
theorem dX3_finds_363 : decode cX3_finds 363 = .ok (.aload_n 0, 1) := dk_42 (dk_at dksX3_finds_15 16 rfl rfl)
theorem dX3_finds_364 : decode cX3_finds 364 = .ok (.getfield 104, 3) := dk_180 0 104 (dk_at dksX3_finds_15 17 rfl rfl)
theorem dX3_finds_367 : decode cX3_finds 367 = .ok (.bipush 81, 2) := dk_16 81 (dk_at dksX3_finds_15 20 rfl rfl)
theorem dX3_finds_369 : decode cX3_finds 369 = .ok (.iload 7, 2) := dk_21 7 (dk_at dksX3_finds_15 22 rfl rfl)
theorem dX3_finds_371 : decode cX3_finds 371 = .ok (.iconst 1, 1) := dk_4 (dk_at dksX3_finds_16 0 rfl rfl)
theorem dX3_finds_372 : decode cX3_finds 372 = .ok (.iadd, 1) := dk_96 (dk_at dksX3_finds_16 1 rfl rfl)
theorem dX3_finds_373 : decode cX3_finds 373 = .ok (.imul, 1) := dk_104 (dk_at dksX3_finds_16 2 rfl rfl)
theorem dX3_finds_374 : decode cX3_finds 374 = .ok (.aload_n 0, 1) := dk_42 (dk_at dksX3_finds_16 3 rfl rfl)
theorem dX3_finds_375 : decode cX3_finds 375 = .ok (.iload 8, 2) := dk_21 8 (dk_at dksX3_finds_16 4 rfl rfl)
theorem dX3_finds_377 : decode cX3_finds 377 = .ok (.iload 9, 2) := dk_21 9 (dk_at dksX3_finds_16 6 rfl rfl)
theorem dX3_finds_379 : decode cX3_finds 379 = .ok (.invokevirtual 394, 3) := dk_182 1 138 (dk_at dksX3_finds_16 8 rfl rfl)
theorem dX3_finds_382 : decode cX3_finds 382 = .ok (.iadd, 1) := dk_96 (dk_at dksX3_finds_16 11 rfl rfl)
theorem dX3_finds_383 : decode cX3_finds 383 = .ok (.baload, 1) := dk_51 (dk_at dksX3_finds_16 12 rfl rfl)
theorem dX3_finds_384 : decode cX3_finds 384 = .ok (.ifCond .eq 7, 3) := dk_153 0 7 (dk_at dksX3_finds_16 13 rfl rfl)
theorem dX3_finds_387 : decode cX3_finds 387 = .ok (.iconst 1, 1) := dk_4 (dk_at dksX3_finds_16 16 rfl rfl)
theorem dX3_finds_388 : decode cX3_finds 388 = .ok (.goto 4, 3) := dk_167 0 4 (dk_at dksX3_finds_16 17 rfl rfl)
theorem dX3_finds_391 : decode cX3_finds 391 = .ok (.iconst 0, 1) := dk_3 (dk_at dksX3_finds_16 20 rfl rfl)
theorem dX3_finds_392 : decode cX3_finds 392 = .ok (.bastore, 1) := dk_84 (dk_at dksX3_finds_16 21 rfl rfl)
theorem dX3_finds_393 : decode cX3_finds 393 = .ok (.iinc 9 1, 3) := dk_132 9 1 (dk_at dksX3_finds_17 0 rfl rfl)
theorem dX3_finds_396 : decode cX3_finds 396 = .ok (.goto (-88), 3) := dk_167 255 168 (dk_at dksX3_finds_17 3 rfl rfl)
theorem dX3_finds_399 : decode cX3_finds 399 = .ok (.iinc 8 1, 3) := dk_132 8 1 (dk_at dksX3_finds_17 6 rfl rfl)
theorem dX3_finds_402 : decode cX3_finds 402 = .ok (.goto (-104), 3) := dk_167 255 152 (dk_at dksX3_finds_17 9 rfl rfl)
theorem dX3_finds_405 : decode cX3_finds 405 = .ok (.iinc 7 (-1), 3) := dk_132 7 255 (dk_at dksX3_finds_17 12 rfl rfl)
theorem dX3_finds_408 : decode cX3_finds 408 = .ok (.goto (-118), 3) := dk_167 255 138 (dk_at dksX3_finds_17 15 rfl rfl)
theorem dX3_finds_411 : decode cX3_finds 411 = .ok (.aload_n 0, 1) := dk_42 (dk_at dksX3_finds_17 18 rfl rfl)
theorem dX3_finds_412 : decode cX3_finds 412 = .ok (.iload_n 1, 1) := dk_27 (dk_at dksX3_finds_17 19 rfl rfl)
theorem dX3_finds_413 : decode cX3_finds 413 = .ok (.iload_n 2, 1) := dk_28 (dk_at dksX3_finds_17 20 rfl rfl)
theorem dX3_finds_414 : decode cX3_finds 414 = .ok (.iload 5, 2) := dk_21 5 (dk_at dksX3_finds_17 21 rfl rfl)
theorem dX3_finds_416 : decode cX3_finds 416 = .ok (.invokevirtual 401, 3) := dk_182 1 145 (dk_at dksX3_finds_18 0 rfl rfl)
theorem dX3_finds_419 : decode cX3_finds 419 = .ok (.iconst 1, 1) := dk_4 (dk_at dksX3_finds_18 3 rfl rfl)
theorem dX3_finds_420 : decode cX3_finds 420 = .ok (.ireturn, 1) := dk_172 (dk_at dksX3_finds_18 4 rfl rfl)
abbrev cX3_endOf : ByteArray := prog_24_method_93_code
def yX3_endOf : MethodName := ⟨RX3, "endOf", "(I)I"⟩
def dkwX3_endOf_1 : List UInt8 := [180, 0, 83, 16, 100, 27, 104, 42, 180, 0, 141, 96, 46, 96, 172]
abbrev dktX3_endOf_1 : List UInt8 := dkwX3_endOf_1 ++ []
def dkwX3_endOf_0 : List UInt8 := [42, 180, 0, 86, 16, 100, 27, 104, 42, 180, 0, 141, 96, 46, 42, 180, 0, 7, 3, 46, 104, 42]
abbrev dktX3_endOf_0 : List UInt8 := dkwX3_endOf_0 ++ dktX3_endOf_1
theorem dksX3_endOf_0 : cX3_endOf.data.toList.drop 0 = dktX3_endOf_0 := by decide +kernel
theorem dksX3_endOf_1 : cX3_endOf.data.toList.drop 22 = dktX3_endOf_1 := dk_seg dksX3_endOf_0 22 rfl rfl
theorem dX3_endOf_0 : decode cX3_endOf 0 = .ok (.aload_n 0, 1) := dk_42 (dk_at dksX3_endOf_0 0 rfl rfl)
theorem dX3_endOf_1 : decode cX3_endOf 1 = .ok (.getfield 86, 3) := dk_180 0 86 (dk_at dksX3_endOf_0 1 rfl rfl)
theorem dX3_endOf_4 : decode cX3_endOf 4 = .ok (.bipush 100, 2) := dk_16 100 (dk_at dksX3_endOf_0 4 rfl rfl)
theorem dX3_endOf_6 : decode cX3_endOf 6 = .ok (.iload_n 1, 1) := dk_27 (dk_at dksX3_endOf_0 6 rfl rfl)
theorem dX3_endOf_7 : decode cX3_endOf 7 = .ok (.imul, 1) := dk_104 (dk_at dksX3_endOf_0 7 rfl rfl)
theorem dX3_endOf_8 : decode cX3_endOf 8 = .ok (.aload_n 0, 1) := dk_42 (dk_at dksX3_endOf_0 8 rfl rfl)
theorem dX3_endOf_9 : decode cX3_endOf 9 = .ok (.getfield 141, 3) := dk_180 0 141 (dk_at dksX3_endOf_0 9 rfl rfl)
theorem dX3_endOf_12 : decode cX3_endOf 12 = .ok (.iadd, 1) := dk_96 (dk_at dksX3_endOf_0 12 rfl rfl)
theorem dX3_endOf_13 : decode cX3_endOf 13 = .ok (.iaload, 1) := dk_46 (dk_at dksX3_endOf_0 13 rfl rfl)
theorem dX3_endOf_14 : decode cX3_endOf 14 = .ok (.aload_n 0, 1) := dk_42 (dk_at dksX3_endOf_0 14 rfl rfl)
theorem dX3_endOf_15 : decode cX3_endOf 15 = .ok (.getfield 7, 3) := dk_180 0 7 (dk_at dksX3_endOf_0 15 rfl rfl)
theorem dX3_endOf_18 : decode cX3_endOf 18 = .ok (.iconst 0, 1) := dk_3 (dk_at dksX3_endOf_0 18 rfl rfl)
theorem dX3_endOf_19 : decode cX3_endOf 19 = .ok (.iaload, 1) := dk_46 (dk_at dksX3_endOf_0 19 rfl rfl)
theorem dX3_endOf_20 : decode cX3_endOf 20 = .ok (.imul, 1) := dk_104 (dk_at dksX3_endOf_0 20 rfl rfl)
theorem dX3_endOf_21 : decode cX3_endOf 21 = .ok (.aload_n 0, 1) := dk_42 (dk_at dksX3_endOf_0 21 rfl rfl)
theorem dX3_endOf_22 : decode cX3_endOf 22 = .ok (.getfield 83, 3) := dk_180 0 83 (dk_at dksX3_endOf_1 0 rfl rfl)
theorem dX3_endOf_25 : decode cX3_endOf 25 = .ok (.bipush 100, 2) := dk_16 100 (dk_at dksX3_endOf_1 3 rfl rfl)
theorem dX3_endOf_27 : decode cX3_endOf 27 = .ok (.iload_n 1, 1) := dk_27 (dk_at dksX3_endOf_1 5 rfl rfl)
theorem dX3_endOf_28 : decode cX3_endOf 28 = .ok (.imul, 1) := dk_104 (dk_at dksX3_endOf_1 6 rfl rfl)
theorem dX3_endOf_29 : decode cX3_endOf 29 = .ok (.aload_n 0, 1) := dk_42 (dk_at dksX3_endOf_1 7 rfl rfl)
theorem dX3_endOf_30 : decode cX3_endOf 30 = .ok (.getfield 141, 3) := dk_180 0 141 (dk_at dksX3_endOf_1 8 rfl rfl)
theorem dX3_endOf_33 : decode cX3_endOf 33 = .ok (.iadd, 1) := dk_96 (dk_at dksX3_endOf_1 11 rfl rfl)
theorem dX3_endOf_34 : decode cX3_endOf 34 = .ok (.iaload, 1) := dk_46 (dk_at dksX3_endOf_1 12 rfl rfl)
theorem dX3_endOf_35 : decode cX3_endOf 35 = .ok (.iadd, 1) := dk_96 (dk_at dksX3_endOf_1 13 rfl rfl)
theorem dX3_endOf_36 : decode cX3_endOf 36 = .ok (.ireturn, 1) := dk_172 (dk_at dksX3_endOf_1 14 rfl rfl)
abbrev cX3_stepped : ByteArray := prog_24_method_94_code
def yX3_stepped : MethodName := ⟨RX3, "stepped", "(II)I"⟩
def dkwX3_stepped_3 : List UInt8 := [29, 96, 167, 0, 4, 2, 172]
abbrev dktX3_stepped_3 : List UInt8 := dkwX3_stepped_3 ++ []
def dkwX3_stepped_2 : List UInt8 := [3, 42, 180, 0, 7, 4, 46, 4, 100, 184, 0, 121, 153, 0, 17, 21, 4, 42, 180, 0, 7, 3, 46, 104]
abbrev dktX3_stepped_2 : List UInt8 := dkwX3_stepped_2 ++ dktX3_stepped_3
def dkwX3_stepped_1 : List UInt8 := [184, 1, 70, 96, 54, 4, 29, 3, 42, 180, 0, 7, 3, 46, 4, 100, 184, 0, 121, 153, 0, 34, 21, 4]
abbrev dktX3_stepped_1 : List UInt8 := dkwX3_stepped_1 ++ dktX3_stepped_2
def dkwX3_stepped_0 : List UInt8 := [27, 42, 180, 0, 7, 3, 46, 112, 28, 184, 1, 73, 96, 62, 27, 42, 180, 0, 7, 3, 46, 108, 28]
abbrev dktX3_stepped_0 : List UInt8 := dkwX3_stepped_0 ++ dktX3_stepped_1
theorem dksX3_stepped_0 : cX3_stepped.data.toList.drop 0 = dktX3_stepped_0 := by decide +kernel
theorem dksX3_stepped_1 : cX3_stepped.data.toList.drop 23 = dktX3_stepped_1 := dk_seg dksX3_stepped_0 23 rfl rfl
theorem dksX3_stepped_2 : cX3_stepped.data.toList.drop 47 = dktX3_stepped_2 := dk_seg dksX3_stepped_1 24 rfl rfl
theorem dksX3_stepped_3 : cX3_stepped.data.toList.drop 71 = dktX3_stepped_3 := dk_seg dksX3_stepped_2 24 rfl rfl
theorem dX3_stepped_0 : decode cX3_stepped 0 = .ok (.iload_n 1, 1) := dk_27 (dk_at dksX3_stepped_0 0 rfl rfl)
theorem dX3_stepped_1 : decode cX3_stepped 1 = .ok (.aload_n 0, 1) := dk_42 (dk_at dksX3_stepped_0 1 rfl rfl)
theorem dX3_stepped_2 : decode cX3_stepped 2 = .ok (.getfield 7, 3) := dk_180 0 7 (dk_at dksX3_stepped_0 2 rfl rfl)
theorem dX3_stepped_5 : decode cX3_stepped 5 = .ok (.iconst 0, 1) := dk_3 (dk_at dksX3_stepped_0 5 rfl rfl)
theorem dX3_stepped_6 : decode cX3_stepped 6 = .ok (.iaload, 1) := dk_46 (dk_at dksX3_stepped_0 6 rfl rfl)
theorem dX3_stepped_7 : decode cX3_stepped 7 = .ok (.irem, 1) := dk_112 (dk_at dksX3_stepped_0 7 rfl rfl)
theorem dX3_stepped_8 : decode cX3_stepped 8 = .ok (.iload_n 2, 1) := dk_28 (dk_at dksX3_stepped_0 8 rfl rfl)
theorem dX3_stepped_9 : decode cX3_stepped 9 = .ok (.invokestatic 329, 3) := dk_184 1 73 (dk_at dksX3_stepped_0 9 rfl rfl)
theorem dX3_stepped_12 : decode cX3_stepped 12 = .ok (.iadd, 1) := dk_96 (dk_at dksX3_stepped_0 12 rfl rfl)
theorem dX3_stepped_13 : decode cX3_stepped 13 = .ok (.istore_n 3, 1) := dk_62 (dk_at dksX3_stepped_0 13 rfl rfl)
theorem dX3_stepped_14 : decode cX3_stepped 14 = .ok (.iload_n 1, 1) := dk_27 (dk_at dksX3_stepped_0 14 rfl rfl)
theorem dX3_stepped_15 : decode cX3_stepped 15 = .ok (.aload_n 0, 1) := dk_42 (dk_at dksX3_stepped_0 15 rfl rfl)
theorem dX3_stepped_16 : decode cX3_stepped 16 = .ok (.getfield 7, 3) := dk_180 0 7 (dk_at dksX3_stepped_0 16 rfl rfl)
theorem dX3_stepped_19 : decode cX3_stepped 19 = .ok (.iconst 0, 1) := dk_3 (dk_at dksX3_stepped_0 19 rfl rfl)
theorem dX3_stepped_20 : decode cX3_stepped 20 = .ok (.iaload, 1) := dk_46 (dk_at dksX3_stepped_0 20 rfl rfl)
theorem dX3_stepped_21 : decode cX3_stepped 21 = .ok (.idiv, 1) := dk_108 (dk_at dksX3_stepped_0 21 rfl rfl)
theorem dX3_stepped_22 : decode cX3_stepped 22 = .ok (.iload_n 2, 1) := dk_28 (dk_at dksX3_stepped_0 22 rfl rfl)
theorem dX3_stepped_23 : decode cX3_stepped 23 = .ok (.invokestatic 326, 3) := dk_184 1 70 (dk_at dksX3_stepped_1 0 rfl rfl)
theorem dX3_stepped_26 : decode cX3_stepped 26 = .ok (.iadd, 1) := dk_96 (dk_at dksX3_stepped_1 3 rfl rfl)
theorem dX3_stepped_27 : decode cX3_stepped 27 = .ok (.istore 4, 2) := dk_54 4 (dk_at dksX3_stepped_1 4 rfl rfl)
theorem dX3_stepped_29 : decode cX3_stepped 29 = .ok (.iload_n 3, 1) := dk_29 (dk_at dksX3_stepped_1 6 rfl rfl)
theorem dX3_stepped_30 : decode cX3_stepped 30 = .ok (.iconst 0, 1) := dk_3 (dk_at dksX3_stepped_1 7 rfl rfl)
theorem dX3_stepped_31 : decode cX3_stepped 31 = .ok (.aload_n 0, 1) := dk_42 (dk_at dksX3_stepped_1 8 rfl rfl)
theorem dX3_stepped_32 : decode cX3_stepped 32 = .ok (.getfield 7, 3) := dk_180 0 7 (dk_at dksX3_stepped_1 9 rfl rfl)
theorem dX3_stepped_35 : decode cX3_stepped 35 = .ok (.iconst 0, 1) := dk_3 (dk_at dksX3_stepped_1 12 rfl rfl)
theorem dX3_stepped_36 : decode cX3_stepped 36 = .ok (.iaload, 1) := dk_46 (dk_at dksX3_stepped_1 13 rfl rfl)
theorem dX3_stepped_37 : decode cX3_stepped 37 = .ok (.iconst 1, 1) := dk_4 (dk_at dksX3_stepped_1 14 rfl rfl)
theorem dX3_stepped_38 : decode cX3_stepped 38 = .ok (.isub, 1) := dk_100 (dk_at dksX3_stepped_1 15 rfl rfl)
theorem dX3_stepped_39 : decode cX3_stepped 39 = .ok (.invokestatic 121, 3) := dk_184 0 121 (dk_at dksX3_stepped_1 16 rfl rfl)
theorem dX3_stepped_42 : decode cX3_stepped 42 = .ok (.ifCond .eq 34, 3) := dk_153 0 34 (dk_at dksX3_stepped_1 19 rfl rfl)
theorem dX3_stepped_45 : decode cX3_stepped 45 = .ok (.iload 4, 2) := dk_21 4 (dk_at dksX3_stepped_1 22 rfl rfl)
theorem dX3_stepped_47 : decode cX3_stepped 47 = .ok (.iconst 0, 1) := dk_3 (dk_at dksX3_stepped_2 0 rfl rfl)
theorem dX3_stepped_48 : decode cX3_stepped 48 = .ok (.aload_n 0, 1) := dk_42 (dk_at dksX3_stepped_2 1 rfl rfl)
theorem dX3_stepped_49 : decode cX3_stepped 49 = .ok (.getfield 7, 3) := dk_180 0 7 (dk_at dksX3_stepped_2 2 rfl rfl)
theorem dX3_stepped_52 : decode cX3_stepped 52 = .ok (.iconst 1, 1) := dk_4 (dk_at dksX3_stepped_2 5 rfl rfl)
theorem dX3_stepped_53 : decode cX3_stepped 53 = .ok (.iaload, 1) := dk_46 (dk_at dksX3_stepped_2 6 rfl rfl)
theorem dX3_stepped_54 : decode cX3_stepped 54 = .ok (.iconst 1, 1) := dk_4 (dk_at dksX3_stepped_2 7 rfl rfl)
theorem dX3_stepped_55 : decode cX3_stepped 55 = .ok (.isub, 1) := dk_100 (dk_at dksX3_stepped_2 8 rfl rfl)
theorem dX3_stepped_56 : decode cX3_stepped 56 = .ok (.invokestatic 121, 3) := dk_184 0 121 (dk_at dksX3_stepped_2 9 rfl rfl)
theorem dX3_stepped_59 : decode cX3_stepped 59 = .ok (.ifCond .eq 17, 3) := dk_153 0 17 (dk_at dksX3_stepped_2 12 rfl rfl)
theorem dX3_stepped_62 : decode cX3_stepped 62 = .ok (.iload 4, 2) := dk_21 4 (dk_at dksX3_stepped_2 15 rfl rfl)
theorem dX3_stepped_64 : decode cX3_stepped 64 = .ok (.aload_n 0, 1) := dk_42 (dk_at dksX3_stepped_2 17 rfl rfl)
theorem dX3_stepped_65 : decode cX3_stepped 65 = .ok (.getfield 7, 3) := dk_180 0 7 (dk_at dksX3_stepped_2 18 rfl rfl)
theorem dX3_stepped_68 : decode cX3_stepped 68 = .ok (.iconst 0, 1) := dk_3 (dk_at dksX3_stepped_2 21 rfl rfl)
theorem dX3_stepped_69 : decode cX3_stepped 69 = .ok (.iaload, 1) := dk_46 (dk_at dksX3_stepped_2 22 rfl rfl)
theorem dX3_stepped_70 : decode cX3_stepped 70 = .ok (.imul, 1) := dk_104 (dk_at dksX3_stepped_2 23 rfl rfl)
theorem dX3_stepped_71 : decode cX3_stepped 71 = .ok (.iload_n 3, 1) := dk_29 (dk_at dksX3_stepped_3 0 rfl rfl)
theorem dX3_stepped_72 : decode cX3_stepped 72 = .ok (.iadd, 1) := dk_96 (dk_at dksX3_stepped_3 1 rfl rfl)
theorem dX3_stepped_73 : decode cX3_stepped 73 = .ok (.goto 4, 3) := dk_167 0 4 (dk_at dksX3_stepped_3 2 rfl rfl)
theorem dX3_stepped_76 : decode cX3_stepped 76 = .ok (.iconst (-1), 1) := dk_2 (dk_at dksX3_stepped_3 5 rfl rfl)
theorem dX3_stepped_77 : decode cX3_stepped 77 = .ok (.ireturn, 1) := dk_172 (dk_at dksX3_stepped_3 6 rfl rfl)
abbrev cX3_canStep : ByteArray := prog_24_method_96_code
def yX3_canStep : MethodName := ⟨RX3, "canStep", "(IIIII)Z"⟩
def dkwX3_canStep_4 : List UInt8 := [21, 4, 159, 0, 7, 4, 167, 0, 4, 3, 54, 6, 132, 7, 1, 167, 255, 175, 21, 6, 172]
abbrev dktX3_canStep_4 : List UInt8 := dkwX3_canStep_4 ++ []
def dkwX3_canStep_3 : List UInt8 := [104, 29, 96, 46, 21, 5, 160, 0, 22, 42, 180, 0, 89, 16, 21, 21, 7, 104, 29, 96, 4, 96, 46]
abbrev dktX3_canStep_3 : List UInt8 := dkwX3_canStep_3 ++ dktX3_canStep_4
def dkwX3_canStep_2 : List UInt8 := [180, 0, 98, 21, 7, 51, 153, 0, 46, 21, 4, 21, 5, 159, 0, 39, 42, 180, 0, 89, 16, 21, 21, 7]
abbrev dktX3_canStep_2 : List UInt8 := dkwX3_canStep_2 ++ dktX3_canStep_3
def dkwX3_canStep_1 : List UInt8 := [54, 6, 3, 54, 7, 21, 7, 16, 8, 162, 0, 80, 21, 6, 153, 0, 66, 21, 7, 28, 159, 0, 56, 42]
abbrev dktX3_canStep_1 : List UInt8 := dkwX3_canStep_1 ++ dktX3_canStep_2
def dkwX3_canStep_0 : List UInt8 := [21, 5, 2, 159, 0, 17, 42, 27, 28, 29, 4, 96, 21, 5, 182, 1, 135, 154, 0, 5, 3, 172, 4]
abbrev dktX3_canStep_0 : List UInt8 := dkwX3_canStep_0 ++ dktX3_canStep_1
theorem dksX3_canStep_0 : cX3_canStep.data.toList.drop 0 = dktX3_canStep_0 := by decide +kernel
theorem dksX3_canStep_1 : cX3_canStep.data.toList.drop 23 = dktX3_canStep_1 := dk_seg dksX3_canStep_0 23 rfl rfl
theorem dksX3_canStep_2 : cX3_canStep.data.toList.drop 47 = dktX3_canStep_2 := dk_seg dksX3_canStep_1 24 rfl rfl
theorem dksX3_canStep_3 : cX3_canStep.data.toList.drop 71 = dktX3_canStep_3 := dk_seg dksX3_canStep_2 24 rfl rfl
theorem dksX3_canStep_4 : cX3_canStep.data.toList.drop 94 = dktX3_canStep_4 := dk_seg dksX3_canStep_3 23 rfl rfl
theorem dX3_canStep_0 : decode cX3_canStep 0 = .ok (.iload 5, 2) := dk_21 5 (dk_at dksX3_canStep_0 0 rfl rfl)
theorem dX3_canStep_2 : decode cX3_canStep 2 = .ok (.iconst (-1), 1) := dk_2 (dk_at dksX3_canStep_0 2 rfl rfl)
theorem dX3_canStep_3 : decode cX3_canStep 3 = .ok (.if_icmp .eq 17, 3) := dk_159 0 17 (dk_at dksX3_canStep_0 3 rfl rfl)
theorem dX3_canStep_6 : decode cX3_canStep 6 = .ok (.aload_n 0, 1) := dk_42 (dk_at dksX3_canStep_0 6 rfl rfl)
theorem dX3_canStep_7 : decode cX3_canStep 7 = .ok (.iload_n 1, 1) := dk_27 (dk_at dksX3_canStep_0 7 rfl rfl)
theorem dX3_canStep_8 : decode cX3_canStep 8 = .ok (.iload_n 2, 1) := dk_28 (dk_at dksX3_canStep_0 8 rfl rfl)
theorem dX3_canStep_9 : decode cX3_canStep 9 = .ok (.iload_n 3, 1) := dk_29 (dk_at dksX3_canStep_0 9 rfl rfl)
theorem dX3_canStep_10 : decode cX3_canStep 10 = .ok (.iconst 1, 1) := dk_4 (dk_at dksX3_canStep_0 10 rfl rfl)
theorem dX3_canStep_11 : decode cX3_canStep 11 = .ok (.iadd, 1) := dk_96 (dk_at dksX3_canStep_0 11 rfl rfl)
theorem dX3_canStep_12 : decode cX3_canStep 12 = .ok (.iload 5, 2) := dk_21 5 (dk_at dksX3_canStep_0 12 rfl rfl)
theorem dX3_canStep_14 : decode cX3_canStep 14 = .ok (.invokevirtual 391, 3) := dk_182 1 135 (dk_at dksX3_canStep_0 14 rfl rfl)
theorem dX3_canStep_17 : decode cX3_canStep 17 = .ok (.ifCond .ne 5, 3) := dk_154 0 5 (dk_at dksX3_canStep_0 17 rfl rfl)
theorem dX3_canStep_20 : decode cX3_canStep 20 = .ok (.iconst 0, 1) := dk_3 (dk_at dksX3_canStep_0 20 rfl rfl)
theorem dX3_canStep_21 : decode cX3_canStep 21 = .ok (.ireturn, 1) := dk_172 (dk_at dksX3_canStep_0 21 rfl rfl)
theorem dX3_canStep_22 : decode cX3_canStep 22 = .ok (.iconst 1, 1) := dk_4 (dk_at dksX3_canStep_0 22 rfl rfl)
theorem dX3_canStep_23 : decode cX3_canStep 23 = .ok (.istore 6, 2) := dk_54 6 (dk_at dksX3_canStep_1 0 rfl rfl)
theorem dX3_canStep_25 : decode cX3_canStep 25 = .ok (.iconst 0, 1) := dk_3 (dk_at dksX3_canStep_1 2 rfl rfl)
theorem dX3_canStep_26 : decode cX3_canStep 26 = .ok (.istore 7, 2) := dk_54 7 (dk_at dksX3_canStep_1 3 rfl rfl)
theorem dX3_canStep_28 : decode cX3_canStep 28 = .ok (.iload 7, 2) := dk_21 7 (dk_at dksX3_canStep_1 5 rfl rfl)
theorem dX3_canStep_30 : decode cX3_canStep 30 = .ok (.bipush 8, 2) := dk_16 8 (dk_at dksX3_canStep_1 7 rfl rfl)
theorem dX3_canStep_32 : decode cX3_canStep 32 = .ok (.if_icmp .ge 80, 3) := dk_162 0 80 (dk_at dksX3_canStep_1 9 rfl rfl)
theorem dX3_canStep_35 : decode cX3_canStep 35 = .ok (.iload 6, 2) := dk_21 6 (dk_at dksX3_canStep_1 12 rfl rfl)
theorem dX3_canStep_37 : decode cX3_canStep 37 = .ok (.ifCond .eq 66, 3) := dk_153 0 66 (dk_at dksX3_canStep_1 14 rfl rfl)
theorem dX3_canStep_40 : decode cX3_canStep 40 = .ok (.iload 7, 2) := dk_21 7 (dk_at dksX3_canStep_1 17 rfl rfl)
theorem dX3_canStep_42 : decode cX3_canStep 42 = .ok (.iload_n 2, 1) := dk_28 (dk_at dksX3_canStep_1 19 rfl rfl)
theorem dX3_canStep_43 : decode cX3_canStep 43 = .ok (.if_icmp .eq 56, 3) := dk_159 0 56 (dk_at dksX3_canStep_1 20 rfl rfl)
theorem dX3_canStep_46 : decode cX3_canStep 46 = .ok (.aload_n 0, 1) := dk_42 (dk_at dksX3_canStep_1 23 rfl rfl)
theorem dX3_canStep_47 : decode cX3_canStep 47 = .ok (.getfield 98, 3) := dk_180 0 98 (dk_at dksX3_canStep_2 0 rfl rfl)
theorem dX3_canStep_50 : decode cX3_canStep 50 = .ok (.iload 7, 2) := dk_21 7 (dk_at dksX3_canStep_2 3 rfl rfl)
theorem dX3_canStep_52 : decode cX3_canStep 52 = .ok (.baload, 1) := dk_51 (dk_at dksX3_canStep_2 5 rfl rfl)
theorem dX3_canStep_53 : decode cX3_canStep 53 = .ok (.ifCond .eq 46, 3) := dk_153 0 46 (dk_at dksX3_canStep_2 6 rfl rfl)
theorem dX3_canStep_56 : decode cX3_canStep 56 = .ok (.iload 4, 2) := dk_21 4 (dk_at dksX3_canStep_2 9 rfl rfl)
theorem dX3_canStep_58 : decode cX3_canStep 58 = .ok (.iload 5, 2) := dk_21 5 (dk_at dksX3_canStep_2 11 rfl rfl)
theorem dX3_canStep_60 : decode cX3_canStep 60 = .ok (.if_icmp .eq 39, 3) := dk_159 0 39 (dk_at dksX3_canStep_2 13 rfl rfl)
theorem dX3_canStep_63 : decode cX3_canStep 63 = .ok (.aload_n 0, 1) := dk_42 (dk_at dksX3_canStep_2 16 rfl rfl)
theorem dX3_canStep_64 : decode cX3_canStep 64 = .ok (.getfield 89, 3) := dk_180 0 89 (dk_at dksX3_canStep_2 17 rfl rfl)
theorem dX3_canStep_67 : decode cX3_canStep 67 = .ok (.bipush 21, 2) := dk_16 21 (dk_at dksX3_canStep_2 20 rfl rfl)
theorem dX3_canStep_69 : decode cX3_canStep 69 = .ok (.iload 7, 2) := dk_21 7 (dk_at dksX3_canStep_2 22 rfl rfl)
theorem dX3_canStep_71 : decode cX3_canStep 71 = .ok (.imul, 1) := dk_104 (dk_at dksX3_canStep_3 0 rfl rfl)
theorem dX3_canStep_72 : decode cX3_canStep 72 = .ok (.iload_n 3, 1) := dk_29 (dk_at dksX3_canStep_3 1 rfl rfl)
theorem dX3_canStep_73 : decode cX3_canStep 73 = .ok (.iadd, 1) := dk_96 (dk_at dksX3_canStep_3 2 rfl rfl)
theorem dX3_canStep_74 : decode cX3_canStep 74 = .ok (.iaload, 1) := dk_46 (dk_at dksX3_canStep_3 3 rfl rfl)
theorem dX3_canStep_75 : decode cX3_canStep 75 = .ok (.iload 5, 2) := dk_21 5 (dk_at dksX3_canStep_3 4 rfl rfl)
theorem dX3_canStep_77 : decode cX3_canStep 77 = .ok (.if_icmp .ne 22, 3) := dk_160 0 22 (dk_at dksX3_canStep_3 6 rfl rfl)
theorem dX3_canStep_80 : decode cX3_canStep 80 = .ok (.aload_n 0, 1) := dk_42 (dk_at dksX3_canStep_3 9 rfl rfl)
theorem dX3_canStep_81 : decode cX3_canStep 81 = .ok (.getfield 89, 3) := dk_180 0 89 (dk_at dksX3_canStep_3 10 rfl rfl)
theorem dX3_canStep_84 : decode cX3_canStep 84 = .ok (.bipush 21, 2) := dk_16 21 (dk_at dksX3_canStep_3 13 rfl rfl)
theorem dX3_canStep_86 : decode cX3_canStep 86 = .ok (.iload 7, 2) := dk_21 7 (dk_at dksX3_canStep_3 15 rfl rfl)
theorem dX3_canStep_88 : decode cX3_canStep 88 = .ok (.imul, 1) := dk_104 (dk_at dksX3_canStep_3 17 rfl rfl)
theorem dX3_canStep_89 : decode cX3_canStep 89 = .ok (.iload_n 3, 1) := dk_29 (dk_at dksX3_canStep_3 18 rfl rfl)
theorem dX3_canStep_90 : decode cX3_canStep 90 = .ok (.iadd, 1) := dk_96 (dk_at dksX3_canStep_3 19 rfl rfl)
theorem dX3_canStep_91 : decode cX3_canStep 91 = .ok (.iconst 1, 1) := dk_4 (dk_at dksX3_canStep_3 20 rfl rfl)
theorem dX3_canStep_92 : decode cX3_canStep 92 = .ok (.iadd, 1) := dk_96 (dk_at dksX3_canStep_3 21 rfl rfl)
theorem dX3_canStep_93 : decode cX3_canStep 93 = .ok (.iaload, 1) := dk_46 (dk_at dksX3_canStep_3 22 rfl rfl)
theorem dX3_canStep_94 : decode cX3_canStep 94 = .ok (.iload 4, 2) := dk_21 4 (dk_at dksX3_canStep_4 0 rfl rfl)
theorem dX3_canStep_96 : decode cX3_canStep 96 = .ok (.if_icmp .eq 7, 3) := dk_159 0 7 (dk_at dksX3_canStep_4 2 rfl rfl)
theorem dX3_canStep_99 : decode cX3_canStep 99 = .ok (.iconst 1, 1) := dk_4 (dk_at dksX3_canStep_4 5 rfl rfl)
theorem dX3_canStep_100 : decode cX3_canStep 100 = .ok (.goto 4, 3) := dk_167 0 4 (dk_at dksX3_canStep_4 6 rfl rfl)
theorem dX3_canStep_103 : decode cX3_canStep 103 = .ok (.iconst 0, 1) := dk_3 (dk_at dksX3_canStep_4 9 rfl rfl)
theorem dX3_canStep_104 : decode cX3_canStep 104 = .ok (.istore 6, 2) := dk_54 6 (dk_at dksX3_canStep_4 10 rfl rfl)
theorem dX3_canStep_106 : decode cX3_canStep 106 = .ok (.iinc 7 1, 3) := dk_132 7 1 (dk_at dksX3_canStep_4 12 rfl rfl)
theorem dX3_canStep_109 : decode cX3_canStep 109 = .ok (.goto (-81), 3) := dk_167 255 175 (dk_at dksX3_canStep_4 15 rfl rfl)
theorem dX3_canStep_112 : decode cX3_canStep 112 = .ok (.iload 6, 2) := dk_21 6 (dk_at dksX3_canStep_4 18 rfl rfl)
theorem dX3_canStep_114 : decode cX3_canStep 114 = .ok (.ireturn, 1) := dk_172 (dk_at dksX3_canStep_4 20 rfl rfl)
abbrev cX3_isFree : ByteArray := prog_24_method_95_code
def yX3_isFree : MethodName := ⟨RX3, "isFree", "(IIII)Z"⟩
def dkwX3_isFree_4 : List UInt8 := [132, 6, 1, 167, 255, 168, 21, 5, 172]
abbrev dktX3_isFree_4 : List UInt8 := dkwX3_isFree_4 ++ []
def dkwX3_isFree_3 : List UInt8 := [159, 0, 21, 167, 0, 14, 42, 21, 6, 182, 1, 132, 21, 4, 159, 0, 7, 4, 167, 0, 4, 3, 54, 5]
abbrev dktX3_isFree_3 : List UInt8 := dkwX3_isFree_3 ++ dktX3_isFree_4
def dkwX3_isFree_2 : List UInt8 := [180, 0, 98, 21, 6, 51, 153, 0, 34, 42, 180, 0, 89, 16, 21, 21, 6, 104, 29, 96, 46, 21, 4]
abbrev dktX3_isFree_2 : List UInt8 := dkwX3_isFree_2 ++ dktX3_isFree_3
def dkwX3_isFree_1 : List UInt8 := [182, 1, 80, 153, 0, 66, 21, 5, 153, 0, 58, 42, 27, 21, 6, 182, 1, 126, 153, 0, 33, 42]
abbrev dktX3_isFree_1 : List UInt8 := dkwX3_isFree_1 ++ dktX3_isFree_2
def dkwX3_isFree_0 : List UInt8 := [4, 54, 5, 3, 54, 6, 21, 6, 16, 8, 162, 0, 87, 21, 6, 28, 159, 0, 75, 42, 21, 6]
abbrev dktX3_isFree_0 : List UInt8 := dkwX3_isFree_0 ++ dktX3_isFree_1
theorem dksX3_isFree_0 : cX3_isFree.data.toList.drop 0 = dktX3_isFree_0 := by decide +kernel
theorem dksX3_isFree_1 : cX3_isFree.data.toList.drop 22 = dktX3_isFree_1 := dk_seg dksX3_isFree_0 22 rfl rfl
theorem dksX3_isFree_2 : cX3_isFree.data.toList.drop 44 = dktX3_isFree_2 := dk_seg dksX3_isFree_1 22 rfl rfl
theorem dksX3_isFree_3 : cX3_isFree.data.toList.drop 67 = dktX3_isFree_3 := dk_seg dksX3_isFree_2 23 rfl rfl
theorem dksX3_isFree_4 : cX3_isFree.data.toList.drop 91 = dktX3_isFree_4 := dk_seg dksX3_isFree_3 24 rfl rfl
theorem dX3_isFree_0 : decode cX3_isFree 0 = .ok (.iconst 1, 1) := dk_4 (dk_at dksX3_isFree_0 0 rfl rfl)
theorem dX3_isFree_1 : decode cX3_isFree 1 = .ok (.istore 5, 2) := dk_54 5 (dk_at dksX3_isFree_0 1 rfl rfl)
theorem dX3_isFree_3 : decode cX3_isFree 3 = .ok (.iconst 0, 1) := dk_3 (dk_at dksX3_isFree_0 3 rfl rfl)
theorem dX3_isFree_4 : decode cX3_isFree 4 = .ok (.istore 6, 2) := dk_54 6 (dk_at dksX3_isFree_0 4 rfl rfl)
theorem dX3_isFree_6 : decode cX3_isFree 6 = .ok (.iload 6, 2) := dk_21 6 (dk_at dksX3_isFree_0 6 rfl rfl)
theorem dX3_isFree_8 : decode cX3_isFree 8 = .ok (.bipush 8, 2) := dk_16 8 (dk_at dksX3_isFree_0 8 rfl rfl)
theorem dX3_isFree_10 : decode cX3_isFree 10 = .ok (.if_icmp .ge 87, 3) := dk_162 0 87 (dk_at dksX3_isFree_0 10 rfl rfl)
theorem dX3_isFree_13 : decode cX3_isFree 13 = .ok (.iload 6, 2) := dk_21 6 (dk_at dksX3_isFree_0 13 rfl rfl)
theorem dX3_isFree_15 : decode cX3_isFree 15 = .ok (.iload_n 2, 1) := dk_28 (dk_at dksX3_isFree_0 15 rfl rfl)
theorem dX3_isFree_16 : decode cX3_isFree 16 = .ok (.if_icmp .eq 75, 3) := dk_159 0 75 (dk_at dksX3_isFree_0 16 rfl rfl)
theorem dX3_isFree_19 : decode cX3_isFree 19 = .ok (.aload_n 0, 1) := dk_42 (dk_at dksX3_isFree_0 19 rfl rfl)
theorem dX3_isFree_20 : decode cX3_isFree 20 = .ok (.iload 6, 2) := dk_21 6 (dk_at dksX3_isFree_0 20 rfl rfl)
theorem dX3_isFree_22 : decode cX3_isFree 22 = .ok (.invokevirtual 336, 3) := dk_182 1 80 (dk_at dksX3_isFree_1 0 rfl rfl)
theorem dX3_isFree_25 : decode cX3_isFree 25 = .ok (.ifCond .eq 66, 3) := dk_153 0 66 (dk_at dksX3_isFree_1 3 rfl rfl)
theorem dX3_isFree_28 : decode cX3_isFree 28 = .ok (.iload 5, 2) := dk_21 5 (dk_at dksX3_isFree_1 6 rfl rfl)
theorem dX3_isFree_30 : decode cX3_isFree 30 = .ok (.ifCond .eq 58, 3) := dk_153 0 58 (dk_at dksX3_isFree_1 8 rfl rfl)
theorem dX3_isFree_33 : decode cX3_isFree 33 = .ok (.aload_n 0, 1) := dk_42 (dk_at dksX3_isFree_1 11 rfl rfl)
theorem dX3_isFree_34 : decode cX3_isFree 34 = .ok (.iload_n 1, 1) := dk_27 (dk_at dksX3_isFree_1 12 rfl rfl)
theorem dX3_isFree_35 : decode cX3_isFree 35 = .ok (.iload 6, 2) := dk_21 6 (dk_at dksX3_isFree_1 13 rfl rfl)
theorem dX3_isFree_37 : decode cX3_isFree 37 = .ok (.invokevirtual 382, 3) := dk_182 1 126 (dk_at dksX3_isFree_1 15 rfl rfl)
theorem dX3_isFree_40 : decode cX3_isFree 40 = .ok (.ifCond .eq 33, 3) := dk_153 0 33 (dk_at dksX3_isFree_1 18 rfl rfl)
theorem dX3_isFree_43 : decode cX3_isFree 43 = .ok (.aload_n 0, 1) := dk_42 (dk_at dksX3_isFree_1 21 rfl rfl)
theorem dX3_isFree_44 : decode cX3_isFree 44 = .ok (.getfield 98, 3) := dk_180 0 98 (dk_at dksX3_isFree_2 0 rfl rfl)
theorem dX3_isFree_47 : decode cX3_isFree 47 = .ok (.iload 6, 2) := dk_21 6 (dk_at dksX3_isFree_2 3 rfl rfl)
theorem dX3_isFree_49 : decode cX3_isFree 49 = .ok (.baload, 1) := dk_51 (dk_at dksX3_isFree_2 5 rfl rfl)
theorem dX3_isFree_50 : decode cX3_isFree 50 = .ok (.ifCond .eq 34, 3) := dk_153 0 34 (dk_at dksX3_isFree_2 6 rfl rfl)
theorem dX3_isFree_53 : decode cX3_isFree 53 = .ok (.aload_n 0, 1) := dk_42 (dk_at dksX3_isFree_2 9 rfl rfl)
theorem dX3_isFree_54 : decode cX3_isFree 54 = .ok (.getfield 89, 3) := dk_180 0 89 (dk_at dksX3_isFree_2 10 rfl rfl)
theorem dX3_isFree_57 : decode cX3_isFree 57 = .ok (.bipush 21, 2) := dk_16 21 (dk_at dksX3_isFree_2 13 rfl rfl)
theorem dX3_isFree_59 : decode cX3_isFree 59 = .ok (.iload 6, 2) := dk_21 6 (dk_at dksX3_isFree_2 15 rfl rfl)
theorem dX3_isFree_61 : decode cX3_isFree 61 = .ok (.imul, 1) := dk_104 (dk_at dksX3_isFree_2 17 rfl rfl)
theorem dX3_isFree_62 : decode cX3_isFree 62 = .ok (.iload_n 3, 1) := dk_29 (dk_at dksX3_isFree_2 18 rfl rfl)
theorem dX3_isFree_63 : decode cX3_isFree 63 = .ok (.iadd, 1) := dk_96 (dk_at dksX3_isFree_2 19 rfl rfl)
theorem dX3_isFree_64 : decode cX3_isFree 64 = .ok (.iaload, 1) := dk_46 (dk_at dksX3_isFree_2 20 rfl rfl)
theorem dX3_isFree_65 : decode cX3_isFree 65 = .ok (.iload 4, 2) := dk_21 4 (dk_at dksX3_isFree_2 21 rfl rfl)
theorem dX3_isFree_67 : decode cX3_isFree 67 = .ok (.if_icmp .eq 21, 3) := dk_159 0 21 (dk_at dksX3_isFree_3 0 rfl rfl)
theorem dX3_isFree_70 : decode cX3_isFree 70 = .ok (.goto 14, 3) := dk_167 0 14 (dk_at dksX3_isFree_3 3 rfl rfl)
theorem dX3_isFree_73 : decode cX3_isFree 73 = .ok (.aload_n 0, 1) := dk_42 (dk_at dksX3_isFree_3 6 rfl rfl)
theorem dX3_isFree_74 : decode cX3_isFree 74 = .ok (.iload 6, 2) := dk_21 6 (dk_at dksX3_isFree_3 7 rfl rfl)
theorem dX3_isFree_76 : decode cX3_isFree 76 = .ok (.invokevirtual 388, 3) := dk_182 1 132 (dk_at dksX3_isFree_3 9 rfl rfl)
theorem dX3_isFree_79 : decode cX3_isFree 79 = .ok (.iload 4, 2) := dk_21 4 (dk_at dksX3_isFree_3 12 rfl rfl)
theorem dX3_isFree_81 : decode cX3_isFree 81 = .ok (.if_icmp .eq 7, 3) := dk_159 0 7 (dk_at dksX3_isFree_3 14 rfl rfl)
theorem dX3_isFree_84 : decode cX3_isFree 84 = .ok (.iconst 1, 1) := dk_4 (dk_at dksX3_isFree_3 17 rfl rfl)
theorem dX3_isFree_85 : decode cX3_isFree 85 = .ok (.goto 4, 3) := dk_167 0 4 (dk_at dksX3_isFree_3 18 rfl rfl)
theorem dX3_isFree_88 : decode cX3_isFree 88 = .ok (.iconst 0, 1) := dk_3 (dk_at dksX3_isFree_3 21 rfl rfl)
theorem dX3_isFree_89 : decode cX3_isFree 89 = .ok (.istore 5, 2) := dk_54 5 (dk_at dksX3_isFree_3 22 rfl rfl)
theorem dX3_isFree_91 : decode cX3_isFree 91 = .ok (.iinc 6 1, 3) := dk_132 6 1 (dk_at dksX3_isFree_4 0 rfl rfl)
theorem dX3_isFree_94 : decode cX3_isFree 94 = .ok (.goto (-88), 3) := dk_167 255 168 (dk_at dksX3_isFree_4 3 rfl rfl)
theorem dX3_isFree_97 : decode cX3_isFree 97 = .ok (.iload 5, 2) := dk_21 5 (dk_at dksX3_isFree_4 6 rfl rfl)
theorem dX3_isFree_99 : decode cX3_isFree 99 = .ok (.ireturn, 1) := dk_172 (dk_at dksX3_isFree_4 8 rfl rfl)
abbrev cX3_walks : ByteArray := prog_24_method_99_code
def yX3_walks : MethodName := ⟨RX3, "walks", "(III)V"⟩
def dkwX3_walks_6 : List UInt8 := [180, 0, 98, 28, 4, 84, 177]
abbrev dktX3_walks_6 : List UInt8 := dkwX3_walks_6 ++ []
def dkwX3_walks_5 : List UInt8 := [21, 6, 184, 1, 148, 182, 1, 138, 54, 4, 132, 5, 1, 167, 255, 136, 42, 180, 0, 92, 28, 29, 79, 42]
abbrev dktX3_walks_5 : List UInt8 := dkwX3_walks_5 ++ dktX3_walks_6
def dkwX3_walks_4 : List UInt8 := [167, 255, 202, 42, 180, 0, 95, 16, 20, 28, 104, 21, 5, 96, 21, 6, 184, 1, 148, 79, 42, 21, 4]
abbrev dktX3_walks_4 : List UInt8 := dkwX3_walks_4 ++ dktX3_walks_5
def dkwX3_walks_3 : List UInt8 := [4, 96, 104, 42, 21, 4, 21, 6, 184, 1, 148, 182, 1, 138, 96, 51, 154, 0, 9, 132, 6, 1]
abbrev dktX3_walks_3 : List UInt8 := dkwX3_walks_3 ++ dktX3_walks_4
def dkwX3_walks_2 : List UInt8 := [21, 4, 21, 6, 184, 1, 148, 182, 1, 138, 182, 1, 141, 153, 0, 30, 42, 180, 0, 104, 16, 81, 21, 5]
abbrev dktX3_walks_2 : List UInt8 := dkwX3_walks_2 ++ dktX3_walks_3
def dkwX3_walks_1 : List UInt8 := [104, 21, 5, 96, 21, 4, 79, 21, 5, 29, 162, 0, 93, 3, 54, 6, 42, 27, 28, 21, 5, 21, 4, 42]
abbrev dktX3_walks_1 : List UInt8 := dkwX3_walks_1 ++ dktX3_walks_2
def dkwX3_walks_0 : List UInt8 := [42, 28, 182, 1, 132, 54, 4, 3, 54, 5, 21, 5, 16, 20, 163, 0, 119, 42, 180, 0, 89, 16, 21, 28]
abbrev dktX3_walks_0 : List UInt8 := dkwX3_walks_0 ++ dktX3_walks_1
theorem dksX3_walks_0 : cX3_walks.data.toList.drop 0 = dktX3_walks_0 := by decide +kernel
theorem dksX3_walks_1 : cX3_walks.data.toList.drop 24 = dktX3_walks_1 := dk_seg dksX3_walks_0 24 rfl rfl
theorem dksX3_walks_2 : cX3_walks.data.toList.drop 48 = dktX3_walks_2 := dk_seg dksX3_walks_1 24 rfl rfl
theorem dksX3_walks_3 : cX3_walks.data.toList.drop 72 = dktX3_walks_3 := dk_seg dksX3_walks_2 24 rfl rfl
theorem dksX3_walks_4 : cX3_walks.data.toList.drop 94 = dktX3_walks_4 := dk_seg dksX3_walks_3 22 rfl rfl
theorem dksX3_walks_5 : cX3_walks.data.toList.drop 117 = dktX3_walks_5 := dk_seg dksX3_walks_4 23 rfl rfl
theorem dksX3_walks_6 : cX3_walks.data.toList.drop 141 = dktX3_walks_6 := dk_seg dksX3_walks_5 24 rfl rfl
theorem dX3_walks_0 : decode cX3_walks 0 = .ok (.aload_n 0, 1) := dk_42 (dk_at dksX3_walks_0 0 rfl rfl)
theorem dX3_walks_1 : decode cX3_walks 1 = .ok (.iload_n 2, 1) := dk_28 (dk_at dksX3_walks_0 1 rfl rfl)
theorem dX3_walks_2 : decode cX3_walks 2 = .ok (.invokevirtual 388, 3) := dk_182 1 132 (dk_at dksX3_walks_0 2 rfl rfl)
theorem dX3_walks_5 : decode cX3_walks 5 = .ok (.istore 4, 2) := dk_54 4 (dk_at dksX3_walks_0 5 rfl rfl)
theorem dX3_walks_7 : decode cX3_walks 7 = .ok (.iconst 0, 1) := dk_3 (dk_at dksX3_walks_0 7 rfl rfl)
theorem dX3_walks_8 : decode cX3_walks 8 = .ok (.istore 5, 2) := dk_54 5 (dk_at dksX3_walks_0 8 rfl rfl)
theorem dX3_walks_10 : decode cX3_walks 10 = .ok (.iload 5, 2) := dk_21 5 (dk_at dksX3_walks_0 10 rfl rfl)
theorem dX3_walks_12 : decode cX3_walks 12 = .ok (.bipush 20, 2) := dk_16 20 (dk_at dksX3_walks_0 12 rfl rfl)
theorem dX3_walks_14 : decode cX3_walks 14 = .ok (.if_icmp .gt 119, 3) := dk_163 0 119 (dk_at dksX3_walks_0 14 rfl rfl)
theorem dX3_walks_17 : decode cX3_walks 17 = .ok (.aload_n 0, 1) := dk_42 (dk_at dksX3_walks_0 17 rfl rfl)
theorem dX3_walks_18 : decode cX3_walks 18 = .ok (.getfield 89, 3) := dk_180 0 89 (dk_at dksX3_walks_0 18 rfl rfl)
theorem dX3_walks_21 : decode cX3_walks 21 = .ok (.bipush 21, 2) := dk_16 21 (dk_at dksX3_walks_0 21 rfl rfl)
theorem dX3_walks_23 : decode cX3_walks 23 = .ok (.iload_n 2, 1) := dk_28 (dk_at dksX3_walks_0 23 rfl rfl)
theorem dX3_walks_24 : decode cX3_walks 24 = .ok (.imul, 1) := dk_104 (dk_at dksX3_walks_1 0 rfl rfl)
theorem dX3_walks_25 : decode cX3_walks 25 = .ok (.iload 5, 2) := dk_21 5 (dk_at dksX3_walks_1 1 rfl rfl)
theorem dX3_walks_27 : decode cX3_walks 27 = .ok (.iadd, 1) := dk_96 (dk_at dksX3_walks_1 3 rfl rfl)
theorem dX3_walks_28 : decode cX3_walks 28 = .ok (.iload 4, 2) := dk_21 4 (dk_at dksX3_walks_1 4 rfl rfl)
theorem dX3_walks_30 : decode cX3_walks 30 = .ok (.iastore, 1) := dk_79 (dk_at dksX3_walks_1 6 rfl rfl)
theorem dX3_walks_31 : decode cX3_walks 31 = .ok (.iload 5, 2) := dk_21 5 (dk_at dksX3_walks_1 7 rfl rfl)
theorem dX3_walks_33 : decode cX3_walks 33 = .ok (.iload_n 3, 1) := dk_29 (dk_at dksX3_walks_1 9 rfl rfl)
theorem dX3_walks_34 : decode cX3_walks 34 = .ok (.if_icmp .ge 93, 3) := dk_162 0 93 (dk_at dksX3_walks_1 10 rfl rfl)
theorem dX3_walks_37 : decode cX3_walks 37 = .ok (.iconst 0, 1) := dk_3 (dk_at dksX3_walks_1 13 rfl rfl)
theorem dX3_walks_38 : decode cX3_walks 38 = .ok (.istore 6, 2) := dk_54 6 (dk_at dksX3_walks_1 14 rfl rfl)
theorem dX3_walks_40 : decode cX3_walks 40 = .ok (.aload_n 0, 1) := dk_42 (dk_at dksX3_walks_1 16 rfl rfl)
theorem dX3_walks_41 : decode cX3_walks 41 = .ok (.iload_n 1, 1) := dk_27 (dk_at dksX3_walks_1 17 rfl rfl)
theorem dX3_walks_42 : decode cX3_walks 42 = .ok (.iload_n 2, 1) := dk_28 (dk_at dksX3_walks_1 18 rfl rfl)
theorem dX3_walks_43 : decode cX3_walks 43 = .ok (.iload 5, 2) := dk_21 5 (dk_at dksX3_walks_1 19 rfl rfl)
theorem dX3_walks_45 : decode cX3_walks 45 = .ok (.iload 4, 2) := dk_21 4 (dk_at dksX3_walks_1 21 rfl rfl)
theorem dX3_walks_47 : decode cX3_walks 47 = .ok (.aload_n 0, 1) := dk_42 (dk_at dksX3_walks_1 23 rfl rfl)
theorem dX3_walks_48 : decode cX3_walks 48 = .ok (.iload 4, 2) := dk_21 4 (dk_at dksX3_walks_2 0 rfl rfl)
theorem dX3_walks_50 : decode cX3_walks 50 = .ok (.iload 6, 2) := dk_21 6 (dk_at dksX3_walks_2 2 rfl rfl)
theorem dX3_walks_52 : decode cX3_walks 52 = .ok (.invokestatic 404, 3) := dk_184 1 148 (dk_at dksX3_walks_2 4 rfl rfl)
theorem dX3_walks_55 : decode cX3_walks 55 = .ok (.invokevirtual 394, 3) := dk_182 1 138 (dk_at dksX3_walks_2 7 rfl rfl)
theorem dX3_walks_58 : decode cX3_walks 58 = .ok (.invokevirtual 397, 3) := dk_182 1 141 (dk_at dksX3_walks_2 10 rfl rfl)
theorem dX3_walks_61 : decode cX3_walks 61 = .ok (.ifCond .eq 30, 3) := dk_153 0 30 (dk_at dksX3_walks_2 13 rfl rfl)
theorem dX3_walks_64 : decode cX3_walks 64 = .ok (.aload_n 0, 1) := dk_42 (dk_at dksX3_walks_2 16 rfl rfl)
theorem dX3_walks_65 : decode cX3_walks 65 = .ok (.getfield 104, 3) := dk_180 0 104 (dk_at dksX3_walks_2 17 rfl rfl)
theorem dX3_walks_68 : decode cX3_walks 68 = .ok (.bipush 81, 2) := dk_16 81 (dk_at dksX3_walks_2 20 rfl rfl)
theorem dX3_walks_70 : decode cX3_walks 70 = .ok (.iload 5, 2) := dk_21 5 (dk_at dksX3_walks_2 22 rfl rfl)
theorem dX3_walks_72 : decode cX3_walks 72 = .ok (.iconst 1, 1) := dk_4 (dk_at dksX3_walks_3 0 rfl rfl)
theorem dX3_walks_73 : decode cX3_walks 73 = .ok (.iadd, 1) := dk_96 (dk_at dksX3_walks_3 1 rfl rfl)
theorem dX3_walks_74 : decode cX3_walks 74 = .ok (.imul, 1) := dk_104 (dk_at dksX3_walks_3 2 rfl rfl)
theorem dX3_walks_75 : decode cX3_walks 75 = .ok (.aload_n 0, 1) := dk_42 (dk_at dksX3_walks_3 3 rfl rfl)
theorem dX3_walks_76 : decode cX3_walks 76 = .ok (.iload 4, 2) := dk_21 4 (dk_at dksX3_walks_3 4 rfl rfl)
theorem dX3_walks_78 : decode cX3_walks 78 = .ok (.iload 6, 2) := dk_21 6 (dk_at dksX3_walks_3 6 rfl rfl)
theorem dX3_walks_80 : decode cX3_walks 80 = .ok (.invokestatic 404, 3) := dk_184 1 148 (dk_at dksX3_walks_3 8 rfl rfl)
theorem dX3_walks_83 : decode cX3_walks 83 = .ok (.invokevirtual 394, 3) := dk_182 1 138 (dk_at dksX3_walks_3 11 rfl rfl)
theorem dX3_walks_86 : decode cX3_walks 86 = .ok (.iadd, 1) := dk_96 (dk_at dksX3_walks_3 14 rfl rfl)
theorem dX3_walks_87 : decode cX3_walks 87 = .ok (.baload, 1) := dk_51 (dk_at dksX3_walks_3 15 rfl rfl)
theorem dX3_walks_88 : decode cX3_walks 88 = .ok (.ifCond .ne 9, 3) := dk_154 0 9 (dk_at dksX3_walks_3 16 rfl rfl)
theorem dX3_walks_91 : decode cX3_walks 91 = .ok (.iinc 6 1, 3) := dk_132 6 1 (dk_at dksX3_walks_3 19 rfl rfl)
theorem dX3_walks_94 : decode cX3_walks 94 = .ok (.goto (-54), 3) := dk_167 255 202 (dk_at dksX3_walks_4 0 rfl rfl)
theorem dX3_walks_97 : decode cX3_walks 97 = .ok (.aload_n 0, 1) := dk_42 (dk_at dksX3_walks_4 3 rfl rfl)
theorem dX3_walks_98 : decode cX3_walks 98 = .ok (.getfield 95, 3) := dk_180 0 95 (dk_at dksX3_walks_4 4 rfl rfl)
theorem dX3_walks_101 : decode cX3_walks 101 = .ok (.bipush 20, 2) := dk_16 20 (dk_at dksX3_walks_4 7 rfl rfl)
theorem dX3_walks_103 : decode cX3_walks 103 = .ok (.iload_n 2, 1) := dk_28 (dk_at dksX3_walks_4 9 rfl rfl)
theorem dX3_walks_104 : decode cX3_walks 104 = .ok (.imul, 1) := dk_104 (dk_at dksX3_walks_4 10 rfl rfl)
theorem dX3_walks_105 : decode cX3_walks 105 = .ok (.iload 5, 2) := dk_21 5 (dk_at dksX3_walks_4 11 rfl rfl)
theorem dX3_walks_107 : decode cX3_walks 107 = .ok (.iadd, 1) := dk_96 (dk_at dksX3_walks_4 13 rfl rfl)
theorem dX3_walks_108 : decode cX3_walks 108 = .ok (.iload 6, 2) := dk_21 6 (dk_at dksX3_walks_4 14 rfl rfl)
theorem dX3_walks_110 : decode cX3_walks 110 = .ok (.invokestatic 404, 3) := dk_184 1 148 (dk_at dksX3_walks_4 16 rfl rfl)
theorem dX3_walks_113 : decode cX3_walks 113 = .ok (.iastore, 1) := dk_79 (dk_at dksX3_walks_4 19 rfl rfl)
theorem dX3_walks_114 : decode cX3_walks 114 = .ok (.aload_n 0, 1) := dk_42 (dk_at dksX3_walks_4 20 rfl rfl)
theorem dX3_walks_115 : decode cX3_walks 115 = .ok (.iload 4, 2) := dk_21 4 (dk_at dksX3_walks_4 21 rfl rfl)
theorem dX3_walks_117 : decode cX3_walks 117 = .ok (.iload 6, 2) := dk_21 6 (dk_at dksX3_walks_5 0 rfl rfl)
theorem dX3_walks_119 : decode cX3_walks 119 = .ok (.invokestatic 404, 3) := dk_184 1 148 (dk_at dksX3_walks_5 2 rfl rfl)
theorem dX3_walks_122 : decode cX3_walks 122 = .ok (.invokevirtual 394, 3) := dk_182 1 138 (dk_at dksX3_walks_5 5 rfl rfl)
theorem dX3_walks_125 : decode cX3_walks 125 = .ok (.istore 4, 2) := dk_54 4 (dk_at dksX3_walks_5 8 rfl rfl)
theorem dX3_walks_127 : decode cX3_walks 127 = .ok (.iinc 5 1, 3) := dk_132 5 1 (dk_at dksX3_walks_5 10 rfl rfl)
theorem dX3_walks_130 : decode cX3_walks 130 = .ok (.goto (-120), 3) := dk_167 255 136 (dk_at dksX3_walks_5 13 rfl rfl)
theorem dX3_walks_133 : decode cX3_walks 133 = .ok (.aload_n 0, 1) := dk_42 (dk_at dksX3_walks_5 16 rfl rfl)
theorem dX3_walks_134 : decode cX3_walks 134 = .ok (.getfield 92, 3) := dk_180 0 92 (dk_at dksX3_walks_5 17 rfl rfl)
theorem dX3_walks_137 : decode cX3_walks 137 = .ok (.iload_n 2, 1) := dk_28 (dk_at dksX3_walks_5 20 rfl rfl)
theorem dX3_walks_138 : decode cX3_walks 138 = .ok (.iload_n 3, 1) := dk_29 (dk_at dksX3_walks_5 21 rfl rfl)
theorem dX3_walks_139 : decode cX3_walks 139 = .ok (.iastore, 1) := dk_79 (dk_at dksX3_walks_5 22 rfl rfl)
theorem dX3_walks_140 : decode cX3_walks 140 = .ok (.aload_n 0, 1) := dk_42 (dk_at dksX3_walks_5 23 rfl rfl)
theorem dX3_walks_141 : decode cX3_walks 141 = .ok (.getfield 98, 3) := dk_180 0 98 (dk_at dksX3_walks_6 0 rfl rfl)
theorem dX3_walks_144 : decode cX3_walks 144 = .ok (.iload_n 2, 1) := dk_28 (dk_at dksX3_walks_6 3 rfl rfl)
theorem dX3_walks_145 : decode cX3_walks 145 = .ok (.iconst 1, 1) := dk_4 (dk_at dksX3_walks_6 4 rfl rfl)
theorem dX3_walks_146 : decode cX3_walks 146 = .ok (.bastore, 1) := dk_84 (dk_at dksX3_walks_6 5 rfl rfl)
theorem dX3_walks_147 : decode cX3_walks 147 = .ok (.return_, 1) := dk_177 (dk_at dksX3_walks_6 6 rfl rfl)
abbrev cX3_tried : ByteArray := prog_24_method_97_code
def yX3_tried : MethodName := ⟨RX3, "tried", "(I)I"⟩
def dkwX3_tried_1 : List UInt8 := [167, 0, 13, 26, 6, 160, 0, 7, 7, 167, 0, 4, 3, 172]
abbrev dktX3_tried_1 : List UInt8 := dkwX3_tried_1 ++ []
def dkwX3_tried_0 : List UInt8 := [26, 154, 0, 7, 4, 167, 0, 31, 26, 4, 160, 0, 7, 6, 167, 0, 22, 26, 5, 160, 0, 7, 5]
abbrev dktX3_tried_0 : List UInt8 := dkwX3_tried_0 ++ dktX3_tried_1
theorem dksX3_tried_0 : cX3_tried.data.toList.drop 0 = dktX3_tried_0 := by decide +kernel
theorem dksX3_tried_1 : cX3_tried.data.toList.drop 23 = dktX3_tried_1 := dk_seg dksX3_tried_0 23 rfl rfl
theorem dX3_tried_0 : decode cX3_tried 0 = .ok (.iload_n 0, 1) := dk_26 (dk_at dksX3_tried_0 0 rfl rfl)
theorem dX3_tried_1 : decode cX3_tried 1 = .ok (.ifCond .ne 7, 3) := dk_154 0 7 (dk_at dksX3_tried_0 1 rfl rfl)
theorem dX3_tried_4 : decode cX3_tried 4 = .ok (.iconst 1, 1) := dk_4 (dk_at dksX3_tried_0 4 rfl rfl)
theorem dX3_tried_5 : decode cX3_tried 5 = .ok (.goto 31, 3) := dk_167 0 31 (dk_at dksX3_tried_0 5 rfl rfl)
theorem dX3_tried_8 : decode cX3_tried 8 = .ok (.iload_n 0, 1) := dk_26 (dk_at dksX3_tried_0 8 rfl rfl)
theorem dX3_tried_9 : decode cX3_tried 9 = .ok (.iconst 1, 1) := dk_4 (dk_at dksX3_tried_0 9 rfl rfl)
theorem dX3_tried_10 : decode cX3_tried 10 = .ok (.if_icmp .ne 7, 3) := dk_160 0 7 (dk_at dksX3_tried_0 10 rfl rfl)
theorem dX3_tried_13 : decode cX3_tried 13 = .ok (.iconst 3, 1) := dk_6 (dk_at dksX3_tried_0 13 rfl rfl)
theorem dX3_tried_14 : decode cX3_tried 14 = .ok (.goto 22, 3) := dk_167 0 22 (dk_at dksX3_tried_0 14 rfl rfl)
theorem dX3_tried_17 : decode cX3_tried 17 = .ok (.iload_n 0, 1) := dk_26 (dk_at dksX3_tried_0 17 rfl rfl)
theorem dX3_tried_18 : decode cX3_tried 18 = .ok (.iconst 2, 1) := dk_5 (dk_at dksX3_tried_0 18 rfl rfl)
theorem dX3_tried_19 : decode cX3_tried 19 = .ok (.if_icmp .ne 7, 3) := dk_160 0 7 (dk_at dksX3_tried_0 19 rfl rfl)
theorem dX3_tried_22 : decode cX3_tried 22 = .ok (.iconst 2, 1) := dk_5 (dk_at dksX3_tried_0 22 rfl rfl)
theorem dX3_tried_23 : decode cX3_tried 23 = .ok (.goto 13, 3) := dk_167 0 13 (dk_at dksX3_tried_1 0 rfl rfl)
theorem dX3_tried_26 : decode cX3_tried 26 = .ok (.iload_n 0, 1) := dk_26 (dk_at dksX3_tried_1 3 rfl rfl)
theorem dX3_tried_27 : decode cX3_tried 27 = .ok (.iconst 3, 1) := dk_6 (dk_at dksX3_tried_1 4 rfl rfl)
theorem dX3_tried_28 : decode cX3_tried 28 = .ok (.if_icmp .ne 7, 3) := dk_160 0 7 (dk_at dksX3_tried_1 5 rfl rfl)
theorem dX3_tried_31 : decode cX3_tried 31 = .ok (.iconst 4, 1) := dk_7 (dk_at dksX3_tried_1 8 rfl rfl)
theorem dX3_tried_32 : decode cX3_tried 32 = .ok (.goto 4, 3) := dk_167 0 4 (dk_at dksX3_tried_1 9 rfl rfl)
theorem dX3_tried_35 : decode cX3_tried 35 = .ok (.iconst 0, 1) := dk_3 (dk_at dksX3_tried_1 12 rfl rfl)
theorem dX3_tried_36 : decode cX3_tried 36 = .ok (.ireturn, 1) := dk_172 (dk_at dksX3_tried_1 13 rfl rfl)
abbrev cX3_addsPath : ByteArray := prog_24_method_101_code
def yX3_addsPath : MethodName := ⟨RX3, "addsPath", "(I)V"⟩
def dkwX3_addsPath_1 : List UInt8 := [42, 42, 180, 0, 95, 16, 20, 27, 104, 28, 96, 46, 182, 1, 4, 132, 2, 1, 167, 255, 228, 177]
abbrev dktX3_addsPath_1 : List UInt8 := dkwX3_addsPath_1 ++ []
def dkwX3_addsPath_0 : List UInt8 := [42, 3, 3, 3, 182, 0, 241, 42, 27, 182, 0, 254, 3, 61, 28, 42, 180, 0, 92, 27, 46, 162, 0, 24]
abbrev dktX3_addsPath_0 : List UInt8 := dkwX3_addsPath_0 ++ dktX3_addsPath_1
theorem dksX3_addsPath_0 : cX3_addsPath.data.toList.drop 0 = dktX3_addsPath_0 := by decide +kernel
theorem dksX3_addsPath_1 : cX3_addsPath.data.toList.drop 24 = dktX3_addsPath_1 := dk_seg dksX3_addsPath_0 24 rfl rfl
theorem dX3_addsPath_0 : decode cX3_addsPath 0 = .ok (.aload_n 0, 1) := dk_42 (dk_at dksX3_addsPath_0 0 rfl rfl)
theorem dX3_addsPath_1 : decode cX3_addsPath 1 = .ok (.iconst 0, 1) := dk_3 (dk_at dksX3_addsPath_0 1 rfl rfl)
theorem dX3_addsPath_2 : decode cX3_addsPath 2 = .ok (.iconst 0, 1) := dk_3 (dk_at dksX3_addsPath_0 2 rfl rfl)
theorem dX3_addsPath_3 : decode cX3_addsPath 3 = .ok (.iconst 0, 1) := dk_3 (dk_at dksX3_addsPath_0 3 rfl rfl)
theorem dX3_addsPath_4 : decode cX3_addsPath 4 = .ok (.invokevirtual 241, 3) := dk_182 0 241 (dk_at dksX3_addsPath_0 4 rfl rfl)
theorem dX3_addsPath_7 : decode cX3_addsPath 7 = .ok (.aload_n 0, 1) := dk_42 (dk_at dksX3_addsPath_0 7 rfl rfl)
theorem dX3_addsPath_8 : decode cX3_addsPath 8 = .ok (.iload_n 1, 1) := dk_27 (dk_at dksX3_addsPath_0 8 rfl rfl)
theorem dX3_addsPath_9 : decode cX3_addsPath 9 = .ok (.invokevirtual 254, 3) := dk_182 0 254 (dk_at dksX3_addsPath_0 9 rfl rfl)
theorem dX3_addsPath_12 : decode cX3_addsPath 12 = .ok (.iconst 0, 1) := dk_3 (dk_at dksX3_addsPath_0 12 rfl rfl)
theorem dX3_addsPath_13 : decode cX3_addsPath 13 = .ok (.istore_n 2, 1) := dk_61 (dk_at dksX3_addsPath_0 13 rfl rfl)
theorem dX3_addsPath_14 : decode cX3_addsPath 14 = .ok (.iload_n 2, 1) := dk_28 (dk_at dksX3_addsPath_0 14 rfl rfl)
theorem dX3_addsPath_15 : decode cX3_addsPath 15 = .ok (.aload_n 0, 1) := dk_42 (dk_at dksX3_addsPath_0 15 rfl rfl)
theorem dX3_addsPath_16 : decode cX3_addsPath 16 = .ok (.getfield 92, 3) := dk_180 0 92 (dk_at dksX3_addsPath_0 16 rfl rfl)
theorem dX3_addsPath_19 : decode cX3_addsPath 19 = .ok (.iload_n 1, 1) := dk_27 (dk_at dksX3_addsPath_0 19 rfl rfl)
theorem dX3_addsPath_20 : decode cX3_addsPath 20 = .ok (.iaload, 1) := dk_46 (dk_at dksX3_addsPath_0 20 rfl rfl)
theorem dX3_addsPath_21 : decode cX3_addsPath 21 = .ok (.if_icmp .ge 24, 3) := dk_162 0 24 (dk_at dksX3_addsPath_0 21 rfl rfl)
theorem dX3_addsPath_24 : decode cX3_addsPath 24 = .ok (.aload_n 0, 1) := dk_42 (dk_at dksX3_addsPath_1 0 rfl rfl)
theorem dX3_addsPath_25 : decode cX3_addsPath 25 = .ok (.aload_n 0, 1) := dk_42 (dk_at dksX3_addsPath_1 1 rfl rfl)
theorem dX3_addsPath_26 : decode cX3_addsPath 26 = .ok (.getfield 95, 3) := dk_180 0 95 (dk_at dksX3_addsPath_1 2 rfl rfl)
theorem dX3_addsPath_29 : decode cX3_addsPath 29 = .ok (.bipush 20, 2) := dk_16 20 (dk_at dksX3_addsPath_1 5 rfl rfl)
theorem dX3_addsPath_31 : decode cX3_addsPath 31 = .ok (.iload_n 1, 1) := dk_27 (dk_at dksX3_addsPath_1 7 rfl rfl)
theorem dX3_addsPath_32 : decode cX3_addsPath 32 = .ok (.imul, 1) := dk_104 (dk_at dksX3_addsPath_1 8 rfl rfl)
theorem dX3_addsPath_33 : decode cX3_addsPath 33 = .ok (.iload_n 2, 1) := dk_28 (dk_at dksX3_addsPath_1 9 rfl rfl)
theorem dX3_addsPath_34 : decode cX3_addsPath 34 = .ok (.iadd, 1) := dk_96 (dk_at dksX3_addsPath_1 10 rfl rfl)
theorem dX3_addsPath_35 : decode cX3_addsPath 35 = .ok (.iaload, 1) := dk_46 (dk_at dksX3_addsPath_1 11 rfl rfl)
theorem dX3_addsPath_36 : decode cX3_addsPath 36 = .ok (.invokevirtual 260, 3) := dk_182 1 4 (dk_at dksX3_addsPath_1 12 rfl rfl)
theorem dX3_addsPath_39 : decode cX3_addsPath 39 = .ok (.iinc 2 1, 3) := dk_132 2 1 (dk_at dksX3_addsPath_1 15 rfl rfl)
theorem dX3_addsPath_42 : decode cX3_addsPath 42 = .ok (.goto (-28), 3) := dk_167 255 228 (dk_at dksX3_addsPath_1 18 rfl rfl)
theorem dX3_addsPath_45 : decode cX3_addsPath 45 = .ok (.return_, 1) := dk_177 (dk_at dksX3_addsPath_1 21 rfl rfl)
abbrev cX3_reason : ByteArray := prog_24_method_102_code
def yX3_reason : MethodName := ⟨RX3, "reason", "()I"⟩
def dkwX3_reason_0 : List UInt8 := [42, 3, 181, 0, 111, 42, 180, 0, 114, 172]
abbrev dktX3_reason_0 : List UInt8 := dkwX3_reason_0 ++ []
theorem dksX3_reason_0 : cX3_reason.data.toList.drop 0 = dktX3_reason_0 := by decide +kernel
theorem dX3_reason_0 : decode cX3_reason 0 = .ok (.aload_n 0, 1) := dk_42 (dk_at dksX3_reason_0 0 rfl rfl)
theorem dX3_reason_1 : decode cX3_reason 1 = .ok (.iconst 0, 1) := dk_3 (dk_at dksX3_reason_0 1 rfl rfl)
theorem dX3_reason_2 : decode cX3_reason 2 = .ok (.putfield 111, 3) := dk_181 0 111 (dk_at dksX3_reason_0 2 rfl rfl)
theorem dX3_reason_5 : decode cX3_reason 5 = .ok (.aload_n 0, 1) := dk_42 (dk_at dksX3_reason_0 5 rfl rfl)
theorem dX3_reason_6 : decode cX3_reason 6 = .ok (.getfield 114, 3) := dk_180 0 114 (dk_at dksX3_reason_0 6 rfl rfl)
theorem dX3_reason_9 : decode cX3_reason 9 = .ok (.ireturn, 1) := dk_172 (dk_at dksX3_reason_0 9 rfl rfl)
abbrev cX3_undo : ByteArray := prog_24_method_103_code
def yX3_undo : MethodName := ⟨RX3, "undo", "()I"⟩
def dkwX3_undo_3 : List UInt8 := [181, 0, 128, 42, 180, 0, 125, 172]
abbrev dktX3_undo_3 : List UInt8 := dkwX3_undo_3 ++ []
def dkwX3_undo_2 : List UInt8 := [180, 0, 20, 17, 33, 197, 42, 180, 0, 125, 104, 27, 96, 46, 79, 132, 1, 1, 167, 255, 225, 42, 3]
abbrev dktX3_undo_2 : List UInt8 := dkwX3_undo_2 ++ dktX3_undo_3
def dkwX3_undo_1 : List UInt8 := [180, 0, 125, 4, 100, 181, 0, 125, 3, 60, 27, 17, 33, 197, 162, 0, 30, 42, 180, 0, 7, 27, 42]
abbrev dktX3_undo_1 : List UInt8 := dkwX3_undo_1 ++ dktX3_undo_2
def dkwX3_undo_0 : List UInt8 := [42, 3, 181, 0, 111, 42, 180, 0, 125, 154, 0, 11, 42, 16, 6, 4, 182, 0, 202, 172, 42, 89]
abbrev dktX3_undo_0 : List UInt8 := dkwX3_undo_0 ++ dktX3_undo_1
theorem dksX3_undo_0 : cX3_undo.data.toList.drop 0 = dktX3_undo_0 := by decide +kernel
theorem dksX3_undo_1 : cX3_undo.data.toList.drop 22 = dktX3_undo_1 := dk_seg dksX3_undo_0 22 rfl rfl
theorem dksX3_undo_2 : cX3_undo.data.toList.drop 45 = dktX3_undo_2 := dk_seg dksX3_undo_1 23 rfl rfl
theorem dksX3_undo_3 : cX3_undo.data.toList.drop 68 = dktX3_undo_3 := dk_seg dksX3_undo_2 23 rfl rfl
theorem dX3_undo_0 : decode cX3_undo 0 = .ok (.aload_n 0, 1) := dk_42 (dk_at dksX3_undo_0 0 rfl rfl)
theorem dX3_undo_1 : decode cX3_undo 1 = .ok (.iconst 0, 1) := dk_3 (dk_at dksX3_undo_0 1 rfl rfl)
theorem dX3_undo_2 : decode cX3_undo 2 = .ok (.putfield 111, 3) := dk_181 0 111 (dk_at dksX3_undo_0 2 rfl rfl)
theorem dX3_undo_5 : decode cX3_undo 5 = .ok (.aload_n 0, 1) := dk_42 (dk_at dksX3_undo_0 5 rfl rfl)
theorem dX3_undo_6 : decode cX3_undo 6 = .ok (.getfield 125, 3) := dk_180 0 125 (dk_at dksX3_undo_0 6 rfl rfl)
theorem dX3_undo_9 : decode cX3_undo 9 = .ok (.ifCond .ne 11, 3) := dk_154 0 11 (dk_at dksX3_undo_0 9 rfl rfl)
theorem dX3_undo_12 : decode cX3_undo 12 = .ok (.aload_n 0, 1) := dk_42 (dk_at dksX3_undo_0 12 rfl rfl)
theorem dX3_undo_13 : decode cX3_undo 13 = .ok (.bipush 6, 2) := dk_16 6 (dk_at dksX3_undo_0 13 rfl rfl)
theorem dX3_undo_15 : decode cX3_undo 15 = .ok (.iconst 1, 1) := dk_4 (dk_at dksX3_undo_0 15 rfl rfl)
theorem dX3_undo_16 : decode cX3_undo 16 = .ok (.invokevirtual 202, 3) := dk_182 0 202 (dk_at dksX3_undo_0 16 rfl rfl)
theorem dX3_undo_19 : decode cX3_undo 19 = .ok (.ireturn, 1) := dk_172 (dk_at dksX3_undo_0 19 rfl rfl)
theorem dX3_undo_20 : decode cX3_undo 20 = .ok (.aload_n 0, 1) := dk_42 (dk_at dksX3_undo_0 20 rfl rfl)
theorem dX3_undo_21 : decode cX3_undo 21 = .ok (.dup, 1) := dk_89 (dk_at dksX3_undo_0 21 rfl rfl)
theorem dX3_undo_22 : decode cX3_undo 22 = .ok (.getfield 125, 3) := dk_180 0 125 (dk_at dksX3_undo_1 0 rfl rfl)
theorem dX3_undo_25 : decode cX3_undo 25 = .ok (.iconst 1, 1) := dk_4 (dk_at dksX3_undo_1 3 rfl rfl)
theorem dX3_undo_26 : decode cX3_undo 26 = .ok (.isub, 1) := dk_100 (dk_at dksX3_undo_1 4 rfl rfl)
theorem dX3_undo_27 : decode cX3_undo 27 = .ok (.putfield 125, 3) := dk_181 0 125 (dk_at dksX3_undo_1 5 rfl rfl)
theorem dX3_undo_30 : decode cX3_undo 30 = .ok (.iconst 0, 1) := dk_3 (dk_at dksX3_undo_1 8 rfl rfl)
theorem dX3_undo_31 : decode cX3_undo 31 = .ok (.istore_n 1, 1) := dk_60 (dk_at dksX3_undo_1 9 rfl rfl)
theorem dX3_undo_32 : decode cX3_undo 32 = .ok (.iload_n 1, 1) := dk_27 (dk_at dksX3_undo_1 10 rfl rfl)
theorem dX3_undo_33 : decode cX3_undo 33 = .ok (.sipush 8645, 3) := dk_17 33 197 (dk_at dksX3_undo_1 11 rfl rfl)
theorem dX3_undo_36 : decode cX3_undo 36 = .ok (.if_icmp .ge 30, 3) := dk_162 0 30 (dk_at dksX3_undo_1 14 rfl rfl)
theorem dX3_undo_39 : decode cX3_undo 39 = .ok (.aload_n 0, 1) := dk_42 (dk_at dksX3_undo_1 17 rfl rfl)
theorem dX3_undo_40 : decode cX3_undo 40 = .ok (.getfield 7, 3) := dk_180 0 7 (dk_at dksX3_undo_1 18 rfl rfl)
theorem dX3_undo_43 : decode cX3_undo 43 = .ok (.iload_n 1, 1) := dk_27 (dk_at dksX3_undo_1 21 rfl rfl)
theorem dX3_undo_44 : decode cX3_undo 44 = .ok (.aload_n 0, 1) := dk_42 (dk_at dksX3_undo_1 22 rfl rfl)
theorem dX3_undo_45 : decode cX3_undo 45 = .ok (.getfield 20, 3) := dk_180 0 20 (dk_at dksX3_undo_2 0 rfl rfl)
theorem dX3_undo_48 : decode cX3_undo 48 = .ok (.sipush 8645, 3) := dk_17 33 197 (dk_at dksX3_undo_2 3 rfl rfl)
theorem dX3_undo_51 : decode cX3_undo 51 = .ok (.aload_n 0, 1) := dk_42 (dk_at dksX3_undo_2 6 rfl rfl)
theorem dX3_undo_52 : decode cX3_undo 52 = .ok (.getfield 125, 3) := dk_180 0 125 (dk_at dksX3_undo_2 7 rfl rfl)
theorem dX3_undo_55 : decode cX3_undo 55 = .ok (.imul, 1) := dk_104 (dk_at dksX3_undo_2 10 rfl rfl)
theorem dX3_undo_56 : decode cX3_undo 56 = .ok (.iload_n 1, 1) := dk_27 (dk_at dksX3_undo_2 11 rfl rfl)
theorem dX3_undo_57 : decode cX3_undo 57 = .ok (.iadd, 1) := dk_96 (dk_at dksX3_undo_2 12 rfl rfl)
theorem dX3_undo_58 : decode cX3_undo 58 = .ok (.iaload, 1) := dk_46 (dk_at dksX3_undo_2 13 rfl rfl)
theorem dX3_undo_59 : decode cX3_undo 59 = .ok (.iastore, 1) := dk_79 (dk_at dksX3_undo_2 14 rfl rfl)
theorem dX3_undo_60 : decode cX3_undo 60 = .ok (.iinc 1 1, 3) := dk_132 1 1 (dk_at dksX3_undo_2 15 rfl rfl)
theorem dX3_undo_63 : decode cX3_undo 63 = .ok (.goto (-31), 3) := dk_167 255 225 (dk_at dksX3_undo_2 18 rfl rfl)
theorem dX3_undo_66 : decode cX3_undo 66 = .ok (.aload_n 0, 1) := dk_42 (dk_at dksX3_undo_2 21 rfl rfl)
theorem dX3_undo_67 : decode cX3_undo 67 = .ok (.iconst 0, 1) := dk_3 (dk_at dksX3_undo_2 22 rfl rfl)
theorem dX3_undo_68 : decode cX3_undo 68 = .ok (.putfield 128, 3) := dk_181 0 128 (dk_at dksX3_undo_3 0 rfl rfl)
theorem dX3_undo_71 : decode cX3_undo 71 = .ok (.aload_n 0, 1) := dk_42 (dk_at dksX3_undo_3 3 rfl rfl)
theorem dX3_undo_72 : decode cX3_undo 72 = .ok (.getfield 125, 3) := dk_180 0 125 (dk_at dksX3_undo_3 4 rfl rfl)
theorem dX3_undo_75 : decode cX3_undo 75 = .ok (.ireturn, 1) := dk_172 (dk_at dksX3_undo_3 7 rfl rfl)
abbrev cX3_isReplayed : ByteArray := prog_24_method_104_code
def yX3_isReplayed : MethodName := ⟨RX3, "isReplayed", "()Z"⟩
def dkwX3_isReplayed_0 : List UInt8 := [42, 3, 181, 0, 111, 4, 172]
abbrev dktX3_isReplayed_0 : List UInt8 := dkwX3_isReplayed_0 ++ []
theorem dksX3_isReplayed_0 : cX3_isReplayed.data.toList.drop 0 = dktX3_isReplayed_0 := by decide +kernel
theorem dX3_isReplayed_0 : decode cX3_isReplayed 0 = .ok (.aload_n 0, 1) := dk_42 (dk_at dksX3_isReplayed_0 0 rfl rfl)
theorem dX3_isReplayed_1 : decode cX3_isReplayed 1 = .ok (.iconst 0, 1) := dk_3 (dk_at dksX3_isReplayed_0 1 rfl rfl)
theorem dX3_isReplayed_2 : decode cX3_isReplayed 2 = .ok (.putfield 111, 3) := dk_181 0 111 (dk_at dksX3_isReplayed_0 2 rfl rfl)
theorem dX3_isReplayed_5 : decode cX3_isReplayed 5 = .ok (.iconst 1, 1) := dk_4 (dk_at dksX3_isReplayed_0 5 rfl rfl)
theorem dX3_isReplayed_6 : decode cX3_isReplayed 6 = .ok (.ireturn, 1) := dk_172 (dk_at dksX3_isReplayed_0 6 rfl rfl)
abbrev cX3_snapshot : ByteArray := prog_24_method_106_code
def yX3_snapshot : MethodName := ⟨RX3, "snapshot", "()I"⟩
def dkwX3_snapshot_1 : List UInt8 := [46, 79, 132, 1, 1, 167, 255, 234, 42, 4, 181, 1, 157, 42, 182, 1, 160, 172]
abbrev dktX3_snapshot_1 : List UInt8 := dkwX3_snapshot_1 ++ []
def dkwX3_snapshot_0 : List UInt8 := [42, 3, 181, 0, 111, 3, 60, 27, 17, 33, 197, 162, 0, 21, 42, 180, 0, 13, 27, 42, 180, 0, 7, 27]
abbrev dktX3_snapshot_0 : List UInt8 := dkwX3_snapshot_0 ++ dktX3_snapshot_1
theorem dksX3_snapshot_0 : cX3_snapshot.data.toList.drop 0 = dktX3_snapshot_0 := by decide +kernel
theorem dksX3_snapshot_1 : cX3_snapshot.data.toList.drop 24 = dktX3_snapshot_1 := dk_seg dksX3_snapshot_0 24 rfl rfl
theorem dX3_snapshot_0 : decode cX3_snapshot 0 = .ok (.aload_n 0, 1) := dk_42 (dk_at dksX3_snapshot_0 0 rfl rfl)
theorem dX3_snapshot_1 : decode cX3_snapshot 1 = .ok (.iconst 0, 1) := dk_3 (dk_at dksX3_snapshot_0 1 rfl rfl)
theorem dX3_snapshot_2 : decode cX3_snapshot 2 = .ok (.putfield 111, 3) := dk_181 0 111 (dk_at dksX3_snapshot_0 2 rfl rfl)
theorem dX3_snapshot_5 : decode cX3_snapshot 5 = .ok (.iconst 0, 1) := dk_3 (dk_at dksX3_snapshot_0 5 rfl rfl)
theorem dX3_snapshot_6 : decode cX3_snapshot 6 = .ok (.istore_n 1, 1) := dk_60 (dk_at dksX3_snapshot_0 6 rfl rfl)
theorem dX3_snapshot_7 : decode cX3_snapshot 7 = .ok (.iload_n 1, 1) := dk_27 (dk_at dksX3_snapshot_0 7 rfl rfl)
theorem dX3_snapshot_8 : decode cX3_snapshot 8 = .ok (.sipush 8645, 3) := dk_17 33 197 (dk_at dksX3_snapshot_0 8 rfl rfl)
theorem dX3_snapshot_11 : decode cX3_snapshot 11 = .ok (.if_icmp .ge 21, 3) := dk_162 0 21 (dk_at dksX3_snapshot_0 11 rfl rfl)
theorem dX3_snapshot_14 : decode cX3_snapshot 14 = .ok (.aload_n 0, 1) := dk_42 (dk_at dksX3_snapshot_0 14 rfl rfl)
theorem dX3_snapshot_15 : decode cX3_snapshot 15 = .ok (.getfield 13, 3) := dk_180 0 13 (dk_at dksX3_snapshot_0 15 rfl rfl)
theorem dX3_snapshot_18 : decode cX3_snapshot 18 = .ok (.iload_n 1, 1) := dk_27 (dk_at dksX3_snapshot_0 18 rfl rfl)
theorem dX3_snapshot_19 : decode cX3_snapshot 19 = .ok (.aload_n 0, 1) := dk_42 (dk_at dksX3_snapshot_0 19 rfl rfl)
theorem dX3_snapshot_20 : decode cX3_snapshot 20 = .ok (.getfield 7, 3) := dk_180 0 7 (dk_at dksX3_snapshot_0 20 rfl rfl)
theorem dX3_snapshot_23 : decode cX3_snapshot 23 = .ok (.iload_n 1, 1) := dk_27 (dk_at dksX3_snapshot_0 23 rfl rfl)
theorem dX3_snapshot_24 : decode cX3_snapshot 24 = .ok (.iaload, 1) := dk_46 (dk_at dksX3_snapshot_1 0 rfl rfl)
theorem dX3_snapshot_25 : decode cX3_snapshot 25 = .ok (.iastore, 1) := dk_79 (dk_at dksX3_snapshot_1 1 rfl rfl)
theorem dX3_snapshot_26 : decode cX3_snapshot 26 = .ok (.iinc 1 1, 3) := dk_132 1 1 (dk_at dksX3_snapshot_1 2 rfl rfl)
theorem dX3_snapshot_29 : decode cX3_snapshot 29 = .ok (.goto (-22), 3) := dk_167 255 234 (dk_at dksX3_snapshot_1 5 rfl rfl)
theorem dX3_snapshot_32 : decode cX3_snapshot 32 = .ok (.aload_n 0, 1) := dk_42 (dk_at dksX3_snapshot_1 8 rfl rfl)
theorem dX3_snapshot_33 : decode cX3_snapshot 33 = .ok (.iconst 1, 1) := dk_4 (dk_at dksX3_snapshot_1 9 rfl rfl)
theorem dX3_snapshot_34 : decode cX3_snapshot 34 = .ok (.putfield 413, 3) := dk_181 1 157 (dk_at dksX3_snapshot_1 10 rfl rfl)
theorem dX3_snapshot_37 : decode cX3_snapshot 37 = .ok (.aload_n 0, 1) := dk_42 (dk_at dksX3_snapshot_1 13 rfl rfl)
theorem dX3_snapshot_38 : decode cX3_snapshot 38 = .ok (.invokevirtual 416, 3) := dk_182 1 160 (dk_at dksX3_snapshot_1 14 rfl rfl)
theorem dX3_snapshot_41 : decode cX3_snapshot 41 = .ok (.ireturn, 1) := dk_172 (dk_at dksX3_snapshot_1 17 rfl rfl)
abbrev cX3_many : ByteArray := prog_24_method_105_code
def yX3_many : MethodName := ⟨RX3, "many", "()I"⟩
def dkwX3_many_1 : List UInt8 := [96, 60, 132, 2, 1, 167, 255, 231, 27, 172]
abbrev dktX3_many_1 : List UInt8 := dkwX3_many_1 ++ []
def dkwX3_many_0 : List UInt8 := [3, 60, 3, 61, 28, 16, 8, 162, 0, 25, 27, 42, 28, 182, 1, 80, 153, 0, 7, 4, 167, 0, 4, 3]
abbrev dktX3_many_0 : List UInt8 := dkwX3_many_0 ++ dktX3_many_1
theorem dksX3_many_0 : cX3_many.data.toList.drop 0 = dktX3_many_0 := by decide +kernel
theorem dksX3_many_1 : cX3_many.data.toList.drop 24 = dktX3_many_1 := dk_seg dksX3_many_0 24 rfl rfl
theorem dX3_many_0 : decode cX3_many 0 = .ok (.iconst 0, 1) := dk_3 (dk_at dksX3_many_0 0 rfl rfl)
theorem dX3_many_1 : decode cX3_many 1 = .ok (.istore_n 1, 1) := dk_60 (dk_at dksX3_many_0 1 rfl rfl)
theorem dX3_many_2 : decode cX3_many 2 = .ok (.iconst 0, 1) := dk_3 (dk_at dksX3_many_0 2 rfl rfl)
theorem dX3_many_3 : decode cX3_many 3 = .ok (.istore_n 2, 1) := dk_61 (dk_at dksX3_many_0 3 rfl rfl)
theorem dX3_many_4 : decode cX3_many 4 = .ok (.iload_n 2, 1) := dk_28 (dk_at dksX3_many_0 4 rfl rfl)
theorem dX3_many_5 : decode cX3_many 5 = .ok (.bipush 8, 2) := dk_16 8 (dk_at dksX3_many_0 5 rfl rfl)
theorem dX3_many_7 : decode cX3_many 7 = .ok (.if_icmp .ge 25, 3) := dk_162 0 25 (dk_at dksX3_many_0 7 rfl rfl)
theorem dX3_many_10 : decode cX3_many 10 = .ok (.iload_n 1, 1) := dk_27 (dk_at dksX3_many_0 10 rfl rfl)
theorem dX3_many_11 : decode cX3_many 11 = .ok (.aload_n 0, 1) := dk_42 (dk_at dksX3_many_0 11 rfl rfl)
theorem dX3_many_12 : decode cX3_many 12 = .ok (.iload_n 2, 1) := dk_28 (dk_at dksX3_many_0 12 rfl rfl)
theorem dX3_many_13 : decode cX3_many 13 = .ok (.invokevirtual 336, 3) := dk_182 1 80 (dk_at dksX3_many_0 13 rfl rfl)
theorem dX3_many_16 : decode cX3_many 16 = .ok (.ifCond .eq 7, 3) := dk_153 0 7 (dk_at dksX3_many_0 16 rfl rfl)
theorem dX3_many_19 : decode cX3_many 19 = .ok (.iconst 1, 1) := dk_4 (dk_at dksX3_many_0 19 rfl rfl)
theorem dX3_many_20 : decode cX3_many 20 = .ok (.goto 4, 3) := dk_167 0 4 (dk_at dksX3_many_0 20 rfl rfl)
theorem dX3_many_23 : decode cX3_many 23 = .ok (.iconst 0, 1) := dk_3 (dk_at dksX3_many_0 23 rfl rfl)
theorem dX3_many_24 : decode cX3_many 24 = .ok (.iadd, 1) := dk_96 (dk_at dksX3_many_1 0 rfl rfl)
theorem dX3_many_25 : decode cX3_many 25 = .ok (.istore_n 1, 1) := dk_60 (dk_at dksX3_many_1 1 rfl rfl)
theorem dX3_many_26 : decode cX3_many 26 = .ok (.iinc 2 1, 3) := dk_132 2 1 (dk_at dksX3_many_1 2 rfl rfl)
theorem dX3_many_29 : decode cX3_many 29 = .ok (.goto (-25), 3) := dk_167 255 231 (dk_at dksX3_many_1 5 rfl rfl)
theorem dX3_many_32 : decode cX3_many 32 = .ok (.iload_n 1, 1) := dk_27 (dk_at dksX3_many_1 8 rfl rfl)
theorem dX3_many_33 : decode cX3_many 33 = .ok (.ireturn, 1) := dk_172 (dk_at dksX3_many_1 9 rfl rfl)
abbrev cX3_restore : ByteArray := prog_24_method_107_code
def yX3_restore : MethodName := ⟨RX3, "restore", "()I"⟩
def dkwX3_restore_2 : List UInt8 := [42, 3, 181, 0, 125, 42, 3, 181, 0, 128, 42, 182, 1, 160, 172]
abbrev dktX3_restore_2 : List UInt8 := dkwX3_restore_2 ++ []
def dkwX3_restore_1 : List UInt8 := [17, 33, 197, 162, 0, 21, 42, 180, 0, 7, 27, 42, 180, 0, 13, 27, 46, 79, 132, 1, 1, 167, 255, 234]
abbrev dktX3_restore_1 : List UInt8 := dkwX3_restore_1 ++ dktX3_restore_2
def dkwX3_restore_0 : List UInt8 := [42, 3, 181, 0, 111, 42, 180, 1, 157, 154, 0, 11, 42, 16, 6, 4, 182, 0, 202, 172, 3, 60, 27]
abbrev dktX3_restore_0 : List UInt8 := dkwX3_restore_0 ++ dktX3_restore_1
theorem dksX3_restore_0 : cX3_restore.data.toList.drop 0 = dktX3_restore_0 := by decide +kernel
theorem dksX3_restore_1 : cX3_restore.data.toList.drop 23 = dktX3_restore_1 := dk_seg dksX3_restore_0 23 rfl rfl
theorem dksX3_restore_2 : cX3_restore.data.toList.drop 47 = dktX3_restore_2 := dk_seg dksX3_restore_1 24 rfl rfl
theorem dX3_restore_0 : decode cX3_restore 0 = .ok (.aload_n 0, 1) := dk_42 (dk_at dksX3_restore_0 0 rfl rfl)
theorem dX3_restore_1 : decode cX3_restore 1 = .ok (.iconst 0, 1) := dk_3 (dk_at dksX3_restore_0 1 rfl rfl)
theorem dX3_restore_2 : decode cX3_restore 2 = .ok (.putfield 111, 3) := dk_181 0 111 (dk_at dksX3_restore_0 2 rfl rfl)
theorem dX3_restore_5 : decode cX3_restore 5 = .ok (.aload_n 0, 1) := dk_42 (dk_at dksX3_restore_0 5 rfl rfl)
theorem dX3_restore_6 : decode cX3_restore 6 = .ok (.getfield 413, 3) := dk_180 1 157 (dk_at dksX3_restore_0 6 rfl rfl)
theorem dX3_restore_9 : decode cX3_restore 9 = .ok (.ifCond .ne 11, 3) := dk_154 0 11 (dk_at dksX3_restore_0 9 rfl rfl)
theorem dX3_restore_12 : decode cX3_restore 12 = .ok (.aload_n 0, 1) := dk_42 (dk_at dksX3_restore_0 12 rfl rfl)
theorem dX3_restore_13 : decode cX3_restore 13 = .ok (.bipush 6, 2) := dk_16 6 (dk_at dksX3_restore_0 13 rfl rfl)
theorem dX3_restore_15 : decode cX3_restore 15 = .ok (.iconst 1, 1) := dk_4 (dk_at dksX3_restore_0 15 rfl rfl)
theorem dX3_restore_16 : decode cX3_restore 16 = .ok (.invokevirtual 202, 3) := dk_182 0 202 (dk_at dksX3_restore_0 16 rfl rfl)
theorem dX3_restore_19 : decode cX3_restore 19 = .ok (.ireturn, 1) := dk_172 (dk_at dksX3_restore_0 19 rfl rfl)
theorem dX3_restore_20 : decode cX3_restore 20 = .ok (.iconst 0, 1) := dk_3 (dk_at dksX3_restore_0 20 rfl rfl)
theorem dX3_restore_21 : decode cX3_restore 21 = .ok (.istore_n 1, 1) := dk_60 (dk_at dksX3_restore_0 21 rfl rfl)
theorem dX3_restore_22 : decode cX3_restore 22 = .ok (.iload_n 1, 1) := dk_27 (dk_at dksX3_restore_0 22 rfl rfl)
theorem dX3_restore_23 : decode cX3_restore 23 = .ok (.sipush 8645, 3) := dk_17 33 197 (dk_at dksX3_restore_1 0 rfl rfl)
theorem dX3_restore_26 : decode cX3_restore 26 = .ok (.if_icmp .ge 21, 3) := dk_162 0 21 (dk_at dksX3_restore_1 3 rfl rfl)
theorem dX3_restore_29 : decode cX3_restore 29 = .ok (.aload_n 0, 1) := dk_42 (dk_at dksX3_restore_1 6 rfl rfl)
theorem dX3_restore_30 : decode cX3_restore 30 = .ok (.getfield 7, 3) := dk_180 0 7 (dk_at dksX3_restore_1 7 rfl rfl)
theorem dX3_restore_33 : decode cX3_restore 33 = .ok (.iload_n 1, 1) := dk_27 (dk_at dksX3_restore_1 10 rfl rfl)
theorem dX3_restore_34 : decode cX3_restore 34 = .ok (.aload_n 0, 1) := dk_42 (dk_at dksX3_restore_1 11 rfl rfl)
theorem dX3_restore_35 : decode cX3_restore 35 = .ok (.getfield 13, 3) := dk_180 0 13 (dk_at dksX3_restore_1 12 rfl rfl)
theorem dX3_restore_38 : decode cX3_restore 38 = .ok (.iload_n 1, 1) := dk_27 (dk_at dksX3_restore_1 15 rfl rfl)
theorem dX3_restore_39 : decode cX3_restore 39 = .ok (.iaload, 1) := dk_46 (dk_at dksX3_restore_1 16 rfl rfl)
theorem dX3_restore_40 : decode cX3_restore 40 = .ok (.iastore, 1) := dk_79 (dk_at dksX3_restore_1 17 rfl rfl)
theorem dX3_restore_41 : decode cX3_restore 41 = .ok (.iinc 1 1, 3) := dk_132 1 1 (dk_at dksX3_restore_1 18 rfl rfl)
theorem dX3_restore_44 : decode cX3_restore 44 = .ok (.goto (-22), 3) := dk_167 255 234 (dk_at dksX3_restore_1 21 rfl rfl)
theorem dX3_restore_47 : decode cX3_restore 47 = .ok (.aload_n 0, 1) := dk_42 (dk_at dksX3_restore_2 0 rfl rfl)
theorem dX3_restore_48 : decode cX3_restore 48 = .ok (.iconst 0, 1) := dk_3 (dk_at dksX3_restore_2 1 rfl rfl)
theorem dX3_restore_49 : decode cX3_restore 49 = .ok (.putfield 125, 3) := dk_181 0 125 (dk_at dksX3_restore_2 2 rfl rfl)
theorem dX3_restore_52 : decode cX3_restore 52 = .ok (.aload_n 0, 1) := dk_42 (dk_at dksX3_restore_2 5 rfl rfl)
theorem dX3_restore_53 : decode cX3_restore 53 = .ok (.iconst 0, 1) := dk_3 (dk_at dksX3_restore_2 6 rfl rfl)
theorem dX3_restore_54 : decode cX3_restore 54 = .ok (.putfield 128, 3) := dk_181 0 128 (dk_at dksX3_restore_2 7 rfl rfl)
theorem dX3_restore_57 : decode cX3_restore 57 = .ok (.aload_n 0, 1) := dk_42 (dk_at dksX3_restore_2 10 rfl rfl)
theorem dX3_restore_58 : decode cX3_restore 58 = .ok (.invokevirtual 416, 3) := dk_182 1 160 (dk_at dksX3_restore_2 11 rfl rfl)
theorem dX3_restore_61 : decode cX3_restore 61 = .ok (.ireturn, 1) := dk_172 (dk_at dksX3_restore_2 14 rfl rfl)
theorem q129 : (Jvm.Cond.initialized "DanceNotationModel") ∈ lw_all := lw_g (lw_at lw_m1 12 rfl) rfl
theorem q1010 : (Jvm.Cond.selects "DanceNotationModel" ({ cls := "java/lang/Object", name := "getClass", desc := "()Ljava/lang/Class;" } : Jvm.MethodName) ({ cls := "java/lang/Object", name := "getClass", desc := "()Ljava/lang/Class;" } : Jvm.MethodName)) ∈ lw_all := lw_g (lw_at lw_m4 173 rfl) rfl
theorem q2700 : (Jvm.Cond.instantiable "DanceNotationModel" (53 : Nat)) ∈ lw_all := lw_g (lw_at lw_m11 183 rfl) rfl
theorem q2702 : (Jvm.Cond.instanceMethod ({ cls := "DanceNotationModel", name := "<init>", desc := "()V" } : Jvm.MethodName)) ∈ lw_all := lw_g (lw_at lw_m11 185 rfl) rfl
theorem q2703 : (Jvm.Cond.code ({ cls := "DanceNotationModel", name := "<init>", desc := "()V" } : Jvm.MethodName) prog_24_method_1_code (1 : Nat) (Option.none : Option Jvm.ClassFile.FieldType)) ∈ lw_all := lw_g (lw_at lw_m11 186 rfl) rfl
theorem q2704 : (Jvm.Cond.methodLink "DanceNotationModel" (1 : Nat) ({ cls := "java/lang/Object", name := "<init>", desc := "()V" } : Jvm.MethodName)) ∈ lw_all := lw_g (lw_at lw_m11 187 rfl) rfl
theorem q2705 : (Jvm.Cond.constant "DanceNotationModel" (19 : Nat) (69160 : Int32)) ∈ lw_all := lw_g (lw_at lw_m11 188 rfl) rfl
theorem q2706 : (Jvm.Cond.constant "DanceNotationModel" (70 : Nat) (64000 : Int32)) ∈ lw_all := lw_g (lw_at lw_m11 189 rfl) rfl
theorem q2707 : (Jvm.Cond.methodLink "DanceNotationModel" (107 : Nat) ({ cls := "DanceNotationModel", name := "begins", desc := "(II)V" } : Jvm.MethodName)) ∈ lw_all := lw_g (lw_at lw_m11 190 rfl) rfl
theorem q2708 : (Jvm.Cond.privateMethod ({ cls := "DanceNotationModel", name := "begins", desc := "(II)V" } : Jvm.MethodName)) ∈ lw_tbl := lw_at lw_m11 191 rfl
theorem q2709 : (Jvm.Cond.instanceMethod ({ cls := "DanceNotationModel", name := "begins", desc := "(II)V" } : Jvm.MethodName)) ∈ lw_all := lw_g (lw_at lw_m11 192 rfl) rfl
theorem q2710 : (Jvm.Cond.code ({ cls := "DanceNotationModel", name := "begins", desc := "(II)V" } : Jvm.MethodName) prog_24_method_8_code (4 : Nat) (Option.none : Option Jvm.ClassFile.FieldType)) ∈ lw_all := lw_g (lw_at lw_m11 193 rfl) rfl
theorem q2711 : (Jvm.Cond.fieldLink "DanceNotationModel" (111 : Nat) "DanceNotationModel" "thrown" "I") ∈ lw_all := lw_g (lw_at lw_m11 194 rfl) rfl
theorem q2712 : (Jvm.Cond.fieldLink "DanceNotationModel" (7 : Nat) "DanceNotationModel" "s" "[I") ∈ lw_all := lw_g (lw_at lw_m11 195 rfl) rfl
theorem q2713 : (Jvm.Cond.fieldLink "DanceNotationModel" (13 : Nat) "DanceNotationModel" "saved" "[I") ∈ lw_all := lw_g (lw_at lw_m11 196 rfl) rfl
theorem q2714 : (Jvm.Cond.fieldLink "DanceNotationModel" (16 : Nat) "DanceNotationModel" "frame" "[I") ∈ lw_all := lw_g (lw_at lw_m11 197 rfl) rfl
theorem q2715 : (Jvm.Cond.fieldLink "DanceNotationModel" (20 : Nat) "DanceNotationModel" "history" "[I") ∈ lw_all := lw_g (lw_at lw_m11 198 rfl) rfl
theorem q2716 : (Jvm.Cond.fieldLink "DanceNotationModel" (125 : Nat) "DanceNotationModel" "kept" "I") ∈ lw_all := lw_g (lw_at lw_m11 199 rfl) rfl
theorem q2717 : (Jvm.Cond.fieldLink "DanceNotationModel" (413 : Nat) "DanceNotationModel" "hasSaved" "Z") ∈ lw_all := lw_g (lw_at lw_m11 200 rfl) rfl
theorem q2718 : (Jvm.Cond.fieldLink "DanceNotationModel" (114 : Nat) "DanceNotationModel" "reason" "I") ∈ lw_all := lw_g (lw_at lw_m11 201 rfl) rfl
theorem q2719 : (Jvm.Cond.fieldLink "DanceNotationModel" (23 : Nat) "DanceNotationModel" "refused" "I") ∈ lw_all := lw_g (lw_at lw_m11 202 rfl) rfl
theorem q2720 : (Jvm.Cond.fieldLink "DanceNotationModel" (27 : Nat) "DanceNotationModel" "input" "[I") ∈ lw_all := lw_g (lw_at lw_m11 203 rfl) rfl
theorem q2721 : (Jvm.Cond.fieldLink "DanceNotationModel" (225 : Nat) "DanceNotationModel" "length" "I") ∈ lw_all := lw_g (lw_at lw_m11 204 rfl) rfl
theorem q2722 : (Jvm.Cond.fieldLink "DanceNotationModel" (30 : Nat) "DanceNotationModel" "errorAt" "I") ∈ lw_all := lw_g (lw_at lw_m11 205 rfl) rfl
theorem q2723 : (Jvm.Cond.fieldLink "DanceNotationModel" (33 : Nat) "DanceNotationModel" "out" "[I") ∈ lw_all := lw_g (lw_at lw_m11 206 rfl) rfl
theorem q2724 : (Jvm.Cond.fieldLink "DanceNotationModel" (288 : Nat) "DanceNotationModel" "outLength" "I") ∈ lw_all := lw_g (lw_at lw_m11 207 rfl) rfl
theorem q2725 : (Jvm.Cond.fieldLink "DanceNotationModel" (128 : Nat) "DanceNotationModel" "isKnown" "Z") ∈ lw_all := lw_g (lw_at lw_m11 208 rfl) rfl
theorem q2726 : (Jvm.Cond.fieldLink "DanceNotationModel" (153 : Nat) "DanceNotationModel" "why" "I") ∈ lw_all := lw_g (lw_at lw_m11 209 rfl) rfl
theorem q2727 : (Jvm.Cond.fieldLink "DanceNotationModel" (156 : Nat) "DanceNotationModel" "whyDancer" "I") ∈ lw_all := lw_g (lw_at lw_m11 210 rfl) rfl
theorem q2728 : (Jvm.Cond.fieldLink "DanceNotationModel" (141 : Nat) "DanceNotationModel" "size" "I") ∈ lw_all := lw_g (lw_at lw_m11 211 rfl) rfl
theorem q2729 : (Jvm.Cond.fieldLink "DanceNotationModel" (144 : Nat) "DanceNotationModel" "used" "I") ∈ lw_all := lw_g (lw_at lw_m11 212 rfl) rfl
theorem q2730 : (Jvm.Cond.fieldLink "DanceNotationModel" (147 : Nat) "DanceNotationModel" "depth" "I") ∈ lw_all := lw_g (lw_at lw_m11 213 rfl) rfl
theorem q2731 : (Jvm.Cond.fieldLink "DanceNotationModel" (150 : Nat) "DanceNotationModel" "cues" "I") ∈ lw_all := lw_g (lw_at lw_m11 214 rfl) rfl
theorem q2732 : (Jvm.Cond.fieldLink "DanceNotationModel" (36 : Nat) "DanceNotationModel" "steps" "[I") ∈ lw_all := lw_g (lw_at lw_m11 215 rfl) rfl
theorem q2733 : (Jvm.Cond.fieldLink "DanceNotationModel" (39 : Nat) "DanceNotationModel" "cuesAt" "[I") ∈ lw_all := lw_g (lw_at lw_m11 216 rfl) rfl
theorem q2734 : (Jvm.Cond.fieldLink "DanceNotationModel" (174 : Nat) "DanceNotationModel" "open" "I") ∈ lw_all := lw_g (lw_at lw_m11 217 rfl) rfl
theorem q2735 : (Jvm.Cond.fieldLink "DanceNotationModel" (42 : Nat) "DanceNotationModel" "opKind" "[I") ∈ lw_all := lw_g (lw_at lw_m11 218 rfl) rfl
theorem q2736 : (Jvm.Cond.fieldLink "DanceNotationModel" (45 : Nat) "DanceNotationModel" "opValue" "[I") ∈ lw_all := lw_g (lw_at lw_m11 219 rfl) rfl
theorem q2737 : (Jvm.Cond.fieldLink "DanceNotationModel" (48 : Nat) "DanceNotationModel" "opLeft" "[I") ∈ lw_all := lw_g (lw_at lw_m11 220 rfl) rfl
theorem q2738 : (Jvm.Cond.fieldLink "DanceNotationModel" (51 : Nat) "DanceNotationModel" "opSize" "[I") ∈ lw_all := lw_g (lw_at lw_m11 221 rfl) rfl
theorem q2739 : (Jvm.Cond.fieldLink "DanceNotationModel" (54 : Nat) "DanceNotationModel" "opUsed" "[I") ∈ lw_all := lw_g (lw_at lw_m11 222 rfl) rfl
theorem q2740 : (Jvm.Cond.fieldLink "DanceNotationModel" (57 : Nat) "DanceNotationModel" "opDepth" "[I") ∈ lw_all := lw_g (lw_at lw_m11 223 rfl) rfl
theorem q2741 : (Jvm.Cond.fieldLink "DanceNotationModel" (60 : Nat) "DanceNotationModel" "opCues" "[I") ∈ lw_all := lw_g (lw_at lw_m11 224 rfl) rfl
theorem q2742 : (Jvm.Cond.fieldLink "DanceNotationModel" (63 : Nat) "DanceNotationModel" "opTwice" "[I") ∈ lw_all := lw_g (lw_at lw_m11 225 rfl) rfl
theorem q2743 : (Jvm.Cond.fieldLink "DanceNotationModel" (66 : Nat) "DanceNotationModel" "opLong" "[Z") ∈ lw_all := lw_g (lw_at lw_m11 226 rfl) rfl
theorem q2744 : (Jvm.Cond.fieldLink "DanceNotationModel" (71 : Nat) "DanceNotationModel" "opSteps" "[I") ∈ lw_all := lw_g (lw_at lw_m11 227 rfl) rfl
theorem q2745 : (Jvm.Cond.fieldLink "DanceNotationModel" (74 : Nat) "DanceNotationModel" "opCuesAt" "[I") ∈ lw_all := lw_g (lw_at lw_m11 228 rfl) rfl
theorem q2746 : (Jvm.Cond.fieldLink "DanceNotationModel" (228 : Nat) "DanceNotationModel" "spot" "I") ∈ lw_all := lw_g (lw_at lw_m11 229 rfl) rfl
theorem q2747 : (Jvm.Cond.fieldLink "DanceNotationModel" (231 : Nat) "DanceNotationModel" "isRight" "Z") ∈ lw_all := lw_g (lw_at lw_m11 230 rfl) rfl
theorem q2748 : (Jvm.Cond.fieldLink "DanceNotationModel" (238 : Nat) "DanceNotationModel" "levels" "I") ∈ lw_all := lw_g (lw_at lw_m11 231 rfl) rfl
theorem q2749 : (Jvm.Cond.fieldLink "DanceNotationModel" (77 : Nat) "DanceNotationModel" "seriesOf" "[I") ∈ lw_all := lw_g (lw_at lw_m11 232 rfl) rfl
theorem q2750 : (Jvm.Cond.fieldLink "DanceNotationModel" (80 : Nat) "DanceNotationModel" "layerOf" "[I") ∈ lw_all := lw_g (lw_at lw_m11 233 rfl) rfl
theorem q2751 : (Jvm.Cond.fieldLink "DanceNotationModel" (83 : Nat) "DanceNotationModel" "columnAt" "[I") ∈ lw_all := lw_g (lw_at lw_m11 234 rfl) rfl
theorem q2752 : (Jvm.Cond.fieldLink "DanceNotationModel" (86 : Nat) "DanceNotationModel" "rowAt" "[I") ∈ lw_all := lw_g (lw_at lw_m11 235 rfl) rfl
theorem q2753 : (Jvm.Cond.fieldLink "DanceNotationModel" (352 : Nat) "DanceNotationModel" "found" "I") ∈ lw_all := lw_g (lw_at lw_m11 236 rfl) rfl
theorem q2754 : (Jvm.Cond.fieldLink "DanceNotationModel" (361 : Nat) "DanceNotationModel" "foundCount" "I") ∈ lw_all := lw_g (lw_at lw_m11 237 rfl) rfl
theorem q2755 : (Jvm.Cond.fieldLink "DanceNotationModel" (364 : Nat) "DanceNotationModel" "foundKind" "I") ∈ lw_all := lw_g (lw_at lw_m11 238 rfl) rfl
theorem q2756 : (Jvm.Cond.fieldLink "DanceNotationModel" (367 : Nat) "DanceNotationModel" "foundOne" "I") ∈ lw_all := lw_g (lw_at lw_m11 239 rfl) rfl
theorem q2757 : (Jvm.Cond.fieldLink "DanceNotationModel" (370 : Nat) "DanceNotationModel" "foundOther" "I") ∈ lw_all := lw_g (lw_at lw_m12 0 rfl) rfl
theorem q2758 : (Jvm.Cond.fieldLink "DanceNotationModel" (89 : Nat) "DanceNotationModel" "paths" "[I") ∈ lw_all := lw_g (lw_at lw_m12 1 rfl) rfl
theorem q2759 : (Jvm.Cond.fieldLink "DanceNotationModel" (92 : Nat) "DanceNotationModel" "arrival" "[I") ∈ lw_all := lw_g (lw_at lw_m12 2 rfl) rfl
theorem q2760 : (Jvm.Cond.fieldLink "DanceNotationModel" (95 : Nat) "DanceNotationModel" "pathSteps" "[I") ∈ lw_all := lw_g (lw_at lw_m12 3 rfl) rfl
theorem q2761 : (Jvm.Cond.fieldLink "DanceNotationModel" (98 : Nat) "DanceNotationModel" "hasPath" "[Z") ∈ lw_all := lw_g (lw_at lw_m12 4 rfl) rfl
theorem q2762 : (Jvm.Cond.fieldLink "DanceNotationModel" (101 : Nat) "DanceNotationModel" "isReached" "[Z") ∈ lw_all := lw_g (lw_at lw_m12 5 rfl) rfl
theorem q2763 : (Jvm.Cond.fieldLink "DanceNotationModel" (104 : Nat) "DanceNotationModel" "canCome" "[Z") ∈ lw_all := lw_g (lw_at lw_m12 6 rfl) rfl
theorem q2764 : (Jvm.Cond.lays "DanceNotationModel" "DanceNotationModel" "thrown" "I") ∈ lw_all := lw_g (lw_at lw_m12 7 rfl) rfl
theorem q2765 : (Jvm.Cond.soleField "DanceNotationModel" "thrown") ∈ lw_all := lw_g (lw_at lw_m12 8 rfl) rfl
theorem q2766 : (Jvm.Cond.laysFinal "DanceNotationModel" "DanceNotationModel" "s" "[I") ∈ lw_all := lw_g (lw_at lw_m12 9 rfl) rfl
theorem q2767 : (Jvm.Cond.soleField "DanceNotationModel" "s") ∈ lw_all := lw_g (lw_at lw_m12 10 rfl) rfl
theorem q2768 : (Jvm.Cond.laysFinal "DanceNotationModel" "DanceNotationModel" "saved" "[I") ∈ lw_all := lw_g (lw_at lw_m12 11 rfl) rfl
theorem q2769 : (Jvm.Cond.soleField "DanceNotationModel" "saved") ∈ lw_all := lw_g (lw_at lw_m12 12 rfl) rfl
theorem q2770 : (Jvm.Cond.laysFinal "DanceNotationModel" "DanceNotationModel" "frame" "[I") ∈ lw_all := lw_g (lw_at lw_m12 13 rfl) rfl
theorem q2771 : (Jvm.Cond.soleField "DanceNotationModel" "frame") ∈ lw_all := lw_g (lw_at lw_m12 14 rfl) rfl
theorem q2772 : (Jvm.Cond.laysFinal "DanceNotationModel" "DanceNotationModel" "history" "[I") ∈ lw_all := lw_g (lw_at lw_m12 15 rfl) rfl
theorem q2773 : (Jvm.Cond.soleField "DanceNotationModel" "history") ∈ lw_all := lw_g (lw_at lw_m12 16 rfl) rfl
theorem q2774 : (Jvm.Cond.lays "DanceNotationModel" "DanceNotationModel" "kept" "I") ∈ lw_all := lw_g (lw_at lw_m12 17 rfl) rfl
theorem q2775 : (Jvm.Cond.soleField "DanceNotationModel" "kept") ∈ lw_all := lw_g (lw_at lw_m12 18 rfl) rfl
theorem q2776 : (Jvm.Cond.lays "DanceNotationModel" "DanceNotationModel" "hasSaved" "Z") ∈ lw_all := lw_g (lw_at lw_m12 19 rfl) rfl
theorem q2777 : (Jvm.Cond.soleField "DanceNotationModel" "hasSaved") ∈ lw_all := lw_g (lw_at lw_m12 20 rfl) rfl
theorem q2778 : (Jvm.Cond.lays "DanceNotationModel" "DanceNotationModel" "reason" "I") ∈ lw_all := lw_g (lw_at lw_m12 21 rfl) rfl
theorem q2779 : (Jvm.Cond.soleField "DanceNotationModel" "reason") ∈ lw_all := lw_g (lw_at lw_m12 22 rfl) rfl
theorem q2780 : (Jvm.Cond.lays "DanceNotationModel" "DanceNotationModel" "refused" "I") ∈ lw_all := lw_g (lw_at lw_m12 23 rfl) rfl
theorem q2781 : (Jvm.Cond.soleField "DanceNotationModel" "refused") ∈ lw_all := lw_g (lw_at lw_m12 24 rfl) rfl
theorem q2782 : (Jvm.Cond.laysFinal "DanceNotationModel" "DanceNotationModel" "input" "[I") ∈ lw_all := lw_g (lw_at lw_m12 25 rfl) rfl
theorem q2783 : (Jvm.Cond.soleField "DanceNotationModel" "input") ∈ lw_all := lw_g (lw_at lw_m12 26 rfl) rfl
theorem q2784 : (Jvm.Cond.lays "DanceNotationModel" "DanceNotationModel" "length" "I") ∈ lw_all := lw_g (lw_at lw_m12 27 rfl) rfl
theorem q2785 : (Jvm.Cond.soleField "DanceNotationModel" "length") ∈ lw_all := lw_g (lw_at lw_m12 28 rfl) rfl
theorem q2786 : (Jvm.Cond.lays "DanceNotationModel" "DanceNotationModel" "errorAt" "I") ∈ lw_all := lw_g (lw_at lw_m12 29 rfl) rfl
theorem q2787 : (Jvm.Cond.soleField "DanceNotationModel" "errorAt") ∈ lw_all := lw_g (lw_at lw_m12 30 rfl) rfl
theorem q2788 : (Jvm.Cond.laysFinal "DanceNotationModel" "DanceNotationModel" "out" "[I") ∈ lw_all := lw_g (lw_at lw_m12 31 rfl) rfl
theorem q2789 : (Jvm.Cond.soleField "DanceNotationModel" "out") ∈ lw_all := lw_g (lw_at lw_m12 32 rfl) rfl
theorem q2790 : (Jvm.Cond.lays "DanceNotationModel" "DanceNotationModel" "outLength" "I") ∈ lw_all := lw_g (lw_at lw_m12 33 rfl) rfl
theorem q2791 : (Jvm.Cond.soleField "DanceNotationModel" "outLength") ∈ lw_all := lw_g (lw_at lw_m12 34 rfl) rfl
theorem q2792 : (Jvm.Cond.lays "DanceNotationModel" "DanceNotationModel" "isKnown" "Z") ∈ lw_all := lw_g (lw_at lw_m12 35 rfl) rfl
theorem q2793 : (Jvm.Cond.soleField "DanceNotationModel" "isKnown") ∈ lw_all := lw_g (lw_at lw_m12 36 rfl) rfl
theorem q2794 : (Jvm.Cond.lays "DanceNotationModel" "DanceNotationModel" "why" "I") ∈ lw_all := lw_g (lw_at lw_m12 37 rfl) rfl
theorem q2795 : (Jvm.Cond.soleField "DanceNotationModel" "why") ∈ lw_all := lw_g (lw_at lw_m12 38 rfl) rfl
theorem q2796 : (Jvm.Cond.lays "DanceNotationModel" "DanceNotationModel" "whyDancer" "I") ∈ lw_all := lw_g (lw_at lw_m12 39 rfl) rfl
theorem q2797 : (Jvm.Cond.soleField "DanceNotationModel" "whyDancer") ∈ lw_all := lw_g (lw_at lw_m12 40 rfl) rfl
theorem q2798 : (Jvm.Cond.lays "DanceNotationModel" "DanceNotationModel" "size" "I") ∈ lw_all := lw_g (lw_at lw_m12 41 rfl) rfl
theorem q2799 : (Jvm.Cond.soleField "DanceNotationModel" "size") ∈ lw_all := lw_g (lw_at lw_m12 42 rfl) rfl
theorem q2800 : (Jvm.Cond.lays "DanceNotationModel" "DanceNotationModel" "used" "I") ∈ lw_all := lw_g (lw_at lw_m12 43 rfl) rfl
theorem q2801 : (Jvm.Cond.soleField "DanceNotationModel" "used") ∈ lw_all := lw_g (lw_at lw_m12 44 rfl) rfl
theorem q2802 : (Jvm.Cond.lays "DanceNotationModel" "DanceNotationModel" "depth" "I") ∈ lw_all := lw_g (lw_at lw_m12 45 rfl) rfl
theorem q2803 : (Jvm.Cond.soleField "DanceNotationModel" "depth") ∈ lw_all := lw_g (lw_at lw_m12 46 rfl) rfl
theorem q2804 : (Jvm.Cond.lays "DanceNotationModel" "DanceNotationModel" "cues" "I") ∈ lw_all := lw_g (lw_at lw_m12 47 rfl) rfl
theorem q2805 : (Jvm.Cond.soleField "DanceNotationModel" "cues") ∈ lw_all := lw_g (lw_at lw_m12 48 rfl) rfl
theorem q2806 : (Jvm.Cond.laysFinal "DanceNotationModel" "DanceNotationModel" "steps" "[I") ∈ lw_all := lw_g (lw_at lw_m12 49 rfl) rfl
theorem q2807 : (Jvm.Cond.soleField "DanceNotationModel" "steps") ∈ lw_all := lw_g (lw_at lw_m12 50 rfl) rfl
theorem q2808 : (Jvm.Cond.laysFinal "DanceNotationModel" "DanceNotationModel" "cuesAt" "[I") ∈ lw_all := lw_g (lw_at lw_m12 51 rfl) rfl
theorem q2809 : (Jvm.Cond.soleField "DanceNotationModel" "cuesAt") ∈ lw_all := lw_g (lw_at lw_m12 52 rfl) rfl
theorem q2810 : (Jvm.Cond.lays "DanceNotationModel" "DanceNotationModel" "open" "I") ∈ lw_all := lw_g (lw_at lw_m12 53 rfl) rfl
theorem q2811 : (Jvm.Cond.soleField "DanceNotationModel" "open") ∈ lw_all := lw_g (lw_at lw_m12 54 rfl) rfl
theorem q2812 : (Jvm.Cond.laysFinal "DanceNotationModel" "DanceNotationModel" "opKind" "[I") ∈ lw_all := lw_g (lw_at lw_m12 55 rfl) rfl
theorem q2813 : (Jvm.Cond.soleField "DanceNotationModel" "opKind") ∈ lw_all := lw_g (lw_at lw_m12 56 rfl) rfl
theorem q2814 : (Jvm.Cond.laysFinal "DanceNotationModel" "DanceNotationModel" "opValue" "[I") ∈ lw_all := lw_g (lw_at lw_m12 57 rfl) rfl
theorem q2815 : (Jvm.Cond.soleField "DanceNotationModel" "opValue") ∈ lw_all := lw_g (lw_at lw_m12 58 rfl) rfl
theorem q2816 : (Jvm.Cond.laysFinal "DanceNotationModel" "DanceNotationModel" "opLeft" "[I") ∈ lw_all := lw_g (lw_at lw_m12 59 rfl) rfl
theorem q2817 : (Jvm.Cond.soleField "DanceNotationModel" "opLeft") ∈ lw_all := lw_g (lw_at lw_m12 60 rfl) rfl
theorem q2818 : (Jvm.Cond.laysFinal "DanceNotationModel" "DanceNotationModel" "opSize" "[I") ∈ lw_all := lw_g (lw_at lw_m12 61 rfl) rfl
theorem q2819 : (Jvm.Cond.soleField "DanceNotationModel" "opSize") ∈ lw_all := lw_g (lw_at lw_m12 62 rfl) rfl
theorem q2820 : (Jvm.Cond.laysFinal "DanceNotationModel" "DanceNotationModel" "opUsed" "[I") ∈ lw_all := lw_g (lw_at lw_m12 63 rfl) rfl
theorem q2821 : (Jvm.Cond.soleField "DanceNotationModel" "opUsed") ∈ lw_all := lw_g (lw_at lw_m12 64 rfl) rfl
theorem q2822 : (Jvm.Cond.laysFinal "DanceNotationModel" "DanceNotationModel" "opDepth" "[I") ∈ lw_all := lw_g (lw_at lw_m12 65 rfl) rfl
theorem q2823 : (Jvm.Cond.soleField "DanceNotationModel" "opDepth") ∈ lw_all := lw_g (lw_at lw_m12 66 rfl) rfl
theorem q2824 : (Jvm.Cond.laysFinal "DanceNotationModel" "DanceNotationModel" "opCues" "[I") ∈ lw_all := lw_g (lw_at lw_m12 67 rfl) rfl
theorem q2825 : (Jvm.Cond.soleField "DanceNotationModel" "opCues") ∈ lw_all := lw_g (lw_at lw_m12 68 rfl) rfl
theorem q2826 : (Jvm.Cond.laysFinal "DanceNotationModel" "DanceNotationModel" "opTwice" "[I") ∈ lw_all := lw_g (lw_at lw_m12 69 rfl) rfl
theorem q2827 : (Jvm.Cond.soleField "DanceNotationModel" "opTwice") ∈ lw_all := lw_g (lw_at lw_m12 70 rfl) rfl
theorem q2828 : (Jvm.Cond.laysFinal "DanceNotationModel" "DanceNotationModel" "opLong" "[Z") ∈ lw_all := lw_g (lw_at lw_m12 71 rfl) rfl
theorem q2829 : (Jvm.Cond.soleField "DanceNotationModel" "opLong") ∈ lw_all := lw_g (lw_at lw_m12 72 rfl) rfl
theorem q2830 : (Jvm.Cond.laysFinal "DanceNotationModel" "DanceNotationModel" "opSteps" "[I") ∈ lw_all := lw_g (lw_at lw_m12 73 rfl) rfl
theorem q2831 : (Jvm.Cond.soleField "DanceNotationModel" "opSteps") ∈ lw_all := lw_g (lw_at lw_m12 74 rfl) rfl
theorem q2832 : (Jvm.Cond.laysFinal "DanceNotationModel" "DanceNotationModel" "opCuesAt" "[I") ∈ lw_all := lw_g (lw_at lw_m12 75 rfl) rfl
theorem q2833 : (Jvm.Cond.soleField "DanceNotationModel" "opCuesAt") ∈ lw_all := lw_g (lw_at lw_m12 76 rfl) rfl
theorem q2834 : (Jvm.Cond.lays "DanceNotationModel" "DanceNotationModel" "spot" "I") ∈ lw_all := lw_g (lw_at lw_m12 77 rfl) rfl
theorem q2835 : (Jvm.Cond.soleField "DanceNotationModel" "spot") ∈ lw_all := lw_g (lw_at lw_m12 78 rfl) rfl
theorem q2836 : (Jvm.Cond.lays "DanceNotationModel" "DanceNotationModel" "isRight" "Z") ∈ lw_all := lw_g (lw_at lw_m12 79 rfl) rfl
theorem q2837 : (Jvm.Cond.soleField "DanceNotationModel" "isRight") ∈ lw_all := lw_g (lw_at lw_m12 80 rfl) rfl
theorem q2838 : (Jvm.Cond.lays "DanceNotationModel" "DanceNotationModel" "levels" "I") ∈ lw_all := lw_g (lw_at lw_m12 81 rfl) rfl
theorem q2839 : (Jvm.Cond.soleField "DanceNotationModel" "levels") ∈ lw_all := lw_g (lw_at lw_m12 82 rfl) rfl
theorem q2840 : (Jvm.Cond.laysFinal "DanceNotationModel" "DanceNotationModel" "seriesOf" "[I") ∈ lw_all := lw_g (lw_at lw_m12 83 rfl) rfl
theorem q2841 : (Jvm.Cond.soleField "DanceNotationModel" "seriesOf") ∈ lw_all := lw_g (lw_at lw_m12 84 rfl) rfl
theorem q2842 : (Jvm.Cond.laysFinal "DanceNotationModel" "DanceNotationModel" "layerOf" "[I") ∈ lw_all := lw_g (lw_at lw_m12 85 rfl) rfl
theorem q2843 : (Jvm.Cond.soleField "DanceNotationModel" "layerOf") ∈ lw_all := lw_g (lw_at lw_m12 86 rfl) rfl
theorem q2844 : (Jvm.Cond.laysFinal "DanceNotationModel" "DanceNotationModel" "columnAt" "[I") ∈ lw_all := lw_g (lw_at lw_m12 87 rfl) rfl
theorem q2845 : (Jvm.Cond.soleField "DanceNotationModel" "columnAt") ∈ lw_all := lw_g (lw_at lw_m12 88 rfl) rfl
theorem q2846 : (Jvm.Cond.laysFinal "DanceNotationModel" "DanceNotationModel" "rowAt" "[I") ∈ lw_all := lw_g (lw_at lw_m12 89 rfl) rfl
theorem q2847 : (Jvm.Cond.soleField "DanceNotationModel" "rowAt") ∈ lw_all := lw_g (lw_at lw_m12 90 rfl) rfl
theorem q2848 : (Jvm.Cond.lays "DanceNotationModel" "DanceNotationModel" "found" "I") ∈ lw_all := lw_g (lw_at lw_m12 91 rfl) rfl
theorem q2849 : (Jvm.Cond.soleField "DanceNotationModel" "found") ∈ lw_all := lw_g (lw_at lw_m12 92 rfl) rfl
theorem q2850 : (Jvm.Cond.lays "DanceNotationModel" "DanceNotationModel" "foundCount" "I") ∈ lw_all := lw_g (lw_at lw_m12 93 rfl) rfl
theorem q2851 : (Jvm.Cond.soleField "DanceNotationModel" "foundCount") ∈ lw_all := lw_g (lw_at lw_m12 94 rfl) rfl
theorem q2852 : (Jvm.Cond.lays "DanceNotationModel" "DanceNotationModel" "foundKind" "I") ∈ lw_all := lw_g (lw_at lw_m12 95 rfl) rfl
theorem q2853 : (Jvm.Cond.soleField "DanceNotationModel" "foundKind") ∈ lw_all := lw_g (lw_at lw_m12 96 rfl) rfl
theorem q2854 : (Jvm.Cond.lays "DanceNotationModel" "DanceNotationModel" "foundOne" "I") ∈ lw_all := lw_g (lw_at lw_m12 97 rfl) rfl
theorem q2855 : (Jvm.Cond.soleField "DanceNotationModel" "foundOne") ∈ lw_all := lw_g (lw_at lw_m12 98 rfl) rfl
theorem q2856 : (Jvm.Cond.lays "DanceNotationModel" "DanceNotationModel" "foundOther" "I") ∈ lw_all := lw_g (lw_at lw_m12 99 rfl) rfl
theorem q2857 : (Jvm.Cond.soleField "DanceNotationModel" "foundOther") ∈ lw_all := lw_g (lw_at lw_m12 100 rfl) rfl
theorem q2858 : (Jvm.Cond.laysFinal "DanceNotationModel" "DanceNotationModel" "paths" "[I") ∈ lw_all := lw_g (lw_at lw_m12 101 rfl) rfl
theorem q2859 : (Jvm.Cond.soleField "DanceNotationModel" "paths") ∈ lw_all := lw_g (lw_at lw_m12 102 rfl) rfl
theorem q2860 : (Jvm.Cond.laysFinal "DanceNotationModel" "DanceNotationModel" "arrival" "[I") ∈ lw_all := lw_g (lw_at lw_m12 103 rfl) rfl
theorem q2861 : (Jvm.Cond.soleField "DanceNotationModel" "arrival") ∈ lw_all := lw_g (lw_at lw_m12 104 rfl) rfl
theorem q2862 : (Jvm.Cond.laysFinal "DanceNotationModel" "DanceNotationModel" "pathSteps" "[I") ∈ lw_all := lw_g (lw_at lw_m12 105 rfl) rfl
theorem q2863 : (Jvm.Cond.soleField "DanceNotationModel" "pathSteps") ∈ lw_all := lw_g (lw_at lw_m12 106 rfl) rfl
theorem q2864 : (Jvm.Cond.laysFinal "DanceNotationModel" "DanceNotationModel" "hasPath" "[Z") ∈ lw_all := lw_g (lw_at lw_m12 107 rfl) rfl
theorem q2865 : (Jvm.Cond.soleField "DanceNotationModel" "hasPath") ∈ lw_all := lw_g (lw_at lw_m12 108 rfl) rfl
theorem q2866 : (Jvm.Cond.laysFinal "DanceNotationModel" "DanceNotationModel" "isReached" "[Z") ∈ lw_all := lw_g (lw_at lw_m12 109 rfl) rfl
theorem q2867 : (Jvm.Cond.soleField "DanceNotationModel" "isReached") ∈ lw_all := lw_g (lw_at lw_m12 110 rfl) rfl
theorem q2868 : (Jvm.Cond.laysFinal "DanceNotationModel" "DanceNotationModel" "canCome" "[Z") ∈ lw_all := lw_g (lw_at lw_m12 111 rfl) rfl
theorem q2869 : (Jvm.Cond.soleField "DanceNotationModel" "canCome") ∈ lw_all := lw_g (lw_at lw_m12 112 rfl) rfl
theorem q2870 : (Jvm.Cond.superclass "DanceNotationModel" "java/lang/Object") ∈ lw_all := lw_g (lw_at lw_m12 113 rfl) rfl
theorem q2872 : (Jvm.Cond.instanceMethod ({ cls := "DanceNotationModel", name := "thrown", desc := "()I" } : Jvm.MethodName)) ∈ lw_all := lw_g (lw_at lw_m12 115 rfl) rfl
theorem q2873 : (Jvm.Cond.selects "DanceNotationModel" ({ cls := "DanceNotationModel", name := "thrown", desc := "()I" } : Jvm.MethodName) ({ cls := "DanceNotationModel", name := "thrown", desc := "()I" } : Jvm.MethodName)) ∈ lw_all := lw_g (lw_at lw_m12 116 rfl) rfl
theorem q2874 : (Jvm.Cond.code ({ cls := "DanceNotationModel", name := "thrown", desc := "()I" } : Jvm.MethodName) prog_24_method_2_code (1 : Nat) (Option.some Jvm.ClassFile.FieldType.int)) ∈ lw_all := lw_g (lw_at lw_m12 117 rfl) rfl
theorem q2876 : (Jvm.Cond.instanceMethod ({ cls := "DanceNotationModel", name := "stage", desc := "(II)I" } : Jvm.MethodName)) ∈ lw_all := lw_g (lw_at lw_m12 119 rfl) rfl
theorem q2877 : (Jvm.Cond.selects "DanceNotationModel" ({ cls := "DanceNotationModel", name := "stage", desc := "(II)I" } : Jvm.MethodName) ({ cls := "DanceNotationModel", name := "stage", desc := "(II)I" } : Jvm.MethodName)) ∈ lw_all := lw_g (lw_at lw_m12 120 rfl) rfl
theorem q2878 : (Jvm.Cond.code ({ cls := "DanceNotationModel", name := "stage", desc := "(II)I" } : Jvm.MethodName) prog_24_method_33_code (3 : Nat) (Option.some Jvm.ClassFile.FieldType.int)) ∈ lw_all := lw_g (lw_at lw_m12 121 rfl) rfl
theorem q2879 : (Jvm.Cond.methodLink "DanceNotationModel" (121 : Nat) ({ cls := "DanceNotationModel", name := "in", desc := "(III)Z" } : Jvm.MethodName)) ∈ lw_all := lw_g (lw_at lw_m12 122 rfl) rfl
theorem q2880 : (Jvm.Cond.static ({ cls := "DanceNotationModel", name := "in", desc := "(III)Z" } : Jvm.MethodName)) ∈ lw_all := lw_g (lw_at lw_m12 123 rfl) rfl
theorem q2881 : (Jvm.Cond.code ({ cls := "DanceNotationModel", name := "in", desc := "(III)Z" } : Jvm.MethodName) prog_24_method_5_code (3 : Nat) (Option.some Jvm.ClassFile.FieldType.boolean)) ∈ lw_all := lw_g (lw_at lw_m12 124 rfl) rfl
theorem q2882 : (Jvm.Cond.methodLink "DanceNotationModel" (117 : Nat) ({ cls := "DanceNotationModel", name := "fails", desc := "(I)I" } : Jvm.MethodName)) ∈ lw_all := lw_g (lw_at lw_m12 125 rfl) rfl
theorem q2883 : (Jvm.Cond.privateMethod ({ cls := "DanceNotationModel", name := "fails", desc := "(I)I" } : Jvm.MethodName)) ∈ lw_tbl := lw_at lw_m12 126 rfl
theorem q2884 : (Jvm.Cond.instanceMethod ({ cls := "DanceNotationModel", name := "fails", desc := "(I)I" } : Jvm.MethodName)) ∈ lw_all := lw_g (lw_at lw_m12 127 rfl) rfl
theorem q2885 : (Jvm.Cond.code ({ cls := "DanceNotationModel", name := "fails", desc := "(I)I" } : Jvm.MethodName) prog_24_method_3_code (2 : Nat) (Option.some Jvm.ClassFile.FieldType.int)) ∈ lw_all := lw_g (lw_at lw_m12 128 rfl) rfl
theorem q2887 : (Jvm.Cond.instanceMethod ({ cls := "DanceNotationModel", name := "place", desc := "(II)I" } : Jvm.MethodName)) ∈ lw_all := lw_g (lw_at lw_m12 130 rfl) rfl
theorem q2888 : (Jvm.Cond.selects "DanceNotationModel" ({ cls := "DanceNotationModel", name := "place", desc := "(II)I" } : Jvm.MethodName) ({ cls := "DanceNotationModel", name := "place", desc := "(II)I" } : Jvm.MethodName)) ∈ lw_all := lw_g (lw_at lw_m12 131 rfl) rfl
theorem q2889 : (Jvm.Cond.code ({ cls := "DanceNotationModel", name := "place", desc := "(II)I" } : Jvm.MethodName) prog_24_method_36_code (3 : Nat) (Option.some Jvm.ClassFile.FieldType.int)) ∈ lw_all := lw_g (lw_at lw_m12 132 rfl) rfl
theorem q2890 : (Jvm.Cond.methodLink "DanceNotationModel" (214 : Nat) ({ cls := "DanceNotationModel", name := "isDancer", desc := "(I)Z" } : Jvm.MethodName)) ∈ lw_all := lw_g (lw_at lw_m12 133 rfl) rfl
theorem q2891 : (Jvm.Cond.static ({ cls := "DanceNotationModel", name := "isDancer", desc := "(I)Z" } : Jvm.MethodName)) ∈ lw_all := lw_g (lw_at lw_m12 134 rfl) rfl
theorem q2892 : (Jvm.Cond.code ({ cls := "DanceNotationModel", name := "isDancer", desc := "(I)Z" } : Jvm.MethodName) prog_24_method_6_code (1 : Nat) (Option.some Jvm.ClassFile.FieldType.boolean)) ∈ lw_all := lw_g (lw_at lw_m12 135 rfl) rfl
theorem q2893 : (Jvm.Cond.methodLink "DanceNotationModel" (218 : Nat) ({ cls := "DanceNotationModel", name := "isPlace", desc := "(I)Z" } : Jvm.MethodName)) ∈ lw_all := lw_g (lw_at lw_m12 136 rfl) rfl
theorem q2894 : (Jvm.Cond.privateMethod ({ cls := "DanceNotationModel", name := "isPlace", desc := "(I)Z" } : Jvm.MethodName)) ∈ lw_tbl := lw_at lw_m12 137 rfl
theorem q2895 : (Jvm.Cond.instanceMethod ({ cls := "DanceNotationModel", name := "isPlace", desc := "(I)Z" } : Jvm.MethodName)) ∈ lw_all := lw_g (lw_at lw_m12 138 rfl) rfl
theorem q2896 : (Jvm.Cond.code ({ cls := "DanceNotationModel", name := "isPlace", desc := "(I)Z" } : Jvm.MethodName) prog_24_method_7_code (2 : Nat) (Option.some Jvm.ClassFile.FieldType.boolean)) ∈ lw_all := lw_g (lw_at lw_m12 139 rfl) rfl
theorem q2897 : (Jvm.Cond.methodLink "DanceNotationModel" (221 : Nat) ({ cls := "DanceNotationModel", name := "sets", desc := "(III)I" } : Jvm.MethodName)) ∈ lw_all := lw_g (lw_at lw_m12 140 rfl) rfl
theorem q2898 : (Jvm.Cond.privateMethod ({ cls := "DanceNotationModel", name := "sets", desc := "(III)I" } : Jvm.MethodName)) ∈ lw_tbl := lw_at lw_m12 141 rfl
theorem q2899 : (Jvm.Cond.instanceMethod ({ cls := "DanceNotationModel", name := "sets", desc := "(III)I" } : Jvm.MethodName)) ∈ lw_all := lw_g (lw_at lw_m12 142 rfl) rfl
theorem q2900 : (Jvm.Cond.code ({ cls := "DanceNotationModel", name := "sets", desc := "(III)I" } : Jvm.MethodName) prog_24_method_35_code (5 : Nat) (Option.some Jvm.ClassFile.FieldType.int)) ∈ lw_all := lw_g (lw_at lw_m12 143 rfl) rfl
theorem q2901 : (Jvm.Cond.methodLink "DanceNotationModel" (205 : Nat) ({ cls := "DanceNotationModel", name := "isTaken", desc := "(III)Z" } : Jvm.MethodName)) ∈ lw_all := lw_g (lw_at lw_m12 144 rfl) rfl
theorem q2902 : (Jvm.Cond.privateMethod ({ cls := "DanceNotationModel", name := "isTaken", desc := "(III)Z" } : Jvm.MethodName)) ∈ lw_tbl := lw_at lw_m12 145 rfl
theorem q2903 : (Jvm.Cond.instanceMethod ({ cls := "DanceNotationModel", name := "isTaken", desc := "(III)Z" } : Jvm.MethodName)) ∈ lw_all := lw_g (lw_at lw_m12 146 rfl) rfl
theorem q2904 : (Jvm.Cond.code ({ cls := "DanceNotationModel", name := "isTaken", desc := "(III)Z" } : Jvm.MethodName) prog_24_method_34_code (6 : Nat) (Option.some Jvm.ClassFile.FieldType.boolean)) ∈ lw_all := lw_g (lw_at lw_m12 147 rfl) rfl
theorem q2905 : (Jvm.Cond.methodLink "DanceNotationModel" (208 : Nat) ({ cls := "DanceNotationModel", name := "frames", desc := "()V" } : Jvm.MethodName)) ∈ lw_all := lw_g (lw_at lw_m12 148 rfl) rfl
theorem q2906 : (Jvm.Cond.privateMethod ({ cls := "DanceNotationModel", name := "frames", desc := "()V" } : Jvm.MethodName)) ∈ lw_tbl := lw_at lw_m12 149 rfl
theorem q2907 : (Jvm.Cond.instanceMethod ({ cls := "DanceNotationModel", name := "frames", desc := "()V" } : Jvm.MethodName)) ∈ lw_all := lw_g (lw_at lw_m12 150 rfl) rfl
theorem q2908 : (Jvm.Cond.code ({ cls := "DanceNotationModel", name := "frames", desc := "()V" } : Jvm.MethodName) prog_24_method_9_code (2 : Nat) (Option.none : Option Jvm.ClassFile.FieldType)) ∈ lw_all := lw_g (lw_at lw_m12 151 rfl) rfl
theorem q2909 : (Jvm.Cond.methodLink "DanceNotationModel" (211 : Nat) ({ cls := "DanceNotationModel", name := "keeps", desc := "()V" } : Jvm.MethodName)) ∈ lw_all := lw_g (lw_at lw_m12 152 rfl) rfl
theorem q2910 : (Jvm.Cond.privateMethod ({ cls := "DanceNotationModel", name := "keeps", desc := "()V" } : Jvm.MethodName)) ∈ lw_tbl := lw_at lw_m12 153 rfl
theorem q2911 : (Jvm.Cond.instanceMethod ({ cls := "DanceNotationModel", name := "keeps", desc := "()V" } : Jvm.MethodName)) ∈ lw_all := lw_g (lw_at lw_m12 154 rfl) rfl
theorem q2912 : (Jvm.Cond.code ({ cls := "DanceNotationModel", name := "keeps", desc := "()V" } : Jvm.MethodName) prog_24_method_11_code (2 : Nat) (Option.none : Option Jvm.ClassFile.FieldType)) ∈ lw_all := lw_g (lw_at lw_m12 155 rfl) rfl
theorem q2913 : (Jvm.Cond.constant "DanceNotationModel" (132 : Nat) (60515 : Int32)) ∈ lw_all := lw_g (lw_at lw_m12 156 rfl) rfl
theorem q2915 : (Jvm.Cond.instanceMethod ({ cls := "DanceNotationModel", name := "append", desc := "(C)I" } : Jvm.MethodName)) ∈ lw_all := lw_g (lw_at lw_m12 158 rfl) rfl
theorem q2916 : (Jvm.Cond.selects "DanceNotationModel" ({ cls := "DanceNotationModel", name := "append", desc := "(C)I" } : Jvm.MethodName) ({ cls := "DanceNotationModel", name := "append", desc := "(C)I" } : Jvm.MethodName)) ∈ lw_all := lw_g (lw_at lw_m12 159 rfl) rfl
theorem q2917 : (Jvm.Cond.code ({ cls := "DanceNotationModel", name := "append", desc := "(C)I" } : Jvm.MethodName) prog_24_method_37_code (2 : Nat) (Option.some Jvm.ClassFile.FieldType.int)) ∈ lw_all := lw_g (lw_at lw_m12 160 rfl) rfl
theorem q2919 : (Jvm.Cond.instanceMethod ({ cls := "DanceNotationModel", name := "read", desc := "()I" } : Jvm.MethodName)) ∈ lw_all := lw_g (lw_at lw_m12 162 rfl) rfl
theorem q2920 : (Jvm.Cond.selects "DanceNotationModel" ({ cls := "DanceNotationModel", name := "read", desc := "()I" } : Jvm.MethodName) ({ cls := "DanceNotationModel", name := "read", desc := "()I" } : Jvm.MethodName)) ∈ lw_all := lw_g (lw_at lw_m12 163 rfl) rfl
theorem q2921 : (Jvm.Cond.code ({ cls := "DanceNotationModel", name := "read", desc := "()I" } : Jvm.MethodName) prog_24_method_50_code (2 : Nat) (Option.some Jvm.ClassFile.FieldType.int)) ∈ lw_all := lw_g (lw_at lw_m12 164 rfl) rfl
theorem q2922 : (Jvm.Cond.methodLink "DanceNotationModel" (279 : Nat) ({ cls := "DanceNotationModel", name := "isText", desc := "()Z" } : Jvm.MethodName)) ∈ lw_all := lw_g (lw_at lw_m12 165 rfl) rfl
theorem q2923 : (Jvm.Cond.privateMethod ({ cls := "DanceNotationModel", name := "isText", desc := "()Z" } : Jvm.MethodName)) ∈ lw_tbl := lw_at lw_m12 166 rfl
theorem q2924 : (Jvm.Cond.instanceMethod ({ cls := "DanceNotationModel", name := "isText", desc := "()Z" } : Jvm.MethodName)) ∈ lw_all := lw_g (lw_at lw_m12 167 rfl) rfl
theorem q2925 : (Jvm.Cond.code ({ cls := "DanceNotationModel", name := "isText", desc := "()Z" } : Jvm.MethodName) prog_24_method_48_code (2 : Nat) (Option.some Jvm.ClassFile.FieldType.boolean)) ∈ lw_all := lw_g (lw_at lw_m12 168 rfl) rfl
theorem q2926 : (Jvm.Cond.methodLink "DanceNotationModel" (263 : Nat) ({ cls := "DanceNotationModel", name := "beginsSeries", desc := "()V" } : Jvm.MethodName)) ∈ lw_all := lw_g (lw_at lw_m12 169 rfl) rfl
theorem q2927 : (Jvm.Cond.privateMethod ({ cls := "DanceNotationModel", name := "beginsSeries", desc := "()V" } : Jvm.MethodName)) ∈ lw_tbl := lw_at lw_m12 170 rfl
theorem q2928 : (Jvm.Cond.instanceMethod ({ cls := "DanceNotationModel", name := "beginsSeries", desc := "()V" } : Jvm.MethodName)) ∈ lw_all := lw_g (lw_at lw_m12 171 rfl) rfl
theorem q2929 : (Jvm.Cond.code ({ cls := "DanceNotationModel", name := "beginsSeries", desc := "()V" } : Jvm.MethodName) prog_24_method_41_code (1 : Nat) (Option.none : Option Jvm.ClassFile.FieldType)) ∈ lw_all := lw_g (lw_at lw_m12 172 rfl) rfl
theorem q2930 : (Jvm.Cond.methodLink "DanceNotationModel" (241 : Nat) ({ cls := "DanceNotationModel", name := "appends", desc := "(III)V" } : Jvm.MethodName)) ∈ lw_all := lw_g (lw_at lw_m12 173 rfl) rfl
theorem q2931 : (Jvm.Cond.privateMethod ({ cls := "DanceNotationModel", name := "appends", desc := "(III)V" } : Jvm.MethodName)) ∈ lw_tbl := lw_at lw_m12 174 rfl
theorem q2932 : (Jvm.Cond.instanceMethod ({ cls := "DanceNotationModel", name := "appends", desc := "(III)V" } : Jvm.MethodName)) ∈ lw_all := lw_g (lw_at lw_m12 175 rfl) rfl
theorem q2933 : (Jvm.Cond.code ({ cls := "DanceNotationModel", name := "appends", desc := "(III)V" } : Jvm.MethodName) prog_24_method_18_code (5 : Nat) (Option.none : Option Jvm.ClassFile.FieldType)) ∈ lw_all := lw_g (lw_at lw_m12 176 rfl) rfl
theorem q2934 : (Jvm.Cond.methodLink "DanceNotationModel" (137 : Nat) ({ cls := "DanceNotationModel", name := "put", desc := "(III)V" } : Jvm.MethodName)) ∈ lw_all := lw_g (lw_at lw_m12 177 rfl) rfl
theorem q2935 : (Jvm.Cond.privateMethod ({ cls := "DanceNotationModel", name := "put", desc := "(III)V" } : Jvm.MethodName)) ∈ lw_tbl := lw_at lw_m12 178 rfl
theorem q2936 : (Jvm.Cond.instanceMethod ({ cls := "DanceNotationModel", name := "put", desc := "(III)V" } : Jvm.MethodName)) ∈ lw_all := lw_g (lw_at lw_m12 179 rfl) rfl
theorem q2937 : (Jvm.Cond.code ({ cls := "DanceNotationModel", name := "put", desc := "(III)V" } : Jvm.MethodName) prog_24_method_14_code (4 : Nat) (Option.none : Option Jvm.ClassFile.FieldType)) ∈ lw_all := lw_g (lw_at lw_m12 180 rfl) rfl
theorem q2938 : (Jvm.Cond.methodLink "DanceNotationModel" (244 : Nat) ({ cls := "DanceNotationModel", name := "beginsLayer", desc := "()V" } : Jvm.MethodName)) ∈ lw_all := lw_g (lw_at lw_m12 181 rfl) rfl
theorem q2939 : (Jvm.Cond.privateMethod ({ cls := "DanceNotationModel", name := "beginsLayer", desc := "()V" } : Jvm.MethodName)) ∈ lw_tbl := lw_at lw_m12 182 rfl
theorem q2940 : (Jvm.Cond.instanceMethod ({ cls := "DanceNotationModel", name := "beginsLayer", desc := "()V" } : Jvm.MethodName)) ∈ lw_all := lw_g (lw_at lw_m12 183 rfl) rfl
theorem q2941 : (Jvm.Cond.code ({ cls := "DanceNotationModel", name := "beginsLayer", desc := "()V" } : Jvm.MethodName) prog_24_method_42_code (1 : Nat) (Option.none : Option Jvm.ClassFile.FieldType)) ∈ lw_all := lw_g (lw_at lw_m12 184 rfl) rfl
theorem q2942 : (Jvm.Cond.methodLink "DanceNotationModel" (133 : Nat) ({ cls := "DanceNotationModel", name := "of", desc := "(II)I" } : Jvm.MethodName)) ∈ lw_all := lw_g (lw_at lw_m12 185 rfl) rfl
theorem q2943 : (Jvm.Cond.privateMethod ({ cls := "DanceNotationModel", name := "of", desc := "(II)I" } : Jvm.MethodName)) ∈ lw_tbl := lw_at lw_m12 186 rfl
theorem q2944 : (Jvm.Cond.instanceMethod ({ cls := "DanceNotationModel", name := "of", desc := "(II)I" } : Jvm.MethodName)) ∈ lw_all := lw_g (lw_at lw_m12 187 rfl) rfl
theorem q2945 : (Jvm.Cond.code ({ cls := "DanceNotationModel", name := "of", desc := "(II)I" } : Jvm.MethodName) prog_24_method_12_code (3 : Nat) (Option.some Jvm.ClassFile.FieldType.int)) ∈ lw_all := lw_g (lw_at lw_m12 188 rfl) rfl
theorem q2946 : (Jvm.Cond.methodLink "DanceNotationModel" (272 : Nat) ({ cls := "DanceNotationModel", name := "begun", desc := "()Z" } : Jvm.MethodName)) ∈ lw_all := lw_g (lw_at lw_m12 189 rfl) rfl
theorem q2947 : (Jvm.Cond.privateMethod ({ cls := "DanceNotationModel", name := "begun", desc := "()Z" } : Jvm.MethodName)) ∈ lw_tbl := lw_at lw_m12 190 rfl
theorem q2948 : (Jvm.Cond.instanceMethod ({ cls := "DanceNotationModel", name := "begun", desc := "()Z" } : Jvm.MethodName)) ∈ lw_all := lw_g (lw_at lw_m12 191 rfl) rfl
theorem q2949 : (Jvm.Cond.code ({ cls := "DanceNotationModel", name := "begun", desc := "()Z" } : Jvm.MethodName) prog_24_method_46_code (4 : Nat) (Option.some Jvm.ClassFile.FieldType.boolean)) ∈ lw_all := lw_g (lw_at lw_m12 192 rfl) rfl
theorem q2950 : (Jvm.Cond.methodLink "DanceNotationModel" (234 : Nat) ({ cls := "DanceNotationModel", name := "here", desc := "()I" } : Jvm.MethodName)) ∈ lw_all := lw_g (lw_at lw_m12 193 rfl) rfl
theorem q2951 : (Jvm.Cond.privateMethod ({ cls := "DanceNotationModel", name := "here", desc := "()I" } : Jvm.MethodName)) ∈ lw_tbl := lw_at lw_m12 194 rfl
theorem q2952 : (Jvm.Cond.instanceMethod ({ cls := "DanceNotationModel", name := "here", desc := "()I" } : Jvm.MethodName)) ∈ lw_all := lw_g (lw_at lw_m12 195 rfl) rfl
theorem q2953 : (Jvm.Cond.code ({ cls := "DanceNotationModel", name := "here", desc := "()I" } : Jvm.MethodName) prog_24_method_38_code (1 : Nat) (Option.some Jvm.ClassFile.FieldType.int)) ∈ lw_all := lw_g (lw_at lw_m12 196 rfl) rfl
theorem q2954 : (Jvm.Cond.methodLink "DanceNotationModel" (251 : Nat) ({ cls := "DanceNotationModel", name := "next", desc := "()I" } : Jvm.MethodName)) ∈ lw_all := lw_g (lw_at lw_m12 197 rfl) rfl
theorem q2955 : (Jvm.Cond.privateMethod ({ cls := "DanceNotationModel", name := "next", desc := "()I" } : Jvm.MethodName)) ∈ lw_tbl := lw_at lw_m12 198 rfl
theorem q2956 : (Jvm.Cond.instanceMethod ({ cls := "DanceNotationModel", name := "next", desc := "()I" } : Jvm.MethodName)) ∈ lw_all := lw_g (lw_at lw_m12 199 rfl) rfl
theorem q2957 : (Jvm.Cond.code ({ cls := "DanceNotationModel", name := "next", desc := "()I" } : Jvm.MethodName) prog_24_method_39_code (1 : Nat) (Option.some Jvm.ClassFile.FieldType.int)) ∈ lw_all := lw_g (lw_at lw_m12 200 rfl) rfl
theorem q2958 : (Jvm.Cond.methodLink "DanceNotationModel" (247 : Nat) ({ cls := "DanceNotationModel", name := "isHere", desc := "(CC)Z" } : Jvm.MethodName)) ∈ lw_all := lw_g (lw_at lw_m12 201 rfl) rfl
theorem q2959 : (Jvm.Cond.privateMethod ({ cls := "DanceNotationModel", name := "isHere", desc := "(CC)Z" } : Jvm.MethodName)) ∈ lw_tbl := lw_at lw_m12 202 rfl
theorem q2960 : (Jvm.Cond.instanceMethod ({ cls := "DanceNotationModel", name := "isHere", desc := "(CC)Z" } : Jvm.MethodName)) ∈ lw_all := lw_g (lw_at lw_m12 203 rfl) rfl
theorem q2961 : (Jvm.Cond.code ({ cls := "DanceNotationModel", name := "isHere", desc := "(CC)Z" } : Jvm.MethodName) prog_24_method_40_code (3 : Nat) (Option.some Jvm.ClassFile.FieldType.boolean)) ∈ lw_all := lw_g (lw_at lw_m12 204 rfl) rfl
theorem q2962 : (Jvm.Cond.methodLink "DanceNotationModel" (266 : Nat) ({ cls := "DanceNotationModel", name := "phrase", desc := "(II)V" } : Jvm.MethodName)) ∈ lw_all := lw_g (lw_at lw_m12 205 rfl) rfl
theorem q2963 : (Jvm.Cond.privateMethod ({ cls := "DanceNotationModel", name := "phrase", desc := "(II)V" } : Jvm.MethodName)) ∈ lw_tbl := lw_at lw_m12 206 rfl
theorem q2964 : (Jvm.Cond.instanceMethod ({ cls := "DanceNotationModel", name := "phrase", desc := "(II)V" } : Jvm.MethodName)) ∈ lw_all := lw_g (lw_at lw_m12 207 rfl) rfl
theorem q2965 : (Jvm.Cond.code ({ cls := "DanceNotationModel", name := "phrase", desc := "(II)V" } : Jvm.MethodName) prog_24_method_44_code (3 : Nat) (Option.none : Option Jvm.ClassFile.FieldType)) ∈ lw_all := lw_g (lw_at lw_m12 208 rfl) rfl
theorem q2966 : (Jvm.Cond.methodLink "DanceNotationModel" (254 : Nat) ({ cls := "DanceNotationModel", name := "addsDancer", desc := "(I)V" } : Jvm.MethodName)) ∈ lw_all := lw_g (lw_at lw_m12 209 rfl) rfl
theorem q2967 : (Jvm.Cond.privateMethod ({ cls := "DanceNotationModel", name := "addsDancer", desc := "(I)V" } : Jvm.MethodName)) ∈ lw_tbl := lw_at lw_m12 210 rfl
theorem q2968 : (Jvm.Cond.instanceMethod ({ cls := "DanceNotationModel", name := "addsDancer", desc := "(I)V" } : Jvm.MethodName)) ∈ lw_all := lw_g (lw_at lw_m12 211 rfl) rfl
theorem q2969 : (Jvm.Cond.code ({ cls := "DanceNotationModel", name := "addsDancer", desc := "(I)V" } : Jvm.MethodName) prog_24_method_19_code (3 : Nat) (Option.none : Option Jvm.ClassFile.FieldType)) ∈ lw_all := lw_g (lw_at lw_m12 212 rfl) rfl
theorem q2970 : (Jvm.Cond.methodLink "DanceNotationModel" (257 : Nat) ({ cls := "DanceNotationModel", name := "stepOf", desc := "(I)I" } : Jvm.MethodName)) ∈ lw_all := lw_g (lw_at lw_m12 213 rfl) rfl
theorem q2971 : (Jvm.Cond.static ({ cls := "DanceNotationModel", name := "stepOf", desc := "(I)I" } : Jvm.MethodName)) ∈ lw_all := lw_g (lw_at lw_m12 214 rfl) rfl
theorem q2972 : (Jvm.Cond.code ({ cls := "DanceNotationModel", name := "stepOf", desc := "(I)I" } : Jvm.MethodName) prog_24_method_43_code (1 : Nat) (Option.some Jvm.ClassFile.FieldType.int)) ∈ lw_all := lw_g (lw_at lw_m12 215 rfl) rfl
theorem q2973 : (Jvm.Cond.methodLink "DanceNotationModel" (260 : Nat) ({ cls := "DanceNotationModel", name := "addsStep", desc := "(I)V" } : Jvm.MethodName)) ∈ lw_all := lw_g (lw_at lw_m12 216 rfl) rfl
theorem q2974 : (Jvm.Cond.privateMethod ({ cls := "DanceNotationModel", name := "addsStep", desc := "(I)V" } : Jvm.MethodName)) ∈ lw_tbl := lw_at lw_m12 217 rfl
theorem q2975 : (Jvm.Cond.instanceMethod ({ cls := "DanceNotationModel", name := "addsStep", desc := "(I)V" } : Jvm.MethodName)) ∈ lw_all := lw_g (lw_at lw_m12 218 rfl) rfl
theorem q2976 : (Jvm.Cond.code ({ cls := "DanceNotationModel", name := "addsStep", desc := "(I)V" } : Jvm.MethodName) prog_24_method_20_code (3 : Nat) (Option.none : Option Jvm.ClassFile.FieldType)) ∈ lw_all := lw_g (lw_at lw_m12 219 rfl) rfl
theorem q2977 : (Jvm.Cond.methodLink "DanceNotationModel" (269 : Nat) ({ cls := "DanceNotationModel", name := "opensSeries", desc := "()V" } : Jvm.MethodName)) ∈ lw_all := lw_g (lw_at lw_m12 220 rfl) rfl
theorem q2978 : (Jvm.Cond.privateMethod ({ cls := "DanceNotationModel", name := "opensSeries", desc := "()V" } : Jvm.MethodName)) ∈ lw_tbl := lw_at lw_m12 221 rfl
theorem q2979 : (Jvm.Cond.instanceMethod ({ cls := "DanceNotationModel", name := "opensSeries", desc := "()V" } : Jvm.MethodName)) ∈ lw_all := lw_g (lw_at lw_m12 222 rfl) rfl
theorem q2980 : (Jvm.Cond.code ({ cls := "DanceNotationModel", name := "opensSeries", desc := "()V" } : Jvm.MethodName) prog_24_method_45_code (1 : Nat) (Option.none : Option Jvm.ClassFile.FieldType)) ∈ lw_all := lw_g (lw_at lw_m12 223 rfl) rfl
theorem q2981 : (Jvm.Cond.methodLink "DanceNotationModel" (276 : Nat) ({ cls := "DanceNotationModel", name := "follows", desc := "()Z" } : Jvm.MethodName)) ∈ lw_all := lw_g (lw_at lw_m12 224 rfl) rfl
theorem q2982 : (Jvm.Cond.privateMethod ({ cls := "DanceNotationModel", name := "follows", desc := "()Z" } : Jvm.MethodName)) ∈ lw_tbl := lw_at lw_m12 225 rfl
theorem q2983 : (Jvm.Cond.instanceMethod ({ cls := "DanceNotationModel", name := "follows", desc := "()Z" } : Jvm.MethodName)) ∈ lw_all := lw_g (lw_at lw_m12 226 rfl) rfl
theorem q2984 : (Jvm.Cond.code ({ cls := "DanceNotationModel", name := "follows", desc := "()Z" } : Jvm.MethodName) prog_24_method_47_code (1 : Nat) (Option.some Jvm.ClassFile.FieldType.boolean)) ∈ lw_all := lw_g (lw_at lw_m12 227 rfl) rfl
theorem q2985 : (Jvm.Cond.methodLink "DanceNotationModel" (282 : Nat) ({ cls := "DanceNotationModel", name := "backs", desc := "()V" } : Jvm.MethodName)) ∈ lw_all := lw_g (lw_at lw_m12 228 rfl) rfl
theorem q2986 : (Jvm.Cond.privateMethod ({ cls := "DanceNotationModel", name := "backs", desc := "()V" } : Jvm.MethodName)) ∈ lw_tbl := lw_at lw_m12 229 rfl
theorem q2987 : (Jvm.Cond.instanceMethod ({ cls := "DanceNotationModel", name := "backs", desc := "()V" } : Jvm.MethodName)) ∈ lw_all := lw_g (lw_at lw_m12 230 rfl) rfl
theorem q2988 : (Jvm.Cond.code ({ cls := "DanceNotationModel", name := "backs", desc := "()V" } : Jvm.MethodName) prog_24_method_10_code (2 : Nat) (Option.none : Option Jvm.ClassFile.FieldType)) ∈ lw_all := lw_g (lw_at lw_m12 231 rfl) rfl
theorem q2989 : (Jvm.Cond.methodLink "DanceNotationModel" (285 : Nat) ({ cls := "DanceNotationModel", name := "tidies", desc := "()V" } : Jvm.MethodName)) ∈ lw_all := lw_g (lw_at lw_m12 232 rfl) rfl
theorem q2990 : (Jvm.Cond.privateMethod ({ cls := "DanceNotationModel", name := "tidies", desc := "()V" } : Jvm.MethodName)) ∈ lw_tbl := lw_at lw_m12 233 rfl
theorem q2991 : (Jvm.Cond.instanceMethod ({ cls := "DanceNotationModel", name := "tidies", desc := "()V" } : Jvm.MethodName)) ∈ lw_all := lw_g (lw_at lw_m12 234 rfl) rfl
theorem q2992 : (Jvm.Cond.code ({ cls := "DanceNotationModel", name := "tidies", desc := "()V" } : Jvm.MethodName) prog_24_method_49_code (4 : Nat) (Option.none : Option Jvm.ClassFile.FieldType)) ∈ lw_all := lw_g (lw_at lw_m12 235 rfl) rfl
theorem q2993 : (Jvm.Cond.methodLink "DanceNotationModel" (162 : Nat) ({ cls := "DanceNotationModel", name := "kind", desc := "(I)I" } : Jvm.MethodName)) ∈ lw_all := lw_g (lw_at lw_m12 236 rfl) rfl
theorem q2994 : (Jvm.Cond.privateMethod ({ cls := "DanceNotationModel", name := "kind", desc := "(I)I" } : Jvm.MethodName)) ∈ lw_tbl := lw_at lw_m12 237 rfl
theorem q2995 : (Jvm.Cond.instanceMethod ({ cls := "DanceNotationModel", name := "kind", desc := "(I)I" } : Jvm.MethodName)) ∈ lw_all := lw_g (lw_at lw_m12 238 rfl) rfl
theorem q2996 : (Jvm.Cond.code ({ cls := "DanceNotationModel", name := "kind", desc := "(I)I" } : Jvm.MethodName) prog_24_method_13_code (2 : Nat) (Option.some Jvm.ClassFile.FieldType.int)) ∈ lw_all := lw_g (lw_at lw_m12 239 rfl) rfl
theorem q2997 : (Jvm.Cond.methodLink "DanceNotationModel" (199 : Nat) ({ cls := "DanceNotationModel", name := "means", desc := "()V" } : Jvm.MethodName)) ∈ lw_all := lw_g (lw_at lw_m13 0 rfl) rfl
theorem q2998 : (Jvm.Cond.privateMethod ({ cls := "DanceNotationModel", name := "means", desc := "()V" } : Jvm.MethodName)) ∈ lw_tbl := lw_at lw_m13 1 rfl
theorem q2999 : (Jvm.Cond.instanceMethod ({ cls := "DanceNotationModel", name := "means", desc := "()V" } : Jvm.MethodName)) ∈ lw_all := lw_g (lw_at lw_m13 2 rfl) rfl
theorem q3000 : (Jvm.Cond.code ({ cls := "DanceNotationModel", name := "means", desc := "()V" } : Jvm.MethodName) prog_24_method_30_code (2 : Nat) (Option.none : Option Jvm.ClassFile.FieldType)) ∈ lw_all := lw_g (lw_at lw_m13 3 rfl) rfl
theorem q3001 : (Jvm.Cond.methodLink "DanceNotationModel" (183 : Nat) ({ cls := "DanceNotationModel", name := "leaf", desc := "(I)V" } : Jvm.MethodName)) ∈ lw_all := lw_g (lw_at lw_m13 4 rfl) rfl
theorem q3002 : (Jvm.Cond.privateMethod ({ cls := "DanceNotationModel", name := "leaf", desc := "(I)V" } : Jvm.MethodName)) ∈ lw_tbl := lw_at lw_m13 5 rfl
theorem q3003 : (Jvm.Cond.instanceMethod ({ cls := "DanceNotationModel", name := "leaf", desc := "(I)V" } : Jvm.MethodName)) ∈ lw_all := lw_g (lw_at lw_m13 6 rfl) rfl
theorem q3004 : (Jvm.Cond.code ({ cls := "DanceNotationModel", name := "leaf", desc := "(I)V" } : Jvm.MethodName) prog_24_method_24_code (7 : Nat) (Option.none : Option Jvm.ClassFile.FieldType)) ∈ lw_all := lw_g (lw_at lw_m13 7 rfl) rfl
theorem q3005 : (Jvm.Cond.methodLink "DanceNotationModel" (159 : Nat) ({ cls := "DanceNotationModel", name := "empties", desc := "()V" } : Jvm.MethodName)) ∈ lw_all := lw_g (lw_at lw_m13 8 rfl) rfl
theorem q3006 : (Jvm.Cond.privateMethod ({ cls := "DanceNotationModel", name := "empties", desc := "()V" } : Jvm.MethodName)) ∈ lw_tbl := lw_at lw_m13 9 rfl
theorem q3007 : (Jvm.Cond.instanceMethod ({ cls := "DanceNotationModel", name := "empties", desc := "()V" } : Jvm.MethodName)) ∈ lw_all := lw_g (lw_at lw_m13 10 rfl) rfl
theorem q3008 : (Jvm.Cond.code ({ cls := "DanceNotationModel", name := "empties", desc := "()V" } : Jvm.MethodName) prog_24_method_21_code (2 : Nat) (Option.none : Option Jvm.ClassFile.FieldType)) ∈ lw_all := lw_g (lw_at lw_m13 11 rfl) rfl
theorem q3009 : (Jvm.Cond.methodLink "DanceNotationModel" (165 : Nat) ({ cls := "DanceNotationModel", name := "data", desc := "(I)I" } : Jvm.MethodName)) ∈ lw_all := lw_g (lw_at lw_m13 12 rfl) rfl
theorem q3010 : (Jvm.Cond.privateMethod ({ cls := "DanceNotationModel", name := "data", desc := "(I)I" } : Jvm.MethodName)) ∈ lw_tbl := lw_at lw_m13 13 rfl
theorem q3011 : (Jvm.Cond.instanceMethod ({ cls := "DanceNotationModel", name := "data", desc := "(I)I" } : Jvm.MethodName)) ∈ lw_all := lw_g (lw_at lw_m13 14 rfl) rfl
theorem q3012 : (Jvm.Cond.code ({ cls := "DanceNotationModel", name := "data", desc := "(I)I" } : Jvm.MethodName) prog_24_method_15_code (2 : Nat) (Option.some Jvm.ClassFile.FieldType.int)) ∈ lw_all := lw_g (lw_at lw_m13 15 rfl) rfl
theorem q3013 : (Jvm.Cond.methodLink "DanceNotationModel" (168 : Nat) ({ cls := "DanceNotationModel", name := "lowest", desc := "(I)I" } : Jvm.MethodName)) ∈ lw_all := lw_g (lw_at lw_m13 16 rfl) rfl
theorem q3014 : (Jvm.Cond.static ({ cls := "DanceNotationModel", name := "lowest", desc := "(I)I" } : Jvm.MethodName)) ∈ lw_all := lw_g (lw_at lw_m13 17 rfl) rfl
theorem q3015 : (Jvm.Cond.code ({ cls := "DanceNotationModel", name := "lowest", desc := "(I)I" } : Jvm.MethodName) prog_24_method_23_code (2 : Nat) (Option.some Jvm.ClassFile.FieldType.int)) ∈ lw_all := lw_g (lw_at lw_m13 18 rfl) rfl
theorem q3016 : (Jvm.Cond.methodLink "DanceNotationModel" (171 : Nat) ({ cls := "DanceNotationModel", name := "refuses", desc := "(II)V" } : Jvm.MethodName)) ∈ lw_all := lw_g (lw_at lw_m13 19 rfl) rfl
theorem q3017 : (Jvm.Cond.privateMethod ({ cls := "DanceNotationModel", name := "refuses", desc := "(II)V" } : Jvm.MethodName)) ∈ lw_tbl := lw_at lw_m13 20 rfl
theorem q3018 : (Jvm.Cond.instanceMethod ({ cls := "DanceNotationModel", name := "refuses", desc := "(II)V" } : Jvm.MethodName)) ∈ lw_all := lw_g (lw_at lw_m13 21 rfl) rfl
theorem q3019 : (Jvm.Cond.code ({ cls := "DanceNotationModel", name := "refuses", desc := "(II)V" } : Jvm.MethodName) prog_24_method_22_code (3 : Nat) (Option.none : Option Jvm.ClassFile.FieldType)) ∈ lw_all := lw_g (lw_at lw_m13 22 rfl) rfl
theorem q3020 : (Jvm.Cond.methodLink "DanceNotationModel" (187 : Nat) ({ cls := "DanceNotationModel", name := "ends", desc := "()V" } : Jvm.MethodName)) ∈ lw_all := lw_g (lw_at lw_m13 23 rfl) rfl
theorem q3021 : (Jvm.Cond.privateMethod ({ cls := "DanceNotationModel", name := "ends", desc := "()V" } : Jvm.MethodName)) ∈ lw_tbl := lw_at lw_m13 24 rfl
theorem q3022 : (Jvm.Cond.instanceMethod ({ cls := "DanceNotationModel", name := "ends", desc := "()V" } : Jvm.MethodName)) ∈ lw_all := lw_g (lw_at lw_m13 25 rfl) rfl
theorem q3023 : (Jvm.Cond.code ({ cls := "DanceNotationModel", name := "ends", desc := "()V" } : Jvm.MethodName) prog_24_method_31_code (1 : Nat) (Option.none : Option Jvm.ClassFile.FieldType)) ∈ lw_all := lw_g (lw_at lw_m13 26 rfl) rfl
theorem q3024 : (Jvm.Cond.methodLink "DanceNotationModel" (193 : Nat) ({ cls := "DanceNotationModel", name := "merges", desc := "()V" } : Jvm.MethodName)) ∈ lw_all := lw_g (lw_at lw_m13 27 rfl) rfl
theorem q3025 : (Jvm.Cond.privateMethod ({ cls := "DanceNotationModel", name := "merges", desc := "()V" } : Jvm.MethodName)) ∈ lw_tbl := lw_at lw_m13 28 rfl
theorem q3026 : (Jvm.Cond.instanceMethod ({ cls := "DanceNotationModel", name := "merges", desc := "()V" } : Jvm.MethodName)) ∈ lw_all := lw_g (lw_at lw_m13 29 rfl) rfl
theorem q3027 : (Jvm.Cond.code ({ cls := "DanceNotationModel", name := "merges", desc := "()V" } : Jvm.MethodName) prog_24_method_26_code (6 : Nat) (Option.none : Option Jvm.ClassFile.FieldType)) ∈ lw_all := lw_g (lw_at lw_m13 30 rfl) rfl
theorem q3028 : (Jvm.Cond.methodLink "DanceNotationModel" (196 : Nat) ({ cls := "DanceNotationModel", name := "closes", desc := "()V" } : Jvm.MethodName)) ∈ lw_all := lw_g (lw_at lw_m13 31 rfl) rfl
theorem q3029 : (Jvm.Cond.privateMethod ({ cls := "DanceNotationModel", name := "closes", desc := "()V" } : Jvm.MethodName)) ∈ lw_tbl := lw_at lw_m13 32 rfl
theorem q3030 : (Jvm.Cond.instanceMethod ({ cls := "DanceNotationModel", name := "closes", desc := "()V" } : Jvm.MethodName)) ∈ lw_all := lw_g (lw_at lw_m13 33 rfl) rfl
theorem q3031 : (Jvm.Cond.code ({ cls := "DanceNotationModel", name := "closes", desc := "()V" } : Jvm.MethodName) prog_24_method_28_code (4 : Nat) (Option.none : Option Jvm.ClassFile.FieldType)) ∈ lw_all := lw_g (lw_at lw_m13 34 rfl) rfl
theorem q3032 : (Jvm.Cond.methodLink "DanceNotationModel" (177 : Nat) ({ cls := "DanceNotationModel", name := "copies", desc := "(II)V" } : Jvm.MethodName)) ∈ lw_all := lw_g (lw_at lw_m13 35 rfl) rfl
theorem q3033 : (Jvm.Cond.privateMethod ({ cls := "DanceNotationModel", name := "copies", desc := "(II)V" } : Jvm.MethodName)) ∈ lw_tbl := lw_at lw_m13 36 rfl
theorem q3034 : (Jvm.Cond.instanceMethod ({ cls := "DanceNotationModel", name := "copies", desc := "(II)V" } : Jvm.MethodName)) ∈ lw_all := lw_g (lw_at lw_m13 37 rfl) rfl
theorem q3035 : (Jvm.Cond.code ({ cls := "DanceNotationModel", name := "copies", desc := "(II)V" } : Jvm.MethodName) prog_24_method_29_code (8 : Nat) (Option.none : Option Jvm.ClassFile.FieldType)) ∈ lw_all := lw_g (lw_at lw_m13 38 rfl) rfl
theorem q3036 : (Jvm.Cond.methodLink "DanceNotationModel" (180 : Nat) ({ cls := "DanceNotationModel", name := "opposite", desc := "(I)I" } : Jvm.MethodName)) ∈ lw_all := lw_g (lw_at lw_m13 39 rfl) rfl
theorem q3037 : (Jvm.Cond.static ({ cls := "DanceNotationModel", name := "opposite", desc := "(I)I" } : Jvm.MethodName)) ∈ lw_all := lw_g (lw_at lw_m13 40 rfl) rfl
theorem q3038 : (Jvm.Cond.code ({ cls := "DanceNotationModel", name := "opposite", desc := "(I)I" } : Jvm.MethodName) prog_24_method_27_code (1 : Nat) (Option.some Jvm.ClassFile.FieldType.int)) ∈ lw_all := lw_g (lw_at lw_m13 41 rfl) rfl
theorem q3039 : (Jvm.Cond.methodLink "DanceNotationModel" (190 : Nat) ({ cls := "DanceNotationModel", name := "opens", desc := "(I)V" } : Jvm.MethodName)) ∈ lw_all := lw_g (lw_at lw_m13 42 rfl) rfl
theorem q3040 : (Jvm.Cond.privateMethod ({ cls := "DanceNotationModel", name := "opens", desc := "(I)V" } : Jvm.MethodName)) ∈ lw_tbl := lw_at lw_m13 43 rfl
theorem q3041 : (Jvm.Cond.instanceMethod ({ cls := "DanceNotationModel", name := "opens", desc := "(I)V" } : Jvm.MethodName)) ∈ lw_all := lw_g (lw_at lw_m13 44 rfl) rfl
theorem q3042 : (Jvm.Cond.code ({ cls := "DanceNotationModel", name := "opens", desc := "(I)V" } : Jvm.MethodName) prog_24_method_25_code (3 : Nat) (Option.none : Option Jvm.ClassFile.FieldType)) ∈ lw_all := lw_g (lw_at lw_m13 45 rfl) rfl
theorem q3044 : (Jvm.Cond.instanceMethod ({ cls := "DanceNotationModel", name := "errorPosition", desc := "()I" } : Jvm.MethodName)) ∈ lw_all := lw_g (lw_at lw_m13 47 rfl) rfl
theorem q3045 : (Jvm.Cond.selects "DanceNotationModel" ({ cls := "DanceNotationModel", name := "errorPosition", desc := "()I" } : Jvm.MethodName) ({ cls := "DanceNotationModel", name := "errorPosition", desc := "()I" } : Jvm.MethodName)) ∈ lw_all := lw_g (lw_at lw_m13 48 rfl) rfl
theorem q3046 : (Jvm.Cond.code ({ cls := "DanceNotationModel", name := "errorPosition", desc := "()I" } : Jvm.MethodName) prog_24_method_51_code (1 : Nat) (Option.some Jvm.ClassFile.FieldType.int)) ∈ lw_all := lw_g (lw_at lw_m13 49 rfl) rfl
theorem q3048 : (Jvm.Cond.instanceMethod ({ cls := "DanceNotationModel", name := "refusedDancer", desc := "()I" } : Jvm.MethodName)) ∈ lw_all := lw_g (lw_at lw_m13 51 rfl) rfl
theorem q3049 : (Jvm.Cond.selects "DanceNotationModel" ({ cls := "DanceNotationModel", name := "refusedDancer", desc := "()I" } : Jvm.MethodName) ({ cls := "DanceNotationModel", name := "refusedDancer", desc := "()I" } : Jvm.MethodName)) ∈ lw_all := lw_g (lw_at lw_m13 52 rfl) rfl
theorem q3050 : (Jvm.Cond.code ({ cls := "DanceNotationModel", name := "refusedDancer", desc := "()I" } : Jvm.MethodName) prog_24_method_52_code (1 : Nat) (Option.some Jvm.ClassFile.FieldType.int)) ∈ lw_all := lw_g (lw_at lw_m13 53 rfl) rfl
theorem q3052 : (Jvm.Cond.instanceMethod ({ cls := "DanceNotationModel", name := "write", desc := "()I" } : Jvm.MethodName)) ∈ lw_all := lw_g (lw_at lw_m13 55 rfl) rfl
theorem q3053 : (Jvm.Cond.selects "DanceNotationModel" ({ cls := "DanceNotationModel", name := "write", desc := "()I" } : Jvm.MethodName) ({ cls := "DanceNotationModel", name := "write", desc := "()I" } : Jvm.MethodName)) ∈ lw_all := lw_g (lw_at lw_m13 56 rfl) rfl
theorem q3054 : (Jvm.Cond.code ({ cls := "DanceNotationModel", name := "write", desc := "()I" } : Jvm.MethodName) prog_24_method_59_code (2 : Nat) (Option.some Jvm.ClassFile.FieldType.int)) ∈ lw_all := lw_g (lw_at lw_m13 57 rfl) rfl
theorem q3055 : (Jvm.Cond.methodLink "DanceNotationModel" (305 : Nat) ({ cls := "DanceNotationModel", name := "hasNoPiece", desc := "(I)Z" } : Jvm.MethodName)) ∈ lw_all := lw_g (lw_at lw_m13 58 rfl) rfl
theorem q3056 : (Jvm.Cond.privateMethod ({ cls := "DanceNotationModel", name := "hasNoPiece", desc := "(I)Z" } : Jvm.MethodName)) ∈ lw_tbl := lw_at lw_m13 59 rfl
theorem q3057 : (Jvm.Cond.instanceMethod ({ cls := "DanceNotationModel", name := "hasNoPiece", desc := "(I)Z" } : Jvm.MethodName)) ∈ lw_all := lw_g (lw_at lw_m13 60 rfl) rfl
theorem q3058 : (Jvm.Cond.code ({ cls := "DanceNotationModel", name := "hasNoPiece", desc := "(I)Z" } : Jvm.MethodName) prog_24_method_32_code (2 : Nat) (Option.some Jvm.ClassFile.FieldType.boolean)) ∈ lw_all := lw_g (lw_at lw_m13 61 rfl) rfl
theorem q3059 : (Jvm.Cond.methodLink "DanceNotationModel" (202 : Nat) ({ cls := "DanceNotationModel", name := "stops", desc := "(II)I" } : Jvm.MethodName)) ∈ lw_all := lw_g (lw_at lw_m13 62 rfl) rfl
theorem q3060 : (Jvm.Cond.privateMethod ({ cls := "DanceNotationModel", name := "stops", desc := "(II)I" } : Jvm.MethodName)) ∈ lw_tbl := lw_at lw_m13 63 rfl
theorem q3061 : (Jvm.Cond.instanceMethod ({ cls := "DanceNotationModel", name := "stops", desc := "(II)I" } : Jvm.MethodName)) ∈ lw_all := lw_g (lw_at lw_m13 64 rfl) rfl
theorem q3062 : (Jvm.Cond.code ({ cls := "DanceNotationModel", name := "stops", desc := "(II)I" } : Jvm.MethodName) prog_24_method_4_code (3 : Nat) (Option.some Jvm.ClassFile.FieldType.int)) ∈ lw_all := lw_g (lw_at lw_m13 65 rfl) rfl
theorem q3063 : (Jvm.Cond.methodLink "DanceNotationModel" (308 : Nat) ({ cls := "DanceNotationModel", name := "writesNode", desc := "(I)V" } : Jvm.MethodName)) ∈ lw_all := lw_g (lw_at lw_m13 66 rfl) rfl
theorem q3064 : (Jvm.Cond.privateMethod ({ cls := "DanceNotationModel", name := "writesNode", desc := "(I)V" } : Jvm.MethodName)) ∈ lw_tbl := lw_at lw_m13 67 rfl
theorem q3065 : (Jvm.Cond.instanceMethod ({ cls := "DanceNotationModel", name := "writesNode", desc := "(I)V" } : Jvm.MethodName)) ∈ lw_all := lw_g (lw_at lw_m13 68 rfl) rfl
theorem q3066 : (Jvm.Cond.code ({ cls := "DanceNotationModel", name := "writesNode", desc := "(I)V" } : Jvm.MethodName) prog_24_method_57_code (4 : Nat) (Option.none : Option Jvm.ClassFile.FieldType)) ∈ lw_all := lw_g (lw_at lw_m13 69 rfl) rfl
theorem q3067 : (Jvm.Cond.methodLink "DanceNotationModel" (291 : Nat) ({ cls := "DanceNotationModel", name := "writes", desc := "(I)V" } : Jvm.MethodName)) ∈ lw_all := lw_g (lw_at lw_m13 70 rfl) rfl
theorem q3068 : (Jvm.Cond.privateMethod ({ cls := "DanceNotationModel", name := "writes", desc := "(I)V" } : Jvm.MethodName)) ∈ lw_tbl := lw_at lw_m13 71 rfl
theorem q3069 : (Jvm.Cond.instanceMethod ({ cls := "DanceNotationModel", name := "writes", desc := "(I)V" } : Jvm.MethodName)) ∈ lw_all := lw_g (lw_at lw_m13 72 rfl) rfl
theorem q3070 : (Jvm.Cond.code ({ cls := "DanceNotationModel", name := "writes", desc := "(I)V" } : Jvm.MethodName) prog_24_method_53_code (2 : Nat) (Option.none : Option Jvm.ClassFile.FieldType)) ∈ lw_all := lw_g (lw_at lw_m13 73 rfl) rfl
theorem q3071 : (Jvm.Cond.methodLink "DanceNotationModel" (298 : Nat) ({ cls := "DanceNotationModel", name := "isInside", desc := "(II)Z" } : Jvm.MethodName)) ∈ lw_all := lw_g (lw_at lw_m13 74 rfl) rfl
theorem q3072 : (Jvm.Cond.static ({ cls := "DanceNotationModel", name := "isInside", desc := "(II)Z" } : Jvm.MethodName)) ∈ lw_all := lw_g (lw_at lw_m13 75 rfl) rfl
theorem q3073 : (Jvm.Cond.code ({ cls := "DanceNotationModel", name := "isInside", desc := "(II)Z" } : Jvm.MethodName) prog_24_method_55_code (2 : Nat) (Option.some Jvm.ClassFile.FieldType.boolean)) ∈ lw_all := lw_g (lw_at lw_m13 76 rfl) rfl
theorem q3074 : (Jvm.Cond.methodLink "DanceNotationModel" (302 : Nat) ({ cls := "DanceNotationModel", name := "writesLeaf", desc := "(I)V" } : Jvm.MethodName)) ∈ lw_all := lw_g (lw_at lw_m13 77 rfl) rfl
theorem q3075 : (Jvm.Cond.privateMethod ({ cls := "DanceNotationModel", name := "writesLeaf", desc := "(I)V" } : Jvm.MethodName)) ∈ lw_tbl := lw_at lw_m13 78 rfl
theorem q3076 : (Jvm.Cond.instanceMethod ({ cls := "DanceNotationModel", name := "writesLeaf", desc := "(I)V" } : Jvm.MethodName)) ∈ lw_all := lw_g (lw_at lw_m13 79 rfl) rfl
theorem q3077 : (Jvm.Cond.code ({ cls := "DanceNotationModel", name := "writesLeaf", desc := "(I)V" } : Jvm.MethodName) prog_24_method_56_code (3 : Nat) (Option.none : Option Jvm.ClassFile.FieldType)) ∈ lw_all := lw_g (lw_at lw_m13 80 rfl) rfl
theorem q3078 : (Jvm.Cond.methodLink "DanceNotationModel" (294 : Nat) ({ cls := "DanceNotationModel", name := "signOf", desc := "(I)C" } : Jvm.MethodName)) ∈ lw_all := lw_g (lw_at lw_m13 81 rfl) rfl
theorem q3079 : (Jvm.Cond.static ({ cls := "DanceNotationModel", name := "signOf", desc := "(I)C" } : Jvm.MethodName)) ∈ lw_all := lw_g (lw_at lw_m13 82 rfl) rfl
theorem q3080 : (Jvm.Cond.code ({ cls := "DanceNotationModel", name := "signOf", desc := "(I)C" } : Jvm.MethodName) prog_24_method_54_code (1 : Nat) (Option.some Jvm.ClassFile.FieldType.char)) ∈ lw_all := lw_g (lw_at lw_m13 83 rfl) rfl
theorem q3081 : (Jvm.Cond.methodLink "DanceNotationModel" (311 : Nat) ({ cls := "DanceNotationModel", name := "writesEnds", desc := "()V" } : Jvm.MethodName)) ∈ lw_all := lw_g (lw_at lw_m13 84 rfl) rfl
theorem q3082 : (Jvm.Cond.privateMethod ({ cls := "DanceNotationModel", name := "writesEnds", desc := "()V" } : Jvm.MethodName)) ∈ lw_tbl := lw_at lw_m13 85 rfl
theorem q3083 : (Jvm.Cond.instanceMethod ({ cls := "DanceNotationModel", name := "writesEnds", desc := "()V" } : Jvm.MethodName)) ∈ lw_all := lw_g (lw_at lw_m13 86 rfl) rfl
theorem q3084 : (Jvm.Cond.code ({ cls := "DanceNotationModel", name := "writesEnds", desc := "()V" } : Jvm.MethodName) prog_24_method_58_code (1 : Nat) (Option.none : Option Jvm.ClassFile.FieldType)) ∈ lw_all := lw_g (lw_at lw_m13 87 rfl) rfl
theorem q3086 : (Jvm.Cond.instanceMethod ({ cls := "DanceNotationModel", name := "output", desc := "(I)C" } : Jvm.MethodName)) ∈ lw_all := lw_g (lw_at lw_m13 89 rfl) rfl
theorem q3087 : (Jvm.Cond.selects "DanceNotationModel" ({ cls := "DanceNotationModel", name := "output", desc := "(I)C" } : Jvm.MethodName) ({ cls := "DanceNotationModel", name := "output", desc := "(I)C" } : Jvm.MethodName)) ∈ lw_all := lw_g (lw_at lw_m13 90 rfl) rfl
theorem q3088 : (Jvm.Cond.code ({ cls := "DanceNotationModel", name := "output", desc := "(I)C" } : Jvm.MethodName) prog_24_method_60_code (2 : Nat) (Option.some Jvm.ClassFile.FieldType.char)) ∈ lw_all := lw_g (lw_at lw_m13 91 rfl) rfl
theorem q3090 : (Jvm.Cond.instanceMethod ({ cls := "DanceNotationModel", name := "mirror", desc := "()I" } : Jvm.MethodName)) ∈ lw_all := lw_g (lw_at lw_m13 93 rfl) rfl
theorem q3091 : (Jvm.Cond.selects "DanceNotationModel" ({ cls := "DanceNotationModel", name := "mirror", desc := "()I" } : Jvm.MethodName) ({ cls := "DanceNotationModel", name := "mirror", desc := "()I" } : Jvm.MethodName)) ∈ lw_all := lw_g (lw_at lw_m13 94 rfl) rfl
theorem q3092 : (Jvm.Cond.code ({ cls := "DanceNotationModel", name := "mirror", desc := "()I" } : Jvm.MethodName) prog_24_method_62_code (1 : Nat) (Option.some Jvm.ClassFile.FieldType.int)) ∈ lw_all := lw_g (lw_at lw_m13 95 rfl) rfl
theorem q3093 : (Jvm.Cond.methodLink "DanceNotationModel" (320 : Nat) ({ cls := "DanceNotationModel", name := "turned", desc := "(I)I" } : Jvm.MethodName)) ∈ lw_all := lw_g (lw_at lw_m13 96 rfl) rfl
theorem q3094 : (Jvm.Cond.privateMethod ({ cls := "DanceNotationModel", name := "turned", desc := "(I)I" } : Jvm.MethodName)) ∈ lw_tbl := lw_at lw_m13 97 rfl
theorem q3095 : (Jvm.Cond.instanceMethod ({ cls := "DanceNotationModel", name := "turned", desc := "(I)I" } : Jvm.MethodName)) ∈ lw_all := lw_g (lw_at lw_m13 98 rfl) rfl
theorem q3096 : (Jvm.Cond.code ({ cls := "DanceNotationModel", name := "turned", desc := "(I)I" } : Jvm.MethodName) prog_24_method_61_code (3 : Nat) (Option.some Jvm.ClassFile.FieldType.int)) ∈ lw_all := lw_g (lw_at lw_m13 99 rfl) rfl
theorem q3097 : (Jvm.Cond.methodLink "DanceNotationModel" (314 : Nat) ({ cls := "DanceNotationModel", name := "dropsFirst", desc := "()V" } : Jvm.MethodName)) ∈ lw_all := lw_g (lw_at lw_m13 100 rfl) rfl
theorem q3098 : (Jvm.Cond.privateMethod ({ cls := "DanceNotationModel", name := "dropsFirst", desc := "()V" } : Jvm.MethodName)) ∈ lw_tbl := lw_at lw_m13 101 rfl
theorem q3099 : (Jvm.Cond.instanceMethod ({ cls := "DanceNotationModel", name := "dropsFirst", desc := "()V" } : Jvm.MethodName)) ∈ lw_all := lw_g (lw_at lw_m13 102 rfl) rfl
theorem q3100 : (Jvm.Cond.code ({ cls := "DanceNotationModel", name := "dropsFirst", desc := "()V" } : Jvm.MethodName) prog_24_method_17_code (2 : Nat) (Option.none : Option Jvm.ClassFile.FieldType)) ∈ lw_all := lw_g (lw_at lw_m13 103 rfl) rfl
theorem q3101 : (Jvm.Cond.methodLink "DanceNotationModel" (317 : Nat) ({ cls := "DanceNotationModel", name := "inserts", desc := "(III)V" } : Jvm.MethodName)) ∈ lw_all := lw_g (lw_at lw_m13 104 rfl) rfl
theorem q3102 : (Jvm.Cond.privateMethod ({ cls := "DanceNotationModel", name := "inserts", desc := "(III)V" } : Jvm.MethodName)) ∈ lw_tbl := lw_at lw_m13 105 rfl
theorem q3103 : (Jvm.Cond.instanceMethod ({ cls := "DanceNotationModel", name := "inserts", desc := "(III)V" } : Jvm.MethodName)) ∈ lw_all := lw_g (lw_at lw_m13 106 rfl) rfl
theorem q3104 : (Jvm.Cond.code ({ cls := "DanceNotationModel", name := "inserts", desc := "(III)V" } : Jvm.MethodName) prog_24_method_16_code (5 : Nat) (Option.none : Option Jvm.ClassFile.FieldType)) ∈ lw_all := lw_g (lw_at lw_m13 107 rfl) rfl
theorem q3106 : (Jvm.Cond.instanceMethod ({ cls := "DanceNotationModel", name := "reverse", desc := "()I" } : Jvm.MethodName)) ∈ lw_all := lw_g (lw_at lw_m13 109 rfl) rfl
theorem q3107 : (Jvm.Cond.selects "DanceNotationModel" ({ cls := "DanceNotationModel", name := "reverse", desc := "()I" } : Jvm.MethodName) ({ cls := "DanceNotationModel", name := "reverse", desc := "()I" } : Jvm.MethodName)) ∈ lw_all := lw_g (lw_at lw_m13 110 rfl) rfl
theorem q3108 : (Jvm.Cond.code ({ cls := "DanceNotationModel", name := "reverse", desc := "()I" } : Jvm.MethodName) prog_24_method_63_code (1 : Nat) (Option.some Jvm.ClassFile.FieldType.int)) ∈ lw_all := lw_g (lw_at lw_m13 111 rfl) rfl
theorem q3110 : (Jvm.Cond.instanceMethod ({ cls := "DanceNotationModel", name := "repeat", desc := "(I)I" } : Jvm.MethodName)) ∈ lw_all := lw_g (lw_at lw_m13 113 rfl) rfl
theorem q3111 : (Jvm.Cond.selects "DanceNotationModel" ({ cls := "DanceNotationModel", name := "repeat", desc := "(I)I" } : Jvm.MethodName) ({ cls := "DanceNotationModel", name := "repeat", desc := "(I)I" } : Jvm.MethodName)) ∈ lw_all := lw_g (lw_at lw_m13 114 rfl) rfl
theorem q3112 : (Jvm.Cond.code ({ cls := "DanceNotationModel", name := "repeat", desc := "(I)I" } : Jvm.MethodName) prog_24_method_64_code (2 : Nat) (Option.some Jvm.ClassFile.FieldType.int)) ∈ lw_all := lw_g (lw_at lw_m13 115 rfl) rfl
theorem q3114 : (Jvm.Cond.instanceMethod ({ cls := "DanceNotationModel", name := "exchange", desc := "(II)I" } : Jvm.MethodName)) ∈ lw_all := lw_g (lw_at lw_m13 117 rfl) rfl
theorem q3115 : (Jvm.Cond.selects "DanceNotationModel" ({ cls := "DanceNotationModel", name := "exchange", desc := "(II)I" } : Jvm.MethodName) ({ cls := "DanceNotationModel", name := "exchange", desc := "(II)I" } : Jvm.MethodName)) ∈ lw_all := lw_g (lw_at lw_m13 118 rfl) rfl
theorem q3116 : (Jvm.Cond.code ({ cls := "DanceNotationModel", name := "exchange", desc := "(II)I" } : Jvm.MethodName) prog_24_method_65_code (8 : Nat) (Option.some Jvm.ClassFile.FieldType.int)) ∈ lw_all := lw_g (lw_at lw_m13 119 rfl) rfl
theorem q3118 : (Jvm.Cond.instanceMethod ({ cls := "DanceNotationModel", name := "tree", desc := "(I)I" } : Jvm.MethodName)) ∈ lw_all := lw_g (lw_at lw_m13 121 rfl) rfl
theorem q3119 : (Jvm.Cond.selects "DanceNotationModel" ({ cls := "DanceNotationModel", name := "tree", desc := "(I)I" } : Jvm.MethodName) ({ cls := "DanceNotationModel", name := "tree", desc := "(I)I" } : Jvm.MethodName)) ∈ lw_all := lw_g (lw_at lw_m13 122 rfl) rfl
theorem q3120 : (Jvm.Cond.code ({ cls := "DanceNotationModel", name := "tree", desc := "(I)I" } : Jvm.MethodName) prog_24_method_67_code (2 : Nat) (Option.some Jvm.ClassFile.FieldType.int)) ∈ lw_all := lw_g (lw_at lw_m13 123 rfl) rfl
theorem q3121 : (Jvm.Cond.methodLink "DanceNotationModel" (323 : Nat) ({ cls := "DanceNotationModel", name := "leaves", desc := "()I" } : Jvm.MethodName)) ∈ lw_all := lw_g (lw_at lw_m13 124 rfl) rfl
theorem q3122 : (Jvm.Cond.privateMethod ({ cls := "DanceNotationModel", name := "leaves", desc := "()I" } : Jvm.MethodName)) ∈ lw_tbl := lw_at lw_m13 125 rfl
theorem q3123 : (Jvm.Cond.instanceMethod ({ cls := "DanceNotationModel", name := "leaves", desc := "()I" } : Jvm.MethodName)) ∈ lw_all := lw_g (lw_at lw_m13 126 rfl) rfl
theorem q3124 : (Jvm.Cond.code ({ cls := "DanceNotationModel", name := "leaves", desc := "()I" } : Jvm.MethodName) prog_24_method_66_code (3 : Nat) (Option.some Jvm.ClassFile.FieldType.int)) ∈ lw_all := lw_g (lw_at lw_m13 127 rfl) rfl
theorem q3126 : (Jvm.Cond.instanceMethod ({ cls := "DanceNotationModel", name := "step", desc := "(II)C" } : Jvm.MethodName)) ∈ lw_all := lw_g (lw_at lw_m13 129 rfl) rfl
theorem q3127 : (Jvm.Cond.selects "DanceNotationModel" ({ cls := "DanceNotationModel", name := "step", desc := "(II)C" } : Jvm.MethodName) ({ cls := "DanceNotationModel", name := "step", desc := "(II)C" } : Jvm.MethodName)) ∈ lw_all := lw_g (lw_at lw_m13 130 rfl) rfl
theorem q3128 : (Jvm.Cond.code ({ cls := "DanceNotationModel", name := "step", desc := "(II)C" } : Jvm.MethodName) prog_24_method_74_code (3 : Nat) (Option.some Jvm.ClassFile.FieldType.char)) ∈ lw_all := lw_g (lw_at lw_m13 131 rfl) rfl
theorem q3130 : (Jvm.Cond.instanceMethod ({ cls := "DanceNotationModel", name := "position", desc := "(IIZ)I" } : Jvm.MethodName)) ∈ lw_all := lw_g (lw_at lw_m13 133 rfl) rfl
theorem q3131 : (Jvm.Cond.selects "DanceNotationModel" ({ cls := "DanceNotationModel", name := "position", desc := "(IIZ)I" } : Jvm.MethodName) ({ cls := "DanceNotationModel", name := "position", desc := "(IIZ)I" } : Jvm.MethodName)) ∈ lw_all := lw_g (lw_at lw_m13 134 rfl) rfl
theorem q3132 : (Jvm.Cond.code ({ cls := "DanceNotationModel", name := "position", desc := "(IIZ)I" } : Jvm.MethodName) prog_24_method_75_code (4 : Nat) (Option.some Jvm.ClassFile.FieldType.int)) ∈ lw_all := lw_g (lw_at lw_m13 135 rfl) rfl
theorem q3133 : (Jvm.Cond.methodLink "DanceNotationModel" (336 : Nat) ({ cls := "DanceNotationModel", name := "takesPart", desc := "(I)Z" } : Jvm.MethodName)) ∈ lw_all := lw_g (lw_at lw_m13 136 rfl) rfl
theorem q3134 : (Jvm.Cond.privateMethod ({ cls := "DanceNotationModel", name := "takesPart", desc := "(I)Z" } : Jvm.MethodName)) ∈ lw_tbl := lw_at lw_m13 137 rfl
theorem q3135 : (Jvm.Cond.instanceMethod ({ cls := "DanceNotationModel", name := "takesPart", desc := "(I)Z" } : Jvm.MethodName)) ∈ lw_all := lw_g (lw_at lw_m13 138 rfl) rfl
theorem q3136 : (Jvm.Cond.code ({ cls := "DanceNotationModel", name := "takesPart", desc := "(I)Z" } : Jvm.MethodName) prog_24_method_68_code (2 : Nat) (Option.some Jvm.ClassFile.FieldType.boolean)) ∈ lw_all := lw_g (lw_at lw_m13 139 rfl) rfl
theorem q3137 : (Jvm.Cond.methodLink "DanceNotationModel" (339 : Nat) ({ cls := "DanceNotationModel", name := "row", desc := "(II)I" } : Jvm.MethodName)) ∈ lw_all := lw_g (lw_at lw_m13 140 rfl) rfl
theorem q3138 : (Jvm.Cond.privateMethod ({ cls := "DanceNotationModel", name := "row", desc := "(II)I" } : Jvm.MethodName)) ∈ lw_tbl := lw_at lw_m13 141 rfl
theorem q3139 : (Jvm.Cond.instanceMethod ({ cls := "DanceNotationModel", name := "row", desc := "(II)I" } : Jvm.MethodName)) ∈ lw_all := lw_g (lw_at lw_m13 142 rfl) rfl
theorem q3140 : (Jvm.Cond.code ({ cls := "DanceNotationModel", name := "row", desc := "(II)I" } : Jvm.MethodName) prog_24_method_73_code (3 : Nat) (Option.some Jvm.ClassFile.FieldType.int)) ∈ lw_all := lw_g (lw_at lw_m13 143 rfl) rfl
theorem q3141 : (Jvm.Cond.methodLink "DanceNotationModel" (332 : Nat) ({ cls := "DanceNotationModel", name := "moved", desc := "(IIZ)I" } : Jvm.MethodName)) ∈ lw_all := lw_g (lw_at lw_m13 144 rfl) rfl
theorem q3142 : (Jvm.Cond.privateMethod ({ cls := "DanceNotationModel", name := "moved", desc := "(IIZ)I" } : Jvm.MethodName)) ∈ lw_tbl := lw_at lw_m13 145 rfl
theorem q3143 : (Jvm.Cond.instanceMethod ({ cls := "DanceNotationModel", name := "moved", desc := "(IIZ)I" } : Jvm.MethodName)) ∈ lw_all := lw_g (lw_at lw_m13 146 rfl) rfl
theorem q3144 : (Jvm.Cond.code ({ cls := "DanceNotationModel", name := "moved", desc := "(IIZ)I" } : Jvm.MethodName) prog_24_method_71_code (6 : Nat) (Option.some Jvm.ClassFile.FieldType.int)) ∈ lw_all := lw_g (lw_at lw_m13 147 rfl) rfl
theorem q3145 : (Jvm.Cond.methodLink "DanceNotationModel" (326 : Nat) ({ cls := "DanceNotationModel", name := "along", desc := "(I)I" } : Jvm.MethodName)) ∈ lw_all := lw_g (lw_at lw_m13 148 rfl) rfl
theorem q3146 : (Jvm.Cond.static ({ cls := "DanceNotationModel", name := "along", desc := "(I)I" } : Jvm.MethodName)) ∈ lw_all := lw_g (lw_at lw_m13 149 rfl) rfl
theorem q3147 : (Jvm.Cond.code ({ cls := "DanceNotationModel", name := "along", desc := "(I)I" } : Jvm.MethodName) prog_24_method_70_code (1 : Nat) (Option.some Jvm.ClassFile.FieldType.int)) ∈ lw_all := lw_g (lw_at lw_m13 150 rfl) rfl
theorem q3148 : (Jvm.Cond.methodLink "DanceNotationModel" (329 : Nat) ({ cls := "DanceNotationModel", name := "across", desc := "(I)I" } : Jvm.MethodName)) ∈ lw_all := lw_g (lw_at lw_m13 151 rfl) rfl
theorem q3149 : (Jvm.Cond.static ({ cls := "DanceNotationModel", name := "across", desc := "(I)I" } : Jvm.MethodName)) ∈ lw_all := lw_g (lw_at lw_m13 152 rfl) rfl
theorem q3150 : (Jvm.Cond.code ({ cls := "DanceNotationModel", name := "across", desc := "(I)I" } : Jvm.MethodName) prog_24_method_69_code (1 : Nat) (Option.some Jvm.ClassFile.FieldType.int)) ∈ lw_all := lw_g (lw_at lw_m13 153 rfl) rfl
theorem q3151 : (Jvm.Cond.methodLink "DanceNotationModel" (342 : Nat) ({ cls := "DanceNotationModel", name := "column", desc := "(II)I" } : Jvm.MethodName)) ∈ lw_all := lw_g (lw_at lw_m13 154 rfl) rfl
theorem q3152 : (Jvm.Cond.privateMethod ({ cls := "DanceNotationModel", name := "column", desc := "(II)I" } : Jvm.MethodName)) ∈ lw_tbl := lw_at lw_m13 155 rfl
theorem q3153 : (Jvm.Cond.instanceMethod ({ cls := "DanceNotationModel", name := "column", desc := "(II)I" } : Jvm.MethodName)) ∈ lw_all := lw_g (lw_at lw_m13 156 rfl) rfl
theorem q3154 : (Jvm.Cond.code ({ cls := "DanceNotationModel", name := "column", desc := "(II)I" } : Jvm.MethodName) prog_24_method_72_code (3 : Nat) (Option.some Jvm.ClassFile.FieldType.int)) ∈ lw_all := lw_g (lw_at lw_m13 157 rfl) rfl
theorem q3156 : (Jvm.Cond.instanceMethod ({ cls := "DanceNotationModel", name := "problemCount", desc := "(I)I" } : Jvm.MethodName)) ∈ lw_all := lw_g (lw_at lw_m13 159 rfl) rfl
theorem q3157 : (Jvm.Cond.selects "DanceNotationModel" ({ cls := "DanceNotationModel", name := "problemCount", desc := "(I)I" } : Jvm.MethodName) ({ cls := "DanceNotationModel", name := "problemCount", desc := "(I)I" } : Jvm.MethodName)) ∈ lw_all := lw_g (lw_at lw_m13 160 rfl) rfl
theorem q3158 : (Jvm.Cond.code ({ cls := "DanceNotationModel", name := "problemCount", desc := "(I)I" } : Jvm.MethodName) prog_24_method_81_code (2 : Nat) (Option.some Jvm.ClassFile.FieldType.int)) ∈ lw_all := lw_g (lw_at lw_m13 161 rfl) rfl
theorem q3159 : (Jvm.Cond.methodLink "DanceNotationModel" (373 : Nat) ({ cls := "DanceNotationModel", name := "searches", desc := "(II)V" } : Jvm.MethodName)) ∈ lw_all := lw_g (lw_at lw_m13 162 rfl) rfl
theorem q3160 : (Jvm.Cond.privateMethod ({ cls := "DanceNotationModel", name := "searches", desc := "(II)V" } : Jvm.MethodName)) ∈ lw_tbl := lw_at lw_m13 163 rfl
theorem q3161 : (Jvm.Cond.instanceMethod ({ cls := "DanceNotationModel", name := "searches", desc := "(II)V" } : Jvm.MethodName)) ∈ lw_all := lw_g (lw_at lw_m13 164 rfl) rfl
theorem q3162 : (Jvm.Cond.code ({ cls := "DanceNotationModel", name := "searches", desc := "(II)V" } : Jvm.MethodName) prog_24_method_79_code (5 : Nat) (Option.none : Option Jvm.ClassFile.FieldType)) ∈ lw_all := lw_g (lw_at lw_m13 165 rfl) rfl
theorem q3163 : (Jvm.Cond.methodLink "DanceNotationModel" (349 : Nat) ({ cls := "DanceNotationModel", name := "places", desc := "()V" } : Jvm.MethodName)) ∈ lw_all := lw_g (lw_at lw_m13 166 rfl) rfl
theorem q3164 : (Jvm.Cond.privateMethod ({ cls := "DanceNotationModel", name := "places", desc := "()V" } : Jvm.MethodName)) ∈ lw_tbl := lw_at lw_m13 167 rfl
theorem q3165 : (Jvm.Cond.instanceMethod ({ cls := "DanceNotationModel", name := "places", desc := "()V" } : Jvm.MethodName)) ∈ lw_all := lw_g (lw_at lw_m13 168 rfl) rfl
theorem q3166 : (Jvm.Cond.code ({ cls := "DanceNotationModel", name := "places", desc := "()V" } : Jvm.MethodName) prog_24_method_76_code (3 : Nat) (Option.none : Option Jvm.ClassFile.FieldType)) ∈ lw_all := lw_g (lw_at lw_m13 169 rfl) rfl
theorem q3167 : (Jvm.Cond.methodLink "DanceNotationModel" (355 : Nat) ({ cls := "DanceNotationModel", name := "looks", desc := "(III)V" } : Jvm.MethodName)) ∈ lw_all := lw_g (lw_at lw_m13 170 rfl) rfl
theorem q3168 : (Jvm.Cond.privateMethod ({ cls := "DanceNotationModel", name := "looks", desc := "(III)V" } : Jvm.MethodName)) ∈ lw_tbl := lw_at lw_m13 171 rfl
theorem q3169 : (Jvm.Cond.instanceMethod ({ cls := "DanceNotationModel", name := "looks", desc := "(III)V" } : Jvm.MethodName)) ∈ lw_all := lw_g (lw_at lw_m13 172 rfl) rfl
theorem q3170 : (Jvm.Cond.code ({ cls := "DanceNotationModel", name := "looks", desc := "(III)V" } : Jvm.MethodName) prog_24_method_80_code (7 : Nat) (Option.none : Option Jvm.ClassFile.FieldType)) ∈ lw_all := lw_g (lw_at lw_m13 173 rfl) rfl
theorem q3171 : (Jvm.Cond.methodLink "DanceNotationModel" (358 : Nat) ({ cls := "DanceNotationModel", name := "isProblem", desc := "(IIII)Z" } : Jvm.MethodName)) ∈ lw_all := lw_g (lw_at lw_m13 174 rfl) rfl
theorem q3172 : (Jvm.Cond.privateMethod ({ cls := "DanceNotationModel", name := "isProblem", desc := "(IIII)Z" } : Jvm.MethodName)) ∈ lw_tbl := lw_at lw_m13 175 rfl
theorem q3173 : (Jvm.Cond.instanceMethod ({ cls := "DanceNotationModel", name := "isProblem", desc := "(IIII)Z" } : Jvm.MethodName)) ∈ lw_all := lw_g (lw_at lw_m13 176 rfl) rfl
theorem q3174 : (Jvm.Cond.code ({ cls := "DanceNotationModel", name := "isProblem", desc := "(IIII)Z" } : Jvm.MethodName) prog_24_method_78_code (5 : Nat) (Option.some Jvm.ClassFile.FieldType.boolean)) ∈ lw_all := lw_g (lw_at lw_m13 177 rfl) rfl
theorem q3175 : (Jvm.Cond.methodLink "DanceNotationModel" (345 : Nat) ({ cls := "DanceNotationModel", name := "areSame", desc := "(IIII)Z" } : Jvm.MethodName)) ∈ lw_all := lw_g (lw_at lw_m13 178 rfl) rfl
theorem q3176 : (Jvm.Cond.privateMethod ({ cls := "DanceNotationModel", name := "areSame", desc := "(IIII)Z" } : Jvm.MethodName)) ∈ lw_tbl := lw_at lw_m13 179 rfl
theorem q3177 : (Jvm.Cond.instanceMethod ({ cls := "DanceNotationModel", name := "areSame", desc := "(IIII)Z" } : Jvm.MethodName)) ∈ lw_all := lw_g (lw_at lw_m13 180 rfl) rfl
theorem q3178 : (Jvm.Cond.code ({ cls := "DanceNotationModel", name := "areSame", desc := "(IIII)Z" } : Jvm.MethodName) prog_24_method_77_code (5 : Nat) (Option.some Jvm.ClassFile.FieldType.boolean)) ∈ lw_all := lw_g (lw_at lw_m13 181 rfl) rfl
theorem q3180 : (Jvm.Cond.instanceMethod ({ cls := "DanceNotationModel", name := "problem", desc := "(II)I" } : Jvm.MethodName)) ∈ lw_all := lw_g (lw_at lw_m13 183 rfl) rfl
theorem q3181 : (Jvm.Cond.selects "DanceNotationModel" ({ cls := "DanceNotationModel", name := "problem", desc := "(II)I" } : Jvm.MethodName) ({ cls := "DanceNotationModel", name := "problem", desc := "(II)I" } : Jvm.MethodName)) ∈ lw_all := lw_g (lw_at lw_m13 184 rfl) rfl
theorem q3182 : (Jvm.Cond.code ({ cls := "DanceNotationModel", name := "problem", desc := "(II)I" } : Jvm.MethodName) prog_24_method_82_code (3 : Nat) (Option.some Jvm.ClassFile.FieldType.int)) ∈ lw_all := lw_g (lw_at lw_m13 185 rfl) rfl
theorem q3184 : (Jvm.Cond.instanceMethod ({ cls := "DanceNotationModel", name := "cue", desc := "(I)I" } : Jvm.MethodName)) ∈ lw_all := lw_g (lw_at lw_m13 187 rfl) rfl
theorem q3185 : (Jvm.Cond.selects "DanceNotationModel" ({ cls := "DanceNotationModel", name := "cue", desc := "(I)I" } : Jvm.MethodName) ({ cls := "DanceNotationModel", name := "cue", desc := "(I)I" } : Jvm.MethodName)) ∈ lw_all := lw_g (lw_at lw_m13 188 rfl) rfl
theorem q3186 : (Jvm.Cond.code ({ cls := "DanceNotationModel", name := "cue", desc := "(I)I" } : Jvm.MethodName) prog_24_method_83_code (4 : Nat) (Option.some Jvm.ClassFile.FieldType.int)) ∈ lw_all := lw_g (lw_at lw_m13 189 rfl) rfl
theorem q3188 : (Jvm.Cond.instanceMethod ({ cls := "DanceNotationModel", name := "displacement", desc := "(IZ)I" } : Jvm.MethodName)) ∈ lw_all := lw_g (lw_at lw_m13 191 rfl) rfl
theorem q3189 : (Jvm.Cond.selects "DanceNotationModel" ({ cls := "DanceNotationModel", name := "displacement", desc := "(IZ)I" } : Jvm.MethodName) ({ cls := "DanceNotationModel", name := "displacement", desc := "(IZ)I" } : Jvm.MethodName)) ∈ lw_all := lw_g (lw_at lw_m13 192 rfl) rfl
theorem q3190 : (Jvm.Cond.code ({ cls := "DanceNotationModel", name := "displacement", desc := "(IZ)I" } : Jvm.MethodName) prog_24_method_84_code (3 : Nat) (Option.some Jvm.ClassFile.FieldType.int)) ∈ lw_all := lw_g (lw_at lw_m13 193 rfl) rfl
theorem q3192 : (Jvm.Cond.instanceMethod ({ cls := "DanceNotationModel", name := "meanSteps", desc := "()D" } : Jvm.MethodName)) ∈ lw_all := lw_g (lw_at lw_m13 195 rfl) rfl
theorem q3193 : (Jvm.Cond.selects "DanceNotationModel" ({ cls := "DanceNotationModel", name := "meanSteps", desc := "()D" } : Jvm.MethodName) ({ cls := "DanceNotationModel", name := "meanSteps", desc := "()D" } : Jvm.MethodName)) ∈ lw_all := lw_g (lw_at lw_m13 196 rfl) rfl
theorem q3194 : (Jvm.Cond.code ({ cls := "DanceNotationModel", name := "meanSteps", desc := "()D" } : Jvm.MethodName) prog_24_method_86_code (4 : Nat) (Option.some Jvm.ClassFile.FieldType.double)) ∈ lw_all := lw_g (lw_at lw_m13 197 rfl) rfl
theorem q3195 : (Jvm.Cond.methodLink "DanceNotationModel" (376 : Nat) ({ cls := "DanceNotationModel", name := "movingSteps", desc := "(I)I" } : Jvm.MethodName)) ∈ lw_all := lw_g (lw_at lw_m13 198 rfl) rfl
theorem q3196 : (Jvm.Cond.privateMethod ({ cls := "DanceNotationModel", name := "movingSteps", desc := "(I)I" } : Jvm.MethodName)) ∈ lw_tbl := lw_at lw_m13 199 rfl
theorem q3197 : (Jvm.Cond.instanceMethod ({ cls := "DanceNotationModel", name := "movingSteps", desc := "(I)I" } : Jvm.MethodName)) ∈ lw_all := lw_g (lw_at lw_m13 200 rfl) rfl
theorem q3198 : (Jvm.Cond.code ({ cls := "DanceNotationModel", name := "movingSteps", desc := "(I)I" } : Jvm.MethodName) prog_24_method_85_code (4 : Nat) (Option.some Jvm.ClassFile.FieldType.int)) ∈ lw_all := lw_g (lw_at lw_m13 201 rfl) rfl
theorem q3200 : (Jvm.Cond.instanceMethod ({ cls := "DanceNotationModel", name := "movingShare", desc := "(I)F" } : Jvm.MethodName)) ∈ lw_all := lw_g (lw_at lw_m13 203 rfl) rfl
theorem q3201 : (Jvm.Cond.selects "DanceNotationModel" ({ cls := "DanceNotationModel", name := "movingShare", desc := "(I)F" } : Jvm.MethodName) ({ cls := "DanceNotationModel", name := "movingShare", desc := "(I)F" } : Jvm.MethodName)) ∈ lw_all := lw_g (lw_at lw_m13 204 rfl) rfl
theorem q3202 : (Jvm.Cond.code ({ cls := "DanceNotationModel", name := "movingShare", desc := "(I)F" } : Jvm.MethodName) prog_24_method_87_code (2 : Nat) (Option.some Jvm.ClassFile.FieldType.float)) ∈ lw_all := lw_g (lw_at lw_m13 205 rfl) rfl
theorem q3204 : (Jvm.Cond.instanceMethod ({ cls := "DanceNotationModel", name := "setFormation", desc := "(III)I" } : Jvm.MethodName)) ∈ lw_all := lw_g (lw_at lw_m13 207 rfl) rfl
theorem q3205 : (Jvm.Cond.selects "DanceNotationModel" ({ cls := "DanceNotationModel", name := "setFormation", desc := "(III)I" } : Jvm.MethodName) ({ cls := "DanceNotationModel", name := "setFormation", desc := "(III)I" } : Jvm.MethodName)) ∈ lw_all := lw_g (lw_at lw_m13 208 rfl) rfl
theorem q3206 : (Jvm.Cond.code ({ cls := "DanceNotationModel", name := "setFormation", desc := "(III)I" } : Jvm.MethodName) prog_24_method_88_code (4 : Nat) (Option.some Jvm.ClassFile.FieldType.int)) ∈ lw_all := lw_g (lw_at lw_m13 209 rfl) rfl
theorem q3208 : (Jvm.Cond.instanceMethod ({ cls := "DanceNotationModel", name := "distance", desc := "(II)I" } : Jvm.MethodName)) ∈ lw_all := lw_g (lw_at lw_m13 211 rfl) rfl
theorem q3209 : (Jvm.Cond.selects "DanceNotationModel" ({ cls := "DanceNotationModel", name := "distance", desc := "(II)I" } : Jvm.MethodName) ({ cls := "DanceNotationModel", name := "distance", desc := "(II)I" } : Jvm.MethodName)) ∈ lw_all := lw_g (lw_at lw_m13 212 rfl) rfl
theorem q3210 : (Jvm.Cond.code ({ cls := "DanceNotationModel", name := "distance", desc := "(II)I" } : Jvm.MethodName) prog_24_method_92_code (6 : Nat) (Option.some Jvm.ClassFile.FieldType.int)) ∈ lw_all := lw_g (lw_at lw_m13 213 rfl) rfl
theorem q3211 : (Jvm.Cond.methodLink "DanceNotationModel" (382 : Nat) ({ cls := "DanceNotationModel", name := "isIn", desc := "(II)Z" } : Jvm.MethodName)) ∈ lw_all := lw_g (lw_at lw_m13 214 rfl) rfl
theorem q3212 : (Jvm.Cond.privateMethod ({ cls := "DanceNotationModel", name := "isIn", desc := "(II)Z" } : Jvm.MethodName)) ∈ lw_tbl := lw_at lw_m13 215 rfl
theorem q3213 : (Jvm.Cond.instanceMethod ({ cls := "DanceNotationModel", name := "isIn", desc := "(II)Z" } : Jvm.MethodName)) ∈ lw_all := lw_g (lw_at lw_m13 216 rfl) rfl
theorem q3214 : (Jvm.Cond.code ({ cls := "DanceNotationModel", name := "isIn", desc := "(II)Z" } : Jvm.MethodName) prog_24_method_90_code (3 : Nat) (Option.some Jvm.ClassFile.FieldType.boolean)) ∈ lw_all := lw_g (lw_at lw_m13 217 rfl) rfl
theorem q3215 : (Jvm.Cond.methodLink "DanceNotationModel" (379 : Nat) ({ cls := "DanceNotationModel", name := "formed", desc := "(II)I" } : Jvm.MethodName)) ∈ lw_all := lw_g (lw_at lw_m13 218 rfl) rfl
theorem q3216 : (Jvm.Cond.privateMethod ({ cls := "DanceNotationModel", name := "formed", desc := "(II)I" } : Jvm.MethodName)) ∈ lw_tbl := lw_at lw_m13 219 rfl
theorem q3217 : (Jvm.Cond.instanceMethod ({ cls := "DanceNotationModel", name := "formed", desc := "(II)I" } : Jvm.MethodName)) ∈ lw_all := lw_g (lw_at lw_m13 220 rfl) rfl
theorem q3218 : (Jvm.Cond.code ({ cls := "DanceNotationModel", name := "formed", desc := "(II)I" } : Jvm.MethodName) prog_24_method_89_code (3 : Nat) (Option.some Jvm.ClassFile.FieldType.int)) ∈ lw_all := lw_g (lw_at lw_m13 221 rfl) rfl
theorem q3219 : (Jvm.Cond.methodLink "DanceNotationModel" (385 : Nat) ({ cls := "DanceNotationModel", name := "amount", desc := "(I)I" } : Jvm.MethodName)) ∈ lw_all := lw_g (lw_at lw_m13 222 rfl) rfl
theorem q3220 : (Jvm.Cond.static ({ cls := "DanceNotationModel", name := "amount", desc := "(I)I" } : Jvm.MethodName)) ∈ lw_all := lw_g (lw_at lw_m13 223 rfl) rfl
theorem q3221 : (Jvm.Cond.code ({ cls := "DanceNotationModel", name := "amount", desc := "(I)I" } : Jvm.MethodName) prog_24_method_91_code (1 : Nat) (Option.some Jvm.ClassFile.FieldType.int)) ∈ lw_all := lw_g (lw_at lw_m13 224 rfl) rfl
theorem q3223 : (Jvm.Cond.instanceMethod ({ cls := "DanceNotationModel", name := "plan", desc := "(I)I" } : Jvm.MethodName)) ∈ lw_all := lw_g (lw_at lw_m13 226 rfl) rfl
theorem q3224 : (Jvm.Cond.selects "DanceNotationModel" ({ cls := "DanceNotationModel", name := "plan", desc := "(I)I" } : Jvm.MethodName) ({ cls := "DanceNotationModel", name := "plan", desc := "(I)I" } : Jvm.MethodName)) ∈ lw_all := lw_g (lw_at lw_m13 227 rfl) rfl
theorem q3225 : (Jvm.Cond.code ({ cls := "DanceNotationModel", name := "plan", desc := "(I)I" } : Jvm.MethodName) prog_24_method_100_code (8 : Nat) (Option.some Jvm.ClassFile.FieldType.int)) ∈ lw_all := lw_g (lw_at lw_m13 228 rfl) rfl
theorem q3226 : (Jvm.Cond.methodLink "DanceNotationModel" (407 : Nat) ({ cls := "DanceNotationModel", name := "finds", desc := "(II)Z" } : Jvm.MethodName)) ∈ lw_all := lw_g (lw_at lw_m13 229 rfl) rfl
theorem q3227 : (Jvm.Cond.privateMethod ({ cls := "DanceNotationModel", name := "finds", desc := "(II)Z" } : Jvm.MethodName)) ∈ lw_tbl := lw_at lw_m13 230 rfl
theorem q3228 : (Jvm.Cond.instanceMethod ({ cls := "DanceNotationModel", name := "finds", desc := "(II)Z" } : Jvm.MethodName)) ∈ lw_all := lw_g (lw_at lw_m13 231 rfl) rfl
theorem q3229 : (Jvm.Cond.code ({ cls := "DanceNotationModel", name := "finds", desc := "(II)Z" } : Jvm.MethodName) prog_24_method_98_code (10 : Nat) (Option.some Jvm.ClassFile.FieldType.boolean)) ∈ lw_all := lw_g (lw_at lw_m13 232 rfl) rfl
theorem q3230 : (Jvm.Cond.methodLink "DanceNotationModel" (388 : Nat) ({ cls := "DanceNotationModel", name := "endOf", desc := "(I)I" } : Jvm.MethodName)) ∈ lw_all := lw_g (lw_at lw_m13 233 rfl) rfl
theorem q3231 : (Jvm.Cond.privateMethod ({ cls := "DanceNotationModel", name := "endOf", desc := "(I)I" } : Jvm.MethodName)) ∈ lw_tbl := lw_at lw_m13 234 rfl
theorem q3232 : (Jvm.Cond.instanceMethod ({ cls := "DanceNotationModel", name := "endOf", desc := "(I)I" } : Jvm.MethodName)) ∈ lw_all := lw_g (lw_at lw_m13 235 rfl) rfl
theorem q3233 : (Jvm.Cond.code ({ cls := "DanceNotationModel", name := "endOf", desc := "(I)I" } : Jvm.MethodName) prog_24_method_93_code (2 : Nat) (Option.some Jvm.ClassFile.FieldType.int)) ∈ lw_all := lw_g (lw_at lw_m13 236 rfl) rfl
theorem q3234 : (Jvm.Cond.methodLink "DanceNotationModel" (394 : Nat) ({ cls := "DanceNotationModel", name := "stepped", desc := "(II)I" } : Jvm.MethodName)) ∈ lw_all := lw_g (lw_at lw_m13 237 rfl) rfl
theorem q3235 : (Jvm.Cond.privateMethod ({ cls := "DanceNotationModel", name := "stepped", desc := "(II)I" } : Jvm.MethodName)) ∈ lw_tbl := lw_at lw_m13 238 rfl
theorem q3236 : (Jvm.Cond.instanceMethod ({ cls := "DanceNotationModel", name := "stepped", desc := "(II)I" } : Jvm.MethodName)) ∈ lw_all := lw_g (lw_at lw_m13 239 rfl) rfl
theorem q3237 : (Jvm.Cond.code ({ cls := "DanceNotationModel", name := "stepped", desc := "(II)I" } : Jvm.MethodName) prog_24_method_94_code (5 : Nat) (Option.some Jvm.ClassFile.FieldType.int)) ∈ lw_all := lw_g (lw_at lw_m14 0 rfl) rfl
theorem q3238 : (Jvm.Cond.methodLink "DanceNotationModel" (397 : Nat) ({ cls := "DanceNotationModel", name := "canStep", desc := "(IIIII)Z" } : Jvm.MethodName)) ∈ lw_all := lw_g (lw_at lw_m14 1 rfl) rfl
theorem q3239 : (Jvm.Cond.privateMethod ({ cls := "DanceNotationModel", name := "canStep", desc := "(IIIII)Z" } : Jvm.MethodName)) ∈ lw_tbl := lw_at lw_m14 2 rfl
theorem q3240 : (Jvm.Cond.instanceMethod ({ cls := "DanceNotationModel", name := "canStep", desc := "(IIIII)Z" } : Jvm.MethodName)) ∈ lw_all := lw_g (lw_at lw_m14 3 rfl) rfl
theorem q3241 : (Jvm.Cond.code ({ cls := "DanceNotationModel", name := "canStep", desc := "(IIIII)Z" } : Jvm.MethodName) prog_24_method_96_code (8 : Nat) (Option.some Jvm.ClassFile.FieldType.boolean)) ∈ lw_all := lw_g (lw_at lw_m14 4 rfl) rfl
theorem q3242 : (Jvm.Cond.methodLink "DanceNotationModel" (391 : Nat) ({ cls := "DanceNotationModel", name := "isFree", desc := "(IIII)Z" } : Jvm.MethodName)) ∈ lw_all := lw_g (lw_at lw_m14 5 rfl) rfl
theorem q3243 : (Jvm.Cond.privateMethod ({ cls := "DanceNotationModel", name := "isFree", desc := "(IIII)Z" } : Jvm.MethodName)) ∈ lw_tbl := lw_at lw_m14 6 rfl
theorem q3244 : (Jvm.Cond.instanceMethod ({ cls := "DanceNotationModel", name := "isFree", desc := "(IIII)Z" } : Jvm.MethodName)) ∈ lw_all := lw_g (lw_at lw_m14 7 rfl) rfl
theorem q3245 : (Jvm.Cond.code ({ cls := "DanceNotationModel", name := "isFree", desc := "(IIII)Z" } : Jvm.MethodName) prog_24_method_95_code (7 : Nat) (Option.some Jvm.ClassFile.FieldType.boolean)) ∈ lw_all := lw_g (lw_at lw_m14 8 rfl) rfl
theorem q3246 : (Jvm.Cond.methodLink "DanceNotationModel" (401 : Nat) ({ cls := "DanceNotationModel", name := "walks", desc := "(III)V" } : Jvm.MethodName)) ∈ lw_all := lw_g (lw_at lw_m14 9 rfl) rfl
theorem q3247 : (Jvm.Cond.privateMethod ({ cls := "DanceNotationModel", name := "walks", desc := "(III)V" } : Jvm.MethodName)) ∈ lw_tbl := lw_at lw_m14 10 rfl
theorem q3248 : (Jvm.Cond.instanceMethod ({ cls := "DanceNotationModel", name := "walks", desc := "(III)V" } : Jvm.MethodName)) ∈ lw_all := lw_g (lw_at lw_m14 11 rfl) rfl
theorem q3249 : (Jvm.Cond.code ({ cls := "DanceNotationModel", name := "walks", desc := "(III)V" } : Jvm.MethodName) prog_24_method_99_code (7 : Nat) (Option.none : Option Jvm.ClassFile.FieldType)) ∈ lw_all := lw_g (lw_at lw_m14 12 rfl) rfl
theorem q3250 : (Jvm.Cond.methodLink "DanceNotationModel" (404 : Nat) ({ cls := "DanceNotationModel", name := "tried", desc := "(I)I" } : Jvm.MethodName)) ∈ lw_all := lw_g (lw_at lw_m14 13 rfl) rfl
theorem q3251 : (Jvm.Cond.static ({ cls := "DanceNotationModel", name := "tried", desc := "(I)I" } : Jvm.MethodName)) ∈ lw_all := lw_g (lw_at lw_m14 14 rfl) rfl
theorem q3252 : (Jvm.Cond.code ({ cls := "DanceNotationModel", name := "tried", desc := "(I)I" } : Jvm.MethodName) prog_24_method_97_code (1 : Nat) (Option.some Jvm.ClassFile.FieldType.int)) ∈ lw_all := lw_g (lw_at lw_m14 15 rfl) rfl
theorem q3253 : (Jvm.Cond.methodLink "DanceNotationModel" (410 : Nat) ({ cls := "DanceNotationModel", name := "addsPath", desc := "(I)V" } : Jvm.MethodName)) ∈ lw_all := lw_g (lw_at lw_m14 16 rfl) rfl
theorem q3254 : (Jvm.Cond.privateMethod ({ cls := "DanceNotationModel", name := "addsPath", desc := "(I)V" } : Jvm.MethodName)) ∈ lw_tbl := lw_at lw_m14 17 rfl
theorem q3255 : (Jvm.Cond.instanceMethod ({ cls := "DanceNotationModel", name := "addsPath", desc := "(I)V" } : Jvm.MethodName)) ∈ lw_all := lw_g (lw_at lw_m14 18 rfl) rfl
theorem q3256 : (Jvm.Cond.code ({ cls := "DanceNotationModel", name := "addsPath", desc := "(I)V" } : Jvm.MethodName) prog_24_method_101_code (3 : Nat) (Option.none : Option Jvm.ClassFile.FieldType)) ∈ lw_all := lw_g (lw_at lw_m14 19 rfl) rfl
theorem q3258 : (Jvm.Cond.instanceMethod ({ cls := "DanceNotationModel", name := "reason", desc := "()I" } : Jvm.MethodName)) ∈ lw_all := lw_g (lw_at lw_m14 21 rfl) rfl
theorem q3259 : (Jvm.Cond.selects "DanceNotationModel" ({ cls := "DanceNotationModel", name := "reason", desc := "()I" } : Jvm.MethodName) ({ cls := "DanceNotationModel", name := "reason", desc := "()I" } : Jvm.MethodName)) ∈ lw_all := lw_g (lw_at lw_m14 22 rfl) rfl
theorem q3260 : (Jvm.Cond.code ({ cls := "DanceNotationModel", name := "reason", desc := "()I" } : Jvm.MethodName) prog_24_method_102_code (1 : Nat) (Option.some Jvm.ClassFile.FieldType.int)) ∈ lw_all := lw_g (lw_at lw_m14 23 rfl) rfl
theorem q3262 : (Jvm.Cond.instanceMethod ({ cls := "DanceNotationModel", name := "undo", desc := "()I" } : Jvm.MethodName)) ∈ lw_all := lw_g (lw_at lw_m14 25 rfl) rfl
theorem q3263 : (Jvm.Cond.selects "DanceNotationModel" ({ cls := "DanceNotationModel", name := "undo", desc := "()I" } : Jvm.MethodName) ({ cls := "DanceNotationModel", name := "undo", desc := "()I" } : Jvm.MethodName)) ∈ lw_all := lw_g (lw_at lw_m14 26 rfl) rfl
theorem q3264 : (Jvm.Cond.code ({ cls := "DanceNotationModel", name := "undo", desc := "()I" } : Jvm.MethodName) prog_24_method_103_code (2 : Nat) (Option.some Jvm.ClassFile.FieldType.int)) ∈ lw_all := lw_g (lw_at lw_m14 27 rfl) rfl
theorem q3266 : (Jvm.Cond.instanceMethod ({ cls := "DanceNotationModel", name := "isReplayed", desc := "()Z" } : Jvm.MethodName)) ∈ lw_all := lw_g (lw_at lw_m14 29 rfl) rfl
theorem q3267 : (Jvm.Cond.selects "DanceNotationModel" ({ cls := "DanceNotationModel", name := "isReplayed", desc := "()Z" } : Jvm.MethodName) ({ cls := "DanceNotationModel", name := "isReplayed", desc := "()Z" } : Jvm.MethodName)) ∈ lw_all := lw_g (lw_at lw_m14 30 rfl) rfl
theorem q3268 : (Jvm.Cond.code ({ cls := "DanceNotationModel", name := "isReplayed", desc := "()Z" } : Jvm.MethodName) prog_24_method_104_code (1 : Nat) (Option.some Jvm.ClassFile.FieldType.boolean)) ∈ lw_all := lw_g (lw_at lw_m14 31 rfl) rfl
theorem q3270 : (Jvm.Cond.instanceMethod ({ cls := "DanceNotationModel", name := "snapshot", desc := "()I" } : Jvm.MethodName)) ∈ lw_all := lw_g (lw_at lw_m14 33 rfl) rfl
theorem q3271 : (Jvm.Cond.selects "DanceNotationModel" ({ cls := "DanceNotationModel", name := "snapshot", desc := "()I" } : Jvm.MethodName) ({ cls := "DanceNotationModel", name := "snapshot", desc := "()I" } : Jvm.MethodName)) ∈ lw_all := lw_g (lw_at lw_m14 34 rfl) rfl
theorem q3272 : (Jvm.Cond.code ({ cls := "DanceNotationModel", name := "snapshot", desc := "()I" } : Jvm.MethodName) prog_24_method_106_code (2 : Nat) (Option.some Jvm.ClassFile.FieldType.int)) ∈ lw_all := lw_g (lw_at lw_m14 35 rfl) rfl
theorem q3273 : (Jvm.Cond.methodLink "DanceNotationModel" (416 : Nat) ({ cls := "DanceNotationModel", name := "many", desc := "()I" } : Jvm.MethodName)) ∈ lw_all := lw_g (lw_at lw_m14 36 rfl) rfl
theorem q3274 : (Jvm.Cond.privateMethod ({ cls := "DanceNotationModel", name := "many", desc := "()I" } : Jvm.MethodName)) ∈ lw_tbl := lw_at lw_m14 37 rfl
theorem q3275 : (Jvm.Cond.instanceMethod ({ cls := "DanceNotationModel", name := "many", desc := "()I" } : Jvm.MethodName)) ∈ lw_all := lw_g (lw_at lw_m14 38 rfl) rfl
theorem q3276 : (Jvm.Cond.code ({ cls := "DanceNotationModel", name := "many", desc := "()I" } : Jvm.MethodName) prog_24_method_105_code (3 : Nat) (Option.some Jvm.ClassFile.FieldType.int)) ∈ lw_all := lw_g (lw_at lw_m14 39 rfl) rfl
theorem q3278 : (Jvm.Cond.instanceMethod ({ cls := "DanceNotationModel", name := "restore", desc := "()I" } : Jvm.MethodName)) ∈ lw_all := lw_g (lw_at lw_m14 41 rfl) rfl
theorem q3279 : (Jvm.Cond.selects "DanceNotationModel" ({ cls := "DanceNotationModel", name := "restore", desc := "()I" } : Jvm.MethodName) ({ cls := "DanceNotationModel", name := "restore", desc := "()I" } : Jvm.MethodName)) ∈ lw_all := lw_g (lw_at lw_m14 42 rfl) rfl
theorem q3280 : (Jvm.Cond.code ({ cls := "DanceNotationModel", name := "restore", desc := "()I" } : Jvm.MethodName) prog_24_method_107_code (2 : Nat) (Option.some Jvm.ClassFile.FieldType.int)) ∈ lw_all := lw_g (lw_at lw_m14 43 rfl) rfl
theorem q3318 : (Jvm.Cond.castable "DanceNotationModel" "java/lang/Object") ∈ lw_tbl := lw_at lw_m14 81 rfl
theorem in_X3 : ∀ w ∈ wsX30, w ∈ lw_all := lw_in wsX30 [2764, 2766, 2768, 2770, 2772, 2774, 2776, 2778, 2780, 2782, 2784, 2786, 2788, 2790, 2792, 2794, 2796, 2798, 2800, 2802, 2804, 2806, 2808, 2810, 2812, 2814, 2816, 2818, 2820, 2822, 2824, 2826, 2828, 2830, 2832, 2834, 2836, 2838, 2840, 2842, 2844, 2846, 2848, 2850, 2852, 2854, 2856, 2858, 2860, 2862, 2864, 2866, 2868] (by decide +kernel) (by decide +kernel)

/-! java/util/AbstractCollection -/
set_option maxRecDepth 100000
def RJ0 : String := "java/util/AbstractCollection"
abbrev cJ0_init : ByteArray := prog_54_method_1_code
def yJ0_init : MethodName := ⟨RJ0, "<init>", "()V"⟩
theorem dJ0_init_0 : decode cJ0_init 0 = .ok (.aload_n 0, 1) := by decide +kernel
theorem dJ0_init_1 : decode cJ0_init 1 = .ok (.invokespecial 1, 3) := by decide +kernel
theorem dJ0_init_4 : decode cJ0_init 4 = .ok (.return_, 1) := by decide +kernel
abbrev cJ0_isEmpty : ByteArray := prog_54_method_4_code
def yJ0_isEmpty : MethodName := ⟨RJ0, "isEmpty", "()Z"⟩
def dkwJ0_isEmpty_0 : List UInt8 := [42, 182, 0, 7, 154, 0, 7, 4, 167, 0, 4, 3, 172]
abbrev dktJ0_isEmpty_0 : List UInt8 := dkwJ0_isEmpty_0 ++ []
theorem dksJ0_isEmpty_0 : cJ0_isEmpty.data.toList.drop 0 = dktJ0_isEmpty_0 := by decide +kernel
theorem dJ0_isEmpty_0 : decode cJ0_isEmpty 0 = .ok (.aload_n 0, 1) := dk_42 (dk_at dksJ0_isEmpty_0 0 rfl rfl)
theorem dJ0_isEmpty_1 : decode cJ0_isEmpty 1 = .ok (.invokevirtual 7, 3) := dk_182 0 7 (dk_at dksJ0_isEmpty_0 1 rfl rfl)
theorem dJ0_isEmpty_4 : decode cJ0_isEmpty 4 = .ok (.ifCond .ne 7, 3) := dk_154 0 7 (dk_at dksJ0_isEmpty_0 4 rfl rfl)
theorem dJ0_isEmpty_7 : decode cJ0_isEmpty 7 = .ok (.iconst 1, 1) := dk_4 (dk_at dksJ0_isEmpty_0 7 rfl rfl)
theorem dJ0_isEmpty_8 : decode cJ0_isEmpty 8 = .ok (.goto 4, 3) := dk_167 0 4 (dk_at dksJ0_isEmpty_0 8 rfl rfl)
theorem dJ0_isEmpty_11 : decode cJ0_isEmpty 11 = .ok (.iconst 0, 1) := dk_3 (dk_at dksJ0_isEmpty_0 11 rfl rfl)
theorem dJ0_isEmpty_12 : decode cJ0_isEmpty 12 = .ok (.ireturn, 1) := dk_172 (dk_at dksJ0_isEmpty_0 12 rfl rfl)
theorem q120 : (Jvm.Cond.initialized "java/util/AbstractCollection") ∈ lw_all := lw_g (lw_at lw_m1 3 rfl) rfl
theorem q241 : (Jvm.Cond.instanceMethod ({ cls := "java/util/AbstractCollection", name := "<init>", desc := "()V" } : Jvm.MethodName)) ∈ lw_all := lw_g (lw_at lw_m1 124 rfl) rfl
theorem q242 : (Jvm.Cond.code ({ cls := "java/util/AbstractCollection", name := "<init>", desc := "()V" } : Jvm.MethodName) prog_54_method_1_code (1 : Nat) (Option.none : Option Jvm.ClassFile.FieldType)) ∈ lw_all := lw_g (lw_at lw_m1 125 rfl) rfl
theorem q243 : (Jvm.Cond.methodLink "java/util/AbstractCollection" (1 : Nat) ({ cls := "java/lang/Object", name := "<init>", desc := "()V" } : Jvm.MethodName)) ∈ lw_all := lw_g (lw_at lw_m1 126 rfl) rfl
theorem q774 : (Jvm.Cond.declares ({ cls := "java/util/AbstractCollection", name := "isEmpty", desc := "()Z" } : Jvm.MethodName)) ∈ lw_tbl := lw_at lw_m3 177 rfl
theorem q776 : (Jvm.Cond.instanceMethod ({ cls := "java/util/AbstractCollection", name := "isEmpty", desc := "()Z" } : Jvm.MethodName)) ∈ lw_all := lw_g (lw_at lw_m3 179 rfl) rfl
theorem q777 : (Jvm.Cond.code ({ cls := "java/util/AbstractCollection", name := "isEmpty", desc := "()Z" } : Jvm.MethodName) prog_54_method_4_code (1 : Nat) (Option.some Jvm.ClassFile.FieldType.boolean)) ∈ lw_all := lw_g (lw_at lw_m3 180 rfl) rfl
theorem q778 : (Jvm.Cond.methodLink "java/util/AbstractCollection" (7 : Nat) ({ cls := "java/util/AbstractCollection", name := "size", desc := "()I" } : Jvm.MethodName)) ∈ lw_all := lw_g (lw_at lw_m3 181 rfl) rfl
theorem q779 : (Jvm.Cond.declares ({ cls := "java/util/AbstractCollection", name := "size", desc := "()I" } : Jvm.MethodName)) ∈ lw_tbl := lw_at lw_m3 182 rfl
theorem q780 : (Jvm.Cond.sameMethod "java/util/AbstractCollection" "java/util/AbstractCollection" "size" "()I") ∈ lw_all := lw_g (lw_at lw_m3 183 rfl) rfl

/-! java/util/AbstractList -/
set_option maxRecDepth 100000
def RJ1 : String := "java/util/AbstractList"
abbrev cJ1_init : ByteArray := prog_55_method_1_code
def yJ1_init : MethodName := ⟨RJ1, "<init>", "()V"⟩
def dkwJ1_init_0 : List UInt8 := [42, 183, 0, 1, 42, 3, 181, 0, 7, 177]
abbrev dktJ1_init_0 : List UInt8 := dkwJ1_init_0 ++ []
theorem dksJ1_init_0 : cJ1_init.data.toList.drop 0 = dktJ1_init_0 := by decide +kernel
theorem dJ1_init_0 : decode cJ1_init 0 = .ok (.aload_n 0, 1) := dk_42 (dk_at dksJ1_init_0 0 rfl rfl)
theorem dJ1_init_1 : decode cJ1_init 1 = .ok (.invokespecial 1, 3) := dk_183 0 1 (dk_at dksJ1_init_0 1 rfl rfl)
theorem dJ1_init_4 : decode cJ1_init 4 = .ok (.aload_n 0, 1) := dk_42 (dk_at dksJ1_init_0 4 rfl rfl)
theorem dJ1_init_5 : decode cJ1_init 5 = .ok (.iconst 0, 1) := dk_3 (dk_at dksJ1_init_0 5 rfl rfl)
theorem dJ1_init_6 : decode cJ1_init 6 = .ok (.putfield 7, 3) := dk_181 0 7 (dk_at dksJ1_init_0 6 rfl rfl)
theorem dJ1_init_9 : decode cJ1_init 9 = .ok (.return_, 1) := dk_177 (dk_at dksJ1_init_0 9 rfl rfl)
abbrev cJ1_listIterator : ByteArray := prog_55_method_12_code
def yJ1_listIterator : MethodName := ⟨RJ1, "listIterator", "()Ljava/util/ListIterator;"⟩
def dkwJ1_listIterator_0 : List UInt8 := [42, 3, 182, 0, 47, 176]
abbrev dktJ1_listIterator_0 : List UInt8 := dkwJ1_listIterator_0 ++ []
theorem dksJ1_listIterator_0 : cJ1_listIterator.data.toList.drop 0 = dktJ1_listIterator_0 := by decide +kernel
theorem dJ1_listIterator_0 : decode cJ1_listIterator 0 = .ok (.aload_n 0, 1) := dk_42 (dk_at dksJ1_listIterator_0 0 rfl rfl)
theorem dJ1_listIterator_1 : decode cJ1_listIterator 1 = .ok (.iconst 0, 1) := dk_3 (dk_at dksJ1_listIterator_0 1 rfl rfl)
theorem dJ1_listIterator_2 : decode cJ1_listIterator 2 = .ok (.invokevirtual 47, 3) := dk_182 0 47 (dk_at dksJ1_listIterator_0 2 rfl rfl)
theorem dJ1_listIterator_5 : decode cJ1_listIterator 5 = .ok (.areturn, 1) := dk_176 (dk_at dksJ1_listIterator_0 5 rfl rfl)
theorem q121 : (Jvm.Cond.initialized "java/util/AbstractList") ∈ lw_all := lw_g (lw_at lw_m1 4 rfl) rfl
theorem q238 : (Jvm.Cond.instanceMethod ({ cls := "java/util/AbstractList", name := "<init>", desc := "()V" } : Jvm.MethodName)) ∈ lw_all := lw_g (lw_at lw_m1 121 rfl) rfl
theorem q239 : (Jvm.Cond.code ({ cls := "java/util/AbstractList", name := "<init>", desc := "()V" } : Jvm.MethodName) prog_55_method_1_code (1 : Nat) (Option.none : Option Jvm.ClassFile.FieldType)) ∈ lw_all := lw_g (lw_at lw_m1 122 rfl) rfl
theorem q240 : (Jvm.Cond.methodLink "java/util/AbstractList" (1 : Nat) ({ cls := "java/util/AbstractCollection", name := "<init>", desc := "()V" } : Jvm.MethodName)) ∈ lw_all := lw_g (lw_at lw_m1 123 rfl) rfl
theorem q248 : (Jvm.Cond.fieldLink "java/util/AbstractList" (7 : Nat) "java/util/AbstractList" "modCount" "I") ∈ lw_all := lw_g (lw_at lw_m1 131 rfl) rfl
theorem q263 : (Jvm.Cond.soleField "java/util/AbstractList" "modCount") ∈ lw_all := lw_g (lw_at lw_m1 146 rfl) rfl
theorem q363 : (Jvm.Cond.declares ({ cls := "java/util/AbstractList", name := "listIterator", desc := "()Ljava/util/ListIterator;" } : Jvm.MethodName)) ∈ lw_tbl := lw_at lw_m2 6 rfl
theorem q365 : (Jvm.Cond.instanceMethod ({ cls := "java/util/AbstractList", name := "listIterator", desc := "()Ljava/util/ListIterator;" } : Jvm.MethodName)) ∈ lw_all := lw_g (lw_at lw_m2 8 rfl) rfl
theorem q366 : (Jvm.Cond.code ({ cls := "java/util/AbstractList", name := "listIterator", desc := "()Ljava/util/ListIterator;" } : Jvm.MethodName) prog_55_method_12_code (1 : Nat) (Option.some (Jvm.ClassFile.FieldType.object "java/util/ListIterator"))) ∈ lw_all := lw_g (lw_at lw_m2 9 rfl) rfl
theorem q367 : (Jvm.Cond.methodLink "java/util/AbstractList" (47 : Nat) ({ cls := "java/util/AbstractList", name := "listIterator", desc := "(I)Ljava/util/ListIterator;" } : Jvm.MethodName)) ∈ lw_all := lw_g (lw_at lw_m2 10 rfl) rfl
theorem q368 : (Jvm.Cond.instanceMethod ({ cls := "java/util/AbstractList", name := "listIterator", desc := "(I)Ljava/util/ListIterator;" } : Jvm.MethodName)) ∈ lw_all := lw_g (lw_at lw_m2 11 rfl) rfl
theorem q369 : (Jvm.Cond.sameMethod "java/util/AbstractList" "java/util/AbstractList" "listIterator" "(I)Ljava/util/ListIterator;") ∈ lw_all := lw_g (lw_at lw_m2 12 rfl) rfl
theorem q761 : (Jvm.Cond.declares ({ cls := "java/util/AbstractList", name := "listIterator", desc := "(I)Ljava/util/ListIterator;" } : Jvm.MethodName)) ∈ lw_tbl := lw_at lw_m3 164 rfl
theorem q800 : (Jvm.Cond.sameMethod "java/util/AbstractList" "java/util/AbstractCollection" "size" "()I") ∈ lw_all := lw_g (lw_at lw_m3 203 rfl) rfl
theorem q949 : (Jvm.Cond.declares ({ cls := "java/util/AbstractList", name := "get", desc := "(I)Ljava/lang/Object;" } : Jvm.MethodName)) ∈ lw_tbl := lw_at lw_m4 112 rfl
theorem q950 : (Jvm.Cond.sameMethod "java/util/AbstractList" "java/util/AbstractList" "get" "(I)Ljava/lang/Object;") ∈ lw_all := lw_g (lw_at lw_m4 113 rfl) rfl

/-! java/util/AbstractSequentialList -/
set_option maxRecDepth 100000
def RJ2 : String := "java/util/AbstractSequentialList"
abbrev cJ2_init : ByteArray := prog_58_method_1_code
def yJ2_init : MethodName := ⟨RJ2, "<init>", "()V"⟩
theorem dJ2_init_0 : decode cJ2_init 0 = .ok (.aload_n 0, 1) := by decide +kernel
theorem dJ2_init_1 : decode cJ2_init 1 = .ok (.invokespecial 1, 3) := by decide +kernel
theorem dJ2_init_4 : decode cJ2_init 4 = .ok (.return_, 1) := by decide +kernel
abbrev cJ2_iterator : ByteArray := prog_58_method_7_code
def yJ2_iterator : MethodName := ⟨RJ2, "iterator", "()Ljava/util/Iterator;"⟩
theorem dJ2_iterator_0 : decode cJ2_iterator 0 = .ok (.aload_n 0, 1) := by decide +kernel
theorem dJ2_iterator_1 : decode cJ2_iterator 1 = .ok (.invokevirtual 65, 3) := by decide +kernel
theorem dJ2_iterator_4 : decode cJ2_iterator 4 = .ok (.areturn, 1) := by decide +kernel
theorem q122 : (Jvm.Cond.initialized "java/util/AbstractSequentialList") ∈ lw_all := lw_g (lw_at lw_m1 5 rfl) rfl
theorem q235 : (Jvm.Cond.instanceMethod ({ cls := "java/util/AbstractSequentialList", name := "<init>", desc := "()V" } : Jvm.MethodName)) ∈ lw_all := lw_g (lw_at lw_m1 118 rfl) rfl
theorem q236 : (Jvm.Cond.code ({ cls := "java/util/AbstractSequentialList", name := "<init>", desc := "()V" } : Jvm.MethodName) prog_58_method_1_code (1 : Nat) (Option.none : Option Jvm.ClassFile.FieldType)) ∈ lw_all := lw_g (lw_at lw_m1 119 rfl) rfl
theorem q237 : (Jvm.Cond.methodLink "java/util/AbstractSequentialList" (1 : Nat) ({ cls := "java/util/AbstractList", name := "<init>", desc := "()V" } : Jvm.MethodName)) ∈ lw_all := lw_g (lw_at lw_m1 120 rfl) rfl
theorem q357 : (Jvm.Cond.declares ({ cls := "java/util/AbstractSequentialList", name := "iterator", desc := "()Ljava/util/Iterator;" } : Jvm.MethodName)) ∈ lw_tbl := lw_at lw_m2 0 rfl
theorem q359 : (Jvm.Cond.instanceMethod ({ cls := "java/util/AbstractSequentialList", name := "iterator", desc := "()Ljava/util/Iterator;" } : Jvm.MethodName)) ∈ lw_all := lw_g (lw_at lw_m2 2 rfl) rfl
theorem q360 : (Jvm.Cond.code ({ cls := "java/util/AbstractSequentialList", name := "iterator", desc := "()Ljava/util/Iterator;" } : Jvm.MethodName) prog_58_method_7_code (1 : Nat) (Option.some (Jvm.ClassFile.FieldType.object "java/util/Iterator"))) ∈ lw_all := lw_g (lw_at lw_m2 3 rfl) rfl
theorem q361 : (Jvm.Cond.methodLink "java/util/AbstractSequentialList" (65 : Nat) ({ cls := "java/util/AbstractSequentialList", name := "listIterator", desc := "()Ljava/util/ListIterator;" } : Jvm.MethodName)) ∈ lw_all := lw_g (lw_at lw_m2 4 rfl) rfl
theorem q362 : (Jvm.Cond.sameMethod "java/util/AbstractSequentialList" "java/util/AbstractList" "listIterator" "()Ljava/util/ListIterator;") ∈ lw_all := lw_g (lw_at lw_m2 5 rfl) rfl

/-! java/util/LinkedList -/
set_option maxRecDepth 100000
def RJ3 : String := "java/util/LinkedList"
def TJ3 : u_T := fun k => match k with
  | 0 => ("java/util/AbstractList", "modCount", "I", false)
  | 1 => ("java/util/LinkedList", "size", "I", false)
  | 2 => ("java/util/LinkedList", "first", "Ljava/util/LinkedList$Node;", false)
  | _ => ("java/util/LinkedList", "last", "Ljava/util/LinkedList$Node;", false)
def tyJ3 : Nat → FieldType := fun k => match k with
  | 0 => .int
  | 1 => .int
  | 2 => .object "java/util/LinkedList$Node"
  | _ => .object "java/util/LinkedList$Node"
abbrev wsJ30 : List Cond := u_ws RJ3 TJ3 4
theorem nmJ3 : ∀ a, a < 4 → ∀ b, b < 4 → a ≠ b → (TJ3 a).2.1 ≠ (TJ3 b).2.1 := by decide +kernel
theorem tyJ3_ok : ∀ k, k < 4 → parseFieldDescriptor (TJ3 k).2.2.1 = some (tyJ3 k) := by decide +kernel
abbrev cJ3_init : ByteArray := prog_67_method_1_code
def yJ3_init : MethodName := ⟨RJ3, "<init>", "()V"⟩
def dkwJ3_init_0 : List UInt8 := [42, 183, 0, 1, 42, 3, 181, 0, 7, 177]
abbrev dktJ3_init_0 : List UInt8 := dkwJ3_init_0 ++ []
theorem dksJ3_init_0 : cJ3_init.data.toList.drop 0 = dktJ3_init_0 := by decide +kernel
theorem dJ3_init_0 : decode cJ3_init 0 = .ok (.aload_n 0, 1) := dk_42 (dk_at dksJ3_init_0 0 rfl rfl)
theorem dJ3_init_1 : decode cJ3_init 1 = .ok (.invokespecial 1, 3) := dk_183 0 1 (dk_at dksJ3_init_0 1 rfl rfl)
theorem dJ3_init_4 : decode cJ3_init 4 = .ok (.aload_n 0, 1) := dk_42 (dk_at dksJ3_init_0 4 rfl rfl)
theorem dJ3_init_5 : decode cJ3_init 5 = .ok (.iconst 0, 1) := dk_3 (dk_at dksJ3_init_0 5 rfl rfl)
theorem dJ3_init_6 : decode cJ3_init 6 = .ok (.putfield 7, 3) := dk_181 0 7 (dk_at dksJ3_init_0 6 rfl rfl)
theorem dJ3_init_9 : decode cJ3_init 9 = .ok (.return_, 1) := dk_177 (dk_at dksJ3_init_0 9 rfl rfl)
abbrev cJ3_listIterator : ByteArray := prog_67_method_49_code
def yJ3_listIterator : MethodName := ⟨RJ3, "listIterator", "(I)Ljava/util/ListIterator;"⟩
def dkwJ3_listIterator_0 : List UInt8 := [42, 27, 182, 0, 76, 187, 0, 150, 89, 42, 27, 183, 0, 152, 176]
abbrev dktJ3_listIterator_0 : List UInt8 := dkwJ3_listIterator_0 ++ []
theorem dksJ3_listIterator_0 : cJ3_listIterator.data.toList.drop 0 = dktJ3_listIterator_0 := by decide +kernel
theorem dJ3_listIterator_0 : decode cJ3_listIterator 0 = .ok (.aload_n 0, 1) := dk_42 (dk_at dksJ3_listIterator_0 0 rfl rfl)
theorem dJ3_listIterator_1 : decode cJ3_listIterator 1 = .ok (.iload_n 1, 1) := dk_27 (dk_at dksJ3_listIterator_0 1 rfl rfl)
theorem dJ3_listIterator_2 : decode cJ3_listIterator 2 = .ok (.invokevirtual 76, 3) := dk_182 0 76 (dk_at dksJ3_listIterator_0 2 rfl rfl)
theorem dJ3_listIterator_5 : decode cJ3_listIterator 5 = .ok (.new 150, 3) := dk_187 0 150 (dk_at dksJ3_listIterator_0 5 rfl rfl)
theorem dJ3_listIterator_8 : decode cJ3_listIterator 8 = .ok (.dup, 1) := dk_89 (dk_at dksJ3_listIterator_0 8 rfl rfl)
theorem dJ3_listIterator_9 : decode cJ3_listIterator 9 = .ok (.aload_n 0, 1) := dk_42 (dk_at dksJ3_listIterator_0 9 rfl rfl)
theorem dJ3_listIterator_10 : decode cJ3_listIterator 10 = .ok (.iload_n 1, 1) := dk_27 (dk_at dksJ3_listIterator_0 10 rfl rfl)
theorem dJ3_listIterator_11 : decode cJ3_listIterator 11 = .ok (.invokespecial 152, 3) := dk_183 0 152 (dk_at dksJ3_listIterator_0 11 rfl rfl)
theorem dJ3_listIterator_14 : decode cJ3_listIterator 14 = .ok (.areturn, 1) := dk_176 (dk_at dksJ3_listIterator_0 14 rfl rfl)
abbrev cJ3_checkPositionIndex : ByteArray := prog_67_method_30_code
def yJ3_checkPositionIndex : MethodName := ⟨RJ3, "checkPositionIndex", "(I)V"⟩
def dkwJ3_checkPositionIndex_0 : List UInt8 := [42, 27, 182, 0, 128, 154, 0, 16, 187, 0, 119, 89, 42, 27, 182, 0, 121, 183, 0, 125, 191, 177]
abbrev dktJ3_checkPositionIndex_0 : List UInt8 := dkwJ3_checkPositionIndex_0 ++ []
theorem dksJ3_checkPositionIndex_0 : cJ3_checkPositionIndex.data.toList.drop 0 = dktJ3_checkPositionIndex_0 := by decide +kernel
theorem dJ3_checkPositionIndex_0 : decode cJ3_checkPositionIndex 0 = .ok (.aload_n 0, 1) := dk_42 (dk_at dksJ3_checkPositionIndex_0 0 rfl rfl)
theorem dJ3_checkPositionIndex_1 : decode cJ3_checkPositionIndex 1 = .ok (.iload_n 1, 1) := dk_27 (dk_at dksJ3_checkPositionIndex_0 1 rfl rfl)
theorem dJ3_checkPositionIndex_2 : decode cJ3_checkPositionIndex 2 = .ok (.invokevirtual 128, 3) := dk_182 0 128 (dk_at dksJ3_checkPositionIndex_0 2 rfl rfl)
theorem dJ3_checkPositionIndex_5 : decode cJ3_checkPositionIndex 5 = .ok (.ifCond .ne 16, 3) := dk_154 0 16 (dk_at dksJ3_checkPositionIndex_0 5 rfl rfl)
theorem dJ3_checkPositionIndex_8 : decode cJ3_checkPositionIndex 8 = .ok (.new 119, 3) := dk_187 0 119 (dk_at dksJ3_checkPositionIndex_0 8 rfl rfl)
theorem dJ3_checkPositionIndex_11 : decode cJ3_checkPositionIndex 11 = .ok (.dup, 1) := dk_89 (dk_at dksJ3_checkPositionIndex_0 11 rfl rfl)
theorem dJ3_checkPositionIndex_12 : decode cJ3_checkPositionIndex 12 = .ok (.aload_n 0, 1) := dk_42 (dk_at dksJ3_checkPositionIndex_0 12 rfl rfl)
theorem dJ3_checkPositionIndex_13 : decode cJ3_checkPositionIndex 13 = .ok (.iload_n 1, 1) := dk_27 (dk_at dksJ3_checkPositionIndex_0 13 rfl rfl)
theorem dJ3_checkPositionIndex_14 : decode cJ3_checkPositionIndex 14 = .ok (.invokevirtual 121, 3) := dk_182 0 121 (dk_at dksJ3_checkPositionIndex_0 14 rfl rfl)
theorem dJ3_checkPositionIndex_17 : decode cJ3_checkPositionIndex 17 = .ok (.invokespecial 125, 3) := dk_183 0 125 (dk_at dksJ3_checkPositionIndex_0 17 rfl rfl)
theorem dJ3_checkPositionIndex_20 : decode cJ3_checkPositionIndex 20 = .ok (.athrow, 1) := dk_191 (dk_at dksJ3_checkPositionIndex_0 20 rfl rfl)
theorem dJ3_checkPositionIndex_21 : decode cJ3_checkPositionIndex 21 = .ok (.return_, 1) := dk_177 (dk_at dksJ3_checkPositionIndex_0 21 rfl rfl)
abbrev cJ3_isPositionIndex : ByteArray := prog_67_method_27_code
def yJ3_isPositionIndex : MethodName := ⟨RJ3, "isPositionIndex", "(I)Z"⟩
def dkwJ3_isPositionIndex_0 : List UInt8 := [27, 155, 0, 15, 27, 42, 180, 0, 7, 163, 0, 7, 4, 167, 0, 4, 3, 172]
abbrev dktJ3_isPositionIndex_0 : List UInt8 := dkwJ3_isPositionIndex_0 ++ []
theorem dksJ3_isPositionIndex_0 : cJ3_isPositionIndex.data.toList.drop 0 = dktJ3_isPositionIndex_0 := by decide +kernel
theorem dJ3_isPositionIndex_0 : decode cJ3_isPositionIndex 0 = .ok (.iload_n 1, 1) := dk_27 (dk_at dksJ3_isPositionIndex_0 0 rfl rfl)
theorem dJ3_isPositionIndex_1 : decode cJ3_isPositionIndex 1 = .ok (.ifCond .lt 15, 3) := dk_155 0 15 (dk_at dksJ3_isPositionIndex_0 1 rfl rfl)
theorem dJ3_isPositionIndex_4 : decode cJ3_isPositionIndex 4 = .ok (.iload_n 1, 1) := dk_27 (dk_at dksJ3_isPositionIndex_0 4 rfl rfl)
theorem dJ3_isPositionIndex_5 : decode cJ3_isPositionIndex 5 = .ok (.aload_n 0, 1) := dk_42 (dk_at dksJ3_isPositionIndex_0 5 rfl rfl)
theorem dJ3_isPositionIndex_6 : decode cJ3_isPositionIndex 6 = .ok (.getfield 7, 3) := dk_180 0 7 (dk_at dksJ3_isPositionIndex_0 6 rfl rfl)
theorem dJ3_isPositionIndex_9 : decode cJ3_isPositionIndex 9 = .ok (.if_icmp .gt 7, 3) := dk_163 0 7 (dk_at dksJ3_isPositionIndex_0 9 rfl rfl)
theorem dJ3_isPositionIndex_12 : decode cJ3_isPositionIndex 12 = .ok (.iconst 1, 1) := dk_4 (dk_at dksJ3_isPositionIndex_0 12 rfl rfl)
theorem dJ3_isPositionIndex_13 : decode cJ3_isPositionIndex 13 = .ok (.goto 4, 3) := dk_167 0 4 (dk_at dksJ3_isPositionIndex_0 13 rfl rfl)
theorem dJ3_isPositionIndex_16 : decode cJ3_isPositionIndex 16 = .ok (.iconst 0, 1) := dk_3 (dk_at dksJ3_isPositionIndex_0 16 rfl rfl)
theorem dJ3_isPositionIndex_17 : decode cJ3_isPositionIndex 17 = .ok (.ireturn, 1) := dk_172 (dk_at dksJ3_isPositionIndex_0 17 rfl rfl)
abbrev cJ3_outOfBoundsMsg : ByteArray := prog_67_method_28_code
def yJ3_outOfBoundsMsg : MethodName := ⟨RJ3, "outOfBoundsMsg", "(I)Ljava/lang/String;"⟩
def dkwJ3_outOfBoundsMsg_1 : List UInt8 := [180, 0, 7, 182, 0, 106, 182, 0, 111, 176]
abbrev dktJ3_outOfBoundsMsg_1 : List UInt8 := dkwJ3_outOfBoundsMsg_1 ++ []
def dkwJ3_outOfBoundsMsg_0 : List UInt8 := [187, 0, 97, 89, 183, 0, 99, 18, 100, 182, 0, 102, 27, 182, 0, 106, 18, 109, 182, 0, 102, 42]
abbrev dktJ3_outOfBoundsMsg_0 : List UInt8 := dkwJ3_outOfBoundsMsg_0 ++ dktJ3_outOfBoundsMsg_1
theorem dksJ3_outOfBoundsMsg_0 : cJ3_outOfBoundsMsg.data.toList.drop 0 = dktJ3_outOfBoundsMsg_0 := by decide +kernel
theorem dksJ3_outOfBoundsMsg_1 : cJ3_outOfBoundsMsg.data.toList.drop 22 = dktJ3_outOfBoundsMsg_1 := dk_seg dksJ3_outOfBoundsMsg_0 22 rfl rfl
theorem dJ3_outOfBoundsMsg_0 : decode cJ3_outOfBoundsMsg 0 = .ok (.new 97, 3) := dk_187 0 97 (dk_at dksJ3_outOfBoundsMsg_0 0 rfl rfl)
theorem dJ3_outOfBoundsMsg_3 : decode cJ3_outOfBoundsMsg 3 = .ok (.dup, 1) := dk_89 (dk_at dksJ3_outOfBoundsMsg_0 3 rfl rfl)
theorem dJ3_outOfBoundsMsg_4 : decode cJ3_outOfBoundsMsg 4 = .ok (.invokespecial 99, 3) := dk_183 0 99 (dk_at dksJ3_outOfBoundsMsg_0 4 rfl rfl)
theorem dJ3_outOfBoundsMsg_7 : decode cJ3_outOfBoundsMsg 7 = .ok (.ldc 100, 2) := dk_18 100 (dk_at dksJ3_outOfBoundsMsg_0 7 rfl rfl)
theorem dJ3_outOfBoundsMsg_9 : decode cJ3_outOfBoundsMsg 9 = .ok (.invokevirtual 102, 3) := dk_182 0 102 (dk_at dksJ3_outOfBoundsMsg_0 9 rfl rfl)
theorem dJ3_outOfBoundsMsg_12 : decode cJ3_outOfBoundsMsg 12 = .ok (.iload_n 1, 1) := dk_27 (dk_at dksJ3_outOfBoundsMsg_0 12 rfl rfl)
theorem dJ3_outOfBoundsMsg_13 : decode cJ3_outOfBoundsMsg 13 = .ok (.invokevirtual 106, 3) := dk_182 0 106 (dk_at dksJ3_outOfBoundsMsg_0 13 rfl rfl)
theorem dJ3_outOfBoundsMsg_16 : decode cJ3_outOfBoundsMsg 16 = .ok (.ldc 109, 2) := dk_18 109 (dk_at dksJ3_outOfBoundsMsg_0 16 rfl rfl)
theorem dJ3_outOfBoundsMsg_18 : decode cJ3_outOfBoundsMsg 18 = .ok (.invokevirtual 102, 3) := dk_182 0 102 (dk_at dksJ3_outOfBoundsMsg_0 18 rfl rfl)
theorem dJ3_outOfBoundsMsg_21 : decode cJ3_outOfBoundsMsg 21 = .ok (.aload_n 0, 1) := dk_42 (dk_at dksJ3_outOfBoundsMsg_0 21 rfl rfl)
theorem dJ3_outOfBoundsMsg_22 : decode cJ3_outOfBoundsMsg 22 = .ok (.getfield 7, 3) := dk_180 0 7 (dk_at dksJ3_outOfBoundsMsg_1 0 rfl rfl)
theorem dJ3_outOfBoundsMsg_25 : decode cJ3_outOfBoundsMsg 25 = .ok (.invokevirtual 106, 3) := dk_182 0 106 (dk_at dksJ3_outOfBoundsMsg_1 3 rfl rfl)
theorem dJ3_outOfBoundsMsg_28 : decode cJ3_outOfBoundsMsg 28 = .ok (.invokevirtual 111, 3) := dk_182 0 111 (dk_at dksJ3_outOfBoundsMsg_1 6 rfl rfl)
theorem dJ3_outOfBoundsMsg_31 : decode cJ3_outOfBoundsMsg 31 = .ok (.areturn, 1) := dk_176 (dk_at dksJ3_outOfBoundsMsg_1 9 rfl rfl)
abbrev cJ3_node : ByteArray := prog_67_method_31_code
def yJ3_node : MethodName := ⟨RJ3, "node", "(I)Ljava/util/LinkedList$Node;"⟩
def dkwJ3_node_2 : List UInt8 := [29, 27, 164, 0, 14, 44, 180, 0, 30, 77, 132, 3, 255, 167, 255, 243, 44, 176]
abbrev dktJ3_node_2 : List UInt8 := dkwJ3_node_2 ++ []
def dkwJ3_node_1 : List UInt8 := [180, 0, 36, 77, 132, 3, 1, 167, 255, 243, 44, 176, 42, 180, 0, 27, 77, 42, 180, 0, 7, 4, 100, 62]
abbrev dktJ3_node_1 : List UInt8 := dkwJ3_node_1 ++ dktJ3_node_2
def dkwJ3_node_0 : List UInt8 := [27, 42, 180, 0, 7, 4, 122, 162, 0, 28, 42, 180, 0, 18, 77, 3, 62, 29, 27, 162, 0, 14, 44]
abbrev dktJ3_node_0 : List UInt8 := dkwJ3_node_0 ++ dktJ3_node_1
theorem dksJ3_node_0 : cJ3_node.data.toList.drop 0 = dktJ3_node_0 := by decide +kernel
theorem dksJ3_node_1 : cJ3_node.data.toList.drop 23 = dktJ3_node_1 := dk_seg dksJ3_node_0 23 rfl rfl
theorem dksJ3_node_2 : cJ3_node.data.toList.drop 47 = dktJ3_node_2 := dk_seg dksJ3_node_1 24 rfl rfl
theorem dJ3_node_0 : decode cJ3_node 0 = .ok (.iload_n 1, 1) := dk_27 (dk_at dksJ3_node_0 0 rfl rfl)
theorem dJ3_node_1 : decode cJ3_node 1 = .ok (.aload_n 0, 1) := dk_42 (dk_at dksJ3_node_0 1 rfl rfl)
theorem dJ3_node_2 : decode cJ3_node 2 = .ok (.getfield 7, 3) := dk_180 0 7 (dk_at dksJ3_node_0 2 rfl rfl)
theorem dJ3_node_5 : decode cJ3_node 5 = .ok (.iconst 1, 1) := dk_4 (dk_at dksJ3_node_0 5 rfl rfl)
theorem dJ3_node_6 : decode cJ3_node 6 = .ok (.ishr, 1) := dk_122 (dk_at dksJ3_node_0 6 rfl rfl)
theorem dJ3_node_7 : decode cJ3_node 7 = .ok (.if_icmp .ge 28, 3) := dk_162 0 28 (dk_at dksJ3_node_0 7 rfl rfl)
theorem dJ3_node_10 : decode cJ3_node 10 = .ok (.aload_n 0, 1) := dk_42 (dk_at dksJ3_node_0 10 rfl rfl)
theorem dJ3_node_11 : decode cJ3_node 11 = .ok (.getfield 18, 3) := dk_180 0 18 (dk_at dksJ3_node_0 11 rfl rfl)
theorem dJ3_node_14 : decode cJ3_node 14 = .ok (.astore_n 2, 1) := dk_77 (dk_at dksJ3_node_0 14 rfl rfl)
theorem dJ3_node_15 : decode cJ3_node 15 = .ok (.iconst 0, 1) := dk_3 (dk_at dksJ3_node_0 15 rfl rfl)
theorem dJ3_node_16 : decode cJ3_node 16 = .ok (.istore_n 3, 1) := dk_62 (dk_at dksJ3_node_0 16 rfl rfl)
theorem dJ3_node_17 : decode cJ3_node 17 = .ok (.iload_n 3, 1) := dk_29 (dk_at dksJ3_node_0 17 rfl rfl)
theorem dJ3_node_18 : decode cJ3_node 18 = .ok (.iload_n 1, 1) := dk_27 (dk_at dksJ3_node_0 18 rfl rfl)
theorem dJ3_node_19 : decode cJ3_node 19 = .ok (.if_icmp .ge 14, 3) := dk_162 0 14 (dk_at dksJ3_node_0 19 rfl rfl)
theorem dJ3_node_22 : decode cJ3_node 22 = .ok (.aload_n 2, 1) := dk_44 (dk_at dksJ3_node_0 22 rfl rfl)
theorem dJ3_node_23 : decode cJ3_node 23 = .ok (.getfield 36, 3) := dk_180 0 36 (dk_at dksJ3_node_1 0 rfl rfl)
theorem dJ3_node_26 : decode cJ3_node 26 = .ok (.astore_n 2, 1) := dk_77 (dk_at dksJ3_node_1 3 rfl rfl)
theorem dJ3_node_27 : decode cJ3_node 27 = .ok (.iinc 3 1, 3) := dk_132 3 1 (dk_at dksJ3_node_1 4 rfl rfl)
theorem dJ3_node_30 : decode cJ3_node 30 = .ok (.goto (-13), 3) := dk_167 255 243 (dk_at dksJ3_node_1 7 rfl rfl)
theorem dJ3_node_33 : decode cJ3_node 33 = .ok (.aload_n 2, 1) := dk_44 (dk_at dksJ3_node_1 10 rfl rfl)
theorem dJ3_node_34 : decode cJ3_node 34 = .ok (.areturn, 1) := dk_176 (dk_at dksJ3_node_1 11 rfl rfl)
theorem dJ3_node_35 : decode cJ3_node 35 = .ok (.aload_n 0, 1) := dk_42 (dk_at dksJ3_node_1 12 rfl rfl)
theorem dJ3_node_36 : decode cJ3_node 36 = .ok (.getfield 27, 3) := dk_180 0 27 (dk_at dksJ3_node_1 13 rfl rfl)
theorem dJ3_node_39 : decode cJ3_node 39 = .ok (.astore_n 2, 1) := dk_77 (dk_at dksJ3_node_1 16 rfl rfl)
theorem dJ3_node_40 : decode cJ3_node 40 = .ok (.aload_n 0, 1) := dk_42 (dk_at dksJ3_node_1 17 rfl rfl)
theorem dJ3_node_41 : decode cJ3_node 41 = .ok (.getfield 7, 3) := dk_180 0 7 (dk_at dksJ3_node_1 18 rfl rfl)
theorem dJ3_node_44 : decode cJ3_node 44 = .ok (.iconst 1, 1) := dk_4 (dk_at dksJ3_node_1 21 rfl rfl)
theorem dJ3_node_45 : decode cJ3_node 45 = .ok (.isub, 1) := dk_100 (dk_at dksJ3_node_1 22 rfl rfl)
theorem dJ3_node_46 : decode cJ3_node 46 = .ok (.istore_n 3, 1) := dk_62 (dk_at dksJ3_node_1 23 rfl rfl)
theorem dJ3_node_47 : decode cJ3_node 47 = .ok (.iload_n 3, 1) := dk_29 (dk_at dksJ3_node_2 0 rfl rfl)
theorem dJ3_node_48 : decode cJ3_node 48 = .ok (.iload_n 1, 1) := dk_27 (dk_at dksJ3_node_2 1 rfl rfl)
theorem dJ3_node_49 : decode cJ3_node 49 = .ok (.if_icmp .le 14, 3) := dk_164 0 14 (dk_at dksJ3_node_2 2 rfl rfl)
theorem dJ3_node_52 : decode cJ3_node 52 = .ok (.aload_n 2, 1) := dk_44 (dk_at dksJ3_node_2 5 rfl rfl)
theorem dJ3_node_53 : decode cJ3_node 53 = .ok (.getfield 30, 3) := dk_180 0 30 (dk_at dksJ3_node_2 6 rfl rfl)
theorem dJ3_node_56 : decode cJ3_node 56 = .ok (.astore_n 2, 1) := dk_77 (dk_at dksJ3_node_2 9 rfl rfl)
theorem dJ3_node_57 : decode cJ3_node 57 = .ok (.iinc 3 (-1), 3) := dk_132 3 255 (dk_at dksJ3_node_2 10 rfl rfl)
theorem dJ3_node_60 : decode cJ3_node 60 = .ok (.goto (-13), 3) := dk_167 255 243 (dk_at dksJ3_node_2 13 rfl rfl)
theorem dJ3_node_63 : decode cJ3_node 63 = .ok (.aload_n 2, 1) := dk_44 (dk_at dksJ3_node_2 16 rfl rfl)
theorem dJ3_node_64 : decode cJ3_node 64 = .ok (.areturn, 1) := dk_176 (dk_at dksJ3_node_2 17 rfl rfl)
abbrev cJ3_size : ByteArray := prog_67_method_16_code
def yJ3_size : MethodName := ⟨RJ3, "size", "()I"⟩
theorem dJ3_size_0 : decode cJ3_size 0 = .ok (.aload_n 0, 1) := by decide +kernel
theorem dJ3_size_1 : decode cJ3_size 1 = .ok (.getfield 7, 3) := by decide +kernel
theorem dJ3_size_4 : decode cJ3_size 4 = .ok (.ireturn, 1) := by decide +kernel
abbrev cJ3_removeFirst : ByteArray := prog_67_method_11_code
def yJ3_removeFirst : MethodName := ⟨RJ3, "removeFirst", "()Ljava/lang/Object;"⟩
def dkwJ3_removeFirst_0 : List UInt8 := [42, 180, 0, 18, 76, 43, 199, 0, 11, 187, 0, 43, 89, 183, 0, 45, 191, 42, 43, 182, 0, 46, 176]
abbrev dktJ3_removeFirst_0 : List UInt8 := dkwJ3_removeFirst_0 ++ []
theorem dksJ3_removeFirst_0 : cJ3_removeFirst.data.toList.drop 0 = dktJ3_removeFirst_0 := by decide +kernel
theorem dJ3_removeFirst_0 : decode cJ3_removeFirst 0 = .ok (.aload_n 0, 1) := dk_42 (dk_at dksJ3_removeFirst_0 0 rfl rfl)
theorem dJ3_removeFirst_1 : decode cJ3_removeFirst 1 = .ok (.getfield 18, 3) := dk_180 0 18 (dk_at dksJ3_removeFirst_0 1 rfl rfl)
theorem dJ3_removeFirst_4 : decode cJ3_removeFirst 4 = .ok (.astore_n 1, 1) := dk_76 (dk_at dksJ3_removeFirst_0 4 rfl rfl)
theorem dJ3_removeFirst_5 : decode cJ3_removeFirst 5 = .ok (.aload_n 1, 1) := dk_43 (dk_at dksJ3_removeFirst_0 5 rfl rfl)
theorem dJ3_removeFirst_6 : decode cJ3_removeFirst 6 = .ok (.ifnonnull 11, 3) := dk_199 0 11 (dk_at dksJ3_removeFirst_0 6 rfl rfl)
theorem dJ3_removeFirst_9 : decode cJ3_removeFirst 9 = .ok (.new 43, 3) := dk_187 0 43 (dk_at dksJ3_removeFirst_0 9 rfl rfl)
theorem dJ3_removeFirst_12 : decode cJ3_removeFirst 12 = .ok (.dup, 1) := dk_89 (dk_at dksJ3_removeFirst_0 12 rfl rfl)
theorem dJ3_removeFirst_13 : decode cJ3_removeFirst 13 = .ok (.invokespecial 45, 3) := dk_183 0 45 (dk_at dksJ3_removeFirst_0 13 rfl rfl)
theorem dJ3_removeFirst_16 : decode cJ3_removeFirst 16 = .ok (.athrow, 1) := dk_191 (dk_at dksJ3_removeFirst_0 16 rfl rfl)
theorem dJ3_removeFirst_17 : decode cJ3_removeFirst 17 = .ok (.aload_n 0, 1) := dk_42 (dk_at dksJ3_removeFirst_0 17 rfl rfl)
theorem dJ3_removeFirst_18 : decode cJ3_removeFirst 18 = .ok (.aload_n 1, 1) := dk_43 (dk_at dksJ3_removeFirst_0 18 rfl rfl)
theorem dJ3_removeFirst_19 : decode cJ3_removeFirst 19 = .ok (.invokevirtual 46, 3) := dk_182 0 46 (dk_at dksJ3_removeFirst_0 19 rfl rfl)
theorem dJ3_removeFirst_22 : decode cJ3_removeFirst 22 = .ok (.areturn, 1) := dk_176 (dk_at dksJ3_removeFirst_0 22 rfl rfl)
abbrev cJ3_unlinkFirst : ByteArray := prog_67_method_6_code
def yJ3_unlinkFirst : MethodName := ⟨RJ3, "unlinkFirst", "(Ljava/util/LinkedList$Node;)Ljava/lang/Object;"⟩
def dkwJ3_unlinkFirst_2 : List UInt8 := [180, 0, 7, 4, 100, 181, 0, 7, 42, 89, 180, 0, 33, 4, 96, 181, 0, 33, 44, 176]
abbrev dktJ3_unlinkFirst_2 : List UInt8 := dkwJ3_unlinkFirst_2 ++ []
def dkwJ3_unlinkFirst_1 : List UInt8 := [181, 0, 18, 45, 199, 0, 11, 42, 1, 181, 0, 27, 167, 0, 8, 45, 1, 181, 0, 30, 42, 89]
abbrev dktJ3_unlinkFirst_1 : List UInt8 := dkwJ3_unlinkFirst_1 ++ dktJ3_unlinkFirst_2
def dkwJ3_unlinkFirst_0 : List UInt8 := [43, 180, 0, 39, 77, 43, 180, 0, 36, 78, 43, 1, 181, 0, 39, 43, 1, 181, 0, 36, 42, 45]
abbrev dktJ3_unlinkFirst_0 : List UInt8 := dkwJ3_unlinkFirst_0 ++ dktJ3_unlinkFirst_1
theorem dksJ3_unlinkFirst_0 : cJ3_unlinkFirst.data.toList.drop 0 = dktJ3_unlinkFirst_0 := by decide +kernel
theorem dksJ3_unlinkFirst_1 : cJ3_unlinkFirst.data.toList.drop 22 = dktJ3_unlinkFirst_1 := dk_seg dksJ3_unlinkFirst_0 22 rfl rfl
theorem dksJ3_unlinkFirst_2 : cJ3_unlinkFirst.data.toList.drop 44 = dktJ3_unlinkFirst_2 := dk_seg dksJ3_unlinkFirst_1 22 rfl rfl
theorem dJ3_unlinkFirst_0 : decode cJ3_unlinkFirst 0 = .ok (.aload_n 1, 1) := dk_43 (dk_at dksJ3_unlinkFirst_0 0 rfl rfl)
theorem dJ3_unlinkFirst_1 : decode cJ3_unlinkFirst 1 = .ok (.getfield 39, 3) := dk_180 0 39 (dk_at dksJ3_unlinkFirst_0 1 rfl rfl)
theorem dJ3_unlinkFirst_4 : decode cJ3_unlinkFirst 4 = .ok (.astore_n 2, 1) := dk_77 (dk_at dksJ3_unlinkFirst_0 4 rfl rfl)
theorem dJ3_unlinkFirst_5 : decode cJ3_unlinkFirst 5 = .ok (.aload_n 1, 1) := dk_43 (dk_at dksJ3_unlinkFirst_0 5 rfl rfl)
theorem dJ3_unlinkFirst_6 : decode cJ3_unlinkFirst 6 = .ok (.getfield 36, 3) := dk_180 0 36 (dk_at dksJ3_unlinkFirst_0 6 rfl rfl)
theorem dJ3_unlinkFirst_9 : decode cJ3_unlinkFirst 9 = .ok (.astore_n 3, 1) := dk_78 (dk_at dksJ3_unlinkFirst_0 9 rfl rfl)
theorem dJ3_unlinkFirst_10 : decode cJ3_unlinkFirst 10 = .ok (.aload_n 1, 1) := dk_43 (dk_at dksJ3_unlinkFirst_0 10 rfl rfl)
theorem dJ3_unlinkFirst_11 : decode cJ3_unlinkFirst 11 = .ok (.aconst_null, 1) := dk_1 (dk_at dksJ3_unlinkFirst_0 11 rfl rfl)
theorem dJ3_unlinkFirst_12 : decode cJ3_unlinkFirst 12 = .ok (.putfield 39, 3) := dk_181 0 39 (dk_at dksJ3_unlinkFirst_0 12 rfl rfl)
theorem dJ3_unlinkFirst_15 : decode cJ3_unlinkFirst 15 = .ok (.aload_n 1, 1) := dk_43 (dk_at dksJ3_unlinkFirst_0 15 rfl rfl)
theorem dJ3_unlinkFirst_16 : decode cJ3_unlinkFirst 16 = .ok (.aconst_null, 1) := dk_1 (dk_at dksJ3_unlinkFirst_0 16 rfl rfl)
theorem dJ3_unlinkFirst_17 : decode cJ3_unlinkFirst 17 = .ok (.putfield 36, 3) := dk_181 0 36 (dk_at dksJ3_unlinkFirst_0 17 rfl rfl)
theorem dJ3_unlinkFirst_20 : decode cJ3_unlinkFirst 20 = .ok (.aload_n 0, 1) := dk_42 (dk_at dksJ3_unlinkFirst_0 20 rfl rfl)
theorem dJ3_unlinkFirst_21 : decode cJ3_unlinkFirst 21 = .ok (.aload_n 3, 1) := dk_45 (dk_at dksJ3_unlinkFirst_0 21 rfl rfl)
theorem dJ3_unlinkFirst_22 : decode cJ3_unlinkFirst 22 = .ok (.putfield 18, 3) := dk_181 0 18 (dk_at dksJ3_unlinkFirst_1 0 rfl rfl)
theorem dJ3_unlinkFirst_25 : decode cJ3_unlinkFirst 25 = .ok (.aload_n 3, 1) := dk_45 (dk_at dksJ3_unlinkFirst_1 3 rfl rfl)
theorem dJ3_unlinkFirst_26 : decode cJ3_unlinkFirst 26 = .ok (.ifnonnull 11, 3) := dk_199 0 11 (dk_at dksJ3_unlinkFirst_1 4 rfl rfl)
theorem dJ3_unlinkFirst_29 : decode cJ3_unlinkFirst 29 = .ok (.aload_n 0, 1) := dk_42 (dk_at dksJ3_unlinkFirst_1 7 rfl rfl)
theorem dJ3_unlinkFirst_30 : decode cJ3_unlinkFirst 30 = .ok (.aconst_null, 1) := dk_1 (dk_at dksJ3_unlinkFirst_1 8 rfl rfl)
theorem dJ3_unlinkFirst_31 : decode cJ3_unlinkFirst 31 = .ok (.putfield 27, 3) := dk_181 0 27 (dk_at dksJ3_unlinkFirst_1 9 rfl rfl)
theorem dJ3_unlinkFirst_34 : decode cJ3_unlinkFirst 34 = .ok (.goto 8, 3) := dk_167 0 8 (dk_at dksJ3_unlinkFirst_1 12 rfl rfl)
theorem dJ3_unlinkFirst_37 : decode cJ3_unlinkFirst 37 = .ok (.aload_n 3, 1) := dk_45 (dk_at dksJ3_unlinkFirst_1 15 rfl rfl)
theorem dJ3_unlinkFirst_38 : decode cJ3_unlinkFirst 38 = .ok (.aconst_null, 1) := dk_1 (dk_at dksJ3_unlinkFirst_1 16 rfl rfl)
theorem dJ3_unlinkFirst_39 : decode cJ3_unlinkFirst 39 = .ok (.putfield 30, 3) := dk_181 0 30 (dk_at dksJ3_unlinkFirst_1 17 rfl rfl)
theorem dJ3_unlinkFirst_42 : decode cJ3_unlinkFirst 42 = .ok (.aload_n 0, 1) := dk_42 (dk_at dksJ3_unlinkFirst_1 20 rfl rfl)
theorem dJ3_unlinkFirst_43 : decode cJ3_unlinkFirst 43 = .ok (.dup, 1) := dk_89 (dk_at dksJ3_unlinkFirst_1 21 rfl rfl)
theorem dJ3_unlinkFirst_44 : decode cJ3_unlinkFirst 44 = .ok (.getfield 7, 3) := dk_180 0 7 (dk_at dksJ3_unlinkFirst_2 0 rfl rfl)
theorem dJ3_unlinkFirst_47 : decode cJ3_unlinkFirst 47 = .ok (.iconst 1, 1) := dk_4 (dk_at dksJ3_unlinkFirst_2 3 rfl rfl)
theorem dJ3_unlinkFirst_48 : decode cJ3_unlinkFirst 48 = .ok (.isub, 1) := dk_100 (dk_at dksJ3_unlinkFirst_2 4 rfl rfl)
theorem dJ3_unlinkFirst_49 : decode cJ3_unlinkFirst 49 = .ok (.putfield 7, 3) := dk_181 0 7 (dk_at dksJ3_unlinkFirst_2 5 rfl rfl)
theorem dJ3_unlinkFirst_52 : decode cJ3_unlinkFirst 52 = .ok (.aload_n 0, 1) := dk_42 (dk_at dksJ3_unlinkFirst_2 8 rfl rfl)
theorem dJ3_unlinkFirst_53 : decode cJ3_unlinkFirst 53 = .ok (.dup, 1) := dk_89 (dk_at dksJ3_unlinkFirst_2 9 rfl rfl)
theorem dJ3_unlinkFirst_54 : decode cJ3_unlinkFirst 54 = .ok (.getfield 33, 3) := dk_180 0 33 (dk_at dksJ3_unlinkFirst_2 10 rfl rfl)
theorem dJ3_unlinkFirst_57 : decode cJ3_unlinkFirst 57 = .ok (.iconst 1, 1) := dk_4 (dk_at dksJ3_unlinkFirst_2 13 rfl rfl)
theorem dJ3_unlinkFirst_58 : decode cJ3_unlinkFirst 58 = .ok (.iadd, 1) := dk_96 (dk_at dksJ3_unlinkFirst_2 14 rfl rfl)
theorem dJ3_unlinkFirst_59 : decode cJ3_unlinkFirst 59 = .ok (.putfield 33, 3) := dk_181 0 33 (dk_at dksJ3_unlinkFirst_2 15 rfl rfl)
theorem dJ3_unlinkFirst_62 : decode cJ3_unlinkFirst 62 = .ok (.aload_n 2, 1) := dk_44 (dk_at dksJ3_unlinkFirst_2 18 rfl rfl)
theorem dJ3_unlinkFirst_63 : decode cJ3_unlinkFirst 63 = .ok (.areturn, 1) := dk_176 (dk_at dksJ3_unlinkFirst_2 19 rfl rfl)
abbrev cJ3_addFirst : ByteArray := prog_67_method_13_code
def yJ3_addFirst : MethodName := ⟨RJ3, "addFirst", "(Ljava/lang/Object;)V"⟩
def dkwJ3_addFirst_0 : List UInt8 := [42, 43, 182, 0, 53, 177]
abbrev dktJ3_addFirst_0 : List UInt8 := dkwJ3_addFirst_0 ++ []
theorem dksJ3_addFirst_0 : cJ3_addFirst.data.toList.drop 0 = dktJ3_addFirst_0 := by decide +kernel
theorem dJ3_addFirst_0 : decode cJ3_addFirst 0 = .ok (.aload_n 0, 1) := dk_42 (dk_at dksJ3_addFirst_0 0 rfl rfl)
theorem dJ3_addFirst_1 : decode cJ3_addFirst 1 = .ok (.aload_n 1, 1) := dk_43 (dk_at dksJ3_addFirst_0 1 rfl rfl)
theorem dJ3_addFirst_2 : decode cJ3_addFirst 2 = .ok (.invokevirtual 53, 3) := dk_182 0 53 (dk_at dksJ3_addFirst_0 2 rfl rfl)
theorem dJ3_addFirst_5 : decode cJ3_addFirst 5 = .ok (.return_, 1) := dk_177 (dk_at dksJ3_addFirst_0 5 rfl rfl)
abbrev cJ3_linkFirst : ByteArray := prog_67_method_3_code
def yJ3_linkFirst : MethodName := ⟨RJ3, "linkFirst", "(Ljava/lang/Object;)V"⟩
def dkwJ3_linkFirst_2 : List UInt8 := [181, 0, 7, 42, 89, 180, 0, 33, 4, 96, 181, 0, 33, 177]
abbrev dktJ3_linkFirst_2 : List UInt8 := dkwJ3_linkFirst_2 ++ []
def dkwJ3_linkFirst_1 : List UInt8 := [199, 0, 11, 42, 45, 181, 0, 27, 167, 0, 8, 44, 45, 181, 0, 30, 42, 89, 180, 0, 7, 4, 96]
abbrev dktJ3_linkFirst_1 : List UInt8 := dkwJ3_linkFirst_1 ++ dktJ3_linkFirst_2
def dkwJ3_linkFirst_0 : List UInt8 := [42, 180, 0, 18, 77, 187, 0, 22, 89, 1, 43, 44, 183, 0, 24, 78, 42, 45, 181, 0, 18, 44]
abbrev dktJ3_linkFirst_0 : List UInt8 := dkwJ3_linkFirst_0 ++ dktJ3_linkFirst_1
theorem dksJ3_linkFirst_0 : cJ3_linkFirst.data.toList.drop 0 = dktJ3_linkFirst_0 := by decide +kernel
theorem dksJ3_linkFirst_1 : cJ3_linkFirst.data.toList.drop 22 = dktJ3_linkFirst_1 := dk_seg dksJ3_linkFirst_0 22 rfl rfl
theorem dksJ3_linkFirst_2 : cJ3_linkFirst.data.toList.drop 45 = dktJ3_linkFirst_2 := dk_seg dksJ3_linkFirst_1 23 rfl rfl
theorem dJ3_linkFirst_0 : decode cJ3_linkFirst 0 = .ok (.aload_n 0, 1) := dk_42 (dk_at dksJ3_linkFirst_0 0 rfl rfl)
theorem dJ3_linkFirst_1 : decode cJ3_linkFirst 1 = .ok (.getfield 18, 3) := dk_180 0 18 (dk_at dksJ3_linkFirst_0 1 rfl rfl)
theorem dJ3_linkFirst_4 : decode cJ3_linkFirst 4 = .ok (.astore_n 2, 1) := dk_77 (dk_at dksJ3_linkFirst_0 4 rfl rfl)
theorem dJ3_linkFirst_5 : decode cJ3_linkFirst 5 = .ok (.new 22, 3) := dk_187 0 22 (dk_at dksJ3_linkFirst_0 5 rfl rfl)
theorem dJ3_linkFirst_8 : decode cJ3_linkFirst 8 = .ok (.dup, 1) := dk_89 (dk_at dksJ3_linkFirst_0 8 rfl rfl)
theorem dJ3_linkFirst_9 : decode cJ3_linkFirst 9 = .ok (.aconst_null, 1) := dk_1 (dk_at dksJ3_linkFirst_0 9 rfl rfl)
theorem dJ3_linkFirst_10 : decode cJ3_linkFirst 10 = .ok (.aload_n 1, 1) := dk_43 (dk_at dksJ3_linkFirst_0 10 rfl rfl)
theorem dJ3_linkFirst_11 : decode cJ3_linkFirst 11 = .ok (.aload_n 2, 1) := dk_44 (dk_at dksJ3_linkFirst_0 11 rfl rfl)
theorem dJ3_linkFirst_12 : decode cJ3_linkFirst 12 = .ok (.invokespecial 24, 3) := dk_183 0 24 (dk_at dksJ3_linkFirst_0 12 rfl rfl)
theorem dJ3_linkFirst_15 : decode cJ3_linkFirst 15 = .ok (.astore_n 3, 1) := dk_78 (dk_at dksJ3_linkFirst_0 15 rfl rfl)
theorem dJ3_linkFirst_16 : decode cJ3_linkFirst 16 = .ok (.aload_n 0, 1) := dk_42 (dk_at dksJ3_linkFirst_0 16 rfl rfl)
theorem dJ3_linkFirst_17 : decode cJ3_linkFirst 17 = .ok (.aload_n 3, 1) := dk_45 (dk_at dksJ3_linkFirst_0 17 rfl rfl)
theorem dJ3_linkFirst_18 : decode cJ3_linkFirst 18 = .ok (.putfield 18, 3) := dk_181 0 18 (dk_at dksJ3_linkFirst_0 18 rfl rfl)
theorem dJ3_linkFirst_21 : decode cJ3_linkFirst 21 = .ok (.aload_n 2, 1) := dk_44 (dk_at dksJ3_linkFirst_0 21 rfl rfl)
theorem dJ3_linkFirst_22 : decode cJ3_linkFirst 22 = .ok (.ifnonnull 11, 3) := dk_199 0 11 (dk_at dksJ3_linkFirst_1 0 rfl rfl)
theorem dJ3_linkFirst_25 : decode cJ3_linkFirst 25 = .ok (.aload_n 0, 1) := dk_42 (dk_at dksJ3_linkFirst_1 3 rfl rfl)
theorem dJ3_linkFirst_26 : decode cJ3_linkFirst 26 = .ok (.aload_n 3, 1) := dk_45 (dk_at dksJ3_linkFirst_1 4 rfl rfl)
theorem dJ3_linkFirst_27 : decode cJ3_linkFirst 27 = .ok (.putfield 27, 3) := dk_181 0 27 (dk_at dksJ3_linkFirst_1 5 rfl rfl)
theorem dJ3_linkFirst_30 : decode cJ3_linkFirst 30 = .ok (.goto 8, 3) := dk_167 0 8 (dk_at dksJ3_linkFirst_1 8 rfl rfl)
theorem dJ3_linkFirst_33 : decode cJ3_linkFirst 33 = .ok (.aload_n 2, 1) := dk_44 (dk_at dksJ3_linkFirst_1 11 rfl rfl)
theorem dJ3_linkFirst_34 : decode cJ3_linkFirst 34 = .ok (.aload_n 3, 1) := dk_45 (dk_at dksJ3_linkFirst_1 12 rfl rfl)
theorem dJ3_linkFirst_35 : decode cJ3_linkFirst 35 = .ok (.putfield 30, 3) := dk_181 0 30 (dk_at dksJ3_linkFirst_1 13 rfl rfl)
theorem dJ3_linkFirst_38 : decode cJ3_linkFirst 38 = .ok (.aload_n 0, 1) := dk_42 (dk_at dksJ3_linkFirst_1 16 rfl rfl)
theorem dJ3_linkFirst_39 : decode cJ3_linkFirst 39 = .ok (.dup, 1) := dk_89 (dk_at dksJ3_linkFirst_1 17 rfl rfl)
theorem dJ3_linkFirst_40 : decode cJ3_linkFirst 40 = .ok (.getfield 7, 3) := dk_180 0 7 (dk_at dksJ3_linkFirst_1 18 rfl rfl)
theorem dJ3_linkFirst_43 : decode cJ3_linkFirst 43 = .ok (.iconst 1, 1) := dk_4 (dk_at dksJ3_linkFirst_1 21 rfl rfl)
theorem dJ3_linkFirst_44 : decode cJ3_linkFirst 44 = .ok (.iadd, 1) := dk_96 (dk_at dksJ3_linkFirst_1 22 rfl rfl)
theorem dJ3_linkFirst_45 : decode cJ3_linkFirst 45 = .ok (.putfield 7, 3) := dk_181 0 7 (dk_at dksJ3_linkFirst_2 0 rfl rfl)
theorem dJ3_linkFirst_48 : decode cJ3_linkFirst 48 = .ok (.aload_n 0, 1) := dk_42 (dk_at dksJ3_linkFirst_2 3 rfl rfl)
theorem dJ3_linkFirst_49 : decode cJ3_linkFirst 49 = .ok (.dup, 1) := dk_89 (dk_at dksJ3_linkFirst_2 4 rfl rfl)
theorem dJ3_linkFirst_50 : decode cJ3_linkFirst 50 = .ok (.getfield 33, 3) := dk_180 0 33 (dk_at dksJ3_linkFirst_2 5 rfl rfl)
theorem dJ3_linkFirst_53 : decode cJ3_linkFirst 53 = .ok (.iconst 1, 1) := dk_4 (dk_at dksJ3_linkFirst_2 8 rfl rfl)
theorem dJ3_linkFirst_54 : decode cJ3_linkFirst 54 = .ok (.iadd, 1) := dk_96 (dk_at dksJ3_linkFirst_2 9 rfl rfl)
theorem dJ3_linkFirst_55 : decode cJ3_linkFirst 55 = .ok (.putfield 33, 3) := dk_181 0 33 (dk_at dksJ3_linkFirst_2 10 rfl rfl)
theorem dJ3_linkFirst_58 : decode cJ3_linkFirst 58 = .ok (.return_, 1) := dk_177 (dk_at dksJ3_linkFirst_2 13 rfl rfl)
abbrev cJ3_get : ByteArray := prog_67_method_22_code
def yJ3_get : MethodName := ⟨RJ3, "get", "(I)Ljava/lang/Object;"⟩
def dkwJ3_get_0 : List UInt8 := [42, 27, 182, 0, 90, 42, 27, 182, 0, 86, 180, 0, 39, 176]
abbrev dktJ3_get_0 : List UInt8 := dkwJ3_get_0 ++ []
theorem dksJ3_get_0 : cJ3_get.data.toList.drop 0 = dktJ3_get_0 := by decide +kernel
theorem dJ3_get_0 : decode cJ3_get 0 = .ok (.aload_n 0, 1) := dk_42 (dk_at dksJ3_get_0 0 rfl rfl)
theorem dJ3_get_1 : decode cJ3_get 1 = .ok (.iload_n 1, 1) := dk_27 (dk_at dksJ3_get_0 1 rfl rfl)
theorem dJ3_get_2 : decode cJ3_get 2 = .ok (.invokevirtual 90, 3) := dk_182 0 90 (dk_at dksJ3_get_0 2 rfl rfl)
theorem dJ3_get_5 : decode cJ3_get 5 = .ok (.aload_n 0, 1) := dk_42 (dk_at dksJ3_get_0 5 rfl rfl)
theorem dJ3_get_6 : decode cJ3_get 6 = .ok (.iload_n 1, 1) := dk_27 (dk_at dksJ3_get_0 6 rfl rfl)
theorem dJ3_get_7 : decode cJ3_get 7 = .ok (.invokevirtual 86, 3) := dk_182 0 86 (dk_at dksJ3_get_0 7 rfl rfl)
theorem dJ3_get_10 : decode cJ3_get 10 = .ok (.getfield 39, 3) := dk_180 0 39 (dk_at dksJ3_get_0 10 rfl rfl)
theorem dJ3_get_13 : decode cJ3_get 13 = .ok (.areturn, 1) := dk_176 (dk_at dksJ3_get_0 13 rfl rfl)
abbrev cJ3_checkElementIndex : ByteArray := prog_67_method_29_code
def yJ3_checkElementIndex : MethodName := ⟨RJ3, "checkElementIndex", "(I)V"⟩
def dkwJ3_checkElementIndex_0 : List UInt8 := [42, 27, 182, 0, 115, 154, 0, 16, 187, 0, 119, 89, 42, 27, 182, 0, 121, 183, 0, 125, 191, 177]
abbrev dktJ3_checkElementIndex_0 : List UInt8 := dkwJ3_checkElementIndex_0 ++ []
theorem dksJ3_checkElementIndex_0 : cJ3_checkElementIndex.data.toList.drop 0 = dktJ3_checkElementIndex_0 := by decide +kernel
theorem dJ3_checkElementIndex_0 : decode cJ3_checkElementIndex 0 = .ok (.aload_n 0, 1) := dk_42 (dk_at dksJ3_checkElementIndex_0 0 rfl rfl)
theorem dJ3_checkElementIndex_1 : decode cJ3_checkElementIndex 1 = .ok (.iload_n 1, 1) := dk_27 (dk_at dksJ3_checkElementIndex_0 1 rfl rfl)
theorem dJ3_checkElementIndex_2 : decode cJ3_checkElementIndex 2 = .ok (.invokevirtual 115, 3) := dk_182 0 115 (dk_at dksJ3_checkElementIndex_0 2 rfl rfl)
theorem dJ3_checkElementIndex_5 : decode cJ3_checkElementIndex 5 = .ok (.ifCond .ne 16, 3) := dk_154 0 16 (dk_at dksJ3_checkElementIndex_0 5 rfl rfl)
theorem dJ3_checkElementIndex_8 : decode cJ3_checkElementIndex 8 = .ok (.new 119, 3) := dk_187 0 119 (dk_at dksJ3_checkElementIndex_0 8 rfl rfl)
theorem dJ3_checkElementIndex_11 : decode cJ3_checkElementIndex 11 = .ok (.dup, 1) := dk_89 (dk_at dksJ3_checkElementIndex_0 11 rfl rfl)
theorem dJ3_checkElementIndex_12 : decode cJ3_checkElementIndex 12 = .ok (.aload_n 0, 1) := dk_42 (dk_at dksJ3_checkElementIndex_0 12 rfl rfl)
theorem dJ3_checkElementIndex_13 : decode cJ3_checkElementIndex 13 = .ok (.iload_n 1, 1) := dk_27 (dk_at dksJ3_checkElementIndex_0 13 rfl rfl)
theorem dJ3_checkElementIndex_14 : decode cJ3_checkElementIndex 14 = .ok (.invokevirtual 121, 3) := dk_182 0 121 (dk_at dksJ3_checkElementIndex_0 14 rfl rfl)
theorem dJ3_checkElementIndex_17 : decode cJ3_checkElementIndex 17 = .ok (.invokespecial 125, 3) := dk_183 0 125 (dk_at dksJ3_checkElementIndex_0 17 rfl rfl)
theorem dJ3_checkElementIndex_20 : decode cJ3_checkElementIndex 20 = .ok (.athrow, 1) := dk_191 (dk_at dksJ3_checkElementIndex_0 20 rfl rfl)
theorem dJ3_checkElementIndex_21 : decode cJ3_checkElementIndex 21 = .ok (.return_, 1) := dk_177 (dk_at dksJ3_checkElementIndex_0 21 rfl rfl)
abbrev cJ3_isElementIndex : ByteArray := prog_67_method_26_code
def yJ3_isElementIndex : MethodName := ⟨RJ3, "isElementIndex", "(I)Z"⟩
def dkwJ3_isElementIndex_0 : List UInt8 := [27, 155, 0, 15, 27, 42, 180, 0, 7, 162, 0, 7, 4, 167, 0, 4, 3, 172]
abbrev dktJ3_isElementIndex_0 : List UInt8 := dkwJ3_isElementIndex_0 ++ []
theorem dksJ3_isElementIndex_0 : cJ3_isElementIndex.data.toList.drop 0 = dktJ3_isElementIndex_0 := by decide +kernel
theorem dJ3_isElementIndex_0 : decode cJ3_isElementIndex 0 = .ok (.iload_n 1, 1) := dk_27 (dk_at dksJ3_isElementIndex_0 0 rfl rfl)
theorem dJ3_isElementIndex_1 : decode cJ3_isElementIndex 1 = .ok (.ifCond .lt 15, 3) := dk_155 0 15 (dk_at dksJ3_isElementIndex_0 1 rfl rfl)
theorem dJ3_isElementIndex_4 : decode cJ3_isElementIndex 4 = .ok (.iload_n 1, 1) := dk_27 (dk_at dksJ3_isElementIndex_0 4 rfl rfl)
theorem dJ3_isElementIndex_5 : decode cJ3_isElementIndex 5 = .ok (.aload_n 0, 1) := dk_42 (dk_at dksJ3_isElementIndex_0 5 rfl rfl)
theorem dJ3_isElementIndex_6 : decode cJ3_isElementIndex 6 = .ok (.getfield 7, 3) := dk_180 0 7 (dk_at dksJ3_isElementIndex_0 6 rfl rfl)
theorem dJ3_isElementIndex_9 : decode cJ3_isElementIndex 9 = .ok (.if_icmp .ge 7, 3) := dk_162 0 7 (dk_at dksJ3_isElementIndex_0 9 rfl rfl)
theorem dJ3_isElementIndex_12 : decode cJ3_isElementIndex 12 = .ok (.iconst 1, 1) := dk_4 (dk_at dksJ3_isElementIndex_0 12 rfl rfl)
theorem dJ3_isElementIndex_13 : decode cJ3_isElementIndex 13 = .ok (.goto 4, 3) := dk_167 0 4 (dk_at dksJ3_isElementIndex_0 13 rfl rfl)
theorem dJ3_isElementIndex_16 : decode cJ3_isElementIndex 16 = .ok (.iconst 0, 1) := dk_3 (dk_at dksJ3_isElementIndex_0 16 rfl rfl)
theorem dJ3_isElementIndex_17 : decode cJ3_isElementIndex 17 = .ok (.ireturn, 1) := dk_172 (dk_at dksJ3_isElementIndex_0 17 rfl rfl)
abbrev cJ3_init_2 : ByteArray := prog_67_method_2_code
def yJ3_init_2 : MethodName := ⟨RJ3, "<init>", "(Ljava/util/Collection;)V"⟩
def dkwJ3_init_2_0 : List UInt8 := [42, 183, 0, 13, 42, 43, 182, 0, 14, 87, 177]
abbrev dktJ3_init_2_0 : List UInt8 := dkwJ3_init_2_0 ++ []
theorem dksJ3_init_2_0 : cJ3_init_2.data.toList.drop 0 = dktJ3_init_2_0 := by decide +kernel
theorem dJ3_init_2_0 : decode cJ3_init_2 0 = .ok (.aload_n 0, 1) := dk_42 (dk_at dksJ3_init_2_0 0 rfl rfl)
theorem dJ3_init_2_1 : decode cJ3_init_2 1 = .ok (.invokespecial 13, 3) := dk_183 0 13 (dk_at dksJ3_init_2_0 1 rfl rfl)
theorem dJ3_init_2_4 : decode cJ3_init_2 4 = .ok (.aload_n 0, 1) := dk_42 (dk_at dksJ3_init_2_0 4 rfl rfl)
theorem dJ3_init_2_5 : decode cJ3_init_2 5 = .ok (.aload_n 1, 1) := dk_43 (dk_at dksJ3_init_2_0 5 rfl rfl)
theorem dJ3_init_2_6 : decode cJ3_init_2 6 = .ok (.invokevirtual 14, 3) := dk_182 0 14 (dk_at dksJ3_init_2_0 6 rfl rfl)
theorem dJ3_init_2_9 : decode cJ3_init_2 9 = .ok (.pop, 1) := dk_87 (dk_at dksJ3_init_2_0 9 rfl rfl)
theorem dJ3_init_2_10 : decode cJ3_init_2 10 = .ok (.return_, 1) := dk_177 (dk_at dksJ3_init_2_0 10 rfl rfl)
abbrev cJ3_addAll : ByteArray := prog_67_method_19_code
def yJ3_addAll : MethodName := ⟨RJ3, "addAll", "(Ljava/util/Collection;)Z"⟩
def dkwJ3_addAll_0 : List UInt8 := [42, 42, 180, 0, 7, 43, 182, 0, 73, 172]
abbrev dktJ3_addAll_0 : List UInt8 := dkwJ3_addAll_0 ++ []
theorem dksJ3_addAll_0 : cJ3_addAll.data.toList.drop 0 = dktJ3_addAll_0 := by decide +kernel
theorem dJ3_addAll_0 : decode cJ3_addAll 0 = .ok (.aload_n 0, 1) := dk_42 (dk_at dksJ3_addAll_0 0 rfl rfl)
theorem dJ3_addAll_1 : decode cJ3_addAll 1 = .ok (.aload_n 0, 1) := dk_42 (dk_at dksJ3_addAll_0 1 rfl rfl)
theorem dJ3_addAll_2 : decode cJ3_addAll 2 = .ok (.getfield 7, 3) := dk_180 0 7 (dk_at dksJ3_addAll_0 2 rfl rfl)
theorem dJ3_addAll_5 : decode cJ3_addAll 5 = .ok (.aload_n 1, 1) := dk_43 (dk_at dksJ3_addAll_0 5 rfl rfl)
theorem dJ3_addAll_6 : decode cJ3_addAll 6 = .ok (.invokevirtual 73, 3) := dk_182 0 73 (dk_at dksJ3_addAll_0 6 rfl rfl)
theorem dJ3_addAll_9 : decode cJ3_addAll 9 = .ok (.ireturn, 1) := dk_172 (dk_at dksJ3_addAll_0 9 rfl rfl)
abbrev cJ3_addAll_2 : ByteArray := prog_67_method_20_code
def yJ3_addAll_2 : MethodName := ⟨RJ3, "addAll", "(ILjava/util/Collection;)Z"⟩
def dkwJ3_addAll_2_7 : List UInt8 := [96, 181, 0, 7, 42, 89, 180, 0, 33, 4, 96, 181, 0, 33, 4, 172]
abbrev dktJ3_addAll_2_7 : List UInt8 := dkwJ3_addAll_2_7 ++ []
def dkwJ3_addAll_2_6 : List UInt8 := [167, 0, 17, 25, 5, 25, 6, 181, 0, 36, 25, 6, 25, 5, 181, 0, 30, 42, 89, 180, 0, 7, 21, 4]
abbrev dktJ3_addAll_2_6 : List UInt8 := dkwJ3_addAll_2_6 ++ dktJ3_addAll_2_7
def dkwJ3_addAll_2_5 : List UInt8 := [181, 0, 36, 25, 12, 58, 5, 132, 9, 1, 167, 255, 196, 25, 6, 199, 0, 12, 42, 25, 5, 181, 0, 27]
abbrev dktJ3_addAll_2_5 : List UInt8 := dkwJ3_addAll_2_5 ++ dktJ3_addAll_2_6
def dkwJ3_addAll_2_4 : List UInt8 := [183, 0, 24, 58, 12, 25, 5, 199, 0, 12, 42, 25, 12, 181, 0, 18, 167, 0, 10, 25, 5, 25, 12]
abbrev dktJ3_addAll_2_4 : List UInt8 := dkwJ3_addAll_2_4 ++ dktJ3_addAll_2_5
def dkwJ3_addAll_2_3 : List UInt8 := [162, 0, 59, 25, 7, 21, 9, 50, 58, 10, 25, 10, 58, 11, 187, 0, 22, 89, 25, 5, 25, 11, 1]
abbrev dktJ3_addAll_2_3 : List UInt8 := dkwJ3_addAll_2_3 ++ dktJ3_addAll_2_4
def dkwJ3_addAll_2_2 : List UInt8 := [58, 6, 25, 6, 180, 0, 30, 58, 5, 45, 58, 7, 25, 7, 190, 54, 8, 3, 54, 9, 21, 9, 21, 8]
abbrev dktJ3_addAll_2_2 : List UInt8 := dkwJ3_addAll_2_2 ++ dktJ3_addAll_2_3
def dkwJ3_addAll_2_1 : List UInt8 := [42, 180, 0, 7, 160, 0, 15, 1, 58, 6, 42, 180, 0, 27, 58, 5, 167, 0, 17, 42, 27, 182, 0, 86]
abbrev dktJ3_addAll_2_1 : List UInt8 := dkwJ3_addAll_2_1 ++ dktJ3_addAll_2_2
def dkwJ3_addAll_2_0 : List UInt8 := [42, 27, 182, 0, 76, 44, 185, 0, 80, 1, 0, 78, 45, 190, 54, 4, 21, 4, 154, 0, 5, 3, 172, 27]
abbrev dktJ3_addAll_2_0 : List UInt8 := dkwJ3_addAll_2_0 ++ dktJ3_addAll_2_1
theorem dksJ3_addAll_2_0 : cJ3_addAll_2.data.toList.drop 0 = dktJ3_addAll_2_0 := by decide +kernel
theorem dksJ3_addAll_2_1 : cJ3_addAll_2.data.toList.drop 24 = dktJ3_addAll_2_1 := dk_seg dksJ3_addAll_2_0 24 rfl rfl
theorem dksJ3_addAll_2_2 : cJ3_addAll_2.data.toList.drop 48 = dktJ3_addAll_2_2 := dk_seg dksJ3_addAll_2_1 24 rfl rfl
theorem dksJ3_addAll_2_3 : cJ3_addAll_2.data.toList.drop 72 = dktJ3_addAll_2_3 := dk_seg dksJ3_addAll_2_2 24 rfl rfl
theorem dksJ3_addAll_2_4 : cJ3_addAll_2.data.toList.drop 95 = dktJ3_addAll_2_4 := dk_seg dksJ3_addAll_2_3 23 rfl rfl
theorem dksJ3_addAll_2_5 : cJ3_addAll_2.data.toList.drop 118 = dktJ3_addAll_2_5 := dk_seg dksJ3_addAll_2_4 23 rfl rfl
theorem dksJ3_addAll_2_6 : cJ3_addAll_2.data.toList.drop 142 = dktJ3_addAll_2_6 := dk_seg dksJ3_addAll_2_5 24 rfl rfl
theorem dksJ3_addAll_2_7 : cJ3_addAll_2.data.toList.drop 166 = dktJ3_addAll_2_7 := dk_seg dksJ3_addAll_2_6 24 rfl rfl
theorem dJ3_addAll_2_0 : decode cJ3_addAll_2 0 = .ok (.aload_n 0, 1) := dk_42 (dk_at dksJ3_addAll_2_0 0 rfl rfl)
theorem dJ3_addAll_2_1 : decode cJ3_addAll_2 1 = .ok (.iload_n 1, 1) := dk_27 (dk_at dksJ3_addAll_2_0 1 rfl rfl)
theorem dJ3_addAll_2_2 : decode cJ3_addAll_2 2 = .ok (.invokevirtual 76, 3) := dk_182 0 76 (dk_at dksJ3_addAll_2_0 2 rfl rfl)
theorem dJ3_addAll_2_5 : decode cJ3_addAll_2 5 = .ok (.aload_n 2, 1) := dk_44 (dk_at dksJ3_addAll_2_0 5 rfl rfl)
theorem dJ3_addAll_2_6 : decode cJ3_addAll_2 6 = .ok (.invokeinterface 80 1, 5) := by decide +kernel
theorem dJ3_addAll_2_11 : decode cJ3_addAll_2 11 = .ok (.astore_n 3, 1) := dk_78 (dk_at dksJ3_addAll_2_0 11 rfl rfl)
theorem dJ3_addAll_2_12 : decode cJ3_addAll_2 12 = .ok (.aload_n 3, 1) := dk_45 (dk_at dksJ3_addAll_2_0 12 rfl rfl)
theorem dJ3_addAll_2_13 : decode cJ3_addAll_2 13 = .ok (.arraylength, 1) := dk_190 (dk_at dksJ3_addAll_2_0 13 rfl rfl)
theorem dJ3_addAll_2_14 : decode cJ3_addAll_2 14 = .ok (.istore 4, 2) := dk_54 4 (dk_at dksJ3_addAll_2_0 14 rfl rfl)
theorem dJ3_addAll_2_16 : decode cJ3_addAll_2 16 = .ok (.iload 4, 2) := dk_21 4 (dk_at dksJ3_addAll_2_0 16 rfl rfl)
theorem dJ3_addAll_2_18 : decode cJ3_addAll_2 18 = .ok (.ifCond .ne 5, 3) := dk_154 0 5 (dk_at dksJ3_addAll_2_0 18 rfl rfl)
theorem dJ3_addAll_2_21 : decode cJ3_addAll_2 21 = .ok (.iconst 0, 1) := dk_3 (dk_at dksJ3_addAll_2_0 21 rfl rfl)
theorem dJ3_addAll_2_22 : decode cJ3_addAll_2 22 = .ok (.ireturn, 1) := dk_172 (dk_at dksJ3_addAll_2_0 22 rfl rfl)
theorem dJ3_addAll_2_23 : decode cJ3_addAll_2 23 = .ok (.iload_n 1, 1) := dk_27 (dk_at dksJ3_addAll_2_0 23 rfl rfl)
theorem dJ3_addAll_2_24 : decode cJ3_addAll_2 24 = .ok (.aload_n 0, 1) := dk_42 (dk_at dksJ3_addAll_2_1 0 rfl rfl)
theorem dJ3_addAll_2_25 : decode cJ3_addAll_2 25 = .ok (.getfield 7, 3) := dk_180 0 7 (dk_at dksJ3_addAll_2_1 1 rfl rfl)
theorem dJ3_addAll_2_28 : decode cJ3_addAll_2 28 = .ok (.if_icmp .ne 15, 3) := dk_160 0 15 (dk_at dksJ3_addAll_2_1 4 rfl rfl)
theorem dJ3_addAll_2_31 : decode cJ3_addAll_2 31 = .ok (.aconst_null, 1) := dk_1 (dk_at dksJ3_addAll_2_1 7 rfl rfl)
theorem dJ3_addAll_2_32 : decode cJ3_addAll_2 32 = .ok (.astore 6, 2) := dk_58 6 (dk_at dksJ3_addAll_2_1 8 rfl rfl)
theorem dJ3_addAll_2_34 : decode cJ3_addAll_2 34 = .ok (.aload_n 0, 1) := dk_42 (dk_at dksJ3_addAll_2_1 10 rfl rfl)
theorem dJ3_addAll_2_35 : decode cJ3_addAll_2 35 = .ok (.getfield 27, 3) := dk_180 0 27 (dk_at dksJ3_addAll_2_1 11 rfl rfl)
theorem dJ3_addAll_2_38 : decode cJ3_addAll_2 38 = .ok (.astore 5, 2) := dk_58 5 (dk_at dksJ3_addAll_2_1 14 rfl rfl)
theorem dJ3_addAll_2_40 : decode cJ3_addAll_2 40 = .ok (.goto 17, 3) := dk_167 0 17 (dk_at dksJ3_addAll_2_1 16 rfl rfl)
theorem dJ3_addAll_2_43 : decode cJ3_addAll_2 43 = .ok (.aload_n 0, 1) := dk_42 (dk_at dksJ3_addAll_2_1 19 rfl rfl)
theorem dJ3_addAll_2_44 : decode cJ3_addAll_2 44 = .ok (.iload_n 1, 1) := dk_27 (dk_at dksJ3_addAll_2_1 20 rfl rfl)
theorem dJ3_addAll_2_45 : decode cJ3_addAll_2 45 = .ok (.invokevirtual 86, 3) := dk_182 0 86 (dk_at dksJ3_addAll_2_1 21 rfl rfl)
theorem dJ3_addAll_2_48 : decode cJ3_addAll_2 48 = .ok (.astore 6, 2) := dk_58 6 (dk_at dksJ3_addAll_2_2 0 rfl rfl)
theorem dJ3_addAll_2_50 : decode cJ3_addAll_2 50 = .ok (.aload 6, 2) := dk_25 6 (dk_at dksJ3_addAll_2_2 2 rfl rfl)
theorem dJ3_addAll_2_52 : decode cJ3_addAll_2 52 = .ok (.getfield 30, 3) := dk_180 0 30 (dk_at dksJ3_addAll_2_2 4 rfl rfl)
theorem dJ3_addAll_2_55 : decode cJ3_addAll_2 55 = .ok (.astore 5, 2) := dk_58 5 (dk_at dksJ3_addAll_2_2 7 rfl rfl)
theorem dJ3_addAll_2_57 : decode cJ3_addAll_2 57 = .ok (.aload_n 3, 1) := dk_45 (dk_at dksJ3_addAll_2_2 9 rfl rfl)
theorem dJ3_addAll_2_58 : decode cJ3_addAll_2 58 = .ok (.astore 7, 2) := dk_58 7 (dk_at dksJ3_addAll_2_2 10 rfl rfl)
theorem dJ3_addAll_2_60 : decode cJ3_addAll_2 60 = .ok (.aload 7, 2) := dk_25 7 (dk_at dksJ3_addAll_2_2 12 rfl rfl)
theorem dJ3_addAll_2_62 : decode cJ3_addAll_2 62 = .ok (.arraylength, 1) := dk_190 (dk_at dksJ3_addAll_2_2 14 rfl rfl)
theorem dJ3_addAll_2_63 : decode cJ3_addAll_2 63 = .ok (.istore 8, 2) := dk_54 8 (dk_at dksJ3_addAll_2_2 15 rfl rfl)
theorem dJ3_addAll_2_65 : decode cJ3_addAll_2 65 = .ok (.iconst 0, 1) := dk_3 (dk_at dksJ3_addAll_2_2 17 rfl rfl)
theorem dJ3_addAll_2_66 : decode cJ3_addAll_2 66 = .ok (.istore 9, 2) := dk_54 9 (dk_at dksJ3_addAll_2_2 18 rfl rfl)
theorem dJ3_addAll_2_68 : decode cJ3_addAll_2 68 = .ok (.iload 9, 2) := dk_21 9 (dk_at dksJ3_addAll_2_2 20 rfl rfl)
theorem dJ3_addAll_2_70 : decode cJ3_addAll_2 70 = .ok (.iload 8, 2) := dk_21 8 (dk_at dksJ3_addAll_2_2 22 rfl rfl)
theorem dJ3_addAll_2_72 : decode cJ3_addAll_2 72 = .ok (.if_icmp .ge 59, 3) := dk_162 0 59 (dk_at dksJ3_addAll_2_3 0 rfl rfl)
theorem dJ3_addAll_2_75 : decode cJ3_addAll_2 75 = .ok (.aload 7, 2) := dk_25 7 (dk_at dksJ3_addAll_2_3 3 rfl rfl)
theorem dJ3_addAll_2_77 : decode cJ3_addAll_2 77 = .ok (.iload 9, 2) := dk_21 9 (dk_at dksJ3_addAll_2_3 5 rfl rfl)
theorem dJ3_addAll_2_79 : decode cJ3_addAll_2 79 = .ok (.aaload, 1) := dk_50 (dk_at dksJ3_addAll_2_3 7 rfl rfl)
theorem dJ3_addAll_2_80 : decode cJ3_addAll_2 80 = .ok (.astore 10, 2) := dk_58 10 (dk_at dksJ3_addAll_2_3 8 rfl rfl)
theorem dJ3_addAll_2_82 : decode cJ3_addAll_2 82 = .ok (.aload 10, 2) := dk_25 10 (dk_at dksJ3_addAll_2_3 10 rfl rfl)
theorem dJ3_addAll_2_84 : decode cJ3_addAll_2 84 = .ok (.astore 11, 2) := dk_58 11 (dk_at dksJ3_addAll_2_3 12 rfl rfl)
theorem dJ3_addAll_2_86 : decode cJ3_addAll_2 86 = .ok (.new 22, 3) := dk_187 0 22 (dk_at dksJ3_addAll_2_3 14 rfl rfl)
theorem dJ3_addAll_2_89 : decode cJ3_addAll_2 89 = .ok (.dup, 1) := dk_89 (dk_at dksJ3_addAll_2_3 17 rfl rfl)
theorem dJ3_addAll_2_90 : decode cJ3_addAll_2 90 = .ok (.aload 5, 2) := dk_25 5 (dk_at dksJ3_addAll_2_3 18 rfl rfl)
theorem dJ3_addAll_2_92 : decode cJ3_addAll_2 92 = .ok (.aload 11, 2) := dk_25 11 (dk_at dksJ3_addAll_2_3 20 rfl rfl)
theorem dJ3_addAll_2_94 : decode cJ3_addAll_2 94 = .ok (.aconst_null, 1) := dk_1 (dk_at dksJ3_addAll_2_3 22 rfl rfl)
theorem dJ3_addAll_2_95 : decode cJ3_addAll_2 95 = .ok (.invokespecial 24, 3) := dk_183 0 24 (dk_at dksJ3_addAll_2_4 0 rfl rfl)
theorem dJ3_addAll_2_98 : decode cJ3_addAll_2 98 = .ok (.astore 12, 2) := dk_58 12 (dk_at dksJ3_addAll_2_4 3 rfl rfl)
theorem dJ3_addAll_2_100 : decode cJ3_addAll_2 100 = .ok (.aload 5, 2) := dk_25 5 (dk_at dksJ3_addAll_2_4 5 rfl rfl)
theorem dJ3_addAll_2_102 : decode cJ3_addAll_2 102 = .ok (.ifnonnull 12, 3) := dk_199 0 12 (dk_at dksJ3_addAll_2_4 7 rfl rfl)
theorem dJ3_addAll_2_105 : decode cJ3_addAll_2 105 = .ok (.aload_n 0, 1) := dk_42 (dk_at dksJ3_addAll_2_4 10 rfl rfl)
theorem dJ3_addAll_2_106 : decode cJ3_addAll_2 106 = .ok (.aload 12, 2) := dk_25 12 (dk_at dksJ3_addAll_2_4 11 rfl rfl)
theorem dJ3_addAll_2_108 : decode cJ3_addAll_2 108 = .ok (.putfield 18, 3) := dk_181 0 18 (dk_at dksJ3_addAll_2_4 13 rfl rfl)
theorem dJ3_addAll_2_111 : decode cJ3_addAll_2 111 = .ok (.goto 10, 3) := dk_167 0 10 (dk_at dksJ3_addAll_2_4 16 rfl rfl)
theorem dJ3_addAll_2_114 : decode cJ3_addAll_2 114 = .ok (.aload 5, 2) := dk_25 5 (dk_at dksJ3_addAll_2_4 19 rfl rfl)
theorem dJ3_addAll_2_116 : decode cJ3_addAll_2 116 = .ok (.aload 12, 2) := dk_25 12 (dk_at dksJ3_addAll_2_4 21 rfl rfl)
theorem dJ3_addAll_2_118 : decode cJ3_addAll_2 118 = .ok (.putfield 36, 3) := dk_181 0 36 (dk_at dksJ3_addAll_2_5 0 rfl rfl)
theorem dJ3_addAll_2_121 : decode cJ3_addAll_2 121 = .ok (.aload 12, 2) := dk_25 12 (dk_at dksJ3_addAll_2_5 3 rfl rfl)
theorem dJ3_addAll_2_123 : decode cJ3_addAll_2 123 = .ok (.astore 5, 2) := dk_58 5 (dk_at dksJ3_addAll_2_5 5 rfl rfl)
theorem dJ3_addAll_2_125 : decode cJ3_addAll_2 125 = .ok (.iinc 9 1, 3) := dk_132 9 1 (dk_at dksJ3_addAll_2_5 7 rfl rfl)
theorem dJ3_addAll_2_128 : decode cJ3_addAll_2 128 = .ok (.goto (-60), 3) := dk_167 255 196 (dk_at dksJ3_addAll_2_5 10 rfl rfl)
theorem dJ3_addAll_2_131 : decode cJ3_addAll_2 131 = .ok (.aload 6, 2) := dk_25 6 (dk_at dksJ3_addAll_2_5 13 rfl rfl)
theorem dJ3_addAll_2_133 : decode cJ3_addAll_2 133 = .ok (.ifnonnull 12, 3) := dk_199 0 12 (dk_at dksJ3_addAll_2_5 15 rfl rfl)
theorem dJ3_addAll_2_136 : decode cJ3_addAll_2 136 = .ok (.aload_n 0, 1) := dk_42 (dk_at dksJ3_addAll_2_5 18 rfl rfl)
theorem dJ3_addAll_2_137 : decode cJ3_addAll_2 137 = .ok (.aload 5, 2) := dk_25 5 (dk_at dksJ3_addAll_2_5 19 rfl rfl)
theorem dJ3_addAll_2_139 : decode cJ3_addAll_2 139 = .ok (.putfield 27, 3) := dk_181 0 27 (dk_at dksJ3_addAll_2_5 21 rfl rfl)
theorem dJ3_addAll_2_142 : decode cJ3_addAll_2 142 = .ok (.goto 17, 3) := dk_167 0 17 (dk_at dksJ3_addAll_2_6 0 rfl rfl)
theorem dJ3_addAll_2_145 : decode cJ3_addAll_2 145 = .ok (.aload 5, 2) := dk_25 5 (dk_at dksJ3_addAll_2_6 3 rfl rfl)
theorem dJ3_addAll_2_147 : decode cJ3_addAll_2 147 = .ok (.aload 6, 2) := dk_25 6 (dk_at dksJ3_addAll_2_6 5 rfl rfl)
theorem dJ3_addAll_2_149 : decode cJ3_addAll_2 149 = .ok (.putfield 36, 3) := dk_181 0 36 (dk_at dksJ3_addAll_2_6 7 rfl rfl)
theorem dJ3_addAll_2_152 : decode cJ3_addAll_2 152 = .ok (.aload 6, 2) := dk_25 6 (dk_at dksJ3_addAll_2_6 10 rfl rfl)
theorem dJ3_addAll_2_154 : decode cJ3_addAll_2 154 = .ok (.aload 5, 2) := dk_25 5 (dk_at dksJ3_addAll_2_6 12 rfl rfl)
theorem dJ3_addAll_2_156 : decode cJ3_addAll_2 156 = .ok (.putfield 30, 3) := dk_181 0 30 (dk_at dksJ3_addAll_2_6 14 rfl rfl)
theorem dJ3_addAll_2_159 : decode cJ3_addAll_2 159 = .ok (.aload_n 0, 1) := dk_42 (dk_at dksJ3_addAll_2_6 17 rfl rfl)
theorem dJ3_addAll_2_160 : decode cJ3_addAll_2 160 = .ok (.dup, 1) := dk_89 (dk_at dksJ3_addAll_2_6 18 rfl rfl)
theorem dJ3_addAll_2_161 : decode cJ3_addAll_2 161 = .ok (.getfield 7, 3) := dk_180 0 7 (dk_at dksJ3_addAll_2_6 19 rfl rfl)
theorem dJ3_addAll_2_164 : decode cJ3_addAll_2 164 = .ok (.iload 4, 2) := dk_21 4 (dk_at dksJ3_addAll_2_6 22 rfl rfl)
theorem dJ3_addAll_2_166 : decode cJ3_addAll_2 166 = .ok (.iadd, 1) := dk_96 (dk_at dksJ3_addAll_2_7 0 rfl rfl)
theorem dJ3_addAll_2_167 : decode cJ3_addAll_2 167 = .ok (.putfield 7, 3) := dk_181 0 7 (dk_at dksJ3_addAll_2_7 1 rfl rfl)
theorem dJ3_addAll_2_170 : decode cJ3_addAll_2 170 = .ok (.aload_n 0, 1) := dk_42 (dk_at dksJ3_addAll_2_7 4 rfl rfl)
theorem dJ3_addAll_2_171 : decode cJ3_addAll_2 171 = .ok (.dup, 1) := dk_89 (dk_at dksJ3_addAll_2_7 5 rfl rfl)
theorem dJ3_addAll_2_172 : decode cJ3_addAll_2 172 = .ok (.getfield 33, 3) := dk_180 0 33 (dk_at dksJ3_addAll_2_7 6 rfl rfl)
theorem dJ3_addAll_2_175 : decode cJ3_addAll_2 175 = .ok (.iconst 1, 1) := dk_4 (dk_at dksJ3_addAll_2_7 9 rfl rfl)
theorem dJ3_addAll_2_176 : decode cJ3_addAll_2 176 = .ok (.iadd, 1) := dk_96 (dk_at dksJ3_addAll_2_7 10 rfl rfl)
theorem dJ3_addAll_2_177 : decode cJ3_addAll_2 177 = .ok (.putfield 33, 3) := dk_181 0 33 (dk_at dksJ3_addAll_2_7 11 rfl rfl)
theorem dJ3_addAll_2_180 : decode cJ3_addAll_2 180 = .ok (.iconst 1, 1) := dk_4 (dk_at dksJ3_addAll_2_7 14 rfl rfl)
theorem dJ3_addAll_2_181 : decode cJ3_addAll_2 181 = .ok (.ireturn, 1) := dk_172 (dk_at dksJ3_addAll_2_7 15 rfl rfl)
abbrev cJ3_toArray : ByteArray := prog_67_method_53_code
def yJ3_toArray : MethodName := ⟨RJ3, "toArray", "()[Ljava/lang/Object;"⟩
def dkwJ3_toArray_1 : List UInt8 := [45, 180, 0, 39, 83, 45, 180, 0, 36, 78, 167, 255, 237, 43, 176]
abbrev dktJ3_toArray_1 : List UInt8 := dkwJ3_toArray_1 ++ []
def dkwJ3_toArray_0 : List UInt8 := [42, 180, 0, 7, 189, 0, 68, 76, 3, 61, 42, 180, 0, 18, 78, 45, 198, 0, 21, 43, 28, 132, 2, 1]
abbrev dktJ3_toArray_0 : List UInt8 := dkwJ3_toArray_0 ++ dktJ3_toArray_1
theorem dksJ3_toArray_0 : cJ3_toArray.data.toList.drop 0 = dktJ3_toArray_0 := by decide +kernel
theorem dksJ3_toArray_1 : cJ3_toArray.data.toList.drop 24 = dktJ3_toArray_1 := dk_seg dksJ3_toArray_0 24 rfl rfl
theorem dJ3_toArray_0 : decode cJ3_toArray 0 = .ok (.aload_n 0, 1) := dk_42 (dk_at dksJ3_toArray_0 0 rfl rfl)
theorem dJ3_toArray_1 : decode cJ3_toArray 1 = .ok (.getfield 7, 3) := dk_180 0 7 (dk_at dksJ3_toArray_0 1 rfl rfl)
theorem dJ3_toArray_4 : decode cJ3_toArray 4 = .ok (.anewarray 68, 3) := dk_189 0 68 (dk_at dksJ3_toArray_0 4 rfl rfl)
theorem dJ3_toArray_7 : decode cJ3_toArray 7 = .ok (.astore_n 1, 1) := dk_76 (dk_at dksJ3_toArray_0 7 rfl rfl)
theorem dJ3_toArray_8 : decode cJ3_toArray 8 = .ok (.iconst 0, 1) := dk_3 (dk_at dksJ3_toArray_0 8 rfl rfl)
theorem dJ3_toArray_9 : decode cJ3_toArray 9 = .ok (.istore_n 2, 1) := dk_61 (dk_at dksJ3_toArray_0 9 rfl rfl)
theorem dJ3_toArray_10 : decode cJ3_toArray 10 = .ok (.aload_n 0, 1) := dk_42 (dk_at dksJ3_toArray_0 10 rfl rfl)
theorem dJ3_toArray_11 : decode cJ3_toArray 11 = .ok (.getfield 18, 3) := dk_180 0 18 (dk_at dksJ3_toArray_0 11 rfl rfl)
theorem dJ3_toArray_14 : decode cJ3_toArray 14 = .ok (.astore_n 3, 1) := dk_78 (dk_at dksJ3_toArray_0 14 rfl rfl)
theorem dJ3_toArray_15 : decode cJ3_toArray 15 = .ok (.aload_n 3, 1) := dk_45 (dk_at dksJ3_toArray_0 15 rfl rfl)
theorem dJ3_toArray_16 : decode cJ3_toArray 16 = .ok (.ifnull 21, 3) := dk_198 0 21 (dk_at dksJ3_toArray_0 16 rfl rfl)
theorem dJ3_toArray_19 : decode cJ3_toArray 19 = .ok (.aload_n 1, 1) := dk_43 (dk_at dksJ3_toArray_0 19 rfl rfl)
theorem dJ3_toArray_20 : decode cJ3_toArray 20 = .ok (.iload_n 2, 1) := dk_28 (dk_at dksJ3_toArray_0 20 rfl rfl)
theorem dJ3_toArray_21 : decode cJ3_toArray 21 = .ok (.iinc 2 1, 3) := dk_132 2 1 (dk_at dksJ3_toArray_0 21 rfl rfl)
theorem dJ3_toArray_24 : decode cJ3_toArray 24 = .ok (.aload_n 3, 1) := dk_45 (dk_at dksJ3_toArray_1 0 rfl rfl)
theorem dJ3_toArray_25 : decode cJ3_toArray 25 = .ok (.getfield 39, 3) := dk_180 0 39 (dk_at dksJ3_toArray_1 1 rfl rfl)
theorem dJ3_toArray_28 : decode cJ3_toArray 28 = .ok (.aastore, 1) := dk_83 (dk_at dksJ3_toArray_1 4 rfl rfl)
theorem dJ3_toArray_29 : decode cJ3_toArray 29 = .ok (.aload_n 3, 1) := dk_45 (dk_at dksJ3_toArray_1 5 rfl rfl)
theorem dJ3_toArray_30 : decode cJ3_toArray 30 = .ok (.getfield 36, 3) := dk_180 0 36 (dk_at dksJ3_toArray_1 6 rfl rfl)
theorem dJ3_toArray_33 : decode cJ3_toArray 33 = .ok (.astore_n 3, 1) := dk_78 (dk_at dksJ3_toArray_1 9 rfl rfl)
theorem dJ3_toArray_34 : decode cJ3_toArray 34 = .ok (.goto (-19), 3) := dk_167 255 237 (dk_at dksJ3_toArray_1 10 rfl rfl)
theorem dJ3_toArray_37 : decode cJ3_toArray 37 = .ok (.aload_n 1, 1) := dk_43 (dk_at dksJ3_toArray_1 13 rfl rfl)
theorem dJ3_toArray_38 : decode cJ3_toArray 38 = .ok (.areturn, 1) := dk_176 (dk_at dksJ3_toArray_1 14 rfl rfl)
abbrev cJ3_clear : ByteArray := prog_67_method_21_code
def yJ3_clear : MethodName := ⟨RJ3, "clear", "()V"⟩
def dkwJ3_clear_2 : List UInt8 := [181, 0, 7, 42, 89, 180, 0, 33, 4, 96, 181, 0, 33, 177]
abbrev dktJ3_clear_2 : List UInt8 := dkwJ3_clear_2 ++ []
def dkwJ3_clear_1 : List UInt8 := [43, 1, 181, 0, 30, 44, 76, 167, 255, 230, 42, 42, 1, 90, 181, 0, 27, 181, 0, 18, 42, 3]
abbrev dktJ3_clear_1 : List UInt8 := dkwJ3_clear_1 ++ dktJ3_clear_2
def dkwJ3_clear_0 : List UInt8 := [42, 180, 0, 18, 76, 43, 198, 0, 28, 43, 180, 0, 36, 77, 43, 1, 181, 0, 39, 43, 1, 181, 0, 36]
abbrev dktJ3_clear_0 : List UInt8 := dkwJ3_clear_0 ++ dktJ3_clear_1
theorem dksJ3_clear_0 : cJ3_clear.data.toList.drop 0 = dktJ3_clear_0 := by decide +kernel
theorem dksJ3_clear_1 : cJ3_clear.data.toList.drop 24 = dktJ3_clear_1 := dk_seg dksJ3_clear_0 24 rfl rfl
theorem dksJ3_clear_2 : cJ3_clear.data.toList.drop 46 = dktJ3_clear_2 := dk_seg dksJ3_clear_1 22 rfl rfl
theorem dJ3_clear_0 : decode cJ3_clear 0 = .ok (.aload_n 0, 1) := dk_42 (dk_at dksJ3_clear_0 0 rfl rfl)
theorem dJ3_clear_1 : decode cJ3_clear 1 = .ok (.getfield 18, 3) := dk_180 0 18 (dk_at dksJ3_clear_0 1 rfl rfl)
theorem dJ3_clear_4 : decode cJ3_clear 4 = .ok (.astore_n 1, 1) := dk_76 (dk_at dksJ3_clear_0 4 rfl rfl)
theorem dJ3_clear_5 : decode cJ3_clear 5 = .ok (.aload_n 1, 1) := dk_43 (dk_at dksJ3_clear_0 5 rfl rfl)
theorem dJ3_clear_6 : decode cJ3_clear 6 = .ok (.ifnull 28, 3) := dk_198 0 28 (dk_at dksJ3_clear_0 6 rfl rfl)
theorem dJ3_clear_9 : decode cJ3_clear 9 = .ok (.aload_n 1, 1) := dk_43 (dk_at dksJ3_clear_0 9 rfl rfl)
theorem dJ3_clear_10 : decode cJ3_clear 10 = .ok (.getfield 36, 3) := dk_180 0 36 (dk_at dksJ3_clear_0 10 rfl rfl)
theorem dJ3_clear_13 : decode cJ3_clear 13 = .ok (.astore_n 2, 1) := dk_77 (dk_at dksJ3_clear_0 13 rfl rfl)
theorem dJ3_clear_14 : decode cJ3_clear 14 = .ok (.aload_n 1, 1) := dk_43 (dk_at dksJ3_clear_0 14 rfl rfl)
theorem dJ3_clear_15 : decode cJ3_clear 15 = .ok (.aconst_null, 1) := dk_1 (dk_at dksJ3_clear_0 15 rfl rfl)
theorem dJ3_clear_16 : decode cJ3_clear 16 = .ok (.putfield 39, 3) := dk_181 0 39 (dk_at dksJ3_clear_0 16 rfl rfl)
theorem dJ3_clear_19 : decode cJ3_clear 19 = .ok (.aload_n 1, 1) := dk_43 (dk_at dksJ3_clear_0 19 rfl rfl)
theorem dJ3_clear_20 : decode cJ3_clear 20 = .ok (.aconst_null, 1) := dk_1 (dk_at dksJ3_clear_0 20 rfl rfl)
theorem dJ3_clear_21 : decode cJ3_clear 21 = .ok (.putfield 36, 3) := dk_181 0 36 (dk_at dksJ3_clear_0 21 rfl rfl)
theorem dJ3_clear_24 : decode cJ3_clear 24 = .ok (.aload_n 1, 1) := dk_43 (dk_at dksJ3_clear_1 0 rfl rfl)
theorem dJ3_clear_25 : decode cJ3_clear 25 = .ok (.aconst_null, 1) := dk_1 (dk_at dksJ3_clear_1 1 rfl rfl)
theorem dJ3_clear_26 : decode cJ3_clear 26 = .ok (.putfield 30, 3) := dk_181 0 30 (dk_at dksJ3_clear_1 2 rfl rfl)
theorem dJ3_clear_29 : decode cJ3_clear 29 = .ok (.aload_n 2, 1) := dk_44 (dk_at dksJ3_clear_1 5 rfl rfl)
theorem dJ3_clear_30 : decode cJ3_clear 30 = .ok (.astore_n 1, 1) := dk_76 (dk_at dksJ3_clear_1 6 rfl rfl)
theorem dJ3_clear_31 : decode cJ3_clear 31 = .ok (.goto (-26), 3) := dk_167 255 230 (dk_at dksJ3_clear_1 7 rfl rfl)
theorem dJ3_clear_34 : decode cJ3_clear 34 = .ok (.aload_n 0, 1) := dk_42 (dk_at dksJ3_clear_1 10 rfl rfl)
theorem dJ3_clear_35 : decode cJ3_clear 35 = .ok (.aload_n 0, 1) := dk_42 (dk_at dksJ3_clear_1 11 rfl rfl)
theorem dJ3_clear_36 : decode cJ3_clear 36 = .ok (.aconst_null, 1) := dk_1 (dk_at dksJ3_clear_1 12 rfl rfl)
theorem dJ3_clear_37 : decode cJ3_clear 37 = .ok (.dup_x1, 1) := dk_90 (dk_at dksJ3_clear_1 13 rfl rfl)
theorem dJ3_clear_38 : decode cJ3_clear 38 = .ok (.putfield 27, 3) := dk_181 0 27 (dk_at dksJ3_clear_1 14 rfl rfl)
theorem dJ3_clear_41 : decode cJ3_clear 41 = .ok (.putfield 18, 3) := dk_181 0 18 (dk_at dksJ3_clear_1 17 rfl rfl)
theorem dJ3_clear_44 : decode cJ3_clear 44 = .ok (.aload_n 0, 1) := dk_42 (dk_at dksJ3_clear_1 20 rfl rfl)
theorem dJ3_clear_45 : decode cJ3_clear 45 = .ok (.iconst 0, 1) := dk_3 (dk_at dksJ3_clear_1 21 rfl rfl)
theorem dJ3_clear_46 : decode cJ3_clear 46 = .ok (.putfield 7, 3) := dk_181 0 7 (dk_at dksJ3_clear_2 0 rfl rfl)
theorem dJ3_clear_49 : decode cJ3_clear 49 = .ok (.aload_n 0, 1) := dk_42 (dk_at dksJ3_clear_2 3 rfl rfl)
theorem dJ3_clear_50 : decode cJ3_clear 50 = .ok (.dup, 1) := dk_89 (dk_at dksJ3_clear_2 4 rfl rfl)
theorem dJ3_clear_51 : decode cJ3_clear 51 = .ok (.getfield 33, 3) := dk_180 0 33 (dk_at dksJ3_clear_2 5 rfl rfl)
theorem dJ3_clear_54 : decode cJ3_clear 54 = .ok (.iconst 1, 1) := dk_4 (dk_at dksJ3_clear_2 8 rfl rfl)
theorem dJ3_clear_55 : decode cJ3_clear 55 = .ok (.iadd, 1) := dk_96 (dk_at dksJ3_clear_2 9 rfl rfl)
theorem dJ3_clear_56 : decode cJ3_clear 56 = .ok (.putfield 33, 3) := dk_181 0 33 (dk_at dksJ3_clear_2 10 rfl rfl)
theorem dJ3_clear_59 : decode cJ3_clear 59 = .ok (.return_, 1) := dk_177 (dk_at dksJ3_clear_2 13 rfl rfl)
abbrev cJ3_addLast : ByteArray := prog_67_method_14_code
def yJ3_addLast : MethodName := ⟨RJ3, "addLast", "(Ljava/lang/Object;)V"⟩
def dkwJ3_addLast_0 : List UInt8 := [42, 43, 182, 0, 57, 177]
abbrev dktJ3_addLast_0 : List UInt8 := dkwJ3_addLast_0 ++ []
theorem dksJ3_addLast_0 : cJ3_addLast.data.toList.drop 0 = dktJ3_addLast_0 := by decide +kernel
theorem dJ3_addLast_0 : decode cJ3_addLast 0 = .ok (.aload_n 0, 1) := dk_42 (dk_at dksJ3_addLast_0 0 rfl rfl)
theorem dJ3_addLast_1 : decode cJ3_addLast 1 = .ok (.aload_n 1, 1) := dk_43 (dk_at dksJ3_addLast_0 1 rfl rfl)
theorem dJ3_addLast_2 : decode cJ3_addLast 2 = .ok (.invokevirtual 57, 3) := dk_182 0 57 (dk_at dksJ3_addLast_0 2 rfl rfl)
theorem dJ3_addLast_5 : decode cJ3_addLast 5 = .ok (.return_, 1) := dk_177 (dk_at dksJ3_addLast_0 5 rfl rfl)
abbrev cJ3_linkLast : ByteArray := prog_67_method_4_code
def yJ3_linkLast : MethodName := ⟨RJ3, "linkLast", "(Ljava/lang/Object;)V"⟩
def dkwJ3_linkLast_2 : List UInt8 := [181, 0, 7, 42, 89, 180, 0, 33, 4, 96, 181, 0, 33, 177]
abbrev dktJ3_linkLast_2 : List UInt8 := dkwJ3_linkLast_2 ++ []
def dkwJ3_linkLast_1 : List UInt8 := [199, 0, 11, 42, 45, 181, 0, 18, 167, 0, 8, 44, 45, 181, 0, 36, 42, 89, 180, 0, 7, 4, 96]
abbrev dktJ3_linkLast_1 : List UInt8 := dkwJ3_linkLast_1 ++ dktJ3_linkLast_2
def dkwJ3_linkLast_0 : List UInt8 := [42, 180, 0, 27, 77, 187, 0, 22, 89, 44, 43, 1, 183, 0, 24, 78, 42, 45, 181, 0, 27, 44]
abbrev dktJ3_linkLast_0 : List UInt8 := dkwJ3_linkLast_0 ++ dktJ3_linkLast_1
theorem dksJ3_linkLast_0 : cJ3_linkLast.data.toList.drop 0 = dktJ3_linkLast_0 := by decide +kernel
theorem dksJ3_linkLast_1 : cJ3_linkLast.data.toList.drop 22 = dktJ3_linkLast_1 := dk_seg dksJ3_linkLast_0 22 rfl rfl
theorem dksJ3_linkLast_2 : cJ3_linkLast.data.toList.drop 45 = dktJ3_linkLast_2 := dk_seg dksJ3_linkLast_1 23 rfl rfl
theorem dJ3_linkLast_0 : decode cJ3_linkLast 0 = .ok (.aload_n 0, 1) := dk_42 (dk_at dksJ3_linkLast_0 0 rfl rfl)
theorem dJ3_linkLast_1 : decode cJ3_linkLast 1 = .ok (.getfield 27, 3) := dk_180 0 27 (dk_at dksJ3_linkLast_0 1 rfl rfl)
theorem dJ3_linkLast_4 : decode cJ3_linkLast 4 = .ok (.astore_n 2, 1) := dk_77 (dk_at dksJ3_linkLast_0 4 rfl rfl)
theorem dJ3_linkLast_5 : decode cJ3_linkLast 5 = .ok (.new 22, 3) := dk_187 0 22 (dk_at dksJ3_linkLast_0 5 rfl rfl)
theorem dJ3_linkLast_8 : decode cJ3_linkLast 8 = .ok (.dup, 1) := dk_89 (dk_at dksJ3_linkLast_0 8 rfl rfl)
theorem dJ3_linkLast_9 : decode cJ3_linkLast 9 = .ok (.aload_n 2, 1) := dk_44 (dk_at dksJ3_linkLast_0 9 rfl rfl)
theorem dJ3_linkLast_10 : decode cJ3_linkLast 10 = .ok (.aload_n 1, 1) := dk_43 (dk_at dksJ3_linkLast_0 10 rfl rfl)
theorem dJ3_linkLast_11 : decode cJ3_linkLast 11 = .ok (.aconst_null, 1) := dk_1 (dk_at dksJ3_linkLast_0 11 rfl rfl)
theorem dJ3_linkLast_12 : decode cJ3_linkLast 12 = .ok (.invokespecial 24, 3) := dk_183 0 24 (dk_at dksJ3_linkLast_0 12 rfl rfl)
theorem dJ3_linkLast_15 : decode cJ3_linkLast 15 = .ok (.astore_n 3, 1) := dk_78 (dk_at dksJ3_linkLast_0 15 rfl rfl)
theorem dJ3_linkLast_16 : decode cJ3_linkLast 16 = .ok (.aload_n 0, 1) := dk_42 (dk_at dksJ3_linkLast_0 16 rfl rfl)
theorem dJ3_linkLast_17 : decode cJ3_linkLast 17 = .ok (.aload_n 3, 1) := dk_45 (dk_at dksJ3_linkLast_0 17 rfl rfl)
theorem dJ3_linkLast_18 : decode cJ3_linkLast 18 = .ok (.putfield 27, 3) := dk_181 0 27 (dk_at dksJ3_linkLast_0 18 rfl rfl)
theorem dJ3_linkLast_21 : decode cJ3_linkLast 21 = .ok (.aload_n 2, 1) := dk_44 (dk_at dksJ3_linkLast_0 21 rfl rfl)
theorem dJ3_linkLast_22 : decode cJ3_linkLast 22 = .ok (.ifnonnull 11, 3) := dk_199 0 11 (dk_at dksJ3_linkLast_1 0 rfl rfl)
theorem dJ3_linkLast_25 : decode cJ3_linkLast 25 = .ok (.aload_n 0, 1) := dk_42 (dk_at dksJ3_linkLast_1 3 rfl rfl)
theorem dJ3_linkLast_26 : decode cJ3_linkLast 26 = .ok (.aload_n 3, 1) := dk_45 (dk_at dksJ3_linkLast_1 4 rfl rfl)
theorem dJ3_linkLast_27 : decode cJ3_linkLast 27 = .ok (.putfield 18, 3) := dk_181 0 18 (dk_at dksJ3_linkLast_1 5 rfl rfl)
theorem dJ3_linkLast_30 : decode cJ3_linkLast 30 = .ok (.goto 8, 3) := dk_167 0 8 (dk_at dksJ3_linkLast_1 8 rfl rfl)
theorem dJ3_linkLast_33 : decode cJ3_linkLast 33 = .ok (.aload_n 2, 1) := dk_44 (dk_at dksJ3_linkLast_1 11 rfl rfl)
theorem dJ3_linkLast_34 : decode cJ3_linkLast 34 = .ok (.aload_n 3, 1) := dk_45 (dk_at dksJ3_linkLast_1 12 rfl rfl)
theorem dJ3_linkLast_35 : decode cJ3_linkLast 35 = .ok (.putfield 36, 3) := dk_181 0 36 (dk_at dksJ3_linkLast_1 13 rfl rfl)
theorem dJ3_linkLast_38 : decode cJ3_linkLast 38 = .ok (.aload_n 0, 1) := dk_42 (dk_at dksJ3_linkLast_1 16 rfl rfl)
theorem dJ3_linkLast_39 : decode cJ3_linkLast 39 = .ok (.dup, 1) := dk_89 (dk_at dksJ3_linkLast_1 17 rfl rfl)
theorem dJ3_linkLast_40 : decode cJ3_linkLast 40 = .ok (.getfield 7, 3) := dk_180 0 7 (dk_at dksJ3_linkLast_1 18 rfl rfl)
theorem dJ3_linkLast_43 : decode cJ3_linkLast 43 = .ok (.iconst 1, 1) := dk_4 (dk_at dksJ3_linkLast_1 21 rfl rfl)
theorem dJ3_linkLast_44 : decode cJ3_linkLast 44 = .ok (.iadd, 1) := dk_96 (dk_at dksJ3_linkLast_1 22 rfl rfl)
theorem dJ3_linkLast_45 : decode cJ3_linkLast 45 = .ok (.putfield 7, 3) := dk_181 0 7 (dk_at dksJ3_linkLast_2 0 rfl rfl)
theorem dJ3_linkLast_48 : decode cJ3_linkLast 48 = .ok (.aload_n 0, 1) := dk_42 (dk_at dksJ3_linkLast_2 3 rfl rfl)
theorem dJ3_linkLast_49 : decode cJ3_linkLast 49 = .ok (.dup, 1) := dk_89 (dk_at dksJ3_linkLast_2 4 rfl rfl)
theorem dJ3_linkLast_50 : decode cJ3_linkLast 50 = .ok (.getfield 33, 3) := dk_180 0 33 (dk_at dksJ3_linkLast_2 5 rfl rfl)
theorem dJ3_linkLast_53 : decode cJ3_linkLast 53 = .ok (.iconst 1, 1) := dk_4 (dk_at dksJ3_linkLast_2 8 rfl rfl)
theorem dJ3_linkLast_54 : decode cJ3_linkLast 54 = .ok (.iadd, 1) := dk_96 (dk_at dksJ3_linkLast_2 9 rfl rfl)
theorem dJ3_linkLast_55 : decode cJ3_linkLast 55 = .ok (.putfield 33, 3) := dk_181 0 33 (dk_at dksJ3_linkLast_2 10 rfl rfl)
theorem dJ3_linkLast_58 : decode cJ3_linkLast 58 = .ok (.return_, 1) := dk_177 (dk_at dksJ3_linkLast_2 13 rfl rfl)
abbrev cJ3_removeLast : ByteArray := prog_67_method_12_code
def yJ3_removeLast : MethodName := ⟨RJ3, "removeLast", "()Ljava/lang/Object;"⟩
def dkwJ3_removeLast_0 : List UInt8 := [42, 180, 0, 27, 76, 43, 199, 0, 11, 187, 0, 43, 89, 183, 0, 45, 191, 42, 43, 182, 0, 50, 176]
abbrev dktJ3_removeLast_0 : List UInt8 := dkwJ3_removeLast_0 ++ []
theorem dksJ3_removeLast_0 : cJ3_removeLast.data.toList.drop 0 = dktJ3_removeLast_0 := by decide +kernel
theorem dJ3_removeLast_0 : decode cJ3_removeLast 0 = .ok (.aload_n 0, 1) := dk_42 (dk_at dksJ3_removeLast_0 0 rfl rfl)
theorem dJ3_removeLast_1 : decode cJ3_removeLast 1 = .ok (.getfield 27, 3) := dk_180 0 27 (dk_at dksJ3_removeLast_0 1 rfl rfl)
theorem dJ3_removeLast_4 : decode cJ3_removeLast 4 = .ok (.astore_n 1, 1) := dk_76 (dk_at dksJ3_removeLast_0 4 rfl rfl)
theorem dJ3_removeLast_5 : decode cJ3_removeLast 5 = .ok (.aload_n 1, 1) := dk_43 (dk_at dksJ3_removeLast_0 5 rfl rfl)
theorem dJ3_removeLast_6 : decode cJ3_removeLast 6 = .ok (.ifnonnull 11, 3) := dk_199 0 11 (dk_at dksJ3_removeLast_0 6 rfl rfl)
theorem dJ3_removeLast_9 : decode cJ3_removeLast 9 = .ok (.new 43, 3) := dk_187 0 43 (dk_at dksJ3_removeLast_0 9 rfl rfl)
theorem dJ3_removeLast_12 : decode cJ3_removeLast 12 = .ok (.dup, 1) := dk_89 (dk_at dksJ3_removeLast_0 12 rfl rfl)
theorem dJ3_removeLast_13 : decode cJ3_removeLast 13 = .ok (.invokespecial 45, 3) := dk_183 0 45 (dk_at dksJ3_removeLast_0 13 rfl rfl)
theorem dJ3_removeLast_16 : decode cJ3_removeLast 16 = .ok (.athrow, 1) := dk_191 (dk_at dksJ3_removeLast_0 16 rfl rfl)
theorem dJ3_removeLast_17 : decode cJ3_removeLast 17 = .ok (.aload_n 0, 1) := dk_42 (dk_at dksJ3_removeLast_0 17 rfl rfl)
theorem dJ3_removeLast_18 : decode cJ3_removeLast 18 = .ok (.aload_n 1, 1) := dk_43 (dk_at dksJ3_removeLast_0 18 rfl rfl)
theorem dJ3_removeLast_19 : decode cJ3_removeLast 19 = .ok (.invokevirtual 50, 3) := dk_182 0 50 (dk_at dksJ3_removeLast_0 19 rfl rfl)
theorem dJ3_removeLast_22 : decode cJ3_removeLast 22 = .ok (.areturn, 1) := dk_176 (dk_at dksJ3_removeLast_0 22 rfl rfl)
abbrev cJ3_unlinkLast : ByteArray := prog_67_method_7_code
def yJ3_unlinkLast : MethodName := ⟨RJ3, "unlinkLast", "(Ljava/util/LinkedList$Node;)Ljava/lang/Object;"⟩
def dkwJ3_unlinkLast_2 : List UInt8 := [180, 0, 7, 4, 100, 181, 0, 7, 42, 89, 180, 0, 33, 4, 96, 181, 0, 33, 44, 176]
abbrev dktJ3_unlinkLast_2 : List UInt8 := dkwJ3_unlinkLast_2 ++ []
def dkwJ3_unlinkLast_1 : List UInt8 := [181, 0, 27, 45, 199, 0, 11, 42, 1, 181, 0, 18, 167, 0, 8, 45, 1, 181, 0, 36, 42, 89]
abbrev dktJ3_unlinkLast_1 : List UInt8 := dkwJ3_unlinkLast_1 ++ dktJ3_unlinkLast_2
def dkwJ3_unlinkLast_0 : List UInt8 := [43, 180, 0, 39, 77, 43, 180, 0, 30, 78, 43, 1, 181, 0, 39, 43, 1, 181, 0, 30, 42, 45]
abbrev dktJ3_unlinkLast_0 : List UInt8 := dkwJ3_unlinkLast_0 ++ dktJ3_unlinkLast_1
theorem dksJ3_unlinkLast_0 : cJ3_unlinkLast.data.toList.drop 0 = dktJ3_unlinkLast_0 := by decide +kernel
theorem dksJ3_unlinkLast_1 : cJ3_unlinkLast.data.toList.drop 22 = dktJ3_unlinkLast_1 := dk_seg dksJ3_unlinkLast_0 22 rfl rfl
theorem dksJ3_unlinkLast_2 : cJ3_unlinkLast.data.toList.drop 44 = dktJ3_unlinkLast_2 := dk_seg dksJ3_unlinkLast_1 22 rfl rfl
theorem dJ3_unlinkLast_0 : decode cJ3_unlinkLast 0 = .ok (.aload_n 1, 1) := dk_43 (dk_at dksJ3_unlinkLast_0 0 rfl rfl)
theorem dJ3_unlinkLast_1 : decode cJ3_unlinkLast 1 = .ok (.getfield 39, 3) := dk_180 0 39 (dk_at dksJ3_unlinkLast_0 1 rfl rfl)
theorem dJ3_unlinkLast_4 : decode cJ3_unlinkLast 4 = .ok (.astore_n 2, 1) := dk_77 (dk_at dksJ3_unlinkLast_0 4 rfl rfl)
theorem dJ3_unlinkLast_5 : decode cJ3_unlinkLast 5 = .ok (.aload_n 1, 1) := dk_43 (dk_at dksJ3_unlinkLast_0 5 rfl rfl)
theorem dJ3_unlinkLast_6 : decode cJ3_unlinkLast 6 = .ok (.getfield 30, 3) := dk_180 0 30 (dk_at dksJ3_unlinkLast_0 6 rfl rfl)
theorem dJ3_unlinkLast_9 : decode cJ3_unlinkLast 9 = .ok (.astore_n 3, 1) := dk_78 (dk_at dksJ3_unlinkLast_0 9 rfl rfl)
theorem dJ3_unlinkLast_10 : decode cJ3_unlinkLast 10 = .ok (.aload_n 1, 1) := dk_43 (dk_at dksJ3_unlinkLast_0 10 rfl rfl)
theorem dJ3_unlinkLast_11 : decode cJ3_unlinkLast 11 = .ok (.aconst_null, 1) := dk_1 (dk_at dksJ3_unlinkLast_0 11 rfl rfl)
theorem dJ3_unlinkLast_12 : decode cJ3_unlinkLast 12 = .ok (.putfield 39, 3) := dk_181 0 39 (dk_at dksJ3_unlinkLast_0 12 rfl rfl)
theorem dJ3_unlinkLast_15 : decode cJ3_unlinkLast 15 = .ok (.aload_n 1, 1) := dk_43 (dk_at dksJ3_unlinkLast_0 15 rfl rfl)
theorem dJ3_unlinkLast_16 : decode cJ3_unlinkLast 16 = .ok (.aconst_null, 1) := dk_1 (dk_at dksJ3_unlinkLast_0 16 rfl rfl)
theorem dJ3_unlinkLast_17 : decode cJ3_unlinkLast 17 = .ok (.putfield 30, 3) := dk_181 0 30 (dk_at dksJ3_unlinkLast_0 17 rfl rfl)
theorem dJ3_unlinkLast_20 : decode cJ3_unlinkLast 20 = .ok (.aload_n 0, 1) := dk_42 (dk_at dksJ3_unlinkLast_0 20 rfl rfl)
theorem dJ3_unlinkLast_21 : decode cJ3_unlinkLast 21 = .ok (.aload_n 3, 1) := dk_45 (dk_at dksJ3_unlinkLast_0 21 rfl rfl)
theorem dJ3_unlinkLast_22 : decode cJ3_unlinkLast 22 = .ok (.putfield 27, 3) := dk_181 0 27 (dk_at dksJ3_unlinkLast_1 0 rfl rfl)
theorem dJ3_unlinkLast_25 : decode cJ3_unlinkLast 25 = .ok (.aload_n 3, 1) := dk_45 (dk_at dksJ3_unlinkLast_1 3 rfl rfl)
theorem dJ3_unlinkLast_26 : decode cJ3_unlinkLast 26 = .ok (.ifnonnull 11, 3) := dk_199 0 11 (dk_at dksJ3_unlinkLast_1 4 rfl rfl)
theorem dJ3_unlinkLast_29 : decode cJ3_unlinkLast 29 = .ok (.aload_n 0, 1) := dk_42 (dk_at dksJ3_unlinkLast_1 7 rfl rfl)
theorem dJ3_unlinkLast_30 : decode cJ3_unlinkLast 30 = .ok (.aconst_null, 1) := dk_1 (dk_at dksJ3_unlinkLast_1 8 rfl rfl)
theorem dJ3_unlinkLast_31 : decode cJ3_unlinkLast 31 = .ok (.putfield 18, 3) := dk_181 0 18 (dk_at dksJ3_unlinkLast_1 9 rfl rfl)
theorem dJ3_unlinkLast_34 : decode cJ3_unlinkLast 34 = .ok (.goto 8, 3) := dk_167 0 8 (dk_at dksJ3_unlinkLast_1 12 rfl rfl)
theorem dJ3_unlinkLast_37 : decode cJ3_unlinkLast 37 = .ok (.aload_n 3, 1) := dk_45 (dk_at dksJ3_unlinkLast_1 15 rfl rfl)
theorem dJ3_unlinkLast_38 : decode cJ3_unlinkLast 38 = .ok (.aconst_null, 1) := dk_1 (dk_at dksJ3_unlinkLast_1 16 rfl rfl)
theorem dJ3_unlinkLast_39 : decode cJ3_unlinkLast 39 = .ok (.putfield 36, 3) := dk_181 0 36 (dk_at dksJ3_unlinkLast_1 17 rfl rfl)
theorem dJ3_unlinkLast_42 : decode cJ3_unlinkLast 42 = .ok (.aload_n 0, 1) := dk_42 (dk_at dksJ3_unlinkLast_1 20 rfl rfl)
theorem dJ3_unlinkLast_43 : decode cJ3_unlinkLast 43 = .ok (.dup, 1) := dk_89 (dk_at dksJ3_unlinkLast_1 21 rfl rfl)
theorem dJ3_unlinkLast_44 : decode cJ3_unlinkLast 44 = .ok (.getfield 7, 3) := dk_180 0 7 (dk_at dksJ3_unlinkLast_2 0 rfl rfl)
theorem dJ3_unlinkLast_47 : decode cJ3_unlinkLast 47 = .ok (.iconst 1, 1) := dk_4 (dk_at dksJ3_unlinkLast_2 3 rfl rfl)
theorem dJ3_unlinkLast_48 : decode cJ3_unlinkLast 48 = .ok (.isub, 1) := dk_100 (dk_at dksJ3_unlinkLast_2 4 rfl rfl)
theorem dJ3_unlinkLast_49 : decode cJ3_unlinkLast 49 = .ok (.putfield 7, 3) := dk_181 0 7 (dk_at dksJ3_unlinkLast_2 5 rfl rfl)
theorem dJ3_unlinkLast_52 : decode cJ3_unlinkLast 52 = .ok (.aload_n 0, 1) := dk_42 (dk_at dksJ3_unlinkLast_2 8 rfl rfl)
theorem dJ3_unlinkLast_53 : decode cJ3_unlinkLast 53 = .ok (.dup, 1) := dk_89 (dk_at dksJ3_unlinkLast_2 9 rfl rfl)
theorem dJ3_unlinkLast_54 : decode cJ3_unlinkLast 54 = .ok (.getfield 33, 3) := dk_180 0 33 (dk_at dksJ3_unlinkLast_2 10 rfl rfl)
theorem dJ3_unlinkLast_57 : decode cJ3_unlinkLast 57 = .ok (.iconst 1, 1) := dk_4 (dk_at dksJ3_unlinkLast_2 13 rfl rfl)
theorem dJ3_unlinkLast_58 : decode cJ3_unlinkLast 58 = .ok (.iadd, 1) := dk_96 (dk_at dksJ3_unlinkLast_2 14 rfl rfl)
theorem dJ3_unlinkLast_59 : decode cJ3_unlinkLast 59 = .ok (.putfield 33, 3) := dk_181 0 33 (dk_at dksJ3_unlinkLast_2 15 rfl rfl)
theorem dJ3_unlinkLast_62 : decode cJ3_unlinkLast 62 = .ok (.aload_n 2, 1) := dk_44 (dk_at dksJ3_unlinkLast_2 18 rfl rfl)
theorem dJ3_unlinkLast_63 : decode cJ3_unlinkLast 63 = .ok (.areturn, 1) := dk_176 (dk_at dksJ3_unlinkLast_2 19 rfl rfl)
theorem q123 : (Jvm.Cond.initialized "java/util/LinkedList") ∈ lw_all := lw_g (lw_at lw_m1 6 rfl) rfl
theorem q230 : (Jvm.Cond.instantiable "java/util/LinkedList" (4 : Nat)) ∈ lw_all := lw_g (lw_at lw_m1 113 rfl) rfl
theorem q232 : (Jvm.Cond.instanceMethod ({ cls := "java/util/LinkedList", name := "<init>", desc := "()V" } : Jvm.MethodName)) ∈ lw_all := lw_g (lw_at lw_m1 115 rfl) rfl
theorem q233 : (Jvm.Cond.code ({ cls := "java/util/LinkedList", name := "<init>", desc := "()V" } : Jvm.MethodName) prog_67_method_1_code (1 : Nat) (Option.none : Option Jvm.ClassFile.FieldType)) ∈ lw_all := lw_g (lw_at lw_m1 116 rfl) rfl
theorem q234 : (Jvm.Cond.methodLink "java/util/LinkedList" (1 : Nat) ({ cls := "java/util/AbstractSequentialList", name := "<init>", desc := "()V" } : Jvm.MethodName)) ∈ lw_all := lw_g (lw_at lw_m1 117 rfl) rfl
theorem q244 : (Jvm.Cond.fieldLink "java/util/LinkedList" (7 : Nat) "java/util/LinkedList" "size" "I") ∈ lw_all := lw_g (lw_at lw_m1 127 rfl) rfl
theorem q246 : (Jvm.Cond.fieldLink "java/util/LinkedList" (18 : Nat) "java/util/LinkedList" "first" "Ljava/util/LinkedList$Node;") ∈ lw_all := lw_g (lw_at lw_m1 129 rfl) rfl
theorem q247 : (Jvm.Cond.fieldLink "java/util/LinkedList" (27 : Nat) "java/util/LinkedList" "last" "Ljava/util/LinkedList$Node;") ∈ lw_all := lw_g (lw_at lw_m1 130 rfl) rfl
theorem q250 : (Jvm.Cond.sameField "java/util/LinkedList" "java/util/AbstractList" "modCount" "I") ∈ lw_all := lw_g (lw_at lw_m1 133 rfl) rfl
theorem q254 : (Jvm.Cond.fieldLink "java/util/LinkedList" (33 : Nat) "java/util/LinkedList" "modCount" "I") ∈ lw_all := lw_g (lw_at lw_m1 137 rfl) rfl
theorem q256 : (Jvm.Cond.lays "java/util/LinkedList" "java/util/LinkedList" "size" "I") ∈ lw_all := lw_g (lw_at lw_m1 139 rfl) rfl
theorem q257 : (Jvm.Cond.soleField "java/util/LinkedList" "size") ∈ lw_all := lw_g (lw_at lw_m1 140 rfl) rfl
theorem q258 : (Jvm.Cond.lays "java/util/LinkedList" "java/util/LinkedList" "first" "Ljava/util/LinkedList$Node;") ∈ lw_all := lw_g (lw_at lw_m1 141 rfl) rfl
theorem q259 : (Jvm.Cond.soleField "java/util/LinkedList" "first") ∈ lw_all := lw_g (lw_at lw_m1 142 rfl) rfl
theorem q260 : (Jvm.Cond.lays "java/util/LinkedList" "java/util/LinkedList" "last" "Ljava/util/LinkedList$Node;") ∈ lw_all := lw_g (lw_at lw_m1 143 rfl) rfl
theorem q261 : (Jvm.Cond.soleField "java/util/LinkedList" "last") ∈ lw_all := lw_g (lw_at lw_m1 144 rfl) rfl
theorem q262 : (Jvm.Cond.lays "java/util/LinkedList" "java/util/AbstractList" "modCount" "I") ∈ lw_all := lw_g (lw_at lw_m1 145 rfl) rfl
theorem q264 : (Jvm.Cond.superclass "java/util/LinkedList" "java/util/AbstractSequentialList") ∈ lw_all := lw_g (lw_at lw_m1 147 rfl) rfl
theorem q356 : (Jvm.Cond.sameMethod "java/util/LinkedList" "java/util/AbstractSequentialList" "iterator" "()Ljava/util/Iterator;") ∈ lw_all := lw_g (lw_at lw_m1 239 rfl) rfl
theorem q358 : (Jvm.Cond.selects "java/util/LinkedList" ({ cls := "java/util/LinkedList", name := "iterator", desc := "()Ljava/util/Iterator;" } : Jvm.MethodName) ({ cls := "java/util/AbstractSequentialList", name := "iterator", desc := "()Ljava/util/Iterator;" } : Jvm.MethodName)) ∈ lw_all := lw_g (lw_at lw_m2 1 rfl) rfl
theorem q364 : (Jvm.Cond.selects "java/util/LinkedList" ({ cls := "java/util/AbstractSequentialList", name := "listIterator", desc := "()Ljava/util/ListIterator;" } : Jvm.MethodName) ({ cls := "java/util/AbstractList", name := "listIterator", desc := "()Ljava/util/ListIterator;" } : Jvm.MethodName)) ∈ lw_all := lw_g (lw_at lw_m2 7 rfl) rfl
theorem q711 : (Jvm.Cond.selects "java/util/LinkedList" ({ cls := "java/util/AbstractList", name := "listIterator", desc := "(I)Ljava/util/ListIterator;" } : Jvm.MethodName) ({ cls := "java/util/LinkedList", name := "listIterator", desc := "(I)Ljava/util/ListIterator;" } : Jvm.MethodName)) ∈ lw_all := lw_g (lw_at lw_m3 114 rfl) rfl
theorem q712 : (Jvm.Cond.instanceMethod ({ cls := "java/util/LinkedList", name := "listIterator", desc := "(I)Ljava/util/ListIterator;" } : Jvm.MethodName)) ∈ lw_all := lw_g (lw_at lw_m3 115 rfl) rfl
theorem q713 : (Jvm.Cond.code ({ cls := "java/util/LinkedList", name := "listIterator", desc := "(I)Ljava/util/ListIterator;" } : Jvm.MethodName) prog_67_method_49_code (2 : Nat) (Option.some (Jvm.ClassFile.FieldType.object "java/util/ListIterator"))) ∈ lw_all := lw_g (lw_at lw_m3 116 rfl) rfl
theorem q714 : (Jvm.Cond.methodLink "java/util/LinkedList" (76 : Nat) ({ cls := "java/util/LinkedList", name := "checkPositionIndex", desc := "(I)V" } : Jvm.MethodName)) ∈ lw_all := lw_g (lw_at lw_m3 117 rfl) rfl
theorem q715 : (Jvm.Cond.privateMethod ({ cls := "java/util/LinkedList", name := "checkPositionIndex", desc := "(I)V" } : Jvm.MethodName)) ∈ lw_tbl := lw_at lw_m3 118 rfl
theorem q716 : (Jvm.Cond.instanceMethod ({ cls := "java/util/LinkedList", name := "checkPositionIndex", desc := "(I)V" } : Jvm.MethodName)) ∈ lw_all := lw_g (lw_at lw_m3 119 rfl) rfl
theorem q717 : (Jvm.Cond.code ({ cls := "java/util/LinkedList", name := "checkPositionIndex", desc := "(I)V" } : Jvm.MethodName) prog_67_method_30_code (2 : Nat) (Option.none : Option Jvm.ClassFile.FieldType)) ∈ lw_all := lw_g (lw_at lw_m3 120 rfl) rfl
theorem q718 : (Jvm.Cond.methodLink "java/util/LinkedList" (128 : Nat) ({ cls := "java/util/LinkedList", name := "isPositionIndex", desc := "(I)Z" } : Jvm.MethodName)) ∈ lw_all := lw_g (lw_at lw_m3 121 rfl) rfl
theorem q719 : (Jvm.Cond.privateMethod ({ cls := "java/util/LinkedList", name := "isPositionIndex", desc := "(I)Z" } : Jvm.MethodName)) ∈ lw_tbl := lw_at lw_m3 122 rfl
theorem q720 : (Jvm.Cond.instanceMethod ({ cls := "java/util/LinkedList", name := "isPositionIndex", desc := "(I)Z" } : Jvm.MethodName)) ∈ lw_all := lw_g (lw_at lw_m3 123 rfl) rfl
theorem q721 : (Jvm.Cond.code ({ cls := "java/util/LinkedList", name := "isPositionIndex", desc := "(I)Z" } : Jvm.MethodName) prog_67_method_27_code (2 : Nat) (Option.some Jvm.ClassFile.FieldType.boolean)) ∈ lw_all := lw_g (lw_at lw_m3 124 rfl) rfl
theorem q722 : (Jvm.Cond.classLink "java/util/LinkedList" (119 : Nat) "java/lang/IndexOutOfBoundsException") ∈ lw_all := lw_g (lw_at lw_m3 125 rfl) rfl
theorem q723 : (Jvm.Cond.methodLink "java/util/LinkedList" (121 : Nat) ({ cls := "java/util/LinkedList", name := "outOfBoundsMsg", desc := "(I)Ljava/lang/String;" } : Jvm.MethodName)) ∈ lw_all := lw_g (lw_at lw_m3 126 rfl) rfl
theorem q724 : (Jvm.Cond.privateMethod ({ cls := "java/util/LinkedList", name := "outOfBoundsMsg", desc := "(I)Ljava/lang/String;" } : Jvm.MethodName)) ∈ lw_tbl := lw_at lw_m3 127 rfl
theorem q725 : (Jvm.Cond.instanceMethod ({ cls := "java/util/LinkedList", name := "outOfBoundsMsg", desc := "(I)Ljava/lang/String;" } : Jvm.MethodName)) ∈ lw_all := lw_g (lw_at lw_m3 128 rfl) rfl
theorem q726 : (Jvm.Cond.code ({ cls := "java/util/LinkedList", name := "outOfBoundsMsg", desc := "(I)Ljava/lang/String;" } : Jvm.MethodName) prog_67_method_28_code (2 : Nat) (Option.some (Jvm.ClassFile.FieldType.object "java/lang/String"))) ∈ lw_all := lw_g (lw_at lw_m3 129 rfl) rfl
theorem q727 : (Jvm.Cond.classLink "java/util/LinkedList" (97 : Nat) "java/lang/StringBuilder") ∈ lw_all := lw_g (lw_at lw_m3 130 rfl) rfl
theorem q728 : (Jvm.Cond.methodLink "java/util/LinkedList" (99 : Nat) ({ cls := "java/lang/StringBuilder", name := "<init>", desc := "()V" } : Jvm.MethodName)) ∈ lw_all := lw_g (lw_at lw_m3 131 rfl) rfl
theorem q729 : (Jvm.Cond.stringRef "java/util/LinkedList" (100 : Nat) "Index: ") ∈ lw_tbl := lw_at lw_m3 132 rfl
theorem q730 : (Jvm.Cond.methodLink "java/util/LinkedList" (102 : Nat) ({ cls := "java/lang/StringBuilder", name := "append", desc := "(Ljava/lang/String;)Ljava/lang/StringBuilder;" } : Jvm.MethodName)) ∈ lw_all := lw_g (lw_at lw_m3 133 rfl) rfl
theorem q731 : (Jvm.Cond.methodLink "java/util/LinkedList" (106 : Nat) ({ cls := "java/lang/StringBuilder", name := "append", desc := "(I)Ljava/lang/StringBuilder;" } : Jvm.MethodName)) ∈ lw_all := lw_g (lw_at lw_m3 134 rfl) rfl
theorem q732 : (Jvm.Cond.stringRef "java/util/LinkedList" (109 : Nat) ", Size: ") ∈ lw_tbl := lw_at lw_m3 135 rfl
theorem q733 : (Jvm.Cond.methodLink "java/util/LinkedList" (111 : Nat) ({ cls := "java/lang/StringBuilder", name := "toString", desc := "()Ljava/lang/String;" } : Jvm.MethodName)) ∈ lw_all := lw_g (lw_at lw_m3 136 rfl) rfl
theorem q734 : (Jvm.Cond.methodLink "java/util/LinkedList" (125 : Nat) ({ cls := "java/lang/IndexOutOfBoundsException", name := "<init>", desc := "(Ljava/lang/String;)V" } : Jvm.MethodName)) ∈ lw_all := lw_g (lw_at lw_m3 137 rfl) rfl
theorem q735 : (Jvm.Cond.classLink "java/util/LinkedList" (150 : Nat) "java/util/LinkedList$ListItr") ∈ lw_all := lw_g (lw_at lw_m3 138 rfl) rfl
theorem q737 : (Jvm.Cond.methodLink "java/util/LinkedList" (152 : Nat) ({ cls := "java/util/LinkedList$ListItr", name := "<init>", desc := "(Ljava/util/LinkedList;I)V" } : Jvm.MethodName)) ∈ lw_all := lw_g (lw_at lw_m3 140 rfl) rfl
theorem q742 : (Jvm.Cond.instanceMethod ({ cls := "java/util/LinkedList", name := "node", desc := "(I)Ljava/util/LinkedList$Node;" } : Jvm.MethodName)) ∈ lw_all := lw_g (lw_at lw_m3 145 rfl) rfl
theorem q743 : (Jvm.Cond.selects "java/util/LinkedList" ({ cls := "java/util/LinkedList", name := "node", desc := "(I)Ljava/util/LinkedList$Node;" } : Jvm.MethodName) ({ cls := "java/util/LinkedList", name := "node", desc := "(I)Ljava/util/LinkedList$Node;" } : Jvm.MethodName)) ∈ lw_all := lw_g (lw_at lw_m3 146 rfl) rfl
theorem q744 : (Jvm.Cond.code ({ cls := "java/util/LinkedList", name := "node", desc := "(I)Ljava/util/LinkedList$Node;" } : Jvm.MethodName) prog_67_method_31_code (4 : Nat) (Option.some (Jvm.ClassFile.FieldType.object "java/util/LinkedList$Node"))) ∈ lw_all := lw_g (lw_at lw_m3 147 rfl) rfl
theorem q773 : (Jvm.Cond.sameMethod "java/util/LinkedList" "java/util/AbstractCollection" "isEmpty" "()Z") ∈ lw_all := lw_g (lw_at lw_m3 176 rfl) rfl
theorem q775 : (Jvm.Cond.selects "java/util/LinkedList" ({ cls := "java/util/LinkedList", name := "isEmpty", desc := "()Z" } : Jvm.MethodName) ({ cls := "java/util/AbstractCollection", name := "isEmpty", desc := "()Z" } : Jvm.MethodName)) ∈ lw_all := lw_g (lw_at lw_m3 178 rfl) rfl
theorem q790 : (Jvm.Cond.selects "java/util/LinkedList" ({ cls := "java/util/AbstractCollection", name := "size", desc := "()I" } : Jvm.MethodName) ({ cls := "java/util/LinkedList", name := "size", desc := "()I" } : Jvm.MethodName)) ∈ lw_all := lw_g (lw_at lw_m3 193 rfl) rfl
theorem q791 : (Jvm.Cond.instanceMethod ({ cls := "java/util/LinkedList", name := "size", desc := "()I" } : Jvm.MethodName)) ∈ lw_all := lw_g (lw_at lw_m3 194 rfl) rfl
theorem q792 : (Jvm.Cond.code ({ cls := "java/util/LinkedList", name := "size", desc := "()I" } : Jvm.MethodName) prog_67_method_16_code (1 : Nat) (Option.some Jvm.ClassFile.FieldType.int)) ∈ lw_all := lw_g (lw_at lw_m3 195 rfl) rfl
theorem q802 : (Jvm.Cond.selects "java/util/LinkedList" ({ cls := "java/util/AbstractList", name := "size", desc := "()I" } : Jvm.MethodName) ({ cls := "java/util/LinkedList", name := "size", desc := "()I" } : Jvm.MethodName)) ∈ lw_all := lw_g (lw_at lw_m3 205 rfl) rfl
theorem q832 : (Jvm.Cond.instanceMethod ({ cls := "java/util/LinkedList", name := "removeFirst", desc := "()Ljava/lang/Object;" } : Jvm.MethodName)) ∈ lw_all := lw_g (lw_at lw_m3 235 rfl) rfl
theorem q833 : (Jvm.Cond.selects "java/util/LinkedList" ({ cls := "java/util/LinkedList", name := "removeFirst", desc := "()Ljava/lang/Object;" } : Jvm.MethodName) ({ cls := "java/util/LinkedList", name := "removeFirst", desc := "()Ljava/lang/Object;" } : Jvm.MethodName)) ∈ lw_all := lw_g (lw_at lw_m3 236 rfl) rfl
theorem q834 : (Jvm.Cond.code ({ cls := "java/util/LinkedList", name := "removeFirst", desc := "()Ljava/lang/Object;" } : Jvm.MethodName) prog_67_method_11_code (2 : Nat) (Option.some (Jvm.ClassFile.FieldType.object "java/lang/Object"))) ∈ lw_all := lw_g (lw_at lw_m3 237 rfl) rfl
theorem q835 : (Jvm.Cond.classLink "java/util/LinkedList" (43 : Nat) "java/util/NoSuchElementException") ∈ lw_all := lw_g (lw_at lw_m3 238 rfl) rfl
theorem q844 : (Jvm.Cond.methodLink "java/util/LinkedList" (45 : Nat) ({ cls := "java/util/NoSuchElementException", name := "<init>", desc := "()V" } : Jvm.MethodName)) ∈ lw_all := lw_g (lw_at lw_m4 7 rfl) rfl
theorem q856 : (Jvm.Cond.methodLink "java/util/LinkedList" (46 : Nat) ({ cls := "java/util/LinkedList", name := "unlinkFirst", desc := "(Ljava/util/LinkedList$Node;)Ljava/lang/Object;" } : Jvm.MethodName)) ∈ lw_all := lw_g (lw_at lw_m4 19 rfl) rfl
theorem q857 : (Jvm.Cond.privateMethod ({ cls := "java/util/LinkedList", name := "unlinkFirst", desc := "(Ljava/util/LinkedList$Node;)Ljava/lang/Object;" } : Jvm.MethodName)) ∈ lw_tbl := lw_at lw_m4 20 rfl
theorem q858 : (Jvm.Cond.instanceMethod ({ cls := "java/util/LinkedList", name := "unlinkFirst", desc := "(Ljava/util/LinkedList$Node;)Ljava/lang/Object;" } : Jvm.MethodName)) ∈ lw_all := lw_g (lw_at lw_m4 21 rfl) rfl
theorem q859 : (Jvm.Cond.code ({ cls := "java/util/LinkedList", name := "unlinkFirst", desc := "(Ljava/util/LinkedList$Node;)Ljava/lang/Object;" } : Jvm.MethodName) prog_67_method_6_code (4 : Nat) (Option.some (Jvm.ClassFile.FieldType.object "java/lang/Object"))) ∈ lw_all := lw_g (lw_at lw_m4 22 rfl) rfl
theorem q910 : (Jvm.Cond.instanceMethod ({ cls := "java/util/LinkedList", name := "addFirst", desc := "(Ljava/lang/Object;)V" } : Jvm.MethodName)) ∈ lw_all := lw_g (lw_at lw_m4 73 rfl) rfl
theorem q911 : (Jvm.Cond.selects "java/util/LinkedList" ({ cls := "java/util/LinkedList", name := "addFirst", desc := "(Ljava/lang/Object;)V" } : Jvm.MethodName) ({ cls := "java/util/LinkedList", name := "addFirst", desc := "(Ljava/lang/Object;)V" } : Jvm.MethodName)) ∈ lw_all := lw_g (lw_at lw_m4 74 rfl) rfl
theorem q912 : (Jvm.Cond.code ({ cls := "java/util/LinkedList", name := "addFirst", desc := "(Ljava/lang/Object;)V" } : Jvm.MethodName) prog_67_method_13_code (2 : Nat) (Option.none : Option Jvm.ClassFile.FieldType)) ∈ lw_all := lw_g (lw_at lw_m4 75 rfl) rfl
theorem q913 : (Jvm.Cond.methodLink "java/util/LinkedList" (53 : Nat) ({ cls := "java/util/LinkedList", name := "linkFirst", desc := "(Ljava/lang/Object;)V" } : Jvm.MethodName)) ∈ lw_all := lw_g (lw_at lw_m4 76 rfl) rfl
theorem q914 : (Jvm.Cond.privateMethod ({ cls := "java/util/LinkedList", name := "linkFirst", desc := "(Ljava/lang/Object;)V" } : Jvm.MethodName)) ∈ lw_tbl := lw_at lw_m4 77 rfl
theorem q915 : (Jvm.Cond.instanceMethod ({ cls := "java/util/LinkedList", name := "linkFirst", desc := "(Ljava/lang/Object;)V" } : Jvm.MethodName)) ∈ lw_all := lw_g (lw_at lw_m4 78 rfl) rfl
theorem q916 : (Jvm.Cond.code ({ cls := "java/util/LinkedList", name := "linkFirst", desc := "(Ljava/lang/Object;)V" } : Jvm.MethodName) prog_67_method_3_code (4 : Nat) (Option.none : Option Jvm.ClassFile.FieldType)) ∈ lw_all := lw_g (lw_at lw_m4 79 rfl) rfl
theorem q917 : (Jvm.Cond.classLink "java/util/LinkedList" (22 : Nat) "java/util/LinkedList$Node") ∈ lw_all := lw_g (lw_at lw_m4 80 rfl) rfl
theorem q919 : (Jvm.Cond.methodLink "java/util/LinkedList" (24 : Nat) ({ cls := "java/util/LinkedList$Node", name := "<init>", desc := "(Ljava/util/LinkedList$Node;Ljava/lang/Object;Ljava/util/LinkedList$Node;)V" } : Jvm.MethodName)) ∈ lw_all := lw_g (lw_at lw_m4 82 rfl) rfl
theorem q925 : (Jvm.Cond.fieldLink "java/util/LinkedList" (39 : Nat) "java/util/LinkedList$Node" "item" "Ljava/lang/Object;") ∈ lw_all := lw_g (lw_at lw_m4 88 rfl) rfl
theorem q928 : (Jvm.Cond.fieldLink "java/util/LinkedList" (36 : Nat) "java/util/LinkedList$Node" "next" "Ljava/util/LinkedList$Node;") ∈ lw_all := lw_g (lw_at lw_m4 91 rfl) rfl
theorem q930 : (Jvm.Cond.fieldLink "java/util/LinkedList" (30 : Nat) "java/util/LinkedList$Node" "prev" "Ljava/util/LinkedList$Node;") ∈ lw_all := lw_g (lw_at lw_m4 93 rfl) rfl
theorem q952 : (Jvm.Cond.selects "java/util/LinkedList" ({ cls := "java/util/AbstractList", name := "get", desc := "(I)Ljava/lang/Object;" } : Jvm.MethodName) ({ cls := "java/util/LinkedList", name := "get", desc := "(I)Ljava/lang/Object;" } : Jvm.MethodName)) ∈ lw_all := lw_g (lw_at lw_m4 115 rfl) rfl
theorem q953 : (Jvm.Cond.instanceMethod ({ cls := "java/util/LinkedList", name := "get", desc := "(I)Ljava/lang/Object;" } : Jvm.MethodName)) ∈ lw_all := lw_g (lw_at lw_m4 116 rfl) rfl
theorem q954 : (Jvm.Cond.code ({ cls := "java/util/LinkedList", name := "get", desc := "(I)Ljava/lang/Object;" } : Jvm.MethodName) prog_67_method_22_code (2 : Nat) (Option.some (Jvm.ClassFile.FieldType.object "java/lang/Object"))) ∈ lw_all := lw_g (lw_at lw_m4 117 rfl) rfl
theorem q955 : (Jvm.Cond.methodLink "java/util/LinkedList" (90 : Nat) ({ cls := "java/util/LinkedList", name := "checkElementIndex", desc := "(I)V" } : Jvm.MethodName)) ∈ lw_all := lw_g (lw_at lw_m4 118 rfl) rfl
theorem q956 : (Jvm.Cond.privateMethod ({ cls := "java/util/LinkedList", name := "checkElementIndex", desc := "(I)V" } : Jvm.MethodName)) ∈ lw_tbl := lw_at lw_m4 119 rfl
theorem q957 : (Jvm.Cond.instanceMethod ({ cls := "java/util/LinkedList", name := "checkElementIndex", desc := "(I)V" } : Jvm.MethodName)) ∈ lw_all := lw_g (lw_at lw_m4 120 rfl) rfl
theorem q958 : (Jvm.Cond.code ({ cls := "java/util/LinkedList", name := "checkElementIndex", desc := "(I)V" } : Jvm.MethodName) prog_67_method_29_code (2 : Nat) (Option.none : Option Jvm.ClassFile.FieldType)) ∈ lw_all := lw_g (lw_at lw_m4 121 rfl) rfl
theorem q959 : (Jvm.Cond.methodLink "java/util/LinkedList" (115 : Nat) ({ cls := "java/util/LinkedList", name := "isElementIndex", desc := "(I)Z" } : Jvm.MethodName)) ∈ lw_all := lw_g (lw_at lw_m4 122 rfl) rfl
theorem q960 : (Jvm.Cond.privateMethod ({ cls := "java/util/LinkedList", name := "isElementIndex", desc := "(I)Z" } : Jvm.MethodName)) ∈ lw_tbl := lw_at lw_m4 123 rfl
theorem q961 : (Jvm.Cond.instanceMethod ({ cls := "java/util/LinkedList", name := "isElementIndex", desc := "(I)Z" } : Jvm.MethodName)) ∈ lw_all := lw_g (lw_at lw_m4 124 rfl) rfl
theorem q962 : (Jvm.Cond.code ({ cls := "java/util/LinkedList", name := "isElementIndex", desc := "(I)Z" } : Jvm.MethodName) prog_67_method_26_code (2 : Nat) (Option.some Jvm.ClassFile.FieldType.boolean)) ∈ lw_all := lw_g (lw_at lw_m4 125 rfl) rfl
theorem q963 : (Jvm.Cond.methodLink "java/util/LinkedList" (86 : Nat) ({ cls := "java/util/LinkedList", name := "node", desc := "(I)Ljava/util/LinkedList$Node;" } : Jvm.MethodName)) ∈ lw_all := lw_g (lw_at lw_m4 126 rfl) rfl
theorem q1025 : (Jvm.Cond.selects "java/util/LinkedList" ({ cls := "java/lang/Object", name := "getClass", desc := "()Ljava/lang/Class;" } : Jvm.MethodName) ({ cls := "java/lang/Object", name := "getClass", desc := "()Ljava/lang/Class;" } : Jvm.MethodName)) ∈ lw_all := lw_g (lw_at lw_m4 188 rfl) rfl
theorem q1343 : (Jvm.Cond.instanceMethod ({ cls := "java/util/LinkedList", name := "<init>", desc := "(Ljava/util/Collection;)V" } : Jvm.MethodName)) ∈ lw_all := lw_g (lw_at lw_m6 26 rfl) rfl
theorem q1344 : (Jvm.Cond.code ({ cls := "java/util/LinkedList", name := "<init>", desc := "(Ljava/util/Collection;)V" } : Jvm.MethodName) prog_67_method_2_code (2 : Nat) (Option.none : Option Jvm.ClassFile.FieldType)) ∈ lw_all := lw_g (lw_at lw_m6 27 rfl) rfl
theorem q1345 : (Jvm.Cond.methodLink "java/util/LinkedList" (13 : Nat) ({ cls := "java/util/LinkedList", name := "<init>", desc := "()V" } : Jvm.MethodName)) ∈ lw_all := lw_g (lw_at lw_m6 28 rfl) rfl
theorem q1346 : (Jvm.Cond.methodLink "java/util/LinkedList" (14 : Nat) ({ cls := "java/util/LinkedList", name := "addAll", desc := "(Ljava/util/Collection;)Z" } : Jvm.MethodName)) ∈ lw_all := lw_g (lw_at lw_m6 29 rfl) rfl
theorem q1347 : (Jvm.Cond.instanceMethod ({ cls := "java/util/LinkedList", name := "addAll", desc := "(Ljava/util/Collection;)Z" } : Jvm.MethodName)) ∈ lw_all := lw_g (lw_at lw_m6 30 rfl) rfl
theorem q1348 : (Jvm.Cond.selects "java/util/LinkedList" ({ cls := "java/util/LinkedList", name := "addAll", desc := "(Ljava/util/Collection;)Z" } : Jvm.MethodName) ({ cls := "java/util/LinkedList", name := "addAll", desc := "(Ljava/util/Collection;)Z" } : Jvm.MethodName)) ∈ lw_all := lw_g (lw_at lw_m6 31 rfl) rfl
theorem q1349 : (Jvm.Cond.code ({ cls := "java/util/LinkedList", name := "addAll", desc := "(Ljava/util/Collection;)Z" } : Jvm.MethodName) prog_67_method_19_code (2 : Nat) (Option.some Jvm.ClassFile.FieldType.boolean)) ∈ lw_all := lw_g (lw_at lw_m6 32 rfl) rfl
theorem q1350 : (Jvm.Cond.methodLink "java/util/LinkedList" (73 : Nat) ({ cls := "java/util/LinkedList", name := "addAll", desc := "(ILjava/util/Collection;)Z" } : Jvm.MethodName)) ∈ lw_all := lw_g (lw_at lw_m6 33 rfl) rfl
theorem q1351 : (Jvm.Cond.instanceMethod ({ cls := "java/util/LinkedList", name := "addAll", desc := "(ILjava/util/Collection;)Z" } : Jvm.MethodName)) ∈ lw_all := lw_g (lw_at lw_m6 34 rfl) rfl
theorem q1352 : (Jvm.Cond.selects "java/util/LinkedList" ({ cls := "java/util/LinkedList", name := "addAll", desc := "(ILjava/util/Collection;)Z" } : Jvm.MethodName) ({ cls := "java/util/LinkedList", name := "addAll", desc := "(ILjava/util/Collection;)Z" } : Jvm.MethodName)) ∈ lw_all := lw_g (lw_at lw_m6 35 rfl) rfl
theorem q1353 : (Jvm.Cond.code ({ cls := "java/util/LinkedList", name := "addAll", desc := "(ILjava/util/Collection;)Z" } : Jvm.MethodName) prog_67_method_20_code (13 : Nat) (Option.some Jvm.ClassFile.FieldType.boolean)) ∈ lw_all := lw_g (lw_at lw_m6 36 rfl) rfl
theorem q1354 : (Jvm.Cond.interfaceEntry "java/util/LinkedList" (80 : Nat)) ∈ lw_tbl := lw_at lw_m6 37 rfl
theorem q1355 : (Jvm.Cond.methodLink "java/util/LinkedList" (80 : Nat) ({ cls := "java/util/Collection", name := "toArray", desc := "()[Ljava/lang/Object;" } : Jvm.MethodName)) ∈ lw_all := lw_g (lw_at lw_m6 38 rfl) rfl
theorem q1388 : (Jvm.Cond.castable "java/util/LinkedList" "java/util/Collection") ∈ lw_tbl := lw_at lw_m6 71 rfl
theorem q1389 : (Jvm.Cond.selects "java/util/LinkedList" ({ cls := "java/util/Collection", name := "toArray", desc := "()[Ljava/lang/Object;" } : Jvm.MethodName) ({ cls := "java/util/LinkedList", name := "toArray", desc := "()[Ljava/lang/Object;" } : Jvm.MethodName)) ∈ lw_all := lw_g (lw_at lw_m6 72 rfl) rfl
theorem q1390 : (Jvm.Cond.unhidden "java/util/LinkedList" "toArray" "()[Ljava/lang/Object;") ∈ lw_tbl := lw_at lw_m6 73 rfl
theorem q1391 : (Jvm.Cond.instanceMethod ({ cls := "java/util/LinkedList", name := "toArray", desc := "()[Ljava/lang/Object;" } : Jvm.MethodName)) ∈ lw_all := lw_g (lw_at lw_m6 74 rfl) rfl
theorem q1392 : (Jvm.Cond.publicMethod ({ cls := "java/util/LinkedList", name := "toArray", desc := "()[Ljava/lang/Object;" } : Jvm.MethodName)) ∈ lw_tbl := lw_at lw_m6 75 rfl
theorem q1393 : (Jvm.Cond.code ({ cls := "java/util/LinkedList", name := "toArray", desc := "()[Ljava/lang/Object;" } : Jvm.MethodName) prog_67_method_53_code (4 : Nat) (Option.some (Jvm.ClassFile.FieldType.array (Jvm.ClassFile.FieldType.object "java/lang/Object")))) ∈ lw_all := lw_g (lw_at lw_m6 76 rfl) rfl
theorem q1394 : (Jvm.Cond.classLink "java/util/LinkedList" (68 : Nat) "java/lang/Object") ∈ lw_all := lw_g (lw_at lw_m6 77 rfl) rfl
theorem q1421 : (Jvm.Cond.instanceMethod ({ cls := "java/util/LinkedList", name := "clear", desc := "()V" } : Jvm.MethodName)) ∈ lw_all := lw_g (lw_at lw_m6 104 rfl) rfl
theorem q1422 : (Jvm.Cond.selects "java/util/LinkedList" ({ cls := "java/util/LinkedList", name := "clear", desc := "()V" } : Jvm.MethodName) ({ cls := "java/util/LinkedList", name := "clear", desc := "()V" } : Jvm.MethodName)) ∈ lw_all := lw_g (lw_at lw_m6 105 rfl) rfl
theorem q1423 : (Jvm.Cond.code ({ cls := "java/util/LinkedList", name := "clear", desc := "()V" } : Jvm.MethodName) prog_67_method_21_code (3 : Nat) (Option.none : Option Jvm.ClassFile.FieldType)) ∈ lw_all := lw_g (lw_at lw_m6 106 rfl) rfl
theorem q1545 : (Jvm.Cond.instanceMethod ({ cls := "java/util/LinkedList", name := "addLast", desc := "(Ljava/lang/Object;)V" } : Jvm.MethodName)) ∈ lw_all := lw_g (lw_at lw_m6 228 rfl) rfl
theorem q1546 : (Jvm.Cond.selects "java/util/LinkedList" ({ cls := "java/util/LinkedList", name := "addLast", desc := "(Ljava/lang/Object;)V" } : Jvm.MethodName) ({ cls := "java/util/LinkedList", name := "addLast", desc := "(Ljava/lang/Object;)V" } : Jvm.MethodName)) ∈ lw_all := lw_g (lw_at lw_m6 229 rfl) rfl
theorem q1547 : (Jvm.Cond.code ({ cls := "java/util/LinkedList", name := "addLast", desc := "(Ljava/lang/Object;)V" } : Jvm.MethodName) prog_67_method_14_code (2 : Nat) (Option.none : Option Jvm.ClassFile.FieldType)) ∈ lw_all := lw_g (lw_at lw_m6 230 rfl) rfl
theorem q1548 : (Jvm.Cond.methodLink "java/util/LinkedList" (57 : Nat) ({ cls := "java/util/LinkedList", name := "linkLast", desc := "(Ljava/lang/Object;)V" } : Jvm.MethodName)) ∈ lw_all := lw_g (lw_at lw_m6 231 rfl) rfl
theorem q1549 : (Jvm.Cond.instanceMethod ({ cls := "java/util/LinkedList", name := "linkLast", desc := "(Ljava/lang/Object;)V" } : Jvm.MethodName)) ∈ lw_all := lw_g (lw_at lw_m6 232 rfl) rfl
theorem q1550 : (Jvm.Cond.selects "java/util/LinkedList" ({ cls := "java/util/LinkedList", name := "linkLast", desc := "(Ljava/lang/Object;)V" } : Jvm.MethodName) ({ cls := "java/util/LinkedList", name := "linkLast", desc := "(Ljava/lang/Object;)V" } : Jvm.MethodName)) ∈ lw_all := lw_g (lw_at lw_m6 233 rfl) rfl
theorem q1551 : (Jvm.Cond.code ({ cls := "java/util/LinkedList", name := "linkLast", desc := "(Ljava/lang/Object;)V" } : Jvm.MethodName) prog_67_method_4_code (4 : Nat) (Option.none : Option Jvm.ClassFile.FieldType)) ∈ lw_all := lw_g (lw_at lw_m6 234 rfl) rfl
theorem q2651 : (Jvm.Cond.unhidden "java/util/LinkedList" "getClass" "()Ljava/lang/Class;") ∈ lw_tbl := lw_at lw_m11 134 rfl
theorem q2685 : (Jvm.Cond.instanceMethod ({ cls := "java/util/LinkedList", name := "removeLast", desc := "()Ljava/lang/Object;" } : Jvm.MethodName)) ∈ lw_all := lw_g (lw_at lw_m11 168 rfl) rfl
theorem q2686 : (Jvm.Cond.selects "java/util/LinkedList" ({ cls := "java/util/LinkedList", name := "removeLast", desc := "()Ljava/lang/Object;" } : Jvm.MethodName) ({ cls := "java/util/LinkedList", name := "removeLast", desc := "()Ljava/lang/Object;" } : Jvm.MethodName)) ∈ lw_all := lw_g (lw_at lw_m11 169 rfl) rfl
theorem q2687 : (Jvm.Cond.code ({ cls := "java/util/LinkedList", name := "removeLast", desc := "()Ljava/lang/Object;" } : Jvm.MethodName) prog_67_method_12_code (2 : Nat) (Option.some (Jvm.ClassFile.FieldType.object "java/lang/Object"))) ∈ lw_all := lw_g (lw_at lw_m11 170 rfl) rfl
theorem q2688 : (Jvm.Cond.methodLink "java/util/LinkedList" (50 : Nat) ({ cls := "java/util/LinkedList", name := "unlinkLast", desc := "(Ljava/util/LinkedList$Node;)Ljava/lang/Object;" } : Jvm.MethodName)) ∈ lw_all := lw_g (lw_at lw_m11 171 rfl) rfl
theorem q2689 : (Jvm.Cond.privateMethod ({ cls := "java/util/LinkedList", name := "unlinkLast", desc := "(Ljava/util/LinkedList$Node;)Ljava/lang/Object;" } : Jvm.MethodName)) ∈ lw_tbl := lw_at lw_m11 172 rfl
theorem q2690 : (Jvm.Cond.instanceMethod ({ cls := "java/util/LinkedList", name := "unlinkLast", desc := "(Ljava/util/LinkedList$Node;)Ljava/lang/Object;" } : Jvm.MethodName)) ∈ lw_all := lw_g (lw_at lw_m11 173 rfl) rfl
theorem q2691 : (Jvm.Cond.code ({ cls := "java/util/LinkedList", name := "unlinkLast", desc := "(Ljava/util/LinkedList$Node;)Ljava/lang/Object;" } : Jvm.MethodName) prog_67_method_7_code (4 : Nat) (Option.some (Jvm.ClassFile.FieldType.object "java/lang/Object"))) ∈ lw_all := lw_g (lw_at lw_m11 174 rfl) rfl
theorem q3315 : (Jvm.Cond.castable "java/util/LinkedList" "java/lang/Object") ∈ lw_tbl := lw_at lw_m14 78 rfl
theorem in_J3 : ∀ w ∈ wsJ30, w ∈ lw_all := lw_in wsJ30 [262, 256, 258, 260] (by decide +kernel) (by decide +kernel)

/-! java/util/ArrayDeque -/
set_option maxRecDepth 100000
def RJ4 : String := "java/util/ArrayDeque"
def TJ4 : u_T := fun k => match k with
  | 0 => ("java/util/ArrayDeque", "elements", "[Ljava/lang/Object;", false)
  | 1 => ("java/util/ArrayDeque", "head", "I", false)
  | _ => ("java/util/ArrayDeque", "tail", "I", false)
def tyJ4 : Nat → FieldType := fun k => match k with
  | 0 => .array (.object "java/lang/Object")
  | 1 => .int
  | _ => .int
abbrev wsJ40 : List Cond := u_ws RJ4 TJ4 3
theorem nmJ4 : ∀ a, a < 3 → ∀ b, b < 3 → a ≠ b → (TJ4 a).2.1 ≠ (TJ4 b).2.1 := by decide +kernel
theorem tyJ4_ok : ∀ k, k < 3 → parseFieldDescriptor (TJ4 k).2.2.1 = some (tyJ4 k) := by decide +kernel
abbrev cJ4_init : ByteArray := prog_59_method_3_code
def yJ4_init : MethodName := ⟨RJ4, "<init>", "()V"⟩
def dkwJ4_init_0 : List UInt8 := [42, 183, 0, 42, 42, 16, 17, 189, 0, 47, 181, 0, 3, 177]
abbrev dktJ4_init_0 : List UInt8 := dkwJ4_init_0 ++ []
theorem dksJ4_init_0 : cJ4_init.data.toList.drop 0 = dktJ4_init_0 := by decide +kernel
theorem dJ4_init_0 : decode cJ4_init 0 = .ok (.aload_n 0, 1) := dk_42 (dk_at dksJ4_init_0 0 rfl rfl)
theorem dJ4_init_1 : decode cJ4_init 1 = .ok (.invokespecial 42, 3) := dk_183 0 42 (dk_at dksJ4_init_0 1 rfl rfl)
theorem dJ4_init_4 : decode cJ4_init 4 = .ok (.aload_n 0, 1) := dk_42 (dk_at dksJ4_init_0 4 rfl rfl)
theorem dJ4_init_5 : decode cJ4_init 5 = .ok (.bipush 17, 2) := dk_16 17 (dk_at dksJ4_init_0 5 rfl rfl)
theorem dJ4_init_7 : decode cJ4_init 7 = .ok (.anewarray 47, 3) := dk_189 0 47 (dk_at dksJ4_init_0 7 rfl rfl)
theorem dJ4_init_10 : decode cJ4_init 10 = .ok (.putfield 3, 3) := dk_181 0 3 (dk_at dksJ4_init_0 10 rfl rfl)
theorem dJ4_init_13 : decode cJ4_init 13 = .ok (.return_, 1) := dk_177 (dk_at dksJ4_init_0 13 rfl rfl)
abbrev cJ4_size : ByteArray := prog_59_method_37_code
def yJ4_size : MethodName := ⟨RJ4, "size", "()I"⟩
def dkwJ4_size_0 : List UInt8 := [42, 180, 0, 20, 42, 180, 0, 24, 42, 180, 0, 3, 190, 184, 0, 127, 172]
abbrev dktJ4_size_0 : List UInt8 := dkwJ4_size_0 ++ []
theorem dksJ4_size_0 : cJ4_size.data.toList.drop 0 = dktJ4_size_0 := by decide +kernel
theorem dJ4_size_0 : decode cJ4_size 0 = .ok (.aload_n 0, 1) := dk_42 (dk_at dksJ4_size_0 0 rfl rfl)
theorem dJ4_size_1 : decode cJ4_size 1 = .ok (.getfield 20, 3) := dk_180 0 20 (dk_at dksJ4_size_0 1 rfl rfl)
theorem dJ4_size_4 : decode cJ4_size 4 = .ok (.aload_n 0, 1) := dk_42 (dk_at dksJ4_size_0 4 rfl rfl)
theorem dJ4_size_5 : decode cJ4_size 5 = .ok (.getfield 24, 3) := dk_180 0 24 (dk_at dksJ4_size_0 5 rfl rfl)
theorem dJ4_size_8 : decode cJ4_size 8 = .ok (.aload_n 0, 1) := dk_42 (dk_at dksJ4_size_0 8 rfl rfl)
theorem dJ4_size_9 : decode cJ4_size 9 = .ok (.getfield 3, 3) := dk_180 0 3 (dk_at dksJ4_size_0 9 rfl rfl)
theorem dJ4_size_12 : decode cJ4_size 12 = .ok (.arraylength, 1) := dk_190 (dk_at dksJ4_size_0 12 rfl rfl)
theorem dJ4_size_13 : decode cJ4_size 13 = .ok (.invokestatic 127, 3) := dk_184 0 127 (dk_at dksJ4_size_0 13 rfl rfl)
theorem dJ4_size_16 : decode cJ4_size 16 = .ok (.ireturn, 1) := dk_172 (dk_at dksJ4_size_0 16 rfl rfl)
abbrev cJ4_sub : ByteArray := prog_59_method_9_code
def yJ4_sub : MethodName := ⟨RJ4, "sub", "(III)I"⟩
def dkwJ4_sub_0 : List UInt8 := [26, 27, 100, 89, 59, 156, 0, 7, 26, 28, 96, 59, 26, 172]
abbrev dktJ4_sub_0 : List UInt8 := dkwJ4_sub_0 ++ []
theorem dksJ4_sub_0 : cJ4_sub.data.toList.drop 0 = dktJ4_sub_0 := by decide +kernel
theorem dJ4_sub_0 : decode cJ4_sub 0 = .ok (.iload_n 0, 1) := dk_26 (dk_at dksJ4_sub_0 0 rfl rfl)
theorem dJ4_sub_1 : decode cJ4_sub 1 = .ok (.iload_n 1, 1) := dk_27 (dk_at dksJ4_sub_0 1 rfl rfl)
theorem dJ4_sub_2 : decode cJ4_sub 2 = .ok (.isub, 1) := dk_100 (dk_at dksJ4_sub_0 2 rfl rfl)
theorem dJ4_sub_3 : decode cJ4_sub 3 = .ok (.dup, 1) := dk_89 (dk_at dksJ4_sub_0 3 rfl rfl)
theorem dJ4_sub_4 : decode cJ4_sub 4 = .ok (.istore_n 0, 1) := dk_59 (dk_at dksJ4_sub_0 4 rfl rfl)
theorem dJ4_sub_5 : decode cJ4_sub 5 = .ok (.ifCond .ge 7, 3) := dk_156 0 7 (dk_at dksJ4_sub_0 5 rfl rfl)
theorem dJ4_sub_8 : decode cJ4_sub 8 = .ok (.iload_n 0, 1) := dk_26 (dk_at dksJ4_sub_0 8 rfl rfl)
theorem dJ4_sub_9 : decode cJ4_sub 9 = .ok (.iload_n 2, 1) := dk_28 (dk_at dksJ4_sub_0 9 rfl rfl)
theorem dJ4_sub_10 : decode cJ4_sub 10 = .ok (.iadd, 1) := dk_96 (dk_at dksJ4_sub_0 10 rfl rfl)
theorem dJ4_sub_11 : decode cJ4_sub 11 = .ok (.istore_n 0, 1) := dk_59 (dk_at dksJ4_sub_0 11 rfl rfl)
theorem dJ4_sub_12 : decode cJ4_sub 12 = .ok (.iload_n 0, 1) := dk_26 (dk_at dksJ4_sub_0 12 rfl rfl)
theorem dJ4_sub_13 : decode cJ4_sub 13 = .ok (.ireturn, 1) := dk_172 (dk_at dksJ4_sub_0 13 rfl rfl)
abbrev cJ4_toArray : ByteArray := prog_59_method_55_code
def yJ4_toArray : MethodName := ⟨RJ4, "toArray", "()[Ljava/lang/Object;"⟩
def dkwJ4_toArray_0 : List UInt8 := [42, 18, 188, 182, 0, 189, 176]
abbrev dktJ4_toArray_0 : List UInt8 := dkwJ4_toArray_0 ++ []
theorem dksJ4_toArray_0 : cJ4_toArray.data.toList.drop 0 = dktJ4_toArray_0 := by decide +kernel
theorem dJ4_toArray_0 : decode cJ4_toArray 0 = .ok (.aload_n 0, 1) := dk_42 (dk_at dksJ4_toArray_0 0 rfl rfl)
theorem dJ4_toArray_1 : decode cJ4_toArray 1 = .ok (.ldc 188, 2) := dk_18 188 (dk_at dksJ4_toArray_0 1 rfl rfl)
theorem dJ4_toArray_3 : decode cJ4_toArray 3 = .ok (.invokevirtual 189, 3) := dk_182 0 189 (dk_at dksJ4_toArray_0 3 rfl rfl)
theorem dJ4_toArray_6 : decode cJ4_toArray 6 = .ok (.areturn, 1) := dk_176 (dk_at dksJ4_toArray_0 6 rfl rfl)
abbrev cJ4_toArray_2 : ByteArray := prog_59_method_56_code
def yJ4_toArray_2 : MethodName := ⟨RJ4, "toArray", "(Ljava/lang/Class;)[Ljava/lang/Object;"⟩
def dkwJ4_toArray_2_4 : List UInt8 := [21, 5, 184, 0, 27, 45, 176]
abbrev dktJ4_toArray_2_4 : List UInt8 := dkwJ4_toArray_2_4 ++ []
def dkwJ4_toArray_2_3 : List UInt8 := [44, 190, 21, 4, 100, 184, 0, 27, 21, 6, 21, 5, 159, 0, 16, 44, 3, 45, 44, 190, 21, 4, 100]
abbrev dktJ4_toArray_2_3 : List UInt8 := dkwJ4_toArray_2_3 ++ dktJ4_toArray_2_4
def dkwJ4_toArray_2_2 : List UInt8 := [184, 0, 193, 78, 167, 0, 28, 44, 3, 21, 6, 21, 4, 100, 43, 184, 0, 193, 78, 44, 21, 4, 45, 3]
abbrev dktJ4_toArray_2_2 : List UInt8 := dkwJ4_toArray_2_2 ++ dktJ4_toArray_2_3
def dkwJ4_toArray_2_1 : List UInt8 := [163, 0, 7, 3, 167, 0, 5, 44, 190, 96, 89, 54, 6, 155, 0, 16, 44, 21, 4, 21, 6, 43]
abbrev dktJ4_toArray_2_1 : List UInt8 := dkwJ4_toArray_2_1 ++ dktJ4_toArray_2_2
def dkwJ4_toArray_2_0 : List UInt8 := [42, 180, 0, 3, 77, 42, 180, 0, 24, 54, 4, 42, 180, 0, 20, 54, 5, 21, 5, 21, 4, 21, 5]
abbrev dktJ4_toArray_2_0 : List UInt8 := dkwJ4_toArray_2_0 ++ dktJ4_toArray_2_1
theorem dksJ4_toArray_2_0 : cJ4_toArray_2.data.toList.drop 0 = dktJ4_toArray_2_0 := by decide +kernel
theorem dksJ4_toArray_2_1 : cJ4_toArray_2.data.toList.drop 23 = dktJ4_toArray_2_1 := dk_seg dksJ4_toArray_2_0 23 rfl rfl
theorem dksJ4_toArray_2_2 : cJ4_toArray_2.data.toList.drop 45 = dktJ4_toArray_2_2 := dk_seg dksJ4_toArray_2_1 22 rfl rfl
theorem dksJ4_toArray_2_3 : cJ4_toArray_2.data.toList.drop 69 = dktJ4_toArray_2_3 := dk_seg dksJ4_toArray_2_2 24 rfl rfl
theorem dksJ4_toArray_2_4 : cJ4_toArray_2.data.toList.drop 92 = dktJ4_toArray_2_4 := dk_seg dksJ4_toArray_2_3 23 rfl rfl
theorem dJ4_toArray_2_0 : decode cJ4_toArray_2 0 = .ok (.aload_n 0, 1) := dk_42 (dk_at dksJ4_toArray_2_0 0 rfl rfl)
theorem dJ4_toArray_2_1 : decode cJ4_toArray_2 1 = .ok (.getfield 3, 3) := dk_180 0 3 (dk_at dksJ4_toArray_2_0 1 rfl rfl)
theorem dJ4_toArray_2_4 : decode cJ4_toArray_2 4 = .ok (.astore_n 2, 1) := dk_77 (dk_at dksJ4_toArray_2_0 4 rfl rfl)
theorem dJ4_toArray_2_5 : decode cJ4_toArray_2 5 = .ok (.aload_n 0, 1) := dk_42 (dk_at dksJ4_toArray_2_0 5 rfl rfl)
theorem dJ4_toArray_2_6 : decode cJ4_toArray_2 6 = .ok (.getfield 24, 3) := dk_180 0 24 (dk_at dksJ4_toArray_2_0 6 rfl rfl)
theorem dJ4_toArray_2_9 : decode cJ4_toArray_2 9 = .ok (.istore 4, 2) := dk_54 4 (dk_at dksJ4_toArray_2_0 9 rfl rfl)
theorem dJ4_toArray_2_11 : decode cJ4_toArray_2 11 = .ok (.aload_n 0, 1) := dk_42 (dk_at dksJ4_toArray_2_0 11 rfl rfl)
theorem dJ4_toArray_2_12 : decode cJ4_toArray_2 12 = .ok (.getfield 20, 3) := dk_180 0 20 (dk_at dksJ4_toArray_2_0 12 rfl rfl)
theorem dJ4_toArray_2_15 : decode cJ4_toArray_2 15 = .ok (.istore 5, 2) := dk_54 5 (dk_at dksJ4_toArray_2_0 15 rfl rfl)
theorem dJ4_toArray_2_17 : decode cJ4_toArray_2 17 = .ok (.iload 5, 2) := dk_21 5 (dk_at dksJ4_toArray_2_0 17 rfl rfl)
theorem dJ4_toArray_2_19 : decode cJ4_toArray_2 19 = .ok (.iload 4, 2) := dk_21 4 (dk_at dksJ4_toArray_2_0 19 rfl rfl)
theorem dJ4_toArray_2_21 : decode cJ4_toArray_2 21 = .ok (.iload 5, 2) := dk_21 5 (dk_at dksJ4_toArray_2_0 21 rfl rfl)
theorem dJ4_toArray_2_23 : decode cJ4_toArray_2 23 = .ok (.if_icmp .gt 7, 3) := dk_163 0 7 (dk_at dksJ4_toArray_2_1 0 rfl rfl)
theorem dJ4_toArray_2_26 : decode cJ4_toArray_2 26 = .ok (.iconst 0, 1) := dk_3 (dk_at dksJ4_toArray_2_1 3 rfl rfl)
theorem dJ4_toArray_2_27 : decode cJ4_toArray_2 27 = .ok (.goto 5, 3) := dk_167 0 5 (dk_at dksJ4_toArray_2_1 4 rfl rfl)
theorem dJ4_toArray_2_30 : decode cJ4_toArray_2 30 = .ok (.aload_n 2, 1) := dk_44 (dk_at dksJ4_toArray_2_1 7 rfl rfl)
theorem dJ4_toArray_2_31 : decode cJ4_toArray_2 31 = .ok (.arraylength, 1) := dk_190 (dk_at dksJ4_toArray_2_1 8 rfl rfl)
theorem dJ4_toArray_2_32 : decode cJ4_toArray_2 32 = .ok (.iadd, 1) := dk_96 (dk_at dksJ4_toArray_2_1 9 rfl rfl)
theorem dJ4_toArray_2_33 : decode cJ4_toArray_2 33 = .ok (.dup, 1) := dk_89 (dk_at dksJ4_toArray_2_1 10 rfl rfl)
theorem dJ4_toArray_2_34 : decode cJ4_toArray_2 34 = .ok (.istore 6, 2) := dk_54 6 (dk_at dksJ4_toArray_2_1 11 rfl rfl)
theorem dJ4_toArray_2_36 : decode cJ4_toArray_2 36 = .ok (.ifCond .lt 16, 3) := dk_155 0 16 (dk_at dksJ4_toArray_2_1 13 rfl rfl)
theorem dJ4_toArray_2_39 : decode cJ4_toArray_2 39 = .ok (.aload_n 2, 1) := dk_44 (dk_at dksJ4_toArray_2_1 16 rfl rfl)
theorem dJ4_toArray_2_40 : decode cJ4_toArray_2 40 = .ok (.iload 4, 2) := dk_21 4 (dk_at dksJ4_toArray_2_1 17 rfl rfl)
theorem dJ4_toArray_2_42 : decode cJ4_toArray_2 42 = .ok (.iload 6, 2) := dk_21 6 (dk_at dksJ4_toArray_2_1 19 rfl rfl)
theorem dJ4_toArray_2_44 : decode cJ4_toArray_2 44 = .ok (.aload_n 1, 1) := dk_43 (dk_at dksJ4_toArray_2_1 21 rfl rfl)
theorem dJ4_toArray_2_45 : decode cJ4_toArray_2 45 = .ok (.invokestatic 193, 3) := dk_184 0 193 (dk_at dksJ4_toArray_2_2 0 rfl rfl)
theorem dJ4_toArray_2_48 : decode cJ4_toArray_2 48 = .ok (.astore_n 3, 1) := dk_78 (dk_at dksJ4_toArray_2_2 3 rfl rfl)
theorem dJ4_toArray_2_49 : decode cJ4_toArray_2 49 = .ok (.goto 28, 3) := dk_167 0 28 (dk_at dksJ4_toArray_2_2 4 rfl rfl)
theorem dJ4_toArray_2_52 : decode cJ4_toArray_2 52 = .ok (.aload_n 2, 1) := dk_44 (dk_at dksJ4_toArray_2_2 7 rfl rfl)
theorem dJ4_toArray_2_53 : decode cJ4_toArray_2 53 = .ok (.iconst 0, 1) := dk_3 (dk_at dksJ4_toArray_2_2 8 rfl rfl)
theorem dJ4_toArray_2_54 : decode cJ4_toArray_2 54 = .ok (.iload 6, 2) := dk_21 6 (dk_at dksJ4_toArray_2_2 9 rfl rfl)
theorem dJ4_toArray_2_56 : decode cJ4_toArray_2 56 = .ok (.iload 4, 2) := dk_21 4 (dk_at dksJ4_toArray_2_2 11 rfl rfl)
theorem dJ4_toArray_2_58 : decode cJ4_toArray_2 58 = .ok (.isub, 1) := dk_100 (dk_at dksJ4_toArray_2_2 13 rfl rfl)
theorem dJ4_toArray_2_59 : decode cJ4_toArray_2 59 = .ok (.aload_n 1, 1) := dk_43 (dk_at dksJ4_toArray_2_2 14 rfl rfl)
theorem dJ4_toArray_2_60 : decode cJ4_toArray_2 60 = .ok (.invokestatic 193, 3) := dk_184 0 193 (dk_at dksJ4_toArray_2_2 15 rfl rfl)
theorem dJ4_toArray_2_63 : decode cJ4_toArray_2 63 = .ok (.astore_n 3, 1) := dk_78 (dk_at dksJ4_toArray_2_2 18 rfl rfl)
theorem dJ4_toArray_2_64 : decode cJ4_toArray_2 64 = .ok (.aload_n 2, 1) := dk_44 (dk_at dksJ4_toArray_2_2 19 rfl rfl)
theorem dJ4_toArray_2_65 : decode cJ4_toArray_2 65 = .ok (.iload 4, 2) := dk_21 4 (dk_at dksJ4_toArray_2_2 20 rfl rfl)
theorem dJ4_toArray_2_67 : decode cJ4_toArray_2 67 = .ok (.aload_n 3, 1) := dk_45 (dk_at dksJ4_toArray_2_2 22 rfl rfl)
theorem dJ4_toArray_2_68 : decode cJ4_toArray_2 68 = .ok (.iconst 0, 1) := dk_3 (dk_at dksJ4_toArray_2_2 23 rfl rfl)
theorem dJ4_toArray_2_69 : decode cJ4_toArray_2 69 = .ok (.aload_n 2, 1) := dk_44 (dk_at dksJ4_toArray_2_3 0 rfl rfl)
theorem dJ4_toArray_2_70 : decode cJ4_toArray_2 70 = .ok (.arraylength, 1) := dk_190 (dk_at dksJ4_toArray_2_3 1 rfl rfl)
theorem dJ4_toArray_2_71 : decode cJ4_toArray_2 71 = .ok (.iload 4, 2) := dk_21 4 (dk_at dksJ4_toArray_2_3 2 rfl rfl)
theorem dJ4_toArray_2_73 : decode cJ4_toArray_2 73 = .ok (.isub, 1) := dk_100 (dk_at dksJ4_toArray_2_3 4 rfl rfl)
theorem dJ4_toArray_2_74 : decode cJ4_toArray_2 74 = .ok (.invokestatic 27, 3) := dk_184 0 27 (dk_at dksJ4_toArray_2_3 5 rfl rfl)
theorem dJ4_toArray_2_77 : decode cJ4_toArray_2 77 = .ok (.iload 6, 2) := dk_21 6 (dk_at dksJ4_toArray_2_3 8 rfl rfl)
theorem dJ4_toArray_2_79 : decode cJ4_toArray_2 79 = .ok (.iload 5, 2) := dk_21 5 (dk_at dksJ4_toArray_2_3 10 rfl rfl)
theorem dJ4_toArray_2_81 : decode cJ4_toArray_2 81 = .ok (.if_icmp .eq 16, 3) := dk_159 0 16 (dk_at dksJ4_toArray_2_3 12 rfl rfl)
theorem dJ4_toArray_2_84 : decode cJ4_toArray_2 84 = .ok (.aload_n 2, 1) := dk_44 (dk_at dksJ4_toArray_2_3 15 rfl rfl)
theorem dJ4_toArray_2_85 : decode cJ4_toArray_2 85 = .ok (.iconst 0, 1) := dk_3 (dk_at dksJ4_toArray_2_3 16 rfl rfl)
theorem dJ4_toArray_2_86 : decode cJ4_toArray_2 86 = .ok (.aload_n 3, 1) := dk_45 (dk_at dksJ4_toArray_2_3 17 rfl rfl)
theorem dJ4_toArray_2_87 : decode cJ4_toArray_2 87 = .ok (.aload_n 2, 1) := dk_44 (dk_at dksJ4_toArray_2_3 18 rfl rfl)
theorem dJ4_toArray_2_88 : decode cJ4_toArray_2 88 = .ok (.arraylength, 1) := dk_190 (dk_at dksJ4_toArray_2_3 19 rfl rfl)
theorem dJ4_toArray_2_89 : decode cJ4_toArray_2 89 = .ok (.iload 4, 2) := dk_21 4 (dk_at dksJ4_toArray_2_3 20 rfl rfl)
theorem dJ4_toArray_2_91 : decode cJ4_toArray_2 91 = .ok (.isub, 1) := dk_100 (dk_at dksJ4_toArray_2_3 22 rfl rfl)
theorem dJ4_toArray_2_92 : decode cJ4_toArray_2 92 = .ok (.iload 5, 2) := dk_21 5 (dk_at dksJ4_toArray_2_4 0 rfl rfl)
theorem dJ4_toArray_2_94 : decode cJ4_toArray_2 94 = .ok (.invokestatic 27, 3) := dk_184 0 27 (dk_at dksJ4_toArray_2_4 2 rfl rfl)
theorem dJ4_toArray_2_97 : decode cJ4_toArray_2 97 = .ok (.aload_n 3, 1) := dk_45 (dk_at dksJ4_toArray_2_4 5 rfl rfl)
theorem dJ4_toArray_2_98 : decode cJ4_toArray_2 98 = .ok (.areturn, 1) := dk_176 (dk_at dksJ4_toArray_2_4 6 rfl rfl)
abbrev cJ4_clear : ByteArray := prog_59_method_53_code
def yJ4_clear : MethodName := ⟨RJ4, "clear", "()V"⟩
def dkwJ4_clear_1 : List UInt8 := [181, 0, 24, 177]
abbrev dktJ4_clear_1 : List UInt8 := dkwJ4_clear_1 ++ []
def dkwJ4_clear_0 : List UInt8 := [42, 180, 0, 3, 42, 180, 0, 24, 42, 180, 0, 20, 184, 0, 181, 42, 42, 3, 90, 181, 0, 20]
abbrev dktJ4_clear_0 : List UInt8 := dkwJ4_clear_0 ++ dktJ4_clear_1
theorem dksJ4_clear_0 : cJ4_clear.data.toList.drop 0 = dktJ4_clear_0 := by decide +kernel
theorem dksJ4_clear_1 : cJ4_clear.data.toList.drop 22 = dktJ4_clear_1 := dk_seg dksJ4_clear_0 22 rfl rfl
theorem dJ4_clear_0 : decode cJ4_clear 0 = .ok (.aload_n 0, 1) := dk_42 (dk_at dksJ4_clear_0 0 rfl rfl)
theorem dJ4_clear_1 : decode cJ4_clear 1 = .ok (.getfield 3, 3) := dk_180 0 3 (dk_at dksJ4_clear_0 1 rfl rfl)
theorem dJ4_clear_4 : decode cJ4_clear 4 = .ok (.aload_n 0, 1) := dk_42 (dk_at dksJ4_clear_0 4 rfl rfl)
theorem dJ4_clear_5 : decode cJ4_clear 5 = .ok (.getfield 24, 3) := dk_180 0 24 (dk_at dksJ4_clear_0 5 rfl rfl)
theorem dJ4_clear_8 : decode cJ4_clear 8 = .ok (.aload_n 0, 1) := dk_42 (dk_at dksJ4_clear_0 8 rfl rfl)
theorem dJ4_clear_9 : decode cJ4_clear 9 = .ok (.getfield 20, 3) := dk_180 0 20 (dk_at dksJ4_clear_0 9 rfl rfl)
theorem dJ4_clear_12 : decode cJ4_clear 12 = .ok (.invokestatic 181, 3) := dk_184 0 181 (dk_at dksJ4_clear_0 12 rfl rfl)
theorem dJ4_clear_15 : decode cJ4_clear 15 = .ok (.aload_n 0, 1) := dk_42 (dk_at dksJ4_clear_0 15 rfl rfl)
theorem dJ4_clear_16 : decode cJ4_clear 16 = .ok (.aload_n 0, 1) := dk_42 (dk_at dksJ4_clear_0 16 rfl rfl)
theorem dJ4_clear_17 : decode cJ4_clear 17 = .ok (.iconst 0, 1) := dk_3 (dk_at dksJ4_clear_0 17 rfl rfl)
theorem dJ4_clear_18 : decode cJ4_clear 18 = .ok (.dup_x1, 1) := dk_90 (dk_at dksJ4_clear_0 18 rfl rfl)
theorem dJ4_clear_19 : decode cJ4_clear 19 = .ok (.putfield 20, 3) := dk_181 0 20 (dk_at dksJ4_clear_0 19 rfl rfl)
theorem dJ4_clear_22 : decode cJ4_clear 22 = .ok (.putfield 24, 3) := dk_181 0 24 (dk_at dksJ4_clear_1 0 rfl rfl)
theorem dJ4_clear_25 : decode cJ4_clear 25 = .ok (.return_, 1) := dk_177 (dk_at dksJ4_clear_1 3 rfl rfl)
abbrev cJ4_circularClear : ByteArray := prog_59_method_54_code
def yJ4_circularClear : MethodName := ⟨RJ4, "circularClear", "([Ljava/lang/Object;II)V"⟩
def dkwJ4_circularClear_1 : List UInt8 := [167, 255, 244, 29, 28, 160, 0, 6, 167, 0, 10, 3, 60, 28, 62, 167, 255, 229, 177]
abbrev dktJ4_circularClear_1 : List UInt8 := dkwJ4_circularClear_1 ++ []
def dkwJ4_circularClear_0 : List UInt8 := [27, 28, 163, 0, 7, 28, 167, 0, 5, 42, 190, 62, 27, 29, 162, 0, 13, 42, 27, 1, 83, 132, 1, 1]
abbrev dktJ4_circularClear_0 : List UInt8 := dkwJ4_circularClear_0 ++ dktJ4_circularClear_1
theorem dksJ4_circularClear_0 : cJ4_circularClear.data.toList.drop 0 = dktJ4_circularClear_0 := by decide +kernel
theorem dksJ4_circularClear_1 : cJ4_circularClear.data.toList.drop 24 = dktJ4_circularClear_1 := dk_seg dksJ4_circularClear_0 24 rfl rfl
theorem dJ4_circularClear_0 : decode cJ4_circularClear 0 = .ok (.iload_n 1, 1) := dk_27 (dk_at dksJ4_circularClear_0 0 rfl rfl)
theorem dJ4_circularClear_1 : decode cJ4_circularClear 1 = .ok (.iload_n 2, 1) := dk_28 (dk_at dksJ4_circularClear_0 1 rfl rfl)
theorem dJ4_circularClear_2 : decode cJ4_circularClear 2 = .ok (.if_icmp .gt 7, 3) := dk_163 0 7 (dk_at dksJ4_circularClear_0 2 rfl rfl)
theorem dJ4_circularClear_5 : decode cJ4_circularClear 5 = .ok (.iload_n 2, 1) := dk_28 (dk_at dksJ4_circularClear_0 5 rfl rfl)
theorem dJ4_circularClear_6 : decode cJ4_circularClear 6 = .ok (.goto 5, 3) := dk_167 0 5 (dk_at dksJ4_circularClear_0 6 rfl rfl)
theorem dJ4_circularClear_9 : decode cJ4_circularClear 9 = .ok (.aload_n 0, 1) := dk_42 (dk_at dksJ4_circularClear_0 9 rfl rfl)
theorem dJ4_circularClear_10 : decode cJ4_circularClear 10 = .ok (.arraylength, 1) := dk_190 (dk_at dksJ4_circularClear_0 10 rfl rfl)
theorem dJ4_circularClear_11 : decode cJ4_circularClear 11 = .ok (.istore_n 3, 1) := dk_62 (dk_at dksJ4_circularClear_0 11 rfl rfl)
theorem dJ4_circularClear_12 : decode cJ4_circularClear 12 = .ok (.iload_n 1, 1) := dk_27 (dk_at dksJ4_circularClear_0 12 rfl rfl)
theorem dJ4_circularClear_13 : decode cJ4_circularClear 13 = .ok (.iload_n 3, 1) := dk_29 (dk_at dksJ4_circularClear_0 13 rfl rfl)
theorem dJ4_circularClear_14 : decode cJ4_circularClear 14 = .ok (.if_icmp .ge 13, 3) := dk_162 0 13 (dk_at dksJ4_circularClear_0 14 rfl rfl)
theorem dJ4_circularClear_17 : decode cJ4_circularClear 17 = .ok (.aload_n 0, 1) := dk_42 (dk_at dksJ4_circularClear_0 17 rfl rfl)
theorem dJ4_circularClear_18 : decode cJ4_circularClear 18 = .ok (.iload_n 1, 1) := dk_27 (dk_at dksJ4_circularClear_0 18 rfl rfl)
theorem dJ4_circularClear_19 : decode cJ4_circularClear 19 = .ok (.aconst_null, 1) := dk_1 (dk_at dksJ4_circularClear_0 19 rfl rfl)
theorem dJ4_circularClear_20 : decode cJ4_circularClear 20 = .ok (.aastore, 1) := dk_83 (dk_at dksJ4_circularClear_0 20 rfl rfl)
theorem dJ4_circularClear_21 : decode cJ4_circularClear 21 = .ok (.iinc 1 1, 3) := dk_132 1 1 (dk_at dksJ4_circularClear_0 21 rfl rfl)
theorem dJ4_circularClear_24 : decode cJ4_circularClear 24 = .ok (.goto (-12), 3) := dk_167 255 244 (dk_at dksJ4_circularClear_1 0 rfl rfl)
theorem dJ4_circularClear_27 : decode cJ4_circularClear 27 = .ok (.iload_n 3, 1) := dk_29 (dk_at dksJ4_circularClear_1 3 rfl rfl)
theorem dJ4_circularClear_28 : decode cJ4_circularClear 28 = .ok (.iload_n 2, 1) := dk_28 (dk_at dksJ4_circularClear_1 4 rfl rfl)
theorem dJ4_circularClear_29 : decode cJ4_circularClear 29 = .ok (.if_icmp .ne 6, 3) := dk_160 0 6 (dk_at dksJ4_circularClear_1 5 rfl rfl)
theorem dJ4_circularClear_32 : decode cJ4_circularClear 32 = .ok (.goto 10, 3) := dk_167 0 10 (dk_at dksJ4_circularClear_1 8 rfl rfl)
theorem dJ4_circularClear_35 : decode cJ4_circularClear 35 = .ok (.iconst 0, 1) := dk_3 (dk_at dksJ4_circularClear_1 11 rfl rfl)
theorem dJ4_circularClear_36 : decode cJ4_circularClear 36 = .ok (.istore_n 1, 1) := dk_60 (dk_at dksJ4_circularClear_1 12 rfl rfl)
theorem dJ4_circularClear_37 : decode cJ4_circularClear 37 = .ok (.iload_n 2, 1) := dk_28 (dk_at dksJ4_circularClear_1 13 rfl rfl)
theorem dJ4_circularClear_38 : decode cJ4_circularClear 38 = .ok (.istore_n 3, 1) := dk_62 (dk_at dksJ4_circularClear_1 14 rfl rfl)
theorem dJ4_circularClear_39 : decode cJ4_circularClear 39 = .ok (.goto (-27), 3) := dk_167 255 229 (dk_at dksJ4_circularClear_1 15 rfl rfl)
theorem dJ4_circularClear_42 : decode cJ4_circularClear 42 = .ok (.return_, 1) := dk_177 (dk_at dksJ4_circularClear_1 18 rfl rfl)
abbrev cJ4_removeFirst : ByteArray := prog_59_method_18_code
def yJ4_removeFirst : MethodName := ⟨RJ4, "removeFirst", "()Ljava/lang/Object;"⟩
def dkwJ4_removeFirst_0 : List UInt8 := [42, 182, 0, 93, 76, 43, 199, 0, 11, 187, 0, 97, 89, 183, 0, 99, 191, 43, 176]
abbrev dktJ4_removeFirst_0 : List UInt8 := dkwJ4_removeFirst_0 ++ []
theorem dksJ4_removeFirst_0 : cJ4_removeFirst.data.toList.drop 0 = dktJ4_removeFirst_0 := by decide +kernel
theorem dJ4_removeFirst_0 : decode cJ4_removeFirst 0 = .ok (.aload_n 0, 1) := dk_42 (dk_at dksJ4_removeFirst_0 0 rfl rfl)
theorem dJ4_removeFirst_1 : decode cJ4_removeFirst 1 = .ok (.invokevirtual 93, 3) := dk_182 0 93 (dk_at dksJ4_removeFirst_0 1 rfl rfl)
theorem dJ4_removeFirst_4 : decode cJ4_removeFirst 4 = .ok (.astore_n 1, 1) := dk_76 (dk_at dksJ4_removeFirst_0 4 rfl rfl)
theorem dJ4_removeFirst_5 : decode cJ4_removeFirst 5 = .ok (.aload_n 1, 1) := dk_43 (dk_at dksJ4_removeFirst_0 5 rfl rfl)
theorem dJ4_removeFirst_6 : decode cJ4_removeFirst 6 = .ok (.ifnonnull 11, 3) := dk_199 0 11 (dk_at dksJ4_removeFirst_0 6 rfl rfl)
theorem dJ4_removeFirst_9 : decode cJ4_removeFirst 9 = .ok (.new 97, 3) := dk_187 0 97 (dk_at dksJ4_removeFirst_0 9 rfl rfl)
theorem dJ4_removeFirst_12 : decode cJ4_removeFirst 12 = .ok (.dup, 1) := dk_89 (dk_at dksJ4_removeFirst_0 12 rfl rfl)
theorem dJ4_removeFirst_13 : decode cJ4_removeFirst 13 = .ok (.invokespecial 99, 3) := dk_183 0 99 (dk_at dksJ4_removeFirst_0 13 rfl rfl)
theorem dJ4_removeFirst_16 : decode cJ4_removeFirst 16 = .ok (.athrow, 1) := dk_191 (dk_at dksJ4_removeFirst_0 16 rfl rfl)
theorem dJ4_removeFirst_17 : decode cJ4_removeFirst 17 = .ok (.aload_n 1, 1) := dk_43 (dk_at dksJ4_removeFirst_0 17 rfl rfl)
theorem dJ4_removeFirst_18 : decode cJ4_removeFirst 18 = .ok (.areturn, 1) := dk_176 (dk_at dksJ4_removeFirst_0 18 rfl rfl)
abbrev cJ4_pollFirst : ByteArray := prog_59_method_20_code
def yJ4_pollFirst : MethodName := ⟨RJ4, "pollFirst", "()Ljava/lang/Object;"⟩
def dkwJ4_pollFirst_1 : List UInt8 := [42, 28, 43, 190, 184, 0, 74, 181, 0, 24, 45, 176]
abbrev dktJ4_pollFirst_1 : List UInt8 := dkwJ4_pollFirst_1 ++ []
def dkwJ4_pollFirst_0 : List UInt8 := [42, 180, 0, 3, 89, 76, 42, 180, 0, 24, 89, 61, 184, 0, 103, 78, 45, 198, 0, 17, 43, 28, 1, 83]
abbrev dktJ4_pollFirst_0 : List UInt8 := dkwJ4_pollFirst_0 ++ dktJ4_pollFirst_1
theorem dksJ4_pollFirst_0 : cJ4_pollFirst.data.toList.drop 0 = dktJ4_pollFirst_0 := by decide +kernel
theorem dksJ4_pollFirst_1 : cJ4_pollFirst.data.toList.drop 24 = dktJ4_pollFirst_1 := dk_seg dksJ4_pollFirst_0 24 rfl rfl
theorem dJ4_pollFirst_0 : decode cJ4_pollFirst 0 = .ok (.aload_n 0, 1) := dk_42 (dk_at dksJ4_pollFirst_0 0 rfl rfl)
theorem dJ4_pollFirst_1 : decode cJ4_pollFirst 1 = .ok (.getfield 3, 3) := dk_180 0 3 (dk_at dksJ4_pollFirst_0 1 rfl rfl)
theorem dJ4_pollFirst_4 : decode cJ4_pollFirst 4 = .ok (.dup, 1) := dk_89 (dk_at dksJ4_pollFirst_0 4 rfl rfl)
theorem dJ4_pollFirst_5 : decode cJ4_pollFirst 5 = .ok (.astore_n 1, 1) := dk_76 (dk_at dksJ4_pollFirst_0 5 rfl rfl)
theorem dJ4_pollFirst_6 : decode cJ4_pollFirst 6 = .ok (.aload_n 0, 1) := dk_42 (dk_at dksJ4_pollFirst_0 6 rfl rfl)
theorem dJ4_pollFirst_7 : decode cJ4_pollFirst 7 = .ok (.getfield 24, 3) := dk_180 0 24 (dk_at dksJ4_pollFirst_0 7 rfl rfl)
theorem dJ4_pollFirst_10 : decode cJ4_pollFirst 10 = .ok (.dup, 1) := dk_89 (dk_at dksJ4_pollFirst_0 10 rfl rfl)
theorem dJ4_pollFirst_11 : decode cJ4_pollFirst 11 = .ok (.istore_n 2, 1) := dk_61 (dk_at dksJ4_pollFirst_0 11 rfl rfl)
theorem dJ4_pollFirst_12 : decode cJ4_pollFirst 12 = .ok (.invokestatic 103, 3) := dk_184 0 103 (dk_at dksJ4_pollFirst_0 12 rfl rfl)
theorem dJ4_pollFirst_15 : decode cJ4_pollFirst 15 = .ok (.astore_n 3, 1) := dk_78 (dk_at dksJ4_pollFirst_0 15 rfl rfl)
theorem dJ4_pollFirst_16 : decode cJ4_pollFirst 16 = .ok (.aload_n 3, 1) := dk_45 (dk_at dksJ4_pollFirst_0 16 rfl rfl)
theorem dJ4_pollFirst_17 : decode cJ4_pollFirst 17 = .ok (.ifnull 17, 3) := dk_198 0 17 (dk_at dksJ4_pollFirst_0 17 rfl rfl)
theorem dJ4_pollFirst_20 : decode cJ4_pollFirst 20 = .ok (.aload_n 1, 1) := dk_43 (dk_at dksJ4_pollFirst_0 20 rfl rfl)
theorem dJ4_pollFirst_21 : decode cJ4_pollFirst 21 = .ok (.iload_n 2, 1) := dk_28 (dk_at dksJ4_pollFirst_0 21 rfl rfl)
theorem dJ4_pollFirst_22 : decode cJ4_pollFirst 22 = .ok (.aconst_null, 1) := dk_1 (dk_at dksJ4_pollFirst_0 22 rfl rfl)
theorem dJ4_pollFirst_23 : decode cJ4_pollFirst 23 = .ok (.aastore, 1) := dk_83 (dk_at dksJ4_pollFirst_0 23 rfl rfl)
theorem dJ4_pollFirst_24 : decode cJ4_pollFirst 24 = .ok (.aload_n 0, 1) := dk_42 (dk_at dksJ4_pollFirst_1 0 rfl rfl)
theorem dJ4_pollFirst_25 : decode cJ4_pollFirst 25 = .ok (.iload_n 2, 1) := dk_28 (dk_at dksJ4_pollFirst_1 1 rfl rfl)
theorem dJ4_pollFirst_26 : decode cJ4_pollFirst 26 = .ok (.aload_n 1, 1) := dk_43 (dk_at dksJ4_pollFirst_1 2 rfl rfl)
theorem dJ4_pollFirst_27 : decode cJ4_pollFirst 27 = .ok (.arraylength, 1) := dk_190 (dk_at dksJ4_pollFirst_1 3 rfl rfl)
theorem dJ4_pollFirst_28 : decode cJ4_pollFirst 28 = .ok (.invokestatic 74, 3) := dk_184 0 74 (dk_at dksJ4_pollFirst_1 4 rfl rfl)
theorem dJ4_pollFirst_31 : decode cJ4_pollFirst 31 = .ok (.putfield 24, 3) := dk_181 0 24 (dk_at dksJ4_pollFirst_1 7 rfl rfl)
theorem dJ4_pollFirst_34 : decode cJ4_pollFirst 34 = .ok (.aload_n 3, 1) := dk_45 (dk_at dksJ4_pollFirst_1 10 rfl rfl)
theorem dJ4_pollFirst_35 : decode cJ4_pollFirst 35 = .ok (.areturn, 1) := dk_176 (dk_at dksJ4_pollFirst_1 11 rfl rfl)
abbrev cJ4_elementAt : ByteArray := prog_59_method_10_code
def yJ4_elementAt : MethodName := ⟨RJ4, "elementAt", "([Ljava/lang/Object;I)Ljava/lang/Object;"⟩
def dkwJ4_elementAt_0 : List UInt8 := [42, 27, 50, 176]
abbrev dktJ4_elementAt_0 : List UInt8 := dkwJ4_elementAt_0 ++ []
theorem dksJ4_elementAt_0 : cJ4_elementAt.data.toList.drop 0 = dktJ4_elementAt_0 := by decide +kernel
theorem dJ4_elementAt_0 : decode cJ4_elementAt 0 = .ok (.aload_n 0, 1) := dk_42 (dk_at dksJ4_elementAt_0 0 rfl rfl)
theorem dJ4_elementAt_1 : decode cJ4_elementAt 1 = .ok (.iload_n 1, 1) := dk_27 (dk_at dksJ4_elementAt_0 1 rfl rfl)
theorem dJ4_elementAt_2 : decode cJ4_elementAt 2 = .ok (.aaload, 1) := dk_50 (dk_at dksJ4_elementAt_0 2 rfl rfl)
theorem dJ4_elementAt_3 : decode cJ4_elementAt 3 = .ok (.areturn, 1) := dk_176 (dk_at dksJ4_elementAt_0 3 rfl rfl)
abbrev cJ4_inc : ByteArray := prog_59_method_6_code
def yJ4_inc : MethodName := ⟨RJ4, "inc", "(II)I"⟩
def dkwJ4_inc_0 : List UInt8 := [132, 0, 1, 26, 27, 161, 0, 5, 3, 59, 26, 172]
abbrev dktJ4_inc_0 : List UInt8 := dkwJ4_inc_0 ++ []
theorem dksJ4_inc_0 : cJ4_inc.data.toList.drop 0 = dktJ4_inc_0 := by decide +kernel
theorem dJ4_inc_0 : decode cJ4_inc 0 = .ok (.iinc 0 1, 3) := dk_132 0 1 (dk_at dksJ4_inc_0 0 rfl rfl)
theorem dJ4_inc_3 : decode cJ4_inc 3 = .ok (.iload_n 0, 1) := dk_26 (dk_at dksJ4_inc_0 3 rfl rfl)
theorem dJ4_inc_4 : decode cJ4_inc 4 = .ok (.iload_n 1, 1) := dk_27 (dk_at dksJ4_inc_0 4 rfl rfl)
theorem dJ4_inc_5 : decode cJ4_inc 5 = .ok (.if_icmp .lt 5, 3) := dk_161 0 5 (dk_at dksJ4_inc_0 5 rfl rfl)
theorem dJ4_inc_8 : decode cJ4_inc 8 = .ok (.iconst 0, 1) := dk_3 (dk_at dksJ4_inc_0 8 rfl rfl)
theorem dJ4_inc_9 : decode cJ4_inc 9 = .ok (.istore_n 0, 1) := dk_59 (dk_at dksJ4_inc_0 9 rfl rfl)
theorem dJ4_inc_10 : decode cJ4_inc 10 = .ok (.iload_n 0, 1) := dk_26 (dk_at dksJ4_inc_0 10 rfl rfl)
theorem dJ4_inc_11 : decode cJ4_inc 11 = .ok (.ireturn, 1) := dk_172 (dk_at dksJ4_inc_0 11 rfl rfl)
abbrev cJ4_addLast : ByteArray := prog_59_method_13_code
def yJ4_addLast : MethodName := ⟨RJ4, "addLast", "(Ljava/lang/Object;)V"⟩
def dkwJ4_addLast_2 : List UInt8 := [182, 0, 71, 177]
abbrev dktJ4_addLast_2 : List UInt8 := dkwJ4_addLast_2 ++ []
def dkwJ4_addLast_1 : List UInt8 := [42, 180, 0, 24, 42, 42, 180, 0, 20, 44, 190, 184, 0, 74, 90, 181, 0, 20, 160, 0, 8, 42, 4]
abbrev dktJ4_addLast_1 : List UInt8 := dkwJ4_addLast_1 ++ dktJ4_addLast_2
def dkwJ4_addLast_0 : List UInt8 := [43, 199, 0, 11, 187, 0, 65, 89, 183, 0, 67, 191, 42, 180, 0, 3, 77, 44, 42, 180, 0, 20, 43, 83]
abbrev dktJ4_addLast_0 : List UInt8 := dkwJ4_addLast_0 ++ dktJ4_addLast_1
theorem dksJ4_addLast_0 : cJ4_addLast.data.toList.drop 0 = dktJ4_addLast_0 := by decide +kernel
theorem dksJ4_addLast_1 : cJ4_addLast.data.toList.drop 24 = dktJ4_addLast_1 := dk_seg dksJ4_addLast_0 24 rfl rfl
theorem dksJ4_addLast_2 : cJ4_addLast.data.toList.drop 47 = dktJ4_addLast_2 := dk_seg dksJ4_addLast_1 23 rfl rfl
theorem dJ4_addLast_0 : decode cJ4_addLast 0 = .ok (.aload_n 1, 1) := dk_43 (dk_at dksJ4_addLast_0 0 rfl rfl)
theorem dJ4_addLast_1 : decode cJ4_addLast 1 = .ok (.ifnonnull 11, 3) := dk_199 0 11 (dk_at dksJ4_addLast_0 1 rfl rfl)
theorem dJ4_addLast_4 : decode cJ4_addLast 4 = .ok (.new 65, 3) := dk_187 0 65 (dk_at dksJ4_addLast_0 4 rfl rfl)
theorem dJ4_addLast_7 : decode cJ4_addLast 7 = .ok (.dup, 1) := dk_89 (dk_at dksJ4_addLast_0 7 rfl rfl)
theorem dJ4_addLast_8 : decode cJ4_addLast 8 = .ok (.invokespecial 67, 3) := dk_183 0 67 (dk_at dksJ4_addLast_0 8 rfl rfl)
theorem dJ4_addLast_11 : decode cJ4_addLast 11 = .ok (.athrow, 1) := dk_191 (dk_at dksJ4_addLast_0 11 rfl rfl)
theorem dJ4_addLast_12 : decode cJ4_addLast 12 = .ok (.aload_n 0, 1) := dk_42 (dk_at dksJ4_addLast_0 12 rfl rfl)
theorem dJ4_addLast_13 : decode cJ4_addLast 13 = .ok (.getfield 3, 3) := dk_180 0 3 (dk_at dksJ4_addLast_0 13 rfl rfl)
theorem dJ4_addLast_16 : decode cJ4_addLast 16 = .ok (.astore_n 2, 1) := dk_77 (dk_at dksJ4_addLast_0 16 rfl rfl)
theorem dJ4_addLast_17 : decode cJ4_addLast 17 = .ok (.aload_n 2, 1) := dk_44 (dk_at dksJ4_addLast_0 17 rfl rfl)
theorem dJ4_addLast_18 : decode cJ4_addLast 18 = .ok (.aload_n 0, 1) := dk_42 (dk_at dksJ4_addLast_0 18 rfl rfl)
theorem dJ4_addLast_19 : decode cJ4_addLast 19 = .ok (.getfield 20, 3) := dk_180 0 20 (dk_at dksJ4_addLast_0 19 rfl rfl)
theorem dJ4_addLast_22 : decode cJ4_addLast 22 = .ok (.aload_n 1, 1) := dk_43 (dk_at dksJ4_addLast_0 22 rfl rfl)
theorem dJ4_addLast_23 : decode cJ4_addLast 23 = .ok (.aastore, 1) := dk_83 (dk_at dksJ4_addLast_0 23 rfl rfl)
theorem dJ4_addLast_24 : decode cJ4_addLast 24 = .ok (.aload_n 0, 1) := dk_42 (dk_at dksJ4_addLast_1 0 rfl rfl)
theorem dJ4_addLast_25 : decode cJ4_addLast 25 = .ok (.getfield 24, 3) := dk_180 0 24 (dk_at dksJ4_addLast_1 1 rfl rfl)
theorem dJ4_addLast_28 : decode cJ4_addLast 28 = .ok (.aload_n 0, 1) := dk_42 (dk_at dksJ4_addLast_1 4 rfl rfl)
theorem dJ4_addLast_29 : decode cJ4_addLast 29 = .ok (.aload_n 0, 1) := dk_42 (dk_at dksJ4_addLast_1 5 rfl rfl)
theorem dJ4_addLast_30 : decode cJ4_addLast 30 = .ok (.getfield 20, 3) := dk_180 0 20 (dk_at dksJ4_addLast_1 6 rfl rfl)
theorem dJ4_addLast_33 : decode cJ4_addLast 33 = .ok (.aload_n 2, 1) := dk_44 (dk_at dksJ4_addLast_1 9 rfl rfl)
theorem dJ4_addLast_34 : decode cJ4_addLast 34 = .ok (.arraylength, 1) := dk_190 (dk_at dksJ4_addLast_1 10 rfl rfl)
theorem dJ4_addLast_35 : decode cJ4_addLast 35 = .ok (.invokestatic 74, 3) := dk_184 0 74 (dk_at dksJ4_addLast_1 11 rfl rfl)
theorem dJ4_addLast_38 : decode cJ4_addLast 38 = .ok (.dup_x1, 1) := dk_90 (dk_at dksJ4_addLast_1 14 rfl rfl)
theorem dJ4_addLast_39 : decode cJ4_addLast 39 = .ok (.putfield 20, 3) := dk_181 0 20 (dk_at dksJ4_addLast_1 15 rfl rfl)
theorem dJ4_addLast_42 : decode cJ4_addLast 42 = .ok (.if_icmp .ne 8, 3) := dk_160 0 8 (dk_at dksJ4_addLast_1 18 rfl rfl)
theorem dJ4_addLast_45 : decode cJ4_addLast 45 = .ok (.aload_n 0, 1) := dk_42 (dk_at dksJ4_addLast_1 21 rfl rfl)
theorem dJ4_addLast_46 : decode cJ4_addLast 46 = .ok (.iconst 1, 1) := dk_4 (dk_at dksJ4_addLast_1 22 rfl rfl)
theorem dJ4_addLast_47 : decode cJ4_addLast 47 = .ok (.invokevirtual 71, 3) := dk_182 0 71 (dk_at dksJ4_addLast_2 0 rfl rfl)
theorem dJ4_addLast_50 : decode cJ4_addLast 50 = .ok (.return_, 1) := dk_177 (dk_at dksJ4_addLast_2 3 rfl rfl)
abbrev cJ4_grow : ByteArray := prog_59_method_1_code
def yJ4_grow : MethodName := ⟨RJ4, "grow", "(I)V"⟩
def dkwJ4_grow_7 : List UInt8 := [177]
abbrev dktJ4_grow_7 : List UInt8 := dkwJ4_grow_7 ++ []
def dkwJ4_grow_6 : List UInt8 := [181, 0, 24, 54, 8, 21, 7, 21, 8, 162, 0, 15, 25, 5, 21, 7, 1, 83, 132, 7, 1, 167, 255, 240]
abbrev dktJ4_grow_6 : List UInt8 := dkwJ4_grow_6 ++ dktJ4_grow_7
def dkwJ4_grow_5 : List UInt8 := [42, 180, 0, 24, 100, 184, 0, 27, 42, 180, 0, 24, 54, 7, 42, 89, 180, 0, 24, 21, 6, 96, 90]
abbrev dktJ4_grow_5 : List UInt8 := dkwJ4_grow_5 ++ dktJ4_grow_6
def dkwJ4_grow_4 : List UInt8 := [198, 0, 71, 29, 28, 100, 54, 6, 25, 5, 42, 180, 0, 24, 25, 5, 42, 180, 0, 24, 21, 6, 96, 28]
abbrev dktJ4_grow_4 : List UInt8 := dkwJ4_grow_4 ++ dktJ4_grow_5
def dkwJ4_grow_3 : List UInt8 := [180, 0, 24, 161, 0, 24, 42, 180, 0, 20, 42, 180, 0, 24, 160, 0, 81, 25, 5, 42, 180, 0, 24, 50]
abbrev dktJ4_grow_3 : List UInt8 := dkwJ4_grow_3 ++ dktJ4_grow_4
def dkwJ4_grow_2 : List UInt8 := [182, 0, 10, 62, 42, 42, 180, 0, 3, 29, 184, 0, 14, 90, 181, 0, 3, 58, 5, 42, 180, 0, 20, 42]
abbrev dktJ4_grow_2 : List UInt8 := dkwJ4_grow_2 ++ dktJ4_grow_3
def dkwJ4_grow_1 : List UInt8 := [21, 4, 27, 161, 0, 15, 28, 21, 4, 96, 89, 62, 18, 9, 100, 158, 0, 11, 42, 27, 21, 4]
abbrev dktJ4_grow_1 : List UInt8 := dkwJ4_grow_1 ++ dktJ4_grow_2
def dkwJ4_grow_0 : List UInt8 := [42, 180, 0, 3, 190, 61, 28, 16, 64, 162, 0, 9, 28, 5, 96, 167, 0, 6, 28, 4, 122, 54, 4]
abbrev dktJ4_grow_0 : List UInt8 := dkwJ4_grow_0 ++ dktJ4_grow_1
theorem dksJ4_grow_0 : cJ4_grow.data.toList.drop 0 = dktJ4_grow_0 := by decide +kernel
theorem dksJ4_grow_1 : cJ4_grow.data.toList.drop 23 = dktJ4_grow_1 := dk_seg dksJ4_grow_0 23 rfl rfl
theorem dksJ4_grow_2 : cJ4_grow.data.toList.drop 45 = dktJ4_grow_2 := dk_seg dksJ4_grow_1 22 rfl rfl
theorem dksJ4_grow_3 : cJ4_grow.data.toList.drop 69 = dktJ4_grow_3 := dk_seg dksJ4_grow_2 24 rfl rfl
theorem dksJ4_grow_4 : cJ4_grow.data.toList.drop 93 = dktJ4_grow_4 := dk_seg dksJ4_grow_3 24 rfl rfl
theorem dksJ4_grow_5 : cJ4_grow.data.toList.drop 117 = dktJ4_grow_5 := dk_seg dksJ4_grow_4 24 rfl rfl
theorem dksJ4_grow_6 : cJ4_grow.data.toList.drop 140 = dktJ4_grow_6 := dk_seg dksJ4_grow_5 23 rfl rfl
theorem dksJ4_grow_7 : cJ4_grow.data.toList.drop 164 = dktJ4_grow_7 := dk_seg dksJ4_grow_6 24 rfl rfl
theorem dJ4_grow_0 : decode cJ4_grow 0 = .ok (.aload_n 0, 1) := dk_42 (dk_at dksJ4_grow_0 0 rfl rfl)
theorem dJ4_grow_1 : decode cJ4_grow 1 = .ok (.getfield 3, 3) := dk_180 0 3 (dk_at dksJ4_grow_0 1 rfl rfl)
theorem dJ4_grow_4 : decode cJ4_grow 4 = .ok (.arraylength, 1) := dk_190 (dk_at dksJ4_grow_0 4 rfl rfl)
theorem dJ4_grow_5 : decode cJ4_grow 5 = .ok (.istore_n 2, 1) := dk_61 (dk_at dksJ4_grow_0 5 rfl rfl)
theorem dJ4_grow_6 : decode cJ4_grow 6 = .ok (.iload_n 2, 1) := dk_28 (dk_at dksJ4_grow_0 6 rfl rfl)
theorem dJ4_grow_7 : decode cJ4_grow 7 = .ok (.bipush 64, 2) := dk_16 64 (dk_at dksJ4_grow_0 7 rfl rfl)
theorem dJ4_grow_9 : decode cJ4_grow 9 = .ok (.if_icmp .ge 9, 3) := dk_162 0 9 (dk_at dksJ4_grow_0 9 rfl rfl)
theorem dJ4_grow_12 : decode cJ4_grow 12 = .ok (.iload_n 2, 1) := dk_28 (dk_at dksJ4_grow_0 12 rfl rfl)
theorem dJ4_grow_13 : decode cJ4_grow 13 = .ok (.iconst 2, 1) := dk_5 (dk_at dksJ4_grow_0 13 rfl rfl)
theorem dJ4_grow_14 : decode cJ4_grow 14 = .ok (.iadd, 1) := dk_96 (dk_at dksJ4_grow_0 14 rfl rfl)
theorem dJ4_grow_15 : decode cJ4_grow 15 = .ok (.goto 6, 3) := dk_167 0 6 (dk_at dksJ4_grow_0 15 rfl rfl)
theorem dJ4_grow_18 : decode cJ4_grow 18 = .ok (.iload_n 2, 1) := dk_28 (dk_at dksJ4_grow_0 18 rfl rfl)
theorem dJ4_grow_19 : decode cJ4_grow 19 = .ok (.iconst 1, 1) := dk_4 (dk_at dksJ4_grow_0 19 rfl rfl)
theorem dJ4_grow_20 : decode cJ4_grow 20 = .ok (.ishr, 1) := dk_122 (dk_at dksJ4_grow_0 20 rfl rfl)
theorem dJ4_grow_21 : decode cJ4_grow 21 = .ok (.istore 4, 2) := dk_54 4 (dk_at dksJ4_grow_0 21 rfl rfl)
theorem dJ4_grow_23 : decode cJ4_grow 23 = .ok (.iload 4, 2) := dk_21 4 (dk_at dksJ4_grow_1 0 rfl rfl)
theorem dJ4_grow_25 : decode cJ4_grow 25 = .ok (.iload_n 1, 1) := dk_27 (dk_at dksJ4_grow_1 2 rfl rfl)
theorem dJ4_grow_26 : decode cJ4_grow 26 = .ok (.if_icmp .lt 15, 3) := dk_161 0 15 (dk_at dksJ4_grow_1 3 rfl rfl)
theorem dJ4_grow_29 : decode cJ4_grow 29 = .ok (.iload_n 2, 1) := dk_28 (dk_at dksJ4_grow_1 6 rfl rfl)
theorem dJ4_grow_30 : decode cJ4_grow 30 = .ok (.iload 4, 2) := dk_21 4 (dk_at dksJ4_grow_1 7 rfl rfl)
theorem dJ4_grow_32 : decode cJ4_grow 32 = .ok (.iadd, 1) := dk_96 (dk_at dksJ4_grow_1 9 rfl rfl)
theorem dJ4_grow_33 : decode cJ4_grow 33 = .ok (.dup, 1) := dk_89 (dk_at dksJ4_grow_1 10 rfl rfl)
theorem dJ4_grow_34 : decode cJ4_grow 34 = .ok (.istore_n 3, 1) := dk_62 (dk_at dksJ4_grow_1 11 rfl rfl)
theorem dJ4_grow_35 : decode cJ4_grow 35 = .ok (.ldc 9, 2) := dk_18 9 (dk_at dksJ4_grow_1 12 rfl rfl)
theorem dJ4_grow_37 : decode cJ4_grow 37 = .ok (.isub, 1) := dk_100 (dk_at dksJ4_grow_1 14 rfl rfl)
theorem dJ4_grow_38 : decode cJ4_grow 38 = .ok (.ifCond .le 11, 3) := dk_158 0 11 (dk_at dksJ4_grow_1 15 rfl rfl)
theorem dJ4_grow_41 : decode cJ4_grow 41 = .ok (.aload_n 0, 1) := dk_42 (dk_at dksJ4_grow_1 18 rfl rfl)
theorem dJ4_grow_42 : decode cJ4_grow 42 = .ok (.iload_n 1, 1) := dk_27 (dk_at dksJ4_grow_1 19 rfl rfl)
theorem dJ4_grow_43 : decode cJ4_grow 43 = .ok (.iload 4, 2) := dk_21 4 (dk_at dksJ4_grow_1 20 rfl rfl)
theorem dJ4_grow_45 : decode cJ4_grow 45 = .ok (.invokevirtual 10, 3) := dk_182 0 10 (dk_at dksJ4_grow_2 0 rfl rfl)
theorem dJ4_grow_48 : decode cJ4_grow 48 = .ok (.istore_n 3, 1) := dk_62 (dk_at dksJ4_grow_2 3 rfl rfl)
theorem dJ4_grow_49 : decode cJ4_grow 49 = .ok (.aload_n 0, 1) := dk_42 (dk_at dksJ4_grow_2 4 rfl rfl)
theorem dJ4_grow_50 : decode cJ4_grow 50 = .ok (.aload_n 0, 1) := dk_42 (dk_at dksJ4_grow_2 5 rfl rfl)
theorem dJ4_grow_51 : decode cJ4_grow 51 = .ok (.getfield 3, 3) := dk_180 0 3 (dk_at dksJ4_grow_2 6 rfl rfl)
theorem dJ4_grow_54 : decode cJ4_grow 54 = .ok (.iload_n 3, 1) := dk_29 (dk_at dksJ4_grow_2 9 rfl rfl)
theorem dJ4_grow_55 : decode cJ4_grow 55 = .ok (.invokestatic 14, 3) := dk_184 0 14 (dk_at dksJ4_grow_2 10 rfl rfl)
theorem dJ4_grow_58 : decode cJ4_grow 58 = .ok (.dup_x1, 1) := dk_90 (dk_at dksJ4_grow_2 13 rfl rfl)
theorem dJ4_grow_59 : decode cJ4_grow 59 = .ok (.putfield 3, 3) := dk_181 0 3 (dk_at dksJ4_grow_2 14 rfl rfl)
theorem dJ4_grow_62 : decode cJ4_grow 62 = .ok (.astore 5, 2) := dk_58 5 (dk_at dksJ4_grow_2 17 rfl rfl)
theorem dJ4_grow_64 : decode cJ4_grow 64 = .ok (.aload_n 0, 1) := dk_42 (dk_at dksJ4_grow_2 19 rfl rfl)
theorem dJ4_grow_65 : decode cJ4_grow 65 = .ok (.getfield 20, 3) := dk_180 0 20 (dk_at dksJ4_grow_2 20 rfl rfl)
theorem dJ4_grow_68 : decode cJ4_grow 68 = .ok (.aload_n 0, 1) := dk_42 (dk_at dksJ4_grow_2 23 rfl rfl)
theorem dJ4_grow_69 : decode cJ4_grow 69 = .ok (.getfield 24, 3) := dk_180 0 24 (dk_at dksJ4_grow_3 0 rfl rfl)
theorem dJ4_grow_72 : decode cJ4_grow 72 = .ok (.if_icmp .lt 24, 3) := dk_161 0 24 (dk_at dksJ4_grow_3 3 rfl rfl)
theorem dJ4_grow_75 : decode cJ4_grow 75 = .ok (.aload_n 0, 1) := dk_42 (dk_at dksJ4_grow_3 6 rfl rfl)
theorem dJ4_grow_76 : decode cJ4_grow 76 = .ok (.getfield 20, 3) := dk_180 0 20 (dk_at dksJ4_grow_3 7 rfl rfl)
theorem dJ4_grow_79 : decode cJ4_grow 79 = .ok (.aload_n 0, 1) := dk_42 (dk_at dksJ4_grow_3 10 rfl rfl)
theorem dJ4_grow_80 : decode cJ4_grow 80 = .ok (.getfield 24, 3) := dk_180 0 24 (dk_at dksJ4_grow_3 11 rfl rfl)
theorem dJ4_grow_83 : decode cJ4_grow 83 = .ok (.if_icmp .ne 81, 3) := dk_160 0 81 (dk_at dksJ4_grow_3 14 rfl rfl)
theorem dJ4_grow_86 : decode cJ4_grow 86 = .ok (.aload 5, 2) := dk_25 5 (dk_at dksJ4_grow_3 17 rfl rfl)
theorem dJ4_grow_88 : decode cJ4_grow 88 = .ok (.aload_n 0, 1) := dk_42 (dk_at dksJ4_grow_3 19 rfl rfl)
theorem dJ4_grow_89 : decode cJ4_grow 89 = .ok (.getfield 24, 3) := dk_180 0 24 (dk_at dksJ4_grow_3 20 rfl rfl)
theorem dJ4_grow_92 : decode cJ4_grow 92 = .ok (.aaload, 1) := dk_50 (dk_at dksJ4_grow_3 23 rfl rfl)
theorem dJ4_grow_93 : decode cJ4_grow 93 = .ok (.ifnull 71, 3) := dk_198 0 71 (dk_at dksJ4_grow_4 0 rfl rfl)
theorem dJ4_grow_96 : decode cJ4_grow 96 = .ok (.iload_n 3, 1) := dk_29 (dk_at dksJ4_grow_4 3 rfl rfl)
theorem dJ4_grow_97 : decode cJ4_grow 97 = .ok (.iload_n 2, 1) := dk_28 (dk_at dksJ4_grow_4 4 rfl rfl)
theorem dJ4_grow_98 : decode cJ4_grow 98 = .ok (.isub, 1) := dk_100 (dk_at dksJ4_grow_4 5 rfl rfl)
theorem dJ4_grow_99 : decode cJ4_grow 99 = .ok (.istore 6, 2) := dk_54 6 (dk_at dksJ4_grow_4 6 rfl rfl)
theorem dJ4_grow_101 : decode cJ4_grow 101 = .ok (.aload 5, 2) := dk_25 5 (dk_at dksJ4_grow_4 8 rfl rfl)
theorem dJ4_grow_103 : decode cJ4_grow 103 = .ok (.aload_n 0, 1) := dk_42 (dk_at dksJ4_grow_4 10 rfl rfl)
theorem dJ4_grow_104 : decode cJ4_grow 104 = .ok (.getfield 24, 3) := dk_180 0 24 (dk_at dksJ4_grow_4 11 rfl rfl)
theorem dJ4_grow_107 : decode cJ4_grow 107 = .ok (.aload 5, 2) := dk_25 5 (dk_at dksJ4_grow_4 14 rfl rfl)
theorem dJ4_grow_109 : decode cJ4_grow 109 = .ok (.aload_n 0, 1) := dk_42 (dk_at dksJ4_grow_4 16 rfl rfl)
theorem dJ4_grow_110 : decode cJ4_grow 110 = .ok (.getfield 24, 3) := dk_180 0 24 (dk_at dksJ4_grow_4 17 rfl rfl)
theorem dJ4_grow_113 : decode cJ4_grow 113 = .ok (.iload 6, 2) := dk_21 6 (dk_at dksJ4_grow_4 20 rfl rfl)
theorem dJ4_grow_115 : decode cJ4_grow 115 = .ok (.iadd, 1) := dk_96 (dk_at dksJ4_grow_4 22 rfl rfl)
theorem dJ4_grow_116 : decode cJ4_grow 116 = .ok (.iload_n 2, 1) := dk_28 (dk_at dksJ4_grow_4 23 rfl rfl)
theorem dJ4_grow_117 : decode cJ4_grow 117 = .ok (.aload_n 0, 1) := dk_42 (dk_at dksJ4_grow_5 0 rfl rfl)
theorem dJ4_grow_118 : decode cJ4_grow 118 = .ok (.getfield 24, 3) := dk_180 0 24 (dk_at dksJ4_grow_5 1 rfl rfl)
theorem dJ4_grow_121 : decode cJ4_grow 121 = .ok (.isub, 1) := dk_100 (dk_at dksJ4_grow_5 4 rfl rfl)
theorem dJ4_grow_122 : decode cJ4_grow 122 = .ok (.invokestatic 27, 3) := dk_184 0 27 (dk_at dksJ4_grow_5 5 rfl rfl)
theorem dJ4_grow_125 : decode cJ4_grow 125 = .ok (.aload_n 0, 1) := dk_42 (dk_at dksJ4_grow_5 8 rfl rfl)
theorem dJ4_grow_126 : decode cJ4_grow 126 = .ok (.getfield 24, 3) := dk_180 0 24 (dk_at dksJ4_grow_5 9 rfl rfl)
theorem dJ4_grow_129 : decode cJ4_grow 129 = .ok (.istore 7, 2) := dk_54 7 (dk_at dksJ4_grow_5 12 rfl rfl)
theorem dJ4_grow_131 : decode cJ4_grow 131 = .ok (.aload_n 0, 1) := dk_42 (dk_at dksJ4_grow_5 14 rfl rfl)
theorem dJ4_grow_132 : decode cJ4_grow 132 = .ok (.dup, 1) := dk_89 (dk_at dksJ4_grow_5 15 rfl rfl)
theorem dJ4_grow_133 : decode cJ4_grow 133 = .ok (.getfield 24, 3) := dk_180 0 24 (dk_at dksJ4_grow_5 16 rfl rfl)
theorem dJ4_grow_136 : decode cJ4_grow 136 = .ok (.iload 6, 2) := dk_21 6 (dk_at dksJ4_grow_5 19 rfl rfl)
theorem dJ4_grow_138 : decode cJ4_grow 138 = .ok (.iadd, 1) := dk_96 (dk_at dksJ4_grow_5 21 rfl rfl)
theorem dJ4_grow_139 : decode cJ4_grow 139 = .ok (.dup_x1, 1) := dk_90 (dk_at dksJ4_grow_5 22 rfl rfl)
theorem dJ4_grow_140 : decode cJ4_grow 140 = .ok (.putfield 24, 3) := dk_181 0 24 (dk_at dksJ4_grow_6 0 rfl rfl)
theorem dJ4_grow_143 : decode cJ4_grow 143 = .ok (.istore 8, 2) := dk_54 8 (dk_at dksJ4_grow_6 3 rfl rfl)
theorem dJ4_grow_145 : decode cJ4_grow 145 = .ok (.iload 7, 2) := dk_21 7 (dk_at dksJ4_grow_6 5 rfl rfl)
theorem dJ4_grow_147 : decode cJ4_grow 147 = .ok (.iload 8, 2) := dk_21 8 (dk_at dksJ4_grow_6 7 rfl rfl)
theorem dJ4_grow_149 : decode cJ4_grow 149 = .ok (.if_icmp .ge 15, 3) := dk_162 0 15 (dk_at dksJ4_grow_6 9 rfl rfl)
theorem dJ4_grow_152 : decode cJ4_grow 152 = .ok (.aload 5, 2) := dk_25 5 (dk_at dksJ4_grow_6 12 rfl rfl)
theorem dJ4_grow_154 : decode cJ4_grow 154 = .ok (.iload 7, 2) := dk_21 7 (dk_at dksJ4_grow_6 14 rfl rfl)
theorem dJ4_grow_156 : decode cJ4_grow 156 = .ok (.aconst_null, 1) := dk_1 (dk_at dksJ4_grow_6 16 rfl rfl)
theorem dJ4_grow_157 : decode cJ4_grow 157 = .ok (.aastore, 1) := dk_83 (dk_at dksJ4_grow_6 17 rfl rfl)
theorem dJ4_grow_158 : decode cJ4_grow 158 = .ok (.iinc 7 1, 3) := dk_132 7 1 (dk_at dksJ4_grow_6 18 rfl rfl)
theorem dJ4_grow_161 : decode cJ4_grow 161 = .ok (.goto (-16), 3) := dk_167 255 240 (dk_at dksJ4_grow_6 21 rfl rfl)
theorem dJ4_grow_164 : decode cJ4_grow 164 = .ok (.return_, 1) := dk_177 (dk_at dksJ4_grow_7 0 rfl rfl)
abbrev cJ4_newCapacity : ByteArray := prog_59_method_2_code
def yJ4_newCapacity : MethodName := ⟨RJ4, "newCapacity", "(II)I"⟩
def dkwJ4_newCapacity_2 : List UInt8 := [18, 9, 100, 156, 0, 9, 29, 28, 96, 167, 0, 5, 18, 9, 172]
abbrev dktJ4_newCapacity_2 : List UInt8 := dkwJ4_newCapacity_2 ++ []
def dkwJ4_newCapacity_1 : List UInt8 := [187, 0, 33, 89, 18, 35, 183, 0, 37, 191, 18, 41, 172, 27, 28, 164, 0, 6, 21, 4, 172, 29, 28, 96]
abbrev dktJ4_newCapacity_1 : List UInt8 := dkwJ4_newCapacity_1 ++ dktJ4_newCapacity_2
def dkwJ4_newCapacity_0 : List UInt8 := [42, 180, 0, 3, 190, 62, 29, 27, 96, 89, 54, 4, 18, 9, 100, 158, 0, 21, 21, 4, 156, 0, 13]
abbrev dktJ4_newCapacity_0 : List UInt8 := dkwJ4_newCapacity_0 ++ dktJ4_newCapacity_1
theorem dksJ4_newCapacity_0 : cJ4_newCapacity.data.toList.drop 0 = dktJ4_newCapacity_0 := by decide +kernel
theorem dksJ4_newCapacity_1 : cJ4_newCapacity.data.toList.drop 23 = dktJ4_newCapacity_1 := dk_seg dksJ4_newCapacity_0 23 rfl rfl
theorem dksJ4_newCapacity_2 : cJ4_newCapacity.data.toList.drop 47 = dktJ4_newCapacity_2 := dk_seg dksJ4_newCapacity_1 24 rfl rfl
theorem dJ4_newCapacity_0 : decode cJ4_newCapacity 0 = .ok (.aload_n 0, 1) := dk_42 (dk_at dksJ4_newCapacity_0 0 rfl rfl)
theorem dJ4_newCapacity_1 : decode cJ4_newCapacity 1 = .ok (.getfield 3, 3) := dk_180 0 3 (dk_at dksJ4_newCapacity_0 1 rfl rfl)
theorem dJ4_newCapacity_4 : decode cJ4_newCapacity 4 = .ok (.arraylength, 1) := dk_190 (dk_at dksJ4_newCapacity_0 4 rfl rfl)
theorem dJ4_newCapacity_5 : decode cJ4_newCapacity 5 = .ok (.istore_n 3, 1) := dk_62 (dk_at dksJ4_newCapacity_0 5 rfl rfl)
theorem dJ4_newCapacity_6 : decode cJ4_newCapacity 6 = .ok (.iload_n 3, 1) := dk_29 (dk_at dksJ4_newCapacity_0 6 rfl rfl)
theorem dJ4_newCapacity_7 : decode cJ4_newCapacity 7 = .ok (.iload_n 1, 1) := dk_27 (dk_at dksJ4_newCapacity_0 7 rfl rfl)
theorem dJ4_newCapacity_8 : decode cJ4_newCapacity 8 = .ok (.iadd, 1) := dk_96 (dk_at dksJ4_newCapacity_0 8 rfl rfl)
theorem dJ4_newCapacity_9 : decode cJ4_newCapacity 9 = .ok (.dup, 1) := dk_89 (dk_at dksJ4_newCapacity_0 9 rfl rfl)
theorem dJ4_newCapacity_10 : decode cJ4_newCapacity 10 = .ok (.istore 4, 2) := dk_54 4 (dk_at dksJ4_newCapacity_0 10 rfl rfl)
theorem dJ4_newCapacity_12 : decode cJ4_newCapacity 12 = .ok (.ldc 9, 2) := dk_18 9 (dk_at dksJ4_newCapacity_0 12 rfl rfl)
theorem dJ4_newCapacity_14 : decode cJ4_newCapacity 14 = .ok (.isub, 1) := dk_100 (dk_at dksJ4_newCapacity_0 14 rfl rfl)
theorem dJ4_newCapacity_15 : decode cJ4_newCapacity 15 = .ok (.ifCond .le 21, 3) := dk_158 0 21 (dk_at dksJ4_newCapacity_0 15 rfl rfl)
theorem dJ4_newCapacity_18 : decode cJ4_newCapacity 18 = .ok (.iload 4, 2) := dk_21 4 (dk_at dksJ4_newCapacity_0 18 rfl rfl)
theorem dJ4_newCapacity_20 : decode cJ4_newCapacity 20 = .ok (.ifCond .ge 13, 3) := dk_156 0 13 (dk_at dksJ4_newCapacity_0 20 rfl rfl)
theorem dJ4_newCapacity_23 : decode cJ4_newCapacity 23 = .ok (.new 33, 3) := dk_187 0 33 (dk_at dksJ4_newCapacity_1 0 rfl rfl)
theorem dJ4_newCapacity_26 : decode cJ4_newCapacity 26 = .ok (.dup, 1) := dk_89 (dk_at dksJ4_newCapacity_1 3 rfl rfl)
theorem dJ4_newCapacity_27 : decode cJ4_newCapacity 27 = .ok (.ldc 35, 2) := dk_18 35 (dk_at dksJ4_newCapacity_1 4 rfl rfl)
theorem dJ4_newCapacity_29 : decode cJ4_newCapacity 29 = .ok (.invokespecial 37, 3) := dk_183 0 37 (dk_at dksJ4_newCapacity_1 6 rfl rfl)
theorem dJ4_newCapacity_32 : decode cJ4_newCapacity 32 = .ok (.athrow, 1) := dk_191 (dk_at dksJ4_newCapacity_1 9 rfl rfl)
theorem dJ4_newCapacity_33 : decode cJ4_newCapacity 33 = .ok (.ldc 41, 2) := dk_18 41 (dk_at dksJ4_newCapacity_1 10 rfl rfl)
theorem dJ4_newCapacity_35 : decode cJ4_newCapacity 35 = .ok (.ireturn, 1) := dk_172 (dk_at dksJ4_newCapacity_1 12 rfl rfl)
theorem dJ4_newCapacity_36 : decode cJ4_newCapacity 36 = .ok (.iload_n 1, 1) := dk_27 (dk_at dksJ4_newCapacity_1 13 rfl rfl)
theorem dJ4_newCapacity_37 : decode cJ4_newCapacity 37 = .ok (.iload_n 2, 1) := dk_28 (dk_at dksJ4_newCapacity_1 14 rfl rfl)
theorem dJ4_newCapacity_38 : decode cJ4_newCapacity 38 = .ok (.if_icmp .le 6, 3) := dk_164 0 6 (dk_at dksJ4_newCapacity_1 15 rfl rfl)
theorem dJ4_newCapacity_41 : decode cJ4_newCapacity 41 = .ok (.iload 4, 2) := dk_21 4 (dk_at dksJ4_newCapacity_1 18 rfl rfl)
theorem dJ4_newCapacity_43 : decode cJ4_newCapacity 43 = .ok (.ireturn, 1) := dk_172 (dk_at dksJ4_newCapacity_1 20 rfl rfl)
theorem dJ4_newCapacity_44 : decode cJ4_newCapacity 44 = .ok (.iload_n 3, 1) := dk_29 (dk_at dksJ4_newCapacity_1 21 rfl rfl)
theorem dJ4_newCapacity_45 : decode cJ4_newCapacity 45 = .ok (.iload_n 2, 1) := dk_28 (dk_at dksJ4_newCapacity_1 22 rfl rfl)
theorem dJ4_newCapacity_46 : decode cJ4_newCapacity 46 = .ok (.iadd, 1) := dk_96 (dk_at dksJ4_newCapacity_1 23 rfl rfl)
theorem dJ4_newCapacity_47 : decode cJ4_newCapacity 47 = .ok (.ldc 9, 2) := dk_18 9 (dk_at dksJ4_newCapacity_2 0 rfl rfl)
theorem dJ4_newCapacity_49 : decode cJ4_newCapacity 49 = .ok (.isub, 1) := dk_100 (dk_at dksJ4_newCapacity_2 2 rfl rfl)
theorem dJ4_newCapacity_50 : decode cJ4_newCapacity 50 = .ok (.ifCond .ge 9, 3) := dk_156 0 9 (dk_at dksJ4_newCapacity_2 3 rfl rfl)
theorem dJ4_newCapacity_53 : decode cJ4_newCapacity 53 = .ok (.iload_n 3, 1) := dk_29 (dk_at dksJ4_newCapacity_2 6 rfl rfl)
theorem dJ4_newCapacity_54 : decode cJ4_newCapacity 54 = .ok (.iload_n 2, 1) := dk_28 (dk_at dksJ4_newCapacity_2 7 rfl rfl)
theorem dJ4_newCapacity_55 : decode cJ4_newCapacity 55 = .ok (.iadd, 1) := dk_96 (dk_at dksJ4_newCapacity_2 8 rfl rfl)
theorem dJ4_newCapacity_56 : decode cJ4_newCapacity 56 = .ok (.goto 5, 3) := dk_167 0 5 (dk_at dksJ4_newCapacity_2 9 rfl rfl)
theorem dJ4_newCapacity_59 : decode cJ4_newCapacity 59 = .ok (.ldc 9, 2) := dk_18 9 (dk_at dksJ4_newCapacity_2 12 rfl rfl)
theorem dJ4_newCapacity_61 : decode cJ4_newCapacity 61 = .ok (.ireturn, 1) := dk_172 (dk_at dksJ4_newCapacity_2 14 rfl rfl)
abbrev cJ4_isEmpty : ByteArray := prog_59_method_38_code
def yJ4_isEmpty : MethodName := ⟨RJ4, "isEmpty", "()Z"⟩
def dkwJ4_isEmpty_0 : List UInt8 := [42, 180, 0, 24, 42, 180, 0, 20, 160, 0, 7, 4, 167, 0, 4, 3, 172]
abbrev dktJ4_isEmpty_0 : List UInt8 := dkwJ4_isEmpty_0 ++ []
theorem dksJ4_isEmpty_0 : cJ4_isEmpty.data.toList.drop 0 = dktJ4_isEmpty_0 := by decide +kernel
theorem dJ4_isEmpty_0 : decode cJ4_isEmpty 0 = .ok (.aload_n 0, 1) := dk_42 (dk_at dksJ4_isEmpty_0 0 rfl rfl)
theorem dJ4_isEmpty_1 : decode cJ4_isEmpty 1 = .ok (.getfield 24, 3) := dk_180 0 24 (dk_at dksJ4_isEmpty_0 1 rfl rfl)
theorem dJ4_isEmpty_4 : decode cJ4_isEmpty 4 = .ok (.aload_n 0, 1) := dk_42 (dk_at dksJ4_isEmpty_0 4 rfl rfl)
theorem dJ4_isEmpty_5 : decode cJ4_isEmpty 5 = .ok (.getfield 20, 3) := dk_180 0 20 (dk_at dksJ4_isEmpty_0 5 rfl rfl)
theorem dJ4_isEmpty_8 : decode cJ4_isEmpty 8 = .ok (.if_icmp .ne 7, 3) := dk_160 0 7 (dk_at dksJ4_isEmpty_0 8 rfl rfl)
theorem dJ4_isEmpty_11 : decode cJ4_isEmpty 11 = .ok (.iconst 1, 1) := dk_4 (dk_at dksJ4_isEmpty_0 11 rfl rfl)
theorem dJ4_isEmpty_12 : decode cJ4_isEmpty 12 = .ok (.goto 4, 3) := dk_167 0 4 (dk_at dksJ4_isEmpty_0 12 rfl rfl)
theorem dJ4_isEmpty_15 : decode cJ4_isEmpty 15 = .ok (.iconst 0, 1) := dk_3 (dk_at dksJ4_isEmpty_0 15 rfl rfl)
theorem dJ4_isEmpty_16 : decode cJ4_isEmpty 16 = .ok (.ireturn, 1) := dk_172 (dk_at dksJ4_isEmpty_0 16 rfl rfl)
abbrev cJ4_removeLast : ByteArray := prog_59_method_19_code
def yJ4_removeLast : MethodName := ⟨RJ4, "removeLast", "()Ljava/lang/Object;"⟩
def dkwJ4_removeLast_0 : List UInt8 := [42, 182, 0, 100, 76, 43, 199, 0, 11, 187, 0, 97, 89, 183, 0, 99, 191, 43, 176]
abbrev dktJ4_removeLast_0 : List UInt8 := dkwJ4_removeLast_0 ++ []
theorem dksJ4_removeLast_0 : cJ4_removeLast.data.toList.drop 0 = dktJ4_removeLast_0 := by decide +kernel
theorem dJ4_removeLast_0 : decode cJ4_removeLast 0 = .ok (.aload_n 0, 1) := dk_42 (dk_at dksJ4_removeLast_0 0 rfl rfl)
theorem dJ4_removeLast_1 : decode cJ4_removeLast 1 = .ok (.invokevirtual 100, 3) := dk_182 0 100 (dk_at dksJ4_removeLast_0 1 rfl rfl)
theorem dJ4_removeLast_4 : decode cJ4_removeLast 4 = .ok (.astore_n 1, 1) := dk_76 (dk_at dksJ4_removeLast_0 4 rfl rfl)
theorem dJ4_removeLast_5 : decode cJ4_removeLast 5 = .ok (.aload_n 1, 1) := dk_43 (dk_at dksJ4_removeLast_0 5 rfl rfl)
theorem dJ4_removeLast_6 : decode cJ4_removeLast 6 = .ok (.ifnonnull 11, 3) := dk_199 0 11 (dk_at dksJ4_removeLast_0 6 rfl rfl)
theorem dJ4_removeLast_9 : decode cJ4_removeLast 9 = .ok (.new 97, 3) := dk_187 0 97 (dk_at dksJ4_removeLast_0 9 rfl rfl)
theorem dJ4_removeLast_12 : decode cJ4_removeLast 12 = .ok (.dup, 1) := dk_89 (dk_at dksJ4_removeLast_0 12 rfl rfl)
theorem dJ4_removeLast_13 : decode cJ4_removeLast 13 = .ok (.invokespecial 99, 3) := dk_183 0 99 (dk_at dksJ4_removeLast_0 13 rfl rfl)
theorem dJ4_removeLast_16 : decode cJ4_removeLast 16 = .ok (.athrow, 1) := dk_191 (dk_at dksJ4_removeLast_0 16 rfl rfl)
theorem dJ4_removeLast_17 : decode cJ4_removeLast 17 = .ok (.aload_n 1, 1) := dk_43 (dk_at dksJ4_removeLast_0 17 rfl rfl)
theorem dJ4_removeLast_18 : decode cJ4_removeLast 18 = .ok (.areturn, 1) := dk_176 (dk_at dksJ4_removeLast_0 18 rfl rfl)
abbrev cJ4_pollLast : ByteArray := prog_59_method_21_code
def yJ4_pollLast : MethodName := ⟨RJ4, "pollLast", "()Ljava/lang/Object;"⟩
def dkwJ4_pollLast_1 : List UInt8 := [198, 0, 12, 43, 42, 28, 90, 181, 0, 20, 1, 83, 45, 176]
abbrev dktJ4_pollLast_1 : List UInt8 := dkwJ4_pollLast_1 ++ []
def dkwJ4_pollLast_0 : List UInt8 := [42, 180, 0, 3, 89, 76, 42, 180, 0, 20, 43, 190, 184, 0, 68, 89, 61, 184, 0, 103, 78, 45]
abbrev dktJ4_pollLast_0 : List UInt8 := dkwJ4_pollLast_0 ++ dktJ4_pollLast_1
theorem dksJ4_pollLast_0 : cJ4_pollLast.data.toList.drop 0 = dktJ4_pollLast_0 := by decide +kernel
theorem dksJ4_pollLast_1 : cJ4_pollLast.data.toList.drop 22 = dktJ4_pollLast_1 := dk_seg dksJ4_pollLast_0 22 rfl rfl
theorem dJ4_pollLast_0 : decode cJ4_pollLast 0 = .ok (.aload_n 0, 1) := dk_42 (dk_at dksJ4_pollLast_0 0 rfl rfl)
theorem dJ4_pollLast_1 : decode cJ4_pollLast 1 = .ok (.getfield 3, 3) := dk_180 0 3 (dk_at dksJ4_pollLast_0 1 rfl rfl)
theorem dJ4_pollLast_4 : decode cJ4_pollLast 4 = .ok (.dup, 1) := dk_89 (dk_at dksJ4_pollLast_0 4 rfl rfl)
theorem dJ4_pollLast_5 : decode cJ4_pollLast 5 = .ok (.astore_n 1, 1) := dk_76 (dk_at dksJ4_pollLast_0 5 rfl rfl)
theorem dJ4_pollLast_6 : decode cJ4_pollLast 6 = .ok (.aload_n 0, 1) := dk_42 (dk_at dksJ4_pollLast_0 6 rfl rfl)
theorem dJ4_pollLast_7 : decode cJ4_pollLast 7 = .ok (.getfield 20, 3) := dk_180 0 20 (dk_at dksJ4_pollLast_0 7 rfl rfl)
theorem dJ4_pollLast_10 : decode cJ4_pollLast 10 = .ok (.aload_n 1, 1) := dk_43 (dk_at dksJ4_pollLast_0 10 rfl rfl)
theorem dJ4_pollLast_11 : decode cJ4_pollLast 11 = .ok (.arraylength, 1) := dk_190 (dk_at dksJ4_pollLast_0 11 rfl rfl)
theorem dJ4_pollLast_12 : decode cJ4_pollLast 12 = .ok (.invokestatic 68, 3) := dk_184 0 68 (dk_at dksJ4_pollLast_0 12 rfl rfl)
theorem dJ4_pollLast_15 : decode cJ4_pollLast 15 = .ok (.dup, 1) := dk_89 (dk_at dksJ4_pollLast_0 15 rfl rfl)
theorem dJ4_pollLast_16 : decode cJ4_pollLast 16 = .ok (.istore_n 2, 1) := dk_61 (dk_at dksJ4_pollLast_0 16 rfl rfl)
theorem dJ4_pollLast_17 : decode cJ4_pollLast 17 = .ok (.invokestatic 103, 3) := dk_184 0 103 (dk_at dksJ4_pollLast_0 17 rfl rfl)
theorem dJ4_pollLast_20 : decode cJ4_pollLast 20 = .ok (.astore_n 3, 1) := dk_78 (dk_at dksJ4_pollLast_0 20 rfl rfl)
theorem dJ4_pollLast_21 : decode cJ4_pollLast 21 = .ok (.aload_n 3, 1) := dk_45 (dk_at dksJ4_pollLast_0 21 rfl rfl)
theorem dJ4_pollLast_22 : decode cJ4_pollLast 22 = .ok (.ifnull 12, 3) := dk_198 0 12 (dk_at dksJ4_pollLast_1 0 rfl rfl)
theorem dJ4_pollLast_25 : decode cJ4_pollLast 25 = .ok (.aload_n 1, 1) := dk_43 (dk_at dksJ4_pollLast_1 3 rfl rfl)
theorem dJ4_pollLast_26 : decode cJ4_pollLast 26 = .ok (.aload_n 0, 1) := dk_42 (dk_at dksJ4_pollLast_1 4 rfl rfl)
theorem dJ4_pollLast_27 : decode cJ4_pollLast 27 = .ok (.iload_n 2, 1) := dk_28 (dk_at dksJ4_pollLast_1 5 rfl rfl)
theorem dJ4_pollLast_28 : decode cJ4_pollLast 28 = .ok (.dup_x1, 1) := dk_90 (dk_at dksJ4_pollLast_1 6 rfl rfl)
theorem dJ4_pollLast_29 : decode cJ4_pollLast 29 = .ok (.putfield 20, 3) := dk_181 0 20 (dk_at dksJ4_pollLast_1 7 rfl rfl)
theorem dJ4_pollLast_32 : decode cJ4_pollLast 32 = .ok (.aconst_null, 1) := dk_1 (dk_at dksJ4_pollLast_1 10 rfl rfl)
theorem dJ4_pollLast_33 : decode cJ4_pollLast 33 = .ok (.aastore, 1) := dk_83 (dk_at dksJ4_pollLast_1 11 rfl rfl)
theorem dJ4_pollLast_34 : decode cJ4_pollLast 34 = .ok (.aload_n 3, 1) := dk_45 (dk_at dksJ4_pollLast_1 12 rfl rfl)
theorem dJ4_pollLast_35 : decode cJ4_pollLast 35 = .ok (.areturn, 1) := dk_176 (dk_at dksJ4_pollLast_1 13 rfl rfl)
abbrev cJ4_dec : ByteArray := prog_59_method_7_code
def yJ4_dec : MethodName := ⟨RJ4, "dec", "(II)I"⟩
def dkwJ4_dec_0 : List UInt8 := [132, 0, 255, 26, 156, 0, 7, 27, 4, 100, 59, 26, 172]
abbrev dktJ4_dec_0 : List UInt8 := dkwJ4_dec_0 ++ []
theorem dksJ4_dec_0 : cJ4_dec.data.toList.drop 0 = dktJ4_dec_0 := by decide +kernel
theorem dJ4_dec_0 : decode cJ4_dec 0 = .ok (.iinc 0 (-1), 3) := dk_132 0 255 (dk_at dksJ4_dec_0 0 rfl rfl)
theorem dJ4_dec_3 : decode cJ4_dec 3 = .ok (.iload_n 0, 1) := dk_26 (dk_at dksJ4_dec_0 3 rfl rfl)
theorem dJ4_dec_4 : decode cJ4_dec 4 = .ok (.ifCond .ge 7, 3) := dk_156 0 7 (dk_at dksJ4_dec_0 4 rfl rfl)
theorem dJ4_dec_7 : decode cJ4_dec 7 = .ok (.iload_n 1, 1) := dk_27 (dk_at dksJ4_dec_0 7 rfl rfl)
theorem dJ4_dec_8 : decode cJ4_dec 8 = .ok (.iconst 1, 1) := dk_4 (dk_at dksJ4_dec_0 8 rfl rfl)
theorem dJ4_dec_9 : decode cJ4_dec 9 = .ok (.isub, 1) := dk_100 (dk_at dksJ4_dec_0 9 rfl rfl)
theorem dJ4_dec_10 : decode cJ4_dec 10 = .ok (.istore_n 0, 1) := dk_59 (dk_at dksJ4_dec_0 10 rfl rfl)
theorem dJ4_dec_11 : decode cJ4_dec 11 = .ok (.iload_n 0, 1) := dk_26 (dk_at dksJ4_dec_0 11 rfl rfl)
theorem dJ4_dec_12 : decode cJ4_dec 12 = .ok (.ireturn, 1) := dk_172 (dk_at dksJ4_dec_0 12 rfl rfl)
theorem q124 : (Jvm.Cond.initialized "java/util/ArrayDeque") ∈ lw_all := lw_g (lw_at lw_m1 7 rfl) rfl
theorem q266 : (Jvm.Cond.instantiable "java/util/ArrayDeque" (3 : Nat)) ∈ lw_all := lw_g (lw_at lw_m1 149 rfl) rfl
theorem q268 : (Jvm.Cond.instanceMethod ({ cls := "java/util/ArrayDeque", name := "<init>", desc := "()V" } : Jvm.MethodName)) ∈ lw_all := lw_g (lw_at lw_m1 151 rfl) rfl
theorem q269 : (Jvm.Cond.code ({ cls := "java/util/ArrayDeque", name := "<init>", desc := "()V" } : Jvm.MethodName) prog_59_method_3_code (1 : Nat) (Option.none : Option Jvm.ClassFile.FieldType)) ∈ lw_all := lw_g (lw_at lw_m1 152 rfl) rfl
theorem q270 : (Jvm.Cond.methodLink "java/util/ArrayDeque" (42 : Nat) ({ cls := "java/util/AbstractCollection", name := "<init>", desc := "()V" } : Jvm.MethodName)) ∈ lw_all := lw_g (lw_at lw_m1 153 rfl) rfl
theorem q271 : (Jvm.Cond.classLink "java/util/ArrayDeque" (47 : Nat) "java/lang/Object") ∈ lw_all := lw_g (lw_at lw_m1 154 rfl) rfl
theorem q273 : (Jvm.Cond.fieldLink "java/util/ArrayDeque" (3 : Nat) "java/util/ArrayDeque" "elements" "[Ljava/lang/Object;") ∈ lw_all := lw_g (lw_at lw_m1 156 rfl) rfl
theorem q274 : (Jvm.Cond.fieldLink "java/util/ArrayDeque" (24 : Nat) "java/util/ArrayDeque" "head" "I") ∈ lw_all := lw_g (lw_at lw_m1 157 rfl) rfl
theorem q275 : (Jvm.Cond.fieldLink "java/util/ArrayDeque" (20 : Nat) "java/util/ArrayDeque" "tail" "I") ∈ lw_all := lw_g (lw_at lw_m1 158 rfl) rfl
theorem q276 : (Jvm.Cond.lays "java/util/ArrayDeque" "java/util/ArrayDeque" "elements" "[Ljava/lang/Object;") ∈ lw_all := lw_g (lw_at lw_m1 159 rfl) rfl
theorem q277 : (Jvm.Cond.soleField "java/util/ArrayDeque" "elements") ∈ lw_all := lw_g (lw_at lw_m1 160 rfl) rfl
theorem q278 : (Jvm.Cond.lays "java/util/ArrayDeque" "java/util/ArrayDeque" "head" "I") ∈ lw_all := lw_g (lw_at lw_m1 161 rfl) rfl
theorem q279 : (Jvm.Cond.soleField "java/util/ArrayDeque" "head") ∈ lw_all := lw_g (lw_at lw_m1 162 rfl) rfl
theorem q280 : (Jvm.Cond.lays "java/util/ArrayDeque" "java/util/ArrayDeque" "tail" "I") ∈ lw_all := lw_g (lw_at lw_m1 163 rfl) rfl
theorem q281 : (Jvm.Cond.soleField "java/util/ArrayDeque" "tail") ∈ lw_all := lw_g (lw_at lw_m1 164 rfl) rfl
theorem q282 : (Jvm.Cond.superclass "java/util/ArrayDeque" "java/util/AbstractCollection") ∈ lw_all := lw_g (lw_at lw_m1 165 rfl) rfl
theorem q781 : (Jvm.Cond.selects "java/util/ArrayDeque" ({ cls := "java/util/AbstractCollection", name := "size", desc := "()I" } : Jvm.MethodName) ({ cls := "java/util/ArrayDeque", name := "size", desc := "()I" } : Jvm.MethodName)) ∈ lw_all := lw_g (lw_at lw_m3 184 rfl) rfl
theorem q782 : (Jvm.Cond.instanceMethod ({ cls := "java/util/ArrayDeque", name := "size", desc := "()I" } : Jvm.MethodName)) ∈ lw_all := lw_g (lw_at lw_m3 185 rfl) rfl
theorem q783 : (Jvm.Cond.code ({ cls := "java/util/ArrayDeque", name := "size", desc := "()I" } : Jvm.MethodName) prog_59_method_37_code (1 : Nat) (Option.some Jvm.ClassFile.FieldType.int)) ∈ lw_all := lw_g (lw_at lw_m3 186 rfl) rfl
theorem q784 : (Jvm.Cond.methodLink "java/util/ArrayDeque" (127 : Nat) ({ cls := "java/util/ArrayDeque", name := "sub", desc := "(III)I" } : Jvm.MethodName)) ∈ lw_all := lw_g (lw_at lw_m3 187 rfl) rfl
theorem q785 : (Jvm.Cond.static ({ cls := "java/util/ArrayDeque", name := "sub", desc := "(III)I" } : Jvm.MethodName)) ∈ lw_all := lw_g (lw_at lw_m3 188 rfl) rfl
theorem q786 : (Jvm.Cond.code ({ cls := "java/util/ArrayDeque", name := "sub", desc := "(III)I" } : Jvm.MethodName) prog_59_method_9_code (3 : Nat) (Option.some Jvm.ClassFile.FieldType.int)) ∈ lw_all := lw_g (lw_at lw_m3 189 rfl) rfl
theorem q1021 : (Jvm.Cond.selects "java/util/ArrayDeque" ({ cls := "java/lang/Object", name := "getClass", desc := "()Ljava/lang/Class;" } : Jvm.MethodName) ({ cls := "java/lang/Object", name := "getClass", desc := "()Ljava/lang/Class;" } : Jvm.MethodName)) ∈ lw_all := lw_g (lw_at lw_m4 184 rfl) rfl
theorem q1358 : (Jvm.Cond.castable "java/util/ArrayDeque" "java/util/Collection") ∈ lw_tbl := lw_at lw_m6 41 rfl
theorem q1359 : (Jvm.Cond.selects "java/util/ArrayDeque" ({ cls := "java/util/Collection", name := "toArray", desc := "()[Ljava/lang/Object;" } : Jvm.MethodName) ({ cls := "java/util/ArrayDeque", name := "toArray", desc := "()[Ljava/lang/Object;" } : Jvm.MethodName)) ∈ lw_all := lw_g (lw_at lw_m6 42 rfl) rfl
theorem q1360 : (Jvm.Cond.unhidden "java/util/ArrayDeque" "toArray" "()[Ljava/lang/Object;") ∈ lw_tbl := lw_at lw_m6 43 rfl
theorem q1361 : (Jvm.Cond.instanceMethod ({ cls := "java/util/ArrayDeque", name := "toArray", desc := "()[Ljava/lang/Object;" } : Jvm.MethodName)) ∈ lw_all := lw_g (lw_at lw_m6 44 rfl) rfl
theorem q1362 : (Jvm.Cond.publicMethod ({ cls := "java/util/ArrayDeque", name := "toArray", desc := "()[Ljava/lang/Object;" } : Jvm.MethodName)) ∈ lw_tbl := lw_at lw_m6 45 rfl
theorem q1363 : (Jvm.Cond.code ({ cls := "java/util/ArrayDeque", name := "toArray", desc := "()[Ljava/lang/Object;" } : Jvm.MethodName) prog_59_method_55_code (1 : Nat) (Option.some (Jvm.ClassFile.FieldType.array (Jvm.ClassFile.FieldType.object "java/lang/Object")))) ∈ lw_all := lw_g (lw_at lw_m6 46 rfl) rfl
theorem q1364 : (Jvm.Cond.classLink "java/util/ArrayDeque" (188 : Nat) "[Ljava/lang/Object;") ∈ lw_all := lw_g (lw_at lw_m6 47 rfl) rfl
theorem q1365 : (Jvm.Cond.methodLink "java/util/ArrayDeque" (189 : Nat) ({ cls := "java/util/ArrayDeque", name := "toArray", desc := "(Ljava/lang/Class;)[Ljava/lang/Object;" } : Jvm.MethodName)) ∈ lw_all := lw_g (lw_at lw_m6 48 rfl) rfl
theorem q1366 : (Jvm.Cond.privateMethod ({ cls := "java/util/ArrayDeque", name := "toArray", desc := "(Ljava/lang/Class;)[Ljava/lang/Object;" } : Jvm.MethodName)) ∈ lw_tbl := lw_at lw_m6 49 rfl
theorem q1367 : (Jvm.Cond.instanceMethod ({ cls := "java/util/ArrayDeque", name := "toArray", desc := "(Ljava/lang/Class;)[Ljava/lang/Object;" } : Jvm.MethodName)) ∈ lw_all := lw_g (lw_at lw_m6 50 rfl) rfl
theorem q1368 : (Jvm.Cond.code ({ cls := "java/util/ArrayDeque", name := "toArray", desc := "(Ljava/lang/Class;)[Ljava/lang/Object;" } : Jvm.MethodName) prog_59_method_56_code (7 : Nat) (Option.some (Jvm.ClassFile.FieldType.array (Jvm.ClassFile.FieldType.object "java/lang/Object")))) ∈ lw_all := lw_g (lw_at lw_m6 51 rfl) rfl
theorem q1369 : (Jvm.Cond.methodLink "java/util/ArrayDeque" (193 : Nat) ({ cls := "java/util/Arrays", name := "copyOfRange", desc := "([Ljava/lang/Object;IILjava/lang/Class;)[Ljava/lang/Object;" } : Jvm.MethodName)) ∈ lw_all := lw_g (lw_at lw_m6 52 rfl) rfl
theorem q1374 : (Jvm.Cond.methodLink "java/util/ArrayDeque" (27 : Nat) ({ cls := "java/lang/System", name := "arraycopy", desc := "(Ljava/lang/Object;ILjava/lang/Object;II)V" } : Jvm.MethodName)) ∈ lw_all := lw_g (lw_at lw_m6 57 rfl) rfl
theorem q1425 : (Jvm.Cond.instanceMethod ({ cls := "java/util/ArrayDeque", name := "clear", desc := "()V" } : Jvm.MethodName)) ∈ lw_all := lw_g (lw_at lw_m6 108 rfl) rfl
theorem q1426 : (Jvm.Cond.selects "java/util/ArrayDeque" ({ cls := "java/util/ArrayDeque", name := "clear", desc := "()V" } : Jvm.MethodName) ({ cls := "java/util/ArrayDeque", name := "clear", desc := "()V" } : Jvm.MethodName)) ∈ lw_all := lw_g (lw_at lw_m6 109 rfl) rfl
theorem q1427 : (Jvm.Cond.code ({ cls := "java/util/ArrayDeque", name := "clear", desc := "()V" } : Jvm.MethodName) prog_59_method_53_code (1 : Nat) (Option.none : Option Jvm.ClassFile.FieldType)) ∈ lw_all := lw_g (lw_at lw_m6 110 rfl) rfl
theorem q1428 : (Jvm.Cond.methodLink "java/util/ArrayDeque" (181 : Nat) ({ cls := "java/util/ArrayDeque", name := "circularClear", desc := "([Ljava/lang/Object;II)V" } : Jvm.MethodName)) ∈ lw_all := lw_g (lw_at lw_m6 111 rfl) rfl
theorem q1429 : (Jvm.Cond.static ({ cls := "java/util/ArrayDeque", name := "circularClear", desc := "([Ljava/lang/Object;II)V" } : Jvm.MethodName)) ∈ lw_all := lw_g (lw_at lw_m6 112 rfl) rfl
theorem q1430 : (Jvm.Cond.code ({ cls := "java/util/ArrayDeque", name := "circularClear", desc := "([Ljava/lang/Object;II)V" } : Jvm.MethodName) prog_59_method_54_code (4 : Nat) (Option.none : Option Jvm.ClassFile.FieldType)) ∈ lw_all := lw_g (lw_at lw_m6 113 rfl) rfl
theorem q1498 : (Jvm.Cond.instanceMethod ({ cls := "java/util/ArrayDeque", name := "removeFirst", desc := "()Ljava/lang/Object;" } : Jvm.MethodName)) ∈ lw_all := lw_g (lw_at lw_m6 181 rfl) rfl
theorem q1499 : (Jvm.Cond.selects "java/util/ArrayDeque" ({ cls := "java/util/ArrayDeque", name := "removeFirst", desc := "()Ljava/lang/Object;" } : Jvm.MethodName) ({ cls := "java/util/ArrayDeque", name := "removeFirst", desc := "()Ljava/lang/Object;" } : Jvm.MethodName)) ∈ lw_all := lw_g (lw_at lw_m6 182 rfl) rfl
theorem q1500 : (Jvm.Cond.code ({ cls := "java/util/ArrayDeque", name := "removeFirst", desc := "()Ljava/lang/Object;" } : Jvm.MethodName) prog_59_method_18_code (2 : Nat) (Option.some (Jvm.ClassFile.FieldType.object "java/lang/Object"))) ∈ lw_all := lw_g (lw_at lw_m6 183 rfl) rfl
theorem q1501 : (Jvm.Cond.methodLink "java/util/ArrayDeque" (93 : Nat) ({ cls := "java/util/ArrayDeque", name := "pollFirst", desc := "()Ljava/lang/Object;" } : Jvm.MethodName)) ∈ lw_all := lw_g (lw_at lw_m6 184 rfl) rfl
theorem q1502 : (Jvm.Cond.instanceMethod ({ cls := "java/util/ArrayDeque", name := "pollFirst", desc := "()Ljava/lang/Object;" } : Jvm.MethodName)) ∈ lw_all := lw_g (lw_at lw_m6 185 rfl) rfl
theorem q1503 : (Jvm.Cond.selects "java/util/ArrayDeque" ({ cls := "java/util/ArrayDeque", name := "pollFirst", desc := "()Ljava/lang/Object;" } : Jvm.MethodName) ({ cls := "java/util/ArrayDeque", name := "pollFirst", desc := "()Ljava/lang/Object;" } : Jvm.MethodName)) ∈ lw_all := lw_g (lw_at lw_m6 186 rfl) rfl
theorem q1504 : (Jvm.Cond.code ({ cls := "java/util/ArrayDeque", name := "pollFirst", desc := "()Ljava/lang/Object;" } : Jvm.MethodName) prog_59_method_20_code (4 : Nat) (Option.some (Jvm.ClassFile.FieldType.object "java/lang/Object"))) ∈ lw_all := lw_g (lw_at lw_m6 187 rfl) rfl
theorem q1505 : (Jvm.Cond.methodLink "java/util/ArrayDeque" (103 : Nat) ({ cls := "java/util/ArrayDeque", name := "elementAt", desc := "([Ljava/lang/Object;I)Ljava/lang/Object;" } : Jvm.MethodName)) ∈ lw_all := lw_g (lw_at lw_m6 188 rfl) rfl
theorem q1506 : (Jvm.Cond.static ({ cls := "java/util/ArrayDeque", name := "elementAt", desc := "([Ljava/lang/Object;I)Ljava/lang/Object;" } : Jvm.MethodName)) ∈ lw_all := lw_g (lw_at lw_m6 189 rfl) rfl
theorem q1507 : (Jvm.Cond.code ({ cls := "java/util/ArrayDeque", name := "elementAt", desc := "([Ljava/lang/Object;I)Ljava/lang/Object;" } : Jvm.MethodName) prog_59_method_10_code (2 : Nat) (Option.some (Jvm.ClassFile.FieldType.object "java/lang/Object"))) ∈ lw_all := lw_g (lw_at lw_m6 190 rfl) rfl
theorem q1508 : (Jvm.Cond.methodLink "java/util/ArrayDeque" (74 : Nat) ({ cls := "java/util/ArrayDeque", name := "inc", desc := "(II)I" } : Jvm.MethodName)) ∈ lw_all := lw_g (lw_at lw_m6 191 rfl) rfl
theorem q1509 : (Jvm.Cond.static ({ cls := "java/util/ArrayDeque", name := "inc", desc := "(II)I" } : Jvm.MethodName)) ∈ lw_all := lw_g (lw_at lw_m6 192 rfl) rfl
theorem q1510 : (Jvm.Cond.code ({ cls := "java/util/ArrayDeque", name := "inc", desc := "(II)I" } : Jvm.MethodName) prog_59_method_6_code (2 : Nat) (Option.some Jvm.ClassFile.FieldType.int)) ∈ lw_all := lw_g (lw_at lw_m6 193 rfl) rfl
theorem q1511 : (Jvm.Cond.classLink "java/util/ArrayDeque" (97 : Nat) "java/util/NoSuchElementException") ∈ lw_all := lw_g (lw_at lw_m6 194 rfl) rfl
theorem q1512 : (Jvm.Cond.methodLink "java/util/ArrayDeque" (99 : Nat) ({ cls := "java/util/NoSuchElementException", name := "<init>", desc := "()V" } : Jvm.MethodName)) ∈ lw_all := lw_g (lw_at lw_m6 195 rfl) rfl
theorem q1514 : (Jvm.Cond.instanceMethod ({ cls := "java/util/ArrayDeque", name := "addLast", desc := "(Ljava/lang/Object;)V" } : Jvm.MethodName)) ∈ lw_all := lw_g (lw_at lw_m6 197 rfl) rfl
theorem q1515 : (Jvm.Cond.selects "java/util/ArrayDeque" ({ cls := "java/util/ArrayDeque", name := "addLast", desc := "(Ljava/lang/Object;)V" } : Jvm.MethodName) ({ cls := "java/util/ArrayDeque", name := "addLast", desc := "(Ljava/lang/Object;)V" } : Jvm.MethodName)) ∈ lw_all := lw_g (lw_at lw_m6 198 rfl) rfl
theorem q1516 : (Jvm.Cond.code ({ cls := "java/util/ArrayDeque", name := "addLast", desc := "(Ljava/lang/Object;)V" } : Jvm.MethodName) prog_59_method_13_code (3 : Nat) (Option.none : Option Jvm.ClassFile.FieldType)) ∈ lw_all := lw_g (lw_at lw_m6 199 rfl) rfl
theorem q1517 : (Jvm.Cond.methodLink "java/util/ArrayDeque" (71 : Nat) ({ cls := "java/util/ArrayDeque", name := "grow", desc := "(I)V" } : Jvm.MethodName)) ∈ lw_all := lw_g (lw_at lw_m6 200 rfl) rfl
theorem q1518 : (Jvm.Cond.privateMethod ({ cls := "java/util/ArrayDeque", name := "grow", desc := "(I)V" } : Jvm.MethodName)) ∈ lw_tbl := lw_at lw_m6 201 rfl
theorem q1519 : (Jvm.Cond.instanceMethod ({ cls := "java/util/ArrayDeque", name := "grow", desc := "(I)V" } : Jvm.MethodName)) ∈ lw_all := lw_g (lw_at lw_m6 202 rfl) rfl
theorem q1520 : (Jvm.Cond.code ({ cls := "java/util/ArrayDeque", name := "grow", desc := "(I)V" } : Jvm.MethodName) prog_59_method_1_code (9 : Nat) (Option.none : Option Jvm.ClassFile.FieldType)) ∈ lw_all := lw_g (lw_at lw_m6 203 rfl) rfl
theorem q1521 : (Jvm.Cond.constant "java/util/ArrayDeque" (9 : Nat) (2147483639 : Int32)) ∈ lw_all := lw_g (lw_at lw_m6 204 rfl) rfl
theorem q1522 : (Jvm.Cond.methodLink "java/util/ArrayDeque" (10 : Nat) ({ cls := "java/util/ArrayDeque", name := "newCapacity", desc := "(II)I" } : Jvm.MethodName)) ∈ lw_all := lw_g (lw_at lw_m6 205 rfl) rfl
theorem q1523 : (Jvm.Cond.privateMethod ({ cls := "java/util/ArrayDeque", name := "newCapacity", desc := "(II)I" } : Jvm.MethodName)) ∈ lw_tbl := lw_at lw_m6 206 rfl
theorem q1524 : (Jvm.Cond.instanceMethod ({ cls := "java/util/ArrayDeque", name := "newCapacity", desc := "(II)I" } : Jvm.MethodName)) ∈ lw_all := lw_g (lw_at lw_m6 207 rfl) rfl
theorem q1525 : (Jvm.Cond.code ({ cls := "java/util/ArrayDeque", name := "newCapacity", desc := "(II)I" } : Jvm.MethodName) prog_59_method_2_code (5 : Nat) (Option.some Jvm.ClassFile.FieldType.int)) ∈ lw_all := lw_g (lw_at lw_m6 208 rfl) rfl
theorem q1526 : (Jvm.Cond.classLink "java/util/ArrayDeque" (33 : Nat) "java/lang/IllegalStateException") ∈ lw_all := lw_g (lw_at lw_m6 209 rfl) rfl
theorem q1535 : (Jvm.Cond.stringRef "java/util/ArrayDeque" (35 : Nat) "Sorry, deque too big") ∈ lw_tbl := lw_at lw_m6 218 rfl
theorem q1536 : (Jvm.Cond.methodLink "java/util/ArrayDeque" (37 : Nat) ({ cls := "java/lang/IllegalStateException", name := "<init>", desc := "(Ljava/lang/String;)V" } : Jvm.MethodName)) ∈ lw_all := lw_g (lw_at lw_m6 219 rfl) rfl
theorem q1542 : (Jvm.Cond.constant "java/util/ArrayDeque" (41 : Nat) (2147483647 : Int32)) ∈ lw_all := lw_g (lw_at lw_m6 225 rfl) rfl
theorem q1543 : (Jvm.Cond.methodLink "java/util/ArrayDeque" (14 : Nat) ({ cls := "java/util/Arrays", name := "copyOf", desc := "([Ljava/lang/Object;I)[Ljava/lang/Object;" } : Jvm.MethodName)) ∈ lw_all := lw_g (lw_at lw_m6 226 rfl) rfl
theorem q2648 : (Jvm.Cond.unhidden "java/util/ArrayDeque" "getClass" "()Ljava/lang/Class;") ∈ lw_tbl := lw_at lw_m11 131 rfl
theorem q2670 : (Jvm.Cond.instanceMethod ({ cls := "java/util/ArrayDeque", name := "isEmpty", desc := "()Z" } : Jvm.MethodName)) ∈ lw_all := lw_g (lw_at lw_m11 153 rfl) rfl
theorem q2671 : (Jvm.Cond.selects "java/util/ArrayDeque" ({ cls := "java/util/ArrayDeque", name := "isEmpty", desc := "()Z" } : Jvm.MethodName) ({ cls := "java/util/ArrayDeque", name := "isEmpty", desc := "()Z" } : Jvm.MethodName)) ∈ lw_all := lw_g (lw_at lw_m11 154 rfl) rfl
theorem q2672 : (Jvm.Cond.code ({ cls := "java/util/ArrayDeque", name := "isEmpty", desc := "()Z" } : Jvm.MethodName) prog_59_method_38_code (1 : Nat) (Option.some Jvm.ClassFile.FieldType.boolean)) ∈ lw_all := lw_g (lw_at lw_m11 155 rfl) rfl
theorem q2674 : (Jvm.Cond.instanceMethod ({ cls := "java/util/ArrayDeque", name := "removeLast", desc := "()Ljava/lang/Object;" } : Jvm.MethodName)) ∈ lw_all := lw_g (lw_at lw_m11 157 rfl) rfl
theorem q2675 : (Jvm.Cond.selects "java/util/ArrayDeque" ({ cls := "java/util/ArrayDeque", name := "removeLast", desc := "()Ljava/lang/Object;" } : Jvm.MethodName) ({ cls := "java/util/ArrayDeque", name := "removeLast", desc := "()Ljava/lang/Object;" } : Jvm.MethodName)) ∈ lw_all := lw_g (lw_at lw_m11 158 rfl) rfl
theorem q2676 : (Jvm.Cond.code ({ cls := "java/util/ArrayDeque", name := "removeLast", desc := "()Ljava/lang/Object;" } : Jvm.MethodName) prog_59_method_19_code (2 : Nat) (Option.some (Jvm.ClassFile.FieldType.object "java/lang/Object"))) ∈ lw_all := lw_g (lw_at lw_m11 159 rfl) rfl
theorem q2677 : (Jvm.Cond.methodLink "java/util/ArrayDeque" (100 : Nat) ({ cls := "java/util/ArrayDeque", name := "pollLast", desc := "()Ljava/lang/Object;" } : Jvm.MethodName)) ∈ lw_all := lw_g (lw_at lw_m11 160 rfl) rfl
theorem q2678 : (Jvm.Cond.instanceMethod ({ cls := "java/util/ArrayDeque", name := "pollLast", desc := "()Ljava/lang/Object;" } : Jvm.MethodName)) ∈ lw_all := lw_g (lw_at lw_m11 161 rfl) rfl
theorem q2679 : (Jvm.Cond.selects "java/util/ArrayDeque" ({ cls := "java/util/ArrayDeque", name := "pollLast", desc := "()Ljava/lang/Object;" } : Jvm.MethodName) ({ cls := "java/util/ArrayDeque", name := "pollLast", desc := "()Ljava/lang/Object;" } : Jvm.MethodName)) ∈ lw_all := lw_g (lw_at lw_m11 162 rfl) rfl
theorem q2680 : (Jvm.Cond.code ({ cls := "java/util/ArrayDeque", name := "pollLast", desc := "()Ljava/lang/Object;" } : Jvm.MethodName) prog_59_method_21_code (4 : Nat) (Option.some (Jvm.ClassFile.FieldType.object "java/lang/Object"))) ∈ lw_all := lw_g (lw_at lw_m11 163 rfl) rfl
theorem q2681 : (Jvm.Cond.methodLink "java/util/ArrayDeque" (68 : Nat) ({ cls := "java/util/ArrayDeque", name := "dec", desc := "(II)I" } : Jvm.MethodName)) ∈ lw_all := lw_g (lw_at lw_m11 164 rfl) rfl
theorem q2682 : (Jvm.Cond.static ({ cls := "java/util/ArrayDeque", name := "dec", desc := "(II)I" } : Jvm.MethodName)) ∈ lw_all := lw_g (lw_at lw_m11 165 rfl) rfl
theorem q2683 : (Jvm.Cond.code ({ cls := "java/util/ArrayDeque", name := "dec", desc := "(II)I" } : Jvm.MethodName) prog_59_method_7_code (2 : Nat) (Option.some Jvm.ClassFile.FieldType.int)) ∈ lw_all := lw_g (lw_at lw_m11 166 rfl) rfl
theorem q3298 : (Jvm.Cond.selects "java/util/ArrayDeque" ({ cls := "java/util/ArrayDeque", name := "size", desc := "()I" } : Jvm.MethodName) ({ cls := "java/util/ArrayDeque", name := "size", desc := "()I" } : Jvm.MethodName)) ∈ lw_all := lw_g (lw_at lw_m14 61 rfl) rfl
theorem q3316 : (Jvm.Cond.castable "java/util/ArrayDeque" "java/lang/Object") ∈ lw_tbl := lw_at lw_m14 79 rfl
theorem in_J4 : ∀ w ∈ wsJ40, w ∈ lw_all := lw_in wsJ40 [276, 278, 280] (by decide +kernel) (by decide +kernel)

/-! java/lang/AbstractStringBuilder -/
set_option maxRecDepth 100000
def RJ5 : String := "java/lang/AbstractStringBuilder"
abbrev cJ5_init : ByteArray := prog_26_method_2_code
def yJ5_init : MethodName := ⟨RJ5, "<init>", "(I)V"⟩
def dkwJ5_init_1 : List UInt8 := [167, 0, 16, 42, 27, 184, 0, 26, 181, 0, 15, 42, 4, 181, 0, 22, 177]
abbrev dktJ5_init_1 : List UInt8 := dkwJ5_init_1 ++ []
def dkwJ5_init_0 : List UInt8 := [42, 183, 0, 3, 178, 0, 18, 153, 0, 18, 42, 27, 188, 8, 181, 0, 15, 42, 3, 181, 0, 22]
abbrev dktJ5_init_0 : List UInt8 := dkwJ5_init_0 ++ dktJ5_init_1
theorem dksJ5_init_0 : cJ5_init.data.toList.drop 0 = dktJ5_init_0 := by decide +kernel
theorem dksJ5_init_1 : cJ5_init.data.toList.drop 22 = dktJ5_init_1 := dk_seg dksJ5_init_0 22 rfl rfl
theorem dJ5_init_0 : decode cJ5_init 0 = .ok (.aload_n 0, 1) := dk_42 (dk_at dksJ5_init_0 0 rfl rfl)
theorem dJ5_init_1 : decode cJ5_init 1 = .ok (.invokespecial 3, 3) := dk_183 0 3 (dk_at dksJ5_init_0 1 rfl rfl)
theorem dJ5_init_4 : decode cJ5_init 4 = .ok (.getstatic 18, 3) := dk_178 0 18 (dk_at dksJ5_init_0 4 rfl rfl)
theorem dJ5_init_7 : decode cJ5_init 7 = .ok (.ifCond .eq 18, 3) := dk_153 0 18 (dk_at dksJ5_init_0 7 rfl rfl)
theorem dJ5_init_10 : decode cJ5_init 10 = .ok (.aload_n 0, 1) := dk_42 (dk_at dksJ5_init_0 10 rfl rfl)
theorem dJ5_init_11 : decode cJ5_init 11 = .ok (.iload_n 1, 1) := dk_27 (dk_at dksJ5_init_0 11 rfl rfl)
theorem dJ5_init_12 : decode cJ5_init 12 = .ok (.newarray .byte, 2) := dk_188_8 (dk_at dksJ5_init_0 12 rfl rfl)
theorem dJ5_init_14 : decode cJ5_init 14 = .ok (.putfield 15, 3) := dk_181 0 15 (dk_at dksJ5_init_0 14 rfl rfl)
theorem dJ5_init_17 : decode cJ5_init 17 = .ok (.aload_n 0, 1) := dk_42 (dk_at dksJ5_init_0 17 rfl rfl)
theorem dJ5_init_18 : decode cJ5_init 18 = .ok (.iconst 0, 1) := dk_3 (dk_at dksJ5_init_0 18 rfl rfl)
theorem dJ5_init_19 : decode cJ5_init 19 = .ok (.putfield 22, 3) := dk_181 0 22 (dk_at dksJ5_init_0 19 rfl rfl)
theorem dJ5_init_22 : decode cJ5_init 22 = .ok (.goto 16, 3) := dk_167 0 16 (dk_at dksJ5_init_1 0 rfl rfl)
theorem dJ5_init_25 : decode cJ5_init 25 = .ok (.aload_n 0, 1) := dk_42 (dk_at dksJ5_init_1 3 rfl rfl)
theorem dJ5_init_26 : decode cJ5_init 26 = .ok (.iload_n 1, 1) := dk_27 (dk_at dksJ5_init_1 4 rfl rfl)
theorem dJ5_init_27 : decode cJ5_init 27 = .ok (.invokestatic 26, 3) := dk_184 0 26 (dk_at dksJ5_init_1 5 rfl rfl)
theorem dJ5_init_30 : decode cJ5_init 30 = .ok (.putfield 15, 3) := dk_181 0 15 (dk_at dksJ5_init_1 8 rfl rfl)
theorem dJ5_init_33 : decode cJ5_init 33 = .ok (.aload_n 0, 1) := dk_42 (dk_at dksJ5_init_1 11 rfl rfl)
theorem dJ5_init_34 : decode cJ5_init 34 = .ok (.iconst 1, 1) := dk_4 (dk_at dksJ5_init_1 12 rfl rfl)
theorem dJ5_init_35 : decode cJ5_init 35 = .ok (.putfield 22, 3) := dk_181 0 22 (dk_at dksJ5_init_1 13 rfl rfl)
theorem dJ5_init_38 : decode cJ5_init 38 = .ok (.return_, 1) := dk_177 (dk_at dksJ5_init_1 16 rfl rfl)
abbrev cJ5_append : ByteArray := prog_26_method_22_code
def yJ5_append : MethodName := ⟨RJ5, "append", "(Ljava/lang/String;)Ljava/lang/AbstractStringBuilder;"⟩
def dkwJ5_append_1 : List UInt8 := [42, 42, 180, 0, 79, 43, 182, 0, 208, 42, 89, 180, 0, 79, 28, 96, 181, 0, 79, 42, 176]
abbrev dktJ5_append_1 : List UInt8 := dkwJ5_append_1 ++ []
def dkwJ5_append_0 : List UInt8 := [43, 199, 0, 8, 42, 182, 0, 204, 176, 43, 182, 0, 32, 61, 42, 42, 180, 0, 79, 28, 96, 182, 0, 100]
abbrev dktJ5_append_0 : List UInt8 := dkwJ5_append_0 ++ dktJ5_append_1
theorem dksJ5_append_0 : cJ5_append.data.toList.drop 0 = dktJ5_append_0 := by decide +kernel
theorem dksJ5_append_1 : cJ5_append.data.toList.drop 24 = dktJ5_append_1 := dk_seg dksJ5_append_0 24 rfl rfl
theorem dJ5_append_0 : decode cJ5_append 0 = .ok (.aload_n 1, 1) := dk_43 (dk_at dksJ5_append_0 0 rfl rfl)
theorem dJ5_append_1 : decode cJ5_append 1 = .ok (.ifnonnull 8, 3) := dk_199 0 8 (dk_at dksJ5_append_0 1 rfl rfl)
theorem dJ5_append_4 : decode cJ5_append 4 = .ok (.aload_n 0, 1) := dk_42 (dk_at dksJ5_append_0 4 rfl rfl)
theorem dJ5_append_5 : decode cJ5_append 5 = .ok (.invokevirtual 204, 3) := dk_182 0 204 (dk_at dksJ5_append_0 5 rfl rfl)
theorem dJ5_append_8 : decode cJ5_append 8 = .ok (.areturn, 1) := dk_176 (dk_at dksJ5_append_0 8 rfl rfl)
theorem dJ5_append_9 : decode cJ5_append 9 = .ok (.aload_n 1, 1) := dk_43 (dk_at dksJ5_append_0 9 rfl rfl)
theorem dJ5_append_10 : decode cJ5_append 10 = .ok (.invokevirtual 32, 3) := dk_182 0 32 (dk_at dksJ5_append_0 10 rfl rfl)
theorem dJ5_append_13 : decode cJ5_append 13 = .ok (.istore_n 2, 1) := dk_61 (dk_at dksJ5_append_0 13 rfl rfl)
theorem dJ5_append_14 : decode cJ5_append 14 = .ok (.aload_n 0, 1) := dk_42 (dk_at dksJ5_append_0 14 rfl rfl)
theorem dJ5_append_15 : decode cJ5_append 15 = .ok (.aload_n 0, 1) := dk_42 (dk_at dksJ5_append_0 15 rfl rfl)
theorem dJ5_append_16 : decode cJ5_append 16 = .ok (.getfield 79, 3) := dk_180 0 79 (dk_at dksJ5_append_0 16 rfl rfl)
theorem dJ5_append_19 : decode cJ5_append 19 = .ok (.iload_n 2, 1) := dk_28 (dk_at dksJ5_append_0 19 rfl rfl)
theorem dJ5_append_20 : decode cJ5_append 20 = .ok (.iadd, 1) := dk_96 (dk_at dksJ5_append_0 20 rfl rfl)
theorem dJ5_append_21 : decode cJ5_append 21 = .ok (.invokevirtual 100, 3) := dk_182 0 100 (dk_at dksJ5_append_0 21 rfl rfl)
theorem dJ5_append_24 : decode cJ5_append 24 = .ok (.aload_n 0, 1) := dk_42 (dk_at dksJ5_append_1 0 rfl rfl)
theorem dJ5_append_25 : decode cJ5_append 25 = .ok (.aload_n 0, 1) := dk_42 (dk_at dksJ5_append_1 1 rfl rfl)
theorem dJ5_append_26 : decode cJ5_append 26 = .ok (.getfield 79, 3) := dk_180 0 79 (dk_at dksJ5_append_1 2 rfl rfl)
theorem dJ5_append_29 : decode cJ5_append 29 = .ok (.aload_n 1, 1) := dk_43 (dk_at dksJ5_append_1 5 rfl rfl)
theorem dJ5_append_30 : decode cJ5_append 30 = .ok (.invokevirtual 208, 3) := dk_182 0 208 (dk_at dksJ5_append_1 6 rfl rfl)
theorem dJ5_append_33 : decode cJ5_append 33 = .ok (.aload_n 0, 1) := dk_42 (dk_at dksJ5_append_1 9 rfl rfl)
theorem dJ5_append_34 : decode cJ5_append 34 = .ok (.dup, 1) := dk_89 (dk_at dksJ5_append_1 10 rfl rfl)
theorem dJ5_append_35 : decode cJ5_append 35 = .ok (.getfield 79, 3) := dk_180 0 79 (dk_at dksJ5_append_1 11 rfl rfl)
theorem dJ5_append_38 : decode cJ5_append 38 = .ok (.iload_n 2, 1) := dk_28 (dk_at dksJ5_append_1 14 rfl rfl)
theorem dJ5_append_39 : decode cJ5_append 39 = .ok (.iadd, 1) := dk_96 (dk_at dksJ5_append_1 15 rfl rfl)
theorem dJ5_append_40 : decode cJ5_append 40 = .ok (.putfield 79, 3) := dk_181 0 79 (dk_at dksJ5_append_1 16 rfl rfl)
theorem dJ5_append_43 : decode cJ5_append 43 = .ok (.aload_n 0, 1) := dk_42 (dk_at dksJ5_append_1 19 rfl rfl)
theorem dJ5_append_44 : decode cJ5_append 44 = .ok (.areturn, 1) := dk_176 (dk_at dksJ5_append_1 20 rfl rfl)
abbrev cJ5_appendNull : ByteArray := prog_26_method_26_code
def yJ5_appendNull : MethodName := ⟨RJ5, "appendNull", "()Ljava/lang/AbstractStringBuilder;"⟩
def dkwJ5_appendNull_3 : List UInt8 := [184, 0, 226, 60, 42, 27, 181, 0, 79, 42, 176]
abbrev dktJ5_appendNull_3 : List UInt8 := dkwJ5_appendNull_3 ++ []
def dkwJ5_appendNull_2 : List UInt8 := [16, 108, 84, 44, 27, 132, 1, 1, 16, 108, 84, 167, 0, 17, 44, 27, 16, 110, 16, 117, 16, 108, 16, 108]
abbrev dktJ5_appendNull_2 : List UInt8 := dkwJ5_appendNull_2 ++ dktJ5_appendNull_3
def dkwJ5_appendNull_1 : List UInt8 := [153, 0, 38, 44, 27, 132, 1, 1, 16, 110, 84, 44, 27, 132, 1, 1, 16, 117, 84, 44, 27, 132, 1, 1]
abbrev dktJ5_appendNull_1 : List UInt8 := dkwJ5_appendNull_1 ++ dktJ5_appendNull_2
def dkwJ5_appendNull_0 : List UInt8 := [42, 42, 180, 0, 79, 7, 96, 182, 0, 100, 42, 180, 0, 79, 60, 42, 180, 0, 15, 77, 42, 182, 0, 83]
abbrev dktJ5_appendNull_0 : List UInt8 := dkwJ5_appendNull_0 ++ dktJ5_appendNull_1
theorem dksJ5_appendNull_0 : cJ5_appendNull.data.toList.drop 0 = dktJ5_appendNull_0 := by decide +kernel
theorem dksJ5_appendNull_1 : cJ5_appendNull.data.toList.drop 24 = dktJ5_appendNull_1 := dk_seg dksJ5_appendNull_0 24 rfl rfl
theorem dksJ5_appendNull_2 : cJ5_appendNull.data.toList.drop 48 = dktJ5_appendNull_2 := dk_seg dksJ5_appendNull_1 24 rfl rfl
theorem dksJ5_appendNull_3 : cJ5_appendNull.data.toList.drop 72 = dktJ5_appendNull_3 := dk_seg dksJ5_appendNull_2 24 rfl rfl
theorem dJ5_appendNull_0 : decode cJ5_appendNull 0 = .ok (.aload_n 0, 1) := dk_42 (dk_at dksJ5_appendNull_0 0 rfl rfl)
theorem dJ5_appendNull_1 : decode cJ5_appendNull 1 = .ok (.aload_n 0, 1) := dk_42 (dk_at dksJ5_appendNull_0 1 rfl rfl)
theorem dJ5_appendNull_2 : decode cJ5_appendNull 2 = .ok (.getfield 79, 3) := dk_180 0 79 (dk_at dksJ5_appendNull_0 2 rfl rfl)
theorem dJ5_appendNull_5 : decode cJ5_appendNull 5 = .ok (.iconst 4, 1) := dk_7 (dk_at dksJ5_appendNull_0 5 rfl rfl)
theorem dJ5_appendNull_6 : decode cJ5_appendNull 6 = .ok (.iadd, 1) := dk_96 (dk_at dksJ5_appendNull_0 6 rfl rfl)
theorem dJ5_appendNull_7 : decode cJ5_appendNull 7 = .ok (.invokevirtual 100, 3) := dk_182 0 100 (dk_at dksJ5_appendNull_0 7 rfl rfl)
theorem dJ5_appendNull_10 : decode cJ5_appendNull 10 = .ok (.aload_n 0, 1) := dk_42 (dk_at dksJ5_appendNull_0 10 rfl rfl)
theorem dJ5_appendNull_11 : decode cJ5_appendNull 11 = .ok (.getfield 79, 3) := dk_180 0 79 (dk_at dksJ5_appendNull_0 11 rfl rfl)
theorem dJ5_appendNull_14 : decode cJ5_appendNull 14 = .ok (.istore_n 1, 1) := dk_60 (dk_at dksJ5_appendNull_0 14 rfl rfl)
theorem dJ5_appendNull_15 : decode cJ5_appendNull 15 = .ok (.aload_n 0, 1) := dk_42 (dk_at dksJ5_appendNull_0 15 rfl rfl)
theorem dJ5_appendNull_16 : decode cJ5_appendNull 16 = .ok (.getfield 15, 3) := dk_180 0 15 (dk_at dksJ5_appendNull_0 16 rfl rfl)
theorem dJ5_appendNull_19 : decode cJ5_appendNull 19 = .ok (.astore_n 2, 1) := dk_77 (dk_at dksJ5_appendNull_0 19 rfl rfl)
theorem dJ5_appendNull_20 : decode cJ5_appendNull 20 = .ok (.aload_n 0, 1) := dk_42 (dk_at dksJ5_appendNull_0 20 rfl rfl)
theorem dJ5_appendNull_21 : decode cJ5_appendNull 21 = .ok (.invokevirtual 83, 3) := dk_182 0 83 (dk_at dksJ5_appendNull_0 21 rfl rfl)
theorem dJ5_appendNull_24 : decode cJ5_appendNull 24 = .ok (.ifCond .eq 38, 3) := dk_153 0 38 (dk_at dksJ5_appendNull_1 0 rfl rfl)
theorem dJ5_appendNull_27 : decode cJ5_appendNull 27 = .ok (.aload_n 2, 1) := dk_44 (dk_at dksJ5_appendNull_1 3 rfl rfl)
theorem dJ5_appendNull_28 : decode cJ5_appendNull 28 = .ok (.iload_n 1, 1) := dk_27 (dk_at dksJ5_appendNull_1 4 rfl rfl)
theorem dJ5_appendNull_29 : decode cJ5_appendNull 29 = .ok (.iinc 1 1, 3) := dk_132 1 1 (dk_at dksJ5_appendNull_1 5 rfl rfl)
theorem dJ5_appendNull_32 : decode cJ5_appendNull 32 = .ok (.bipush 110, 2) := dk_16 110 (dk_at dksJ5_appendNull_1 8 rfl rfl)
theorem dJ5_appendNull_34 : decode cJ5_appendNull 34 = .ok (.bastore, 1) := dk_84 (dk_at dksJ5_appendNull_1 10 rfl rfl)
theorem dJ5_appendNull_35 : decode cJ5_appendNull 35 = .ok (.aload_n 2, 1) := dk_44 (dk_at dksJ5_appendNull_1 11 rfl rfl)
theorem dJ5_appendNull_36 : decode cJ5_appendNull 36 = .ok (.iload_n 1, 1) := dk_27 (dk_at dksJ5_appendNull_1 12 rfl rfl)
theorem dJ5_appendNull_37 : decode cJ5_appendNull 37 = .ok (.iinc 1 1, 3) := dk_132 1 1 (dk_at dksJ5_appendNull_1 13 rfl rfl)
theorem dJ5_appendNull_40 : decode cJ5_appendNull 40 = .ok (.bipush 117, 2) := dk_16 117 (dk_at dksJ5_appendNull_1 16 rfl rfl)
theorem dJ5_appendNull_42 : decode cJ5_appendNull 42 = .ok (.bastore, 1) := dk_84 (dk_at dksJ5_appendNull_1 18 rfl rfl)
theorem dJ5_appendNull_43 : decode cJ5_appendNull 43 = .ok (.aload_n 2, 1) := dk_44 (dk_at dksJ5_appendNull_1 19 rfl rfl)
theorem dJ5_appendNull_44 : decode cJ5_appendNull 44 = .ok (.iload_n 1, 1) := dk_27 (dk_at dksJ5_appendNull_1 20 rfl rfl)
theorem dJ5_appendNull_45 : decode cJ5_appendNull 45 = .ok (.iinc 1 1, 3) := dk_132 1 1 (dk_at dksJ5_appendNull_1 21 rfl rfl)
theorem dJ5_appendNull_48 : decode cJ5_appendNull 48 = .ok (.bipush 108, 2) := dk_16 108 (dk_at dksJ5_appendNull_2 0 rfl rfl)
theorem dJ5_appendNull_50 : decode cJ5_appendNull 50 = .ok (.bastore, 1) := dk_84 (dk_at dksJ5_appendNull_2 2 rfl rfl)
theorem dJ5_appendNull_51 : decode cJ5_appendNull 51 = .ok (.aload_n 2, 1) := dk_44 (dk_at dksJ5_appendNull_2 3 rfl rfl)
theorem dJ5_appendNull_52 : decode cJ5_appendNull 52 = .ok (.iload_n 1, 1) := dk_27 (dk_at dksJ5_appendNull_2 4 rfl rfl)
theorem dJ5_appendNull_53 : decode cJ5_appendNull 53 = .ok (.iinc 1 1, 3) := dk_132 1 1 (dk_at dksJ5_appendNull_2 5 rfl rfl)
theorem dJ5_appendNull_56 : decode cJ5_appendNull 56 = .ok (.bipush 108, 2) := dk_16 108 (dk_at dksJ5_appendNull_2 8 rfl rfl)
theorem dJ5_appendNull_58 : decode cJ5_appendNull 58 = .ok (.bastore, 1) := dk_84 (dk_at dksJ5_appendNull_2 10 rfl rfl)
theorem dJ5_appendNull_59 : decode cJ5_appendNull 59 = .ok (.goto 17, 3) := dk_167 0 17 (dk_at dksJ5_appendNull_2 11 rfl rfl)
theorem dJ5_appendNull_62 : decode cJ5_appendNull 62 = .ok (.aload_n 2, 1) := dk_44 (dk_at dksJ5_appendNull_2 14 rfl rfl)
theorem dJ5_appendNull_63 : decode cJ5_appendNull 63 = .ok (.iload_n 1, 1) := dk_27 (dk_at dksJ5_appendNull_2 15 rfl rfl)
theorem dJ5_appendNull_64 : decode cJ5_appendNull 64 = .ok (.bipush 110, 2) := dk_16 110 (dk_at dksJ5_appendNull_2 16 rfl rfl)
theorem dJ5_appendNull_66 : decode cJ5_appendNull 66 = .ok (.bipush 117, 2) := dk_16 117 (dk_at dksJ5_appendNull_2 18 rfl rfl)
theorem dJ5_appendNull_68 : decode cJ5_appendNull 68 = .ok (.bipush 108, 2) := dk_16 108 (dk_at dksJ5_appendNull_2 20 rfl rfl)
theorem dJ5_appendNull_70 : decode cJ5_appendNull 70 = .ok (.bipush 108, 2) := dk_16 108 (dk_at dksJ5_appendNull_2 22 rfl rfl)
theorem dJ5_appendNull_72 : decode cJ5_appendNull 72 = .ok (.invokestatic 226, 3) := dk_184 0 226 (dk_at dksJ5_appendNull_3 0 rfl rfl)
theorem dJ5_appendNull_75 : decode cJ5_appendNull 75 = .ok (.istore_n 1, 1) := dk_60 (dk_at dksJ5_appendNull_3 3 rfl rfl)
theorem dJ5_appendNull_76 : decode cJ5_appendNull 76 = .ok (.aload_n 0, 1) := dk_42 (dk_at dksJ5_appendNull_3 4 rfl rfl)
theorem dJ5_appendNull_77 : decode cJ5_appendNull 77 = .ok (.iload_n 1, 1) := dk_27 (dk_at dksJ5_appendNull_3 5 rfl rfl)
theorem dJ5_appendNull_78 : decode cJ5_appendNull 78 = .ok (.putfield 79, 3) := dk_181 0 79 (dk_at dksJ5_appendNull_3 6 rfl rfl)
theorem dJ5_appendNull_81 : decode cJ5_appendNull 81 = .ok (.aload_n 0, 1) := dk_42 (dk_at dksJ5_appendNull_3 9 rfl rfl)
theorem dJ5_appendNull_82 : decode cJ5_appendNull 82 = .ok (.areturn, 1) := dk_176 (dk_at dksJ5_appendNull_3 10 rfl rfl)
abbrev cJ5_ensureCapacityInternal : ByteArray := prog_26_method_9_code
def yJ5_ensureCapacityInternal : MethodName := ⟨RJ5, "ensureCapacityInternal", "(I)V"⟩
def dkwJ5_ensureCapacityInternal_1 : List UInt8 := [182, 0, 104, 42, 180, 0, 22, 120, 184, 0, 108, 181, 0, 15, 177]
abbrev dktJ5_ensureCapacityInternal_1 : List UInt8 := dkwJ5_ensureCapacityInternal_1 ++ []
def dkwJ5_ensureCapacityInternal_0 : List UInt8 := [42, 180, 0, 15, 190, 42, 180, 0, 22, 122, 61, 27, 28, 100, 158, 0, 24, 42, 42, 180, 0, 15, 42, 27]
abbrev dktJ5_ensureCapacityInternal_0 : List UInt8 := dkwJ5_ensureCapacityInternal_0 ++ dktJ5_ensureCapacityInternal_1
theorem dksJ5_ensureCapacityInternal_0 : cJ5_ensureCapacityInternal.data.toList.drop 0 = dktJ5_ensureCapacityInternal_0 := by decide +kernel
theorem dksJ5_ensureCapacityInternal_1 : cJ5_ensureCapacityInternal.data.toList.drop 24 = dktJ5_ensureCapacityInternal_1 := dk_seg dksJ5_ensureCapacityInternal_0 24 rfl rfl
theorem dJ5_ensureCapacityInternal_0 : decode cJ5_ensureCapacityInternal 0 = .ok (.aload_n 0, 1) := dk_42 (dk_at dksJ5_ensureCapacityInternal_0 0 rfl rfl)
theorem dJ5_ensureCapacityInternal_1 : decode cJ5_ensureCapacityInternal 1 = .ok (.getfield 15, 3) := dk_180 0 15 (dk_at dksJ5_ensureCapacityInternal_0 1 rfl rfl)
theorem dJ5_ensureCapacityInternal_4 : decode cJ5_ensureCapacityInternal 4 = .ok (.arraylength, 1) := dk_190 (dk_at dksJ5_ensureCapacityInternal_0 4 rfl rfl)
theorem dJ5_ensureCapacityInternal_5 : decode cJ5_ensureCapacityInternal 5 = .ok (.aload_n 0, 1) := dk_42 (dk_at dksJ5_ensureCapacityInternal_0 5 rfl rfl)
theorem dJ5_ensureCapacityInternal_6 : decode cJ5_ensureCapacityInternal 6 = .ok (.getfield 22, 3) := dk_180 0 22 (dk_at dksJ5_ensureCapacityInternal_0 6 rfl rfl)
theorem dJ5_ensureCapacityInternal_9 : decode cJ5_ensureCapacityInternal 9 = .ok (.ishr, 1) := dk_122 (dk_at dksJ5_ensureCapacityInternal_0 9 rfl rfl)
theorem dJ5_ensureCapacityInternal_10 : decode cJ5_ensureCapacityInternal 10 = .ok (.istore_n 2, 1) := dk_61 (dk_at dksJ5_ensureCapacityInternal_0 10 rfl rfl)
theorem dJ5_ensureCapacityInternal_11 : decode cJ5_ensureCapacityInternal 11 = .ok (.iload_n 1, 1) := dk_27 (dk_at dksJ5_ensureCapacityInternal_0 11 rfl rfl)
theorem dJ5_ensureCapacityInternal_12 : decode cJ5_ensureCapacityInternal 12 = .ok (.iload_n 2, 1) := dk_28 (dk_at dksJ5_ensureCapacityInternal_0 12 rfl rfl)
theorem dJ5_ensureCapacityInternal_13 : decode cJ5_ensureCapacityInternal 13 = .ok (.isub, 1) := dk_100 (dk_at dksJ5_ensureCapacityInternal_0 13 rfl rfl)
theorem dJ5_ensureCapacityInternal_14 : decode cJ5_ensureCapacityInternal 14 = .ok (.ifCond .le 24, 3) := dk_158 0 24 (dk_at dksJ5_ensureCapacityInternal_0 14 rfl rfl)
theorem dJ5_ensureCapacityInternal_17 : decode cJ5_ensureCapacityInternal 17 = .ok (.aload_n 0, 1) := dk_42 (dk_at dksJ5_ensureCapacityInternal_0 17 rfl rfl)
theorem dJ5_ensureCapacityInternal_18 : decode cJ5_ensureCapacityInternal 18 = .ok (.aload_n 0, 1) := dk_42 (dk_at dksJ5_ensureCapacityInternal_0 18 rfl rfl)
theorem dJ5_ensureCapacityInternal_19 : decode cJ5_ensureCapacityInternal 19 = .ok (.getfield 15, 3) := dk_180 0 15 (dk_at dksJ5_ensureCapacityInternal_0 19 rfl rfl)
theorem dJ5_ensureCapacityInternal_22 : decode cJ5_ensureCapacityInternal 22 = .ok (.aload_n 0, 1) := dk_42 (dk_at dksJ5_ensureCapacityInternal_0 22 rfl rfl)
theorem dJ5_ensureCapacityInternal_23 : decode cJ5_ensureCapacityInternal 23 = .ok (.iload_n 1, 1) := dk_27 (dk_at dksJ5_ensureCapacityInternal_0 23 rfl rfl)
theorem dJ5_ensureCapacityInternal_24 : decode cJ5_ensureCapacityInternal 24 = .ok (.invokevirtual 104, 3) := dk_182 0 104 (dk_at dksJ5_ensureCapacityInternal_1 0 rfl rfl)
theorem dJ5_ensureCapacityInternal_27 : decode cJ5_ensureCapacityInternal 27 = .ok (.aload_n 0, 1) := dk_42 (dk_at dksJ5_ensureCapacityInternal_1 3 rfl rfl)
theorem dJ5_ensureCapacityInternal_28 : decode cJ5_ensureCapacityInternal 28 = .ok (.getfield 22, 3) := dk_180 0 22 (dk_at dksJ5_ensureCapacityInternal_1 4 rfl rfl)
theorem dJ5_ensureCapacityInternal_31 : decode cJ5_ensureCapacityInternal 31 = .ok (.ishl, 1) := dk_120 (dk_at dksJ5_ensureCapacityInternal_1 7 rfl rfl)
theorem dJ5_ensureCapacityInternal_32 : decode cJ5_ensureCapacityInternal 32 = .ok (.invokestatic 108, 3) := dk_184 0 108 (dk_at dksJ5_ensureCapacityInternal_1 8 rfl rfl)
theorem dJ5_ensureCapacityInternal_35 : decode cJ5_ensureCapacityInternal 35 = .ok (.putfield 15, 3) := dk_181 0 15 (dk_at dksJ5_ensureCapacityInternal_1 11 rfl rfl)
theorem dJ5_ensureCapacityInternal_38 : decode cJ5_ensureCapacityInternal 38 = .ok (.return_, 1) := dk_177 (dk_at dksJ5_ensureCapacityInternal_1 14 rfl rfl)
abbrev cJ5_newCapacity : ByteArray := prog_26_method_10_code
def yJ5_newCapacity : MethodName := ⟨RJ5, "newCapacity", "(I)I"⟩
def dkwJ5_newCapacity_2 : List UInt8 := [183, 0, 124, 191, 21, 5, 42, 180, 0, 22, 122, 172]
abbrev dktJ5_newCapacity_2 : List UInt8 := dkwJ5_newCapacity_2 ++ []
def dkwJ5_newCapacity_1 : List UInt8 := [180, 0, 22, 120, 96, 184, 0, 114, 54, 5, 21, 5, 18, 39, 160, 0, 13, 187, 0, 120, 89, 18, 122]
abbrev dktJ5_newCapacity_1 : List UInt8 := dkwJ5_newCapacity_1 ++ dktJ5_newCapacity_2
def dkwJ5_newCapacity_0 : List UInt8 := [42, 180, 0, 15, 190, 61, 27, 42, 180, 0, 22, 120, 62, 29, 28, 100, 54, 4, 28, 21, 4, 28, 5, 42]
abbrev dktJ5_newCapacity_0 : List UInt8 := dkwJ5_newCapacity_0 ++ dktJ5_newCapacity_1
theorem dksJ5_newCapacity_0 : cJ5_newCapacity.data.toList.drop 0 = dktJ5_newCapacity_0 := by decide +kernel
theorem dksJ5_newCapacity_1 : cJ5_newCapacity.data.toList.drop 24 = dktJ5_newCapacity_1 := dk_seg dksJ5_newCapacity_0 24 rfl rfl
theorem dksJ5_newCapacity_2 : cJ5_newCapacity.data.toList.drop 47 = dktJ5_newCapacity_2 := dk_seg dksJ5_newCapacity_1 23 rfl rfl
theorem dJ5_newCapacity_0 : decode cJ5_newCapacity 0 = .ok (.aload_n 0, 1) := dk_42 (dk_at dksJ5_newCapacity_0 0 rfl rfl)
theorem dJ5_newCapacity_1 : decode cJ5_newCapacity 1 = .ok (.getfield 15, 3) := dk_180 0 15 (dk_at dksJ5_newCapacity_0 1 rfl rfl)
theorem dJ5_newCapacity_4 : decode cJ5_newCapacity 4 = .ok (.arraylength, 1) := dk_190 (dk_at dksJ5_newCapacity_0 4 rfl rfl)
theorem dJ5_newCapacity_5 : decode cJ5_newCapacity 5 = .ok (.istore_n 2, 1) := dk_61 (dk_at dksJ5_newCapacity_0 5 rfl rfl)
theorem dJ5_newCapacity_6 : decode cJ5_newCapacity 6 = .ok (.iload_n 1, 1) := dk_27 (dk_at dksJ5_newCapacity_0 6 rfl rfl)
theorem dJ5_newCapacity_7 : decode cJ5_newCapacity 7 = .ok (.aload_n 0, 1) := dk_42 (dk_at dksJ5_newCapacity_0 7 rfl rfl)
theorem dJ5_newCapacity_8 : decode cJ5_newCapacity 8 = .ok (.getfield 22, 3) := dk_180 0 22 (dk_at dksJ5_newCapacity_0 8 rfl rfl)
theorem dJ5_newCapacity_11 : decode cJ5_newCapacity 11 = .ok (.ishl, 1) := dk_120 (dk_at dksJ5_newCapacity_0 11 rfl rfl)
theorem dJ5_newCapacity_12 : decode cJ5_newCapacity 12 = .ok (.istore_n 3, 1) := dk_62 (dk_at dksJ5_newCapacity_0 12 rfl rfl)
theorem dJ5_newCapacity_13 : decode cJ5_newCapacity 13 = .ok (.iload_n 3, 1) := dk_29 (dk_at dksJ5_newCapacity_0 13 rfl rfl)
theorem dJ5_newCapacity_14 : decode cJ5_newCapacity 14 = .ok (.iload_n 2, 1) := dk_28 (dk_at dksJ5_newCapacity_0 14 rfl rfl)
theorem dJ5_newCapacity_15 : decode cJ5_newCapacity 15 = .ok (.isub, 1) := dk_100 (dk_at dksJ5_newCapacity_0 15 rfl rfl)
theorem dJ5_newCapacity_16 : decode cJ5_newCapacity 16 = .ok (.istore 4, 2) := dk_54 4 (dk_at dksJ5_newCapacity_0 16 rfl rfl)
theorem dJ5_newCapacity_18 : decode cJ5_newCapacity 18 = .ok (.iload_n 2, 1) := dk_28 (dk_at dksJ5_newCapacity_0 18 rfl rfl)
theorem dJ5_newCapacity_19 : decode cJ5_newCapacity 19 = .ok (.iload 4, 2) := dk_21 4 (dk_at dksJ5_newCapacity_0 19 rfl rfl)
theorem dJ5_newCapacity_21 : decode cJ5_newCapacity 21 = .ok (.iload_n 2, 1) := dk_28 (dk_at dksJ5_newCapacity_0 21 rfl rfl)
theorem dJ5_newCapacity_22 : decode cJ5_newCapacity 22 = .ok (.iconst 2, 1) := dk_5 (dk_at dksJ5_newCapacity_0 22 rfl rfl)
theorem dJ5_newCapacity_23 : decode cJ5_newCapacity 23 = .ok (.aload_n 0, 1) := dk_42 (dk_at dksJ5_newCapacity_0 23 rfl rfl)
theorem dJ5_newCapacity_24 : decode cJ5_newCapacity 24 = .ok (.getfield 22, 3) := dk_180 0 22 (dk_at dksJ5_newCapacity_1 0 rfl rfl)
theorem dJ5_newCapacity_27 : decode cJ5_newCapacity 27 = .ok (.ishl, 1) := dk_120 (dk_at dksJ5_newCapacity_1 3 rfl rfl)
theorem dJ5_newCapacity_28 : decode cJ5_newCapacity 28 = .ok (.iadd, 1) := dk_96 (dk_at dksJ5_newCapacity_1 4 rfl rfl)
theorem dJ5_newCapacity_29 : decode cJ5_newCapacity 29 = .ok (.invokestatic 114, 3) := dk_184 0 114 (dk_at dksJ5_newCapacity_1 5 rfl rfl)
theorem dJ5_newCapacity_32 : decode cJ5_newCapacity 32 = .ok (.istore 5, 2) := dk_54 5 (dk_at dksJ5_newCapacity_1 8 rfl rfl)
theorem dJ5_newCapacity_34 : decode cJ5_newCapacity 34 = .ok (.iload 5, 2) := dk_21 5 (dk_at dksJ5_newCapacity_1 10 rfl rfl)
theorem dJ5_newCapacity_36 : decode cJ5_newCapacity 36 = .ok (.ldc 39, 2) := dk_18 39 (dk_at dksJ5_newCapacity_1 12 rfl rfl)
theorem dJ5_newCapacity_38 : decode cJ5_newCapacity 38 = .ok (.if_icmp .ne 13, 3) := dk_160 0 13 (dk_at dksJ5_newCapacity_1 14 rfl rfl)
theorem dJ5_newCapacity_41 : decode cJ5_newCapacity 41 = .ok (.new 120, 3) := dk_187 0 120 (dk_at dksJ5_newCapacity_1 17 rfl rfl)
theorem dJ5_newCapacity_44 : decode cJ5_newCapacity 44 = .ok (.dup, 1) := dk_89 (dk_at dksJ5_newCapacity_1 20 rfl rfl)
theorem dJ5_newCapacity_45 : decode cJ5_newCapacity 45 = .ok (.ldc 122, 2) := dk_18 122 (dk_at dksJ5_newCapacity_1 21 rfl rfl)
theorem dJ5_newCapacity_47 : decode cJ5_newCapacity 47 = .ok (.invokespecial 124, 3) := dk_183 0 124 (dk_at dksJ5_newCapacity_2 0 rfl rfl)
theorem dJ5_newCapacity_50 : decode cJ5_newCapacity 50 = .ok (.athrow, 1) := dk_191 (dk_at dksJ5_newCapacity_2 3 rfl rfl)
theorem dJ5_newCapacity_51 : decode cJ5_newCapacity 51 = .ok (.iload 5, 2) := dk_21 5 (dk_at dksJ5_newCapacity_2 4 rfl rfl)
theorem dJ5_newCapacity_53 : decode cJ5_newCapacity 53 = .ok (.aload_n 0, 1) := dk_42 (dk_at dksJ5_newCapacity_2 6 rfl rfl)
theorem dJ5_newCapacity_54 : decode cJ5_newCapacity 54 = .ok (.getfield 22, 3) := dk_180 0 22 (dk_at dksJ5_newCapacity_2 7 rfl rfl)
theorem dJ5_newCapacity_57 : decode cJ5_newCapacity 57 = .ok (.ishr, 1) := dk_122 (dk_at dksJ5_newCapacity_2 10 rfl rfl)
theorem dJ5_newCapacity_58 : decode cJ5_newCapacity 58 = .ok (.ireturn, 1) := dk_172 (dk_at dksJ5_newCapacity_2 11 rfl rfl)
abbrev cJ5_isLatin1 : ByteArray := prog_26_method_68_code
def yJ5_isLatin1 : MethodName := ⟨RJ5, "isLatin1", "()Z"⟩
def dkwJ5_isLatin1_0 : List UInt8 := [178, 0, 18, 153, 0, 14, 42, 180, 0, 22, 154, 0, 7, 4, 167, 0, 4, 3, 172]
abbrev dktJ5_isLatin1_0 : List UInt8 := dkwJ5_isLatin1_0 ++ []
theorem dksJ5_isLatin1_0 : cJ5_isLatin1.data.toList.drop 0 = dktJ5_isLatin1_0 := by decide +kernel
theorem dJ5_isLatin1_0 : decode cJ5_isLatin1 0 = .ok (.getstatic 18, 3) := dk_178 0 18 (dk_at dksJ5_isLatin1_0 0 rfl rfl)
theorem dJ5_isLatin1_3 : decode cJ5_isLatin1 3 = .ok (.ifCond .eq 14, 3) := dk_153 0 14 (dk_at dksJ5_isLatin1_0 3 rfl rfl)
theorem dJ5_isLatin1_6 : decode cJ5_isLatin1 6 = .ok (.aload_n 0, 1) := dk_42 (dk_at dksJ5_isLatin1_0 6 rfl rfl)
theorem dJ5_isLatin1_7 : decode cJ5_isLatin1 7 = .ok (.getfield 22, 3) := dk_180 0 22 (dk_at dksJ5_isLatin1_0 7 rfl rfl)
theorem dJ5_isLatin1_10 : decode cJ5_isLatin1 10 = .ok (.ifCond .ne 7, 3) := dk_154 0 7 (dk_at dksJ5_isLatin1_0 10 rfl rfl)
theorem dJ5_isLatin1_13 : decode cJ5_isLatin1 13 = .ok (.iconst 1, 1) := dk_4 (dk_at dksJ5_isLatin1_0 13 rfl rfl)
theorem dJ5_isLatin1_14 : decode cJ5_isLatin1 14 = .ok (.goto 4, 3) := dk_167 0 4 (dk_at dksJ5_isLatin1_0 14 rfl rfl)
theorem dJ5_isLatin1_17 : decode cJ5_isLatin1 17 = .ok (.iconst 0, 1) := dk_3 (dk_at dksJ5_isLatin1_0 17 rfl rfl)
theorem dJ5_isLatin1_18 : decode cJ5_isLatin1 18 = .ok (.ireturn, 1) := dk_172 (dk_at dksJ5_isLatin1_0 18 rfl rfl)
abbrev cJ5_putStringAt : ByteArray := prog_26_method_73_code
def yJ5_putStringAt : MethodName := ⟨RJ5, "putStringAt", "(ILjava/lang/String;)V"⟩
def dkwJ5_putStringAt_0 : List UInt8 := [42, 44, 182, 1, 141, 44, 42, 180, 0, 15, 27, 42, 180, 0, 22, 182, 1, 143, 177]
abbrev dktJ5_putStringAt_0 : List UInt8 := dkwJ5_putStringAt_0 ++ []
theorem dksJ5_putStringAt_0 : cJ5_putStringAt.data.toList.drop 0 = dktJ5_putStringAt_0 := by decide +kernel
theorem dJ5_putStringAt_0 : decode cJ5_putStringAt 0 = .ok (.aload_n 0, 1) := dk_42 (dk_at dksJ5_putStringAt_0 0 rfl rfl)
theorem dJ5_putStringAt_1 : decode cJ5_putStringAt 1 = .ok (.aload_n 2, 1) := dk_44 (dk_at dksJ5_putStringAt_0 1 rfl rfl)
theorem dJ5_putStringAt_2 : decode cJ5_putStringAt 2 = .ok (.invokevirtual 397, 3) := dk_182 1 141 (dk_at dksJ5_putStringAt_0 2 rfl rfl)
theorem dJ5_putStringAt_5 : decode cJ5_putStringAt 5 = .ok (.aload_n 2, 1) := dk_44 (dk_at dksJ5_putStringAt_0 5 rfl rfl)
theorem dJ5_putStringAt_6 : decode cJ5_putStringAt 6 = .ok (.aload_n 0, 1) := dk_42 (dk_at dksJ5_putStringAt_0 6 rfl rfl)
theorem dJ5_putStringAt_7 : decode cJ5_putStringAt 7 = .ok (.getfield 15, 3) := dk_180 0 15 (dk_at dksJ5_putStringAt_0 7 rfl rfl)
theorem dJ5_putStringAt_10 : decode cJ5_putStringAt 10 = .ok (.iload_n 1, 1) := dk_27 (dk_at dksJ5_putStringAt_0 10 rfl rfl)
theorem dJ5_putStringAt_11 : decode cJ5_putStringAt 11 = .ok (.aload_n 0, 1) := dk_42 (dk_at dksJ5_putStringAt_0 11 rfl rfl)
theorem dJ5_putStringAt_12 : decode cJ5_putStringAt 12 = .ok (.getfield 22, 3) := dk_180 0 22 (dk_at dksJ5_putStringAt_0 12 rfl rfl)
theorem dJ5_putStringAt_15 : decode cJ5_putStringAt 15 = .ok (.invokevirtual 399, 3) := dk_182 1 143 (dk_at dksJ5_putStringAt_0 15 rfl rfl)
theorem dJ5_putStringAt_18 : decode cJ5_putStringAt 18 = .ok (.return_, 1) := dk_177 (dk_at dksJ5_putStringAt_0 18 rfl rfl)
abbrev cJ5_inflateIfNeededFor : ByteArray := prog_26_method_71_code
def yJ5_inflateIfNeededFor : MethodName := ⟨RJ5, "inflateIfNeededFor", "(Ljava/lang/String;)V"⟩
def dkwJ5_inflateIfNeededFor_0 : List UInt8 := [178, 0, 18, 153, 0, 18, 42, 180, 0, 22, 43, 182, 0, 40, 159, 0, 7, 42, 182, 0, 195, 177]
abbrev dktJ5_inflateIfNeededFor_0 : List UInt8 := dkwJ5_inflateIfNeededFor_0 ++ []
theorem dksJ5_inflateIfNeededFor_0 : cJ5_inflateIfNeededFor.data.toList.drop 0 = dktJ5_inflateIfNeededFor_0 := by decide +kernel
theorem dJ5_inflateIfNeededFor_0 : decode cJ5_inflateIfNeededFor 0 = .ok (.getstatic 18, 3) := dk_178 0 18 (dk_at dksJ5_inflateIfNeededFor_0 0 rfl rfl)
theorem dJ5_inflateIfNeededFor_3 : decode cJ5_inflateIfNeededFor 3 = .ok (.ifCond .eq 18, 3) := dk_153 0 18 (dk_at dksJ5_inflateIfNeededFor_0 3 rfl rfl)
theorem dJ5_inflateIfNeededFor_6 : decode cJ5_inflateIfNeededFor 6 = .ok (.aload_n 0, 1) := dk_42 (dk_at dksJ5_inflateIfNeededFor_0 6 rfl rfl)
theorem dJ5_inflateIfNeededFor_7 : decode cJ5_inflateIfNeededFor 7 = .ok (.getfield 22, 3) := dk_180 0 22 (dk_at dksJ5_inflateIfNeededFor_0 7 rfl rfl)
theorem dJ5_inflateIfNeededFor_10 : decode cJ5_inflateIfNeededFor 10 = .ok (.aload_n 1, 1) := dk_43 (dk_at dksJ5_inflateIfNeededFor_0 10 rfl rfl)
theorem dJ5_inflateIfNeededFor_11 : decode cJ5_inflateIfNeededFor 11 = .ok (.invokevirtual 40, 3) := dk_182 0 40 (dk_at dksJ5_inflateIfNeededFor_0 11 rfl rfl)
theorem dJ5_inflateIfNeededFor_14 : decode cJ5_inflateIfNeededFor 14 = .ok (.if_icmp .eq 7, 3) := dk_159 0 7 (dk_at dksJ5_inflateIfNeededFor_0 14 rfl rfl)
theorem dJ5_inflateIfNeededFor_17 : decode cJ5_inflateIfNeededFor 17 = .ok (.aload_n 0, 1) := dk_42 (dk_at dksJ5_inflateIfNeededFor_0 17 rfl rfl)
theorem dJ5_inflateIfNeededFor_18 : decode cJ5_inflateIfNeededFor 18 = .ok (.invokevirtual 195, 3) := dk_182 0 195 (dk_at dksJ5_inflateIfNeededFor_0 18 rfl rfl)
theorem dJ5_inflateIfNeededFor_21 : decode cJ5_inflateIfNeededFor 21 = .ok (.return_, 1) := dk_177 (dk_at dksJ5_inflateIfNeededFor_0 21 rfl rfl)
abbrev cJ5_inflate : ByteArray := prog_26_method_11_code
def yJ5_inflate : MethodName := ⟨RJ5, "inflate", "()V"⟩
def dkwJ5_inflate_1 : List UInt8 := [42, 180, 0, 79, 184, 0, 125, 42, 43, 181, 0, 15, 42, 4, 181, 0, 22, 177]
abbrev dktJ5_inflate_1 : List UInt8 := dkwJ5_inflate_1 ++ []
def dkwJ5_inflate_0 : List UInt8 := [42, 182, 0, 83, 154, 0, 4, 177, 42, 180, 0, 15, 190, 184, 0, 26, 76, 42, 180, 0, 15, 3, 43, 3]
abbrev dktJ5_inflate_0 : List UInt8 := dkwJ5_inflate_0 ++ dktJ5_inflate_1
theorem dksJ5_inflate_0 : cJ5_inflate.data.toList.drop 0 = dktJ5_inflate_0 := by decide +kernel
theorem dksJ5_inflate_1 : cJ5_inflate.data.toList.drop 24 = dktJ5_inflate_1 := dk_seg dksJ5_inflate_0 24 rfl rfl
theorem dJ5_inflate_0 : decode cJ5_inflate 0 = .ok (.aload_n 0, 1) := dk_42 (dk_at dksJ5_inflate_0 0 rfl rfl)
theorem dJ5_inflate_1 : decode cJ5_inflate 1 = .ok (.invokevirtual 83, 3) := dk_182 0 83 (dk_at dksJ5_inflate_0 1 rfl rfl)
theorem dJ5_inflate_4 : decode cJ5_inflate 4 = .ok (.ifCond .ne 4, 3) := dk_154 0 4 (dk_at dksJ5_inflate_0 4 rfl rfl)
theorem dJ5_inflate_7 : decode cJ5_inflate 7 = .ok (.return_, 1) := dk_177 (dk_at dksJ5_inflate_0 7 rfl rfl)
theorem dJ5_inflate_8 : decode cJ5_inflate 8 = .ok (.aload_n 0, 1) := dk_42 (dk_at dksJ5_inflate_0 8 rfl rfl)
theorem dJ5_inflate_9 : decode cJ5_inflate 9 = .ok (.getfield 15, 3) := dk_180 0 15 (dk_at dksJ5_inflate_0 9 rfl rfl)
theorem dJ5_inflate_12 : decode cJ5_inflate 12 = .ok (.arraylength, 1) := dk_190 (dk_at dksJ5_inflate_0 12 rfl rfl)
theorem dJ5_inflate_13 : decode cJ5_inflate 13 = .ok (.invokestatic 26, 3) := dk_184 0 26 (dk_at dksJ5_inflate_0 13 rfl rfl)
theorem dJ5_inflate_16 : decode cJ5_inflate 16 = .ok (.astore_n 1, 1) := dk_76 (dk_at dksJ5_inflate_0 16 rfl rfl)
theorem dJ5_inflate_17 : decode cJ5_inflate 17 = .ok (.aload_n 0, 1) := dk_42 (dk_at dksJ5_inflate_0 17 rfl rfl)
theorem dJ5_inflate_18 : decode cJ5_inflate 18 = .ok (.getfield 15, 3) := dk_180 0 15 (dk_at dksJ5_inflate_0 18 rfl rfl)
theorem dJ5_inflate_21 : decode cJ5_inflate 21 = .ok (.iconst 0, 1) := dk_3 (dk_at dksJ5_inflate_0 21 rfl rfl)
theorem dJ5_inflate_22 : decode cJ5_inflate 22 = .ok (.aload_n 1, 1) := dk_43 (dk_at dksJ5_inflate_0 22 rfl rfl)
theorem dJ5_inflate_23 : decode cJ5_inflate 23 = .ok (.iconst 0, 1) := dk_3 (dk_at dksJ5_inflate_0 23 rfl rfl)
theorem dJ5_inflate_24 : decode cJ5_inflate 24 = .ok (.aload_n 0, 1) := dk_42 (dk_at dksJ5_inflate_1 0 rfl rfl)
theorem dJ5_inflate_25 : decode cJ5_inflate 25 = .ok (.getfield 79, 3) := dk_180 0 79 (dk_at dksJ5_inflate_1 1 rfl rfl)
theorem dJ5_inflate_28 : decode cJ5_inflate 28 = .ok (.invokestatic 125, 3) := dk_184 0 125 (dk_at dksJ5_inflate_1 4 rfl rfl)
theorem dJ5_inflate_31 : decode cJ5_inflate 31 = .ok (.aload_n 0, 1) := dk_42 (dk_at dksJ5_inflate_1 7 rfl rfl)
theorem dJ5_inflate_32 : decode cJ5_inflate 32 = .ok (.aload_n 1, 1) := dk_43 (dk_at dksJ5_inflate_1 8 rfl rfl)
theorem dJ5_inflate_33 : decode cJ5_inflate 33 = .ok (.putfield 15, 3) := dk_181 0 15 (dk_at dksJ5_inflate_1 9 rfl rfl)
theorem dJ5_inflate_36 : decode cJ5_inflate 36 = .ok (.aload_n 0, 1) := dk_42 (dk_at dksJ5_inflate_1 12 rfl rfl)
theorem dJ5_inflate_37 : decode cJ5_inflate 37 = .ok (.iconst 1, 1) := dk_4 (dk_at dksJ5_inflate_1 13 rfl rfl)
theorem dJ5_inflate_38 : decode cJ5_inflate 38 = .ok (.putfield 22, 3) := dk_181 0 22 (dk_at dksJ5_inflate_1 14 rfl rfl)
theorem dJ5_inflate_41 : decode cJ5_inflate 41 = .ok (.return_, 1) := dk_177 (dk_at dksJ5_inflate_1 17 rfl rfl)
abbrev cJ5_append_2 : ByteArray := prog_26_method_32_code
def yJ5_append_2 : MethodName := ⟨RJ5, "append", "(I)Ljava/lang/AbstractStringBuilder;"⟩
def dkwJ5_append_2_2 : List UInt8 := [42, 29, 181, 0, 79, 42, 176]
abbrev dktJ5_append_2_2 : List UInt8 := dkwJ5_append_2_2 ++ []
def dkwJ5_append_2_1 : List UInt8 := [27, 29, 42, 180, 0, 15, 184, 0, 248, 87, 167, 0, 14, 27, 28, 29, 42, 180, 0, 15, 184, 0, 251, 87]
abbrev dktJ5_append_2_1 : List UInt8 := dkwJ5_append_2_1 ++ dktJ5_append_2_2
def dkwJ5_append_2_0 : List UInt8 := [42, 180, 0, 79, 61, 28, 27, 184, 0, 245, 96, 62, 42, 29, 182, 0, 100, 42, 182, 0, 83, 153, 0, 16]
abbrev dktJ5_append_2_0 : List UInt8 := dkwJ5_append_2_0 ++ dktJ5_append_2_1
theorem dksJ5_append_2_0 : cJ5_append_2.data.toList.drop 0 = dktJ5_append_2_0 := by decide +kernel
theorem dksJ5_append_2_1 : cJ5_append_2.data.toList.drop 24 = dktJ5_append_2_1 := dk_seg dksJ5_append_2_0 24 rfl rfl
theorem dksJ5_append_2_2 : cJ5_append_2.data.toList.drop 48 = dktJ5_append_2_2 := dk_seg dksJ5_append_2_1 24 rfl rfl
theorem dJ5_append_2_0 : decode cJ5_append_2 0 = .ok (.aload_n 0, 1) := dk_42 (dk_at dksJ5_append_2_0 0 rfl rfl)
theorem dJ5_append_2_1 : decode cJ5_append_2 1 = .ok (.getfield 79, 3) := dk_180 0 79 (dk_at dksJ5_append_2_0 1 rfl rfl)
theorem dJ5_append_2_4 : decode cJ5_append_2 4 = .ok (.istore_n 2, 1) := dk_61 (dk_at dksJ5_append_2_0 4 rfl rfl)
theorem dJ5_append_2_5 : decode cJ5_append_2 5 = .ok (.iload_n 2, 1) := dk_28 (dk_at dksJ5_append_2_0 5 rfl rfl)
theorem dJ5_append_2_6 : decode cJ5_append_2 6 = .ok (.iload_n 1, 1) := dk_27 (dk_at dksJ5_append_2_0 6 rfl rfl)
theorem dJ5_append_2_7 : decode cJ5_append_2 7 = .ok (.invokestatic 245, 3) := dk_184 0 245 (dk_at dksJ5_append_2_0 7 rfl rfl)
theorem dJ5_append_2_10 : decode cJ5_append_2 10 = .ok (.iadd, 1) := dk_96 (dk_at dksJ5_append_2_0 10 rfl rfl)
theorem dJ5_append_2_11 : decode cJ5_append_2 11 = .ok (.istore_n 3, 1) := dk_62 (dk_at dksJ5_append_2_0 11 rfl rfl)
theorem dJ5_append_2_12 : decode cJ5_append_2 12 = .ok (.aload_n 0, 1) := dk_42 (dk_at dksJ5_append_2_0 12 rfl rfl)
theorem dJ5_append_2_13 : decode cJ5_append_2 13 = .ok (.iload_n 3, 1) := dk_29 (dk_at dksJ5_append_2_0 13 rfl rfl)
theorem dJ5_append_2_14 : decode cJ5_append_2 14 = .ok (.invokevirtual 100, 3) := dk_182 0 100 (dk_at dksJ5_append_2_0 14 rfl rfl)
theorem dJ5_append_2_17 : decode cJ5_append_2 17 = .ok (.aload_n 0, 1) := dk_42 (dk_at dksJ5_append_2_0 17 rfl rfl)
theorem dJ5_append_2_18 : decode cJ5_append_2 18 = .ok (.invokevirtual 83, 3) := dk_182 0 83 (dk_at dksJ5_append_2_0 18 rfl rfl)
theorem dJ5_append_2_21 : decode cJ5_append_2 21 = .ok (.ifCond .eq 16, 3) := dk_153 0 16 (dk_at dksJ5_append_2_0 21 rfl rfl)
theorem dJ5_append_2_24 : decode cJ5_append_2 24 = .ok (.iload_n 1, 1) := dk_27 (dk_at dksJ5_append_2_1 0 rfl rfl)
theorem dJ5_append_2_25 : decode cJ5_append_2 25 = .ok (.iload_n 3, 1) := dk_29 (dk_at dksJ5_append_2_1 1 rfl rfl)
theorem dJ5_append_2_26 : decode cJ5_append_2 26 = .ok (.aload_n 0, 1) := dk_42 (dk_at dksJ5_append_2_1 2 rfl rfl)
theorem dJ5_append_2_27 : decode cJ5_append_2 27 = .ok (.getfield 15, 3) := dk_180 0 15 (dk_at dksJ5_append_2_1 3 rfl rfl)
theorem dJ5_append_2_30 : decode cJ5_append_2 30 = .ok (.invokestatic 248, 3) := dk_184 0 248 (dk_at dksJ5_append_2_1 6 rfl rfl)
theorem dJ5_append_2_33 : decode cJ5_append_2 33 = .ok (.pop, 1) := dk_87 (dk_at dksJ5_append_2_1 9 rfl rfl)
theorem dJ5_append_2_34 : decode cJ5_append_2 34 = .ok (.goto 14, 3) := dk_167 0 14 (dk_at dksJ5_append_2_1 10 rfl rfl)
theorem dJ5_append_2_37 : decode cJ5_append_2 37 = .ok (.iload_n 1, 1) := dk_27 (dk_at dksJ5_append_2_1 13 rfl rfl)
theorem dJ5_append_2_38 : decode cJ5_append_2 38 = .ok (.iload_n 2, 1) := dk_28 (dk_at dksJ5_append_2_1 14 rfl rfl)
theorem dJ5_append_2_39 : decode cJ5_append_2 39 = .ok (.iload_n 3, 1) := dk_29 (dk_at dksJ5_append_2_1 15 rfl rfl)
theorem dJ5_append_2_40 : decode cJ5_append_2 40 = .ok (.aload_n 0, 1) := dk_42 (dk_at dksJ5_append_2_1 16 rfl rfl)
theorem dJ5_append_2_41 : decode cJ5_append_2 41 = .ok (.getfield 15, 3) := dk_180 0 15 (dk_at dksJ5_append_2_1 17 rfl rfl)
theorem dJ5_append_2_44 : decode cJ5_append_2 44 = .ok (.invokestatic 251, 3) := dk_184 0 251 (dk_at dksJ5_append_2_1 20 rfl rfl)
theorem dJ5_append_2_47 : decode cJ5_append_2 47 = .ok (.pop, 1) := dk_87 (dk_at dksJ5_append_2_1 23 rfl rfl)
theorem dJ5_append_2_48 : decode cJ5_append_2 48 = .ok (.aload_n 0, 1) := dk_42 (dk_at dksJ5_append_2_2 0 rfl rfl)
theorem dJ5_append_2_49 : decode cJ5_append_2 49 = .ok (.iload_n 3, 1) := dk_29 (dk_at dksJ5_append_2_2 1 rfl rfl)
theorem dJ5_append_2_50 : decode cJ5_append_2 50 = .ok (.putfield 79, 3) := dk_181 0 79 (dk_at dksJ5_append_2_2 2 rfl rfl)
theorem dJ5_append_2_53 : decode cJ5_append_2 53 = .ok (.aload_n 0, 1) := dk_42 (dk_at dksJ5_append_2_2 5 rfl rfl)
theorem dJ5_append_2_54 : decode cJ5_append_2 54 = .ok (.areturn, 1) := dk_176 (dk_at dksJ5_append_2_2 6 rfl rfl)
abbrev cJ5_getValue : ByteArray := prog_26_method_64_code
def yJ5_getValue : MethodName := ⟨RJ5, "getValue", "()[B"⟩
theorem dJ5_getValue_0 : decode cJ5_getValue 0 = .ok (.aload_n 0, 1) := by decide +kernel
theorem dJ5_getValue_1 : decode cJ5_getValue 1 = .ok (.getfield 15, 3) := by decide +kernel
theorem dJ5_getValue_4 : decode cJ5_getValue 4 = .ok (.areturn, 1) := by decide +kernel
abbrev cJ5_length : ByteArray := prog_26_method_6_code
def yJ5_length : MethodName := ⟨RJ5, "length", "()I"⟩
theorem dJ5_length_0 : decode cJ5_length 0 = .ok (.aload_n 0, 1) := by decide +kernel
theorem dJ5_length_1 : decode cJ5_length 1 = .ok (.getfield 79, 3) := by decide +kernel
theorem dJ5_length_4 : decode cJ5_length 4 = .ok (.ireturn, 1) := by decide +kernel
abbrev cJ5_append_3 : ByteArray := prog_26_method_31_code
def yJ5_append_3 : MethodName := ⟨RJ5, "append", "(C)Ljava/lang/AbstractStringBuilder;"⟩
def dkwJ5_append_3_3 : List UInt8 := [181, 0, 79, 27, 184, 0, 197, 42, 176]
abbrev dktJ5_append_3_3 : List UInt8 := dkwJ5_append_3_3 ++ []
def dkwJ5_append_3_2 : List UInt8 := [182, 0, 83, 153, 0, 7, 42, 182, 0, 195, 42, 180, 0, 15, 42, 89, 180, 0, 79, 90, 4, 96]
abbrev dktJ5_append_3_2 : List UInt8 := dkwJ5_append_3_2 ++ dktJ5_append_3_3
def dkwJ5_append_3_1 : List UInt8 := [42, 180, 0, 15, 42, 89, 180, 0, 79, 90, 4, 96, 181, 0, 79, 27, 145, 84, 167, 0, 33, 42]
abbrev dktJ5_append_3_1 : List UInt8 := dkwJ5_append_3_1 ++ dktJ5_append_3_2
def dkwJ5_append_3_0 : List UInt8 := [42, 42, 180, 0, 79, 4, 96, 182, 0, 100, 42, 182, 0, 83, 153, 0, 31, 27, 184, 0, 191, 153, 0, 24]
abbrev dktJ5_append_3_0 : List UInt8 := dkwJ5_append_3_0 ++ dktJ5_append_3_1
theorem dksJ5_append_3_0 : cJ5_append_3.data.toList.drop 0 = dktJ5_append_3_0 := by decide +kernel
theorem dksJ5_append_3_1 : cJ5_append_3.data.toList.drop 24 = dktJ5_append_3_1 := dk_seg dksJ5_append_3_0 24 rfl rfl
theorem dksJ5_append_3_2 : cJ5_append_3.data.toList.drop 46 = dktJ5_append_3_2 := dk_seg dksJ5_append_3_1 22 rfl rfl
theorem dksJ5_append_3_3 : cJ5_append_3.data.toList.drop 68 = dktJ5_append_3_3 := dk_seg dksJ5_append_3_2 22 rfl rfl
theorem dJ5_append_3_0 : decode cJ5_append_3 0 = .ok (.aload_n 0, 1) := dk_42 (dk_at dksJ5_append_3_0 0 rfl rfl)
theorem dJ5_append_3_1 : decode cJ5_append_3 1 = .ok (.aload_n 0, 1) := dk_42 (dk_at dksJ5_append_3_0 1 rfl rfl)
theorem dJ5_append_3_2 : decode cJ5_append_3 2 = .ok (.getfield 79, 3) := dk_180 0 79 (dk_at dksJ5_append_3_0 2 rfl rfl)
theorem dJ5_append_3_5 : decode cJ5_append_3 5 = .ok (.iconst 1, 1) := dk_4 (dk_at dksJ5_append_3_0 5 rfl rfl)
theorem dJ5_append_3_6 : decode cJ5_append_3 6 = .ok (.iadd, 1) := dk_96 (dk_at dksJ5_append_3_0 6 rfl rfl)
theorem dJ5_append_3_7 : decode cJ5_append_3 7 = .ok (.invokevirtual 100, 3) := dk_182 0 100 (dk_at dksJ5_append_3_0 7 rfl rfl)
theorem dJ5_append_3_10 : decode cJ5_append_3 10 = .ok (.aload_n 0, 1) := dk_42 (dk_at dksJ5_append_3_0 10 rfl rfl)
theorem dJ5_append_3_11 : decode cJ5_append_3 11 = .ok (.invokevirtual 83, 3) := dk_182 0 83 (dk_at dksJ5_append_3_0 11 rfl rfl)
theorem dJ5_append_3_14 : decode cJ5_append_3 14 = .ok (.ifCond .eq 31, 3) := dk_153 0 31 (dk_at dksJ5_append_3_0 14 rfl rfl)
theorem dJ5_append_3_17 : decode cJ5_append_3 17 = .ok (.iload_n 1, 1) := dk_27 (dk_at dksJ5_append_3_0 17 rfl rfl)
theorem dJ5_append_3_18 : decode cJ5_append_3 18 = .ok (.invokestatic 191, 3) := dk_184 0 191 (dk_at dksJ5_append_3_0 18 rfl rfl)
theorem dJ5_append_3_21 : decode cJ5_append_3 21 = .ok (.ifCond .eq 24, 3) := dk_153 0 24 (dk_at dksJ5_append_3_0 21 rfl rfl)
theorem dJ5_append_3_24 : decode cJ5_append_3 24 = .ok (.aload_n 0, 1) := dk_42 (dk_at dksJ5_append_3_1 0 rfl rfl)
theorem dJ5_append_3_25 : decode cJ5_append_3 25 = .ok (.getfield 15, 3) := dk_180 0 15 (dk_at dksJ5_append_3_1 1 rfl rfl)
theorem dJ5_append_3_28 : decode cJ5_append_3 28 = .ok (.aload_n 0, 1) := dk_42 (dk_at dksJ5_append_3_1 4 rfl rfl)
theorem dJ5_append_3_29 : decode cJ5_append_3 29 = .ok (.dup, 1) := dk_89 (dk_at dksJ5_append_3_1 5 rfl rfl)
theorem dJ5_append_3_30 : decode cJ5_append_3 30 = .ok (.getfield 79, 3) := dk_180 0 79 (dk_at dksJ5_append_3_1 6 rfl rfl)
theorem dJ5_append_3_33 : decode cJ5_append_3 33 = .ok (.dup_x1, 1) := dk_90 (dk_at dksJ5_append_3_1 9 rfl rfl)
theorem dJ5_append_3_34 : decode cJ5_append_3 34 = .ok (.iconst 1, 1) := dk_4 (dk_at dksJ5_append_3_1 10 rfl rfl)
theorem dJ5_append_3_35 : decode cJ5_append_3 35 = .ok (.iadd, 1) := dk_96 (dk_at dksJ5_append_3_1 11 rfl rfl)
theorem dJ5_append_3_36 : decode cJ5_append_3 36 = .ok (.putfield 79, 3) := dk_181 0 79 (dk_at dksJ5_append_3_1 12 rfl rfl)
theorem dJ5_append_3_39 : decode cJ5_append_3 39 = .ok (.iload_n 1, 1) := dk_27 (dk_at dksJ5_append_3_1 15 rfl rfl)
theorem dJ5_append_3_40 : decode cJ5_append_3 40 = .ok (.i2b, 1) := dk_145 (dk_at dksJ5_append_3_1 16 rfl rfl)
theorem dJ5_append_3_41 : decode cJ5_append_3 41 = .ok (.bastore, 1) := dk_84 (dk_at dksJ5_append_3_1 17 rfl rfl)
theorem dJ5_append_3_42 : decode cJ5_append_3 42 = .ok (.goto 33, 3) := dk_167 0 33 (dk_at dksJ5_append_3_1 18 rfl rfl)
theorem dJ5_append_3_45 : decode cJ5_append_3 45 = .ok (.aload_n 0, 1) := dk_42 (dk_at dksJ5_append_3_1 21 rfl rfl)
theorem dJ5_append_3_46 : decode cJ5_append_3 46 = .ok (.invokevirtual 83, 3) := dk_182 0 83 (dk_at dksJ5_append_3_2 0 rfl rfl)
theorem dJ5_append_3_49 : decode cJ5_append_3 49 = .ok (.ifCond .eq 7, 3) := dk_153 0 7 (dk_at dksJ5_append_3_2 3 rfl rfl)
theorem dJ5_append_3_52 : decode cJ5_append_3 52 = .ok (.aload_n 0, 1) := dk_42 (dk_at dksJ5_append_3_2 6 rfl rfl)
theorem dJ5_append_3_53 : decode cJ5_append_3 53 = .ok (.invokevirtual 195, 3) := dk_182 0 195 (dk_at dksJ5_append_3_2 7 rfl rfl)
theorem dJ5_append_3_56 : decode cJ5_append_3 56 = .ok (.aload_n 0, 1) := dk_42 (dk_at dksJ5_append_3_2 10 rfl rfl)
theorem dJ5_append_3_57 : decode cJ5_append_3 57 = .ok (.getfield 15, 3) := dk_180 0 15 (dk_at dksJ5_append_3_2 11 rfl rfl)
theorem dJ5_append_3_60 : decode cJ5_append_3 60 = .ok (.aload_n 0, 1) := dk_42 (dk_at dksJ5_append_3_2 14 rfl rfl)
theorem dJ5_append_3_61 : decode cJ5_append_3 61 = .ok (.dup, 1) := dk_89 (dk_at dksJ5_append_3_2 15 rfl rfl)
theorem dJ5_append_3_62 : decode cJ5_append_3 62 = .ok (.getfield 79, 3) := dk_180 0 79 (dk_at dksJ5_append_3_2 16 rfl rfl)
theorem dJ5_append_3_65 : decode cJ5_append_3 65 = .ok (.dup_x1, 1) := dk_90 (dk_at dksJ5_append_3_2 19 rfl rfl)
theorem dJ5_append_3_66 : decode cJ5_append_3 66 = .ok (.iconst 1, 1) := dk_4 (dk_at dksJ5_append_3_2 20 rfl rfl)
theorem dJ5_append_3_67 : decode cJ5_append_3 67 = .ok (.iadd, 1) := dk_96 (dk_at dksJ5_append_3_2 21 rfl rfl)
theorem dJ5_append_3_68 : decode cJ5_append_3 68 = .ok (.putfield 79, 3) := dk_181 0 79 (dk_at dksJ5_append_3_3 0 rfl rfl)
theorem dJ5_append_3_71 : decode cJ5_append_3 71 = .ok (.iload_n 1, 1) := dk_27 (dk_at dksJ5_append_3_3 3 rfl rfl)
theorem dJ5_append_3_72 : decode cJ5_append_3 72 = .ok (.invokestatic 197, 3) := dk_184 0 197 (dk_at dksJ5_append_3_3 4 rfl rfl)
theorem dJ5_append_3_75 : decode cJ5_append_3 75 = .ok (.aload_n 0, 1) := dk_42 (dk_at dksJ5_append_3_3 7 rfl rfl)
theorem dJ5_append_3_76 : decode cJ5_append_3 76 = .ok (.areturn, 1) := dk_176 (dk_at dksJ5_append_3_3 8 rfl rfl)
abbrev cJ5_charAt : ByteArray := prog_26_method_14_code
def yJ5_charAt : MethodName := ⟨RJ5, "charAt", "(I)C"⟩
def dkwJ5_charAt_1 : List UInt8 := [21, 4, 184, 0, 144, 28, 154, 0, 12, 45, 27, 51, 17, 0, 255, 126, 146, 172, 45, 27, 184, 0, 148, 172]
abbrev dktJ5_charAt_1 : List UInt8 := dkwJ5_charAt_1 ++ []
def dkwJ5_charAt_0 : List UInt8 := [42, 180, 0, 22, 61, 42, 180, 0, 15, 78, 42, 180, 0, 79, 45, 190, 28, 122, 184, 0, 138, 54, 4, 27]
abbrev dktJ5_charAt_0 : List UInt8 := dkwJ5_charAt_0 ++ dktJ5_charAt_1
theorem dksJ5_charAt_0 : cJ5_charAt.data.toList.drop 0 = dktJ5_charAt_0 := by decide +kernel
theorem dksJ5_charAt_1 : cJ5_charAt.data.toList.drop 24 = dktJ5_charAt_1 := dk_seg dksJ5_charAt_0 24 rfl rfl
theorem dJ5_charAt_0 : decode cJ5_charAt 0 = .ok (.aload_n 0, 1) := dk_42 (dk_at dksJ5_charAt_0 0 rfl rfl)
theorem dJ5_charAt_1 : decode cJ5_charAt 1 = .ok (.getfield 22, 3) := dk_180 0 22 (dk_at dksJ5_charAt_0 1 rfl rfl)
theorem dJ5_charAt_4 : decode cJ5_charAt 4 = .ok (.istore_n 2, 1) := dk_61 (dk_at dksJ5_charAt_0 4 rfl rfl)
theorem dJ5_charAt_5 : decode cJ5_charAt 5 = .ok (.aload_n 0, 1) := dk_42 (dk_at dksJ5_charAt_0 5 rfl rfl)
theorem dJ5_charAt_6 : decode cJ5_charAt 6 = .ok (.getfield 15, 3) := dk_180 0 15 (dk_at dksJ5_charAt_0 6 rfl rfl)
theorem dJ5_charAt_9 : decode cJ5_charAt 9 = .ok (.astore_n 3, 1) := dk_78 (dk_at dksJ5_charAt_0 9 rfl rfl)
theorem dJ5_charAt_10 : decode cJ5_charAt 10 = .ok (.aload_n 0, 1) := dk_42 (dk_at dksJ5_charAt_0 10 rfl rfl)
theorem dJ5_charAt_11 : decode cJ5_charAt 11 = .ok (.getfield 79, 3) := dk_180 0 79 (dk_at dksJ5_charAt_0 11 rfl rfl)
theorem dJ5_charAt_14 : decode cJ5_charAt 14 = .ok (.aload_n 3, 1) := dk_45 (dk_at dksJ5_charAt_0 14 rfl rfl)
theorem dJ5_charAt_15 : decode cJ5_charAt 15 = .ok (.arraylength, 1) := dk_190 (dk_at dksJ5_charAt_0 15 rfl rfl)
theorem dJ5_charAt_16 : decode cJ5_charAt 16 = .ok (.iload_n 2, 1) := dk_28 (dk_at dksJ5_charAt_0 16 rfl rfl)
theorem dJ5_charAt_17 : decode cJ5_charAt 17 = .ok (.ishr, 1) := dk_122 (dk_at dksJ5_charAt_0 17 rfl rfl)
theorem dJ5_charAt_18 : decode cJ5_charAt 18 = .ok (.invokestatic 138, 3) := dk_184 0 138 (dk_at dksJ5_charAt_0 18 rfl rfl)
theorem dJ5_charAt_21 : decode cJ5_charAt 21 = .ok (.istore 4, 2) := dk_54 4 (dk_at dksJ5_charAt_0 21 rfl rfl)
theorem dJ5_charAt_23 : decode cJ5_charAt 23 = .ok (.iload_n 1, 1) := dk_27 (dk_at dksJ5_charAt_0 23 rfl rfl)
theorem dJ5_charAt_24 : decode cJ5_charAt 24 = .ok (.iload 4, 2) := dk_21 4 (dk_at dksJ5_charAt_1 0 rfl rfl)
theorem dJ5_charAt_26 : decode cJ5_charAt 26 = .ok (.invokestatic 144, 3) := dk_184 0 144 (dk_at dksJ5_charAt_1 2 rfl rfl)
theorem dJ5_charAt_29 : decode cJ5_charAt 29 = .ok (.iload_n 2, 1) := dk_28 (dk_at dksJ5_charAt_1 5 rfl rfl)
theorem dJ5_charAt_30 : decode cJ5_charAt 30 = .ok (.ifCond .ne 12, 3) := dk_154 0 12 (dk_at dksJ5_charAt_1 6 rfl rfl)
theorem dJ5_charAt_33 : decode cJ5_charAt 33 = .ok (.aload_n 3, 1) := dk_45 (dk_at dksJ5_charAt_1 9 rfl rfl)
theorem dJ5_charAt_34 : decode cJ5_charAt 34 = .ok (.iload_n 1, 1) := dk_27 (dk_at dksJ5_charAt_1 10 rfl rfl)
theorem dJ5_charAt_35 : decode cJ5_charAt 35 = .ok (.baload, 1) := dk_51 (dk_at dksJ5_charAt_1 11 rfl rfl)
theorem dJ5_charAt_36 : decode cJ5_charAt 36 = .ok (.sipush 255, 3) := dk_17 0 255 (dk_at dksJ5_charAt_1 12 rfl rfl)
theorem dJ5_charAt_39 : decode cJ5_charAt 39 = .ok (.iand, 1) := dk_126 (dk_at dksJ5_charAt_1 15 rfl rfl)
theorem dJ5_charAt_40 : decode cJ5_charAt 40 = .ok (.i2c, 1) := dk_146 (dk_at dksJ5_charAt_1 16 rfl rfl)
theorem dJ5_charAt_41 : decode cJ5_charAt 41 = .ok (.ireturn, 1) := dk_172 (dk_at dksJ5_charAt_1 17 rfl rfl)
theorem dJ5_charAt_42 : decode cJ5_charAt 42 = .ok (.aload_n 3, 1) := dk_45 (dk_at dksJ5_charAt_1 18 rfl rfl)
theorem dJ5_charAt_43 : decode cJ5_charAt 43 = .ok (.iload_n 1, 1) := dk_27 (dk_at dksJ5_charAt_1 19 rfl rfl)
theorem dJ5_charAt_44 : decode cJ5_charAt 44 = .ok (.invokestatic 148, 3) := dk_184 0 148 (dk_at dksJ5_charAt_1 20 rfl rfl)
theorem dJ5_charAt_47 : decode cJ5_charAt 47 = .ok (.ireturn, 1) := dk_172 (dk_at dksJ5_charAt_1 23 rfl rfl)
abbrev cJ5_subSequence : ByteArray := prog_26_method_41_code
def yJ5_subSequence : MethodName := ⟨RJ5, "subSequence", "(II)Ljava/lang/CharSequence;"⟩
def dkwJ5_subSequence_0 : List UInt8 := [42, 27, 28, 182, 1, 44, 176]
abbrev dktJ5_subSequence_0 : List UInt8 := dkwJ5_subSequence_0 ++ []
theorem dksJ5_subSequence_0 : cJ5_subSequence.data.toList.drop 0 = dktJ5_subSequence_0 := by decide +kernel
theorem dJ5_subSequence_0 : decode cJ5_subSequence 0 = .ok (.aload_n 0, 1) := dk_42 (dk_at dksJ5_subSequence_0 0 rfl rfl)
theorem dJ5_subSequence_1 : decode cJ5_subSequence 1 = .ok (.iload_n 1, 1) := dk_27 (dk_at dksJ5_subSequence_0 1 rfl rfl)
theorem dJ5_subSequence_2 : decode cJ5_subSequence 2 = .ok (.iload_n 2, 1) := dk_28 (dk_at dksJ5_subSequence_0 2 rfl rfl)
theorem dJ5_subSequence_3 : decode cJ5_subSequence 3 = .ok (.invokevirtual 300, 3) := dk_182 1 44 (dk_at dksJ5_subSequence_0 3 rfl rfl)
theorem dJ5_subSequence_6 : decode cJ5_subSequence 6 = .ok (.areturn, 1) := dk_176 (dk_at dksJ5_subSequence_0 6 rfl rfl)
abbrev cJ5_substring : ByteArray := prog_26_method_42_code
def yJ5_substring : MethodName := ⟨RJ5, "substring", "(II)Ljava/lang/String;"⟩
def dkwJ5_substring_1 : List UInt8 := [27, 28, 27, 100, 184, 1, 48, 176, 42, 180, 0, 15, 27, 28, 27, 100, 184, 1, 52, 176]
abbrev dktJ5_substring_1 : List UInt8 := dkwJ5_substring_1 ++ []
def dkwJ5_substring_0 : List UInt8 := [27, 28, 42, 180, 0, 79, 178, 0, 179, 184, 0, 161, 87, 42, 182, 0, 83, 153, 0, 15, 42, 180, 0, 15]
abbrev dktJ5_substring_0 : List UInt8 := dkwJ5_substring_0 ++ dktJ5_substring_1
theorem dksJ5_substring_0 : cJ5_substring.data.toList.drop 0 = dktJ5_substring_0 := by decide +kernel
theorem dksJ5_substring_1 : cJ5_substring.data.toList.drop 24 = dktJ5_substring_1 := dk_seg dksJ5_substring_0 24 rfl rfl
theorem dJ5_substring_0 : decode cJ5_substring 0 = .ok (.iload_n 1, 1) := dk_27 (dk_at dksJ5_substring_0 0 rfl rfl)
theorem dJ5_substring_1 : decode cJ5_substring 1 = .ok (.iload_n 2, 1) := dk_28 (dk_at dksJ5_substring_0 1 rfl rfl)
theorem dJ5_substring_2 : decode cJ5_substring 2 = .ok (.aload_n 0, 1) := dk_42 (dk_at dksJ5_substring_0 2 rfl rfl)
theorem dJ5_substring_3 : decode cJ5_substring 3 = .ok (.getfield 79, 3) := dk_180 0 79 (dk_at dksJ5_substring_0 3 rfl rfl)
theorem dJ5_substring_6 : decode cJ5_substring 6 = .ok (.getstatic 179, 3) := dk_178 0 179 (dk_at dksJ5_substring_0 6 rfl rfl)
theorem dJ5_substring_9 : decode cJ5_substring 9 = .ok (.invokestatic 161, 3) := dk_184 0 161 (dk_at dksJ5_substring_0 9 rfl rfl)
theorem dJ5_substring_12 : decode cJ5_substring 12 = .ok (.pop, 1) := dk_87 (dk_at dksJ5_substring_0 12 rfl rfl)
theorem dJ5_substring_13 : decode cJ5_substring 13 = .ok (.aload_n 0, 1) := dk_42 (dk_at dksJ5_substring_0 13 rfl rfl)
theorem dJ5_substring_14 : decode cJ5_substring 14 = .ok (.invokevirtual 83, 3) := dk_182 0 83 (dk_at dksJ5_substring_0 14 rfl rfl)
theorem dJ5_substring_17 : decode cJ5_substring 17 = .ok (.ifCond .eq 15, 3) := dk_153 0 15 (dk_at dksJ5_substring_0 17 rfl rfl)
theorem dJ5_substring_20 : decode cJ5_substring 20 = .ok (.aload_n 0, 1) := dk_42 (dk_at dksJ5_substring_0 20 rfl rfl)
theorem dJ5_substring_21 : decode cJ5_substring 21 = .ok (.getfield 15, 3) := dk_180 0 15 (dk_at dksJ5_substring_0 21 rfl rfl)
theorem dJ5_substring_24 : decode cJ5_substring 24 = .ok (.iload_n 1, 1) := dk_27 (dk_at dksJ5_substring_1 0 rfl rfl)
theorem dJ5_substring_25 : decode cJ5_substring 25 = .ok (.iload_n 2, 1) := dk_28 (dk_at dksJ5_substring_1 1 rfl rfl)
theorem dJ5_substring_26 : decode cJ5_substring 26 = .ok (.iload_n 1, 1) := dk_27 (dk_at dksJ5_substring_1 2 rfl rfl)
theorem dJ5_substring_27 : decode cJ5_substring 27 = .ok (.isub, 1) := dk_100 (dk_at dksJ5_substring_1 3 rfl rfl)
theorem dJ5_substring_28 : decode cJ5_substring 28 = .ok (.invokestatic 304, 3) := dk_184 1 48 (dk_at dksJ5_substring_1 4 rfl rfl)
theorem dJ5_substring_31 : decode cJ5_substring 31 = .ok (.areturn, 1) := dk_176 (dk_at dksJ5_substring_1 7 rfl rfl)
theorem dJ5_substring_32 : decode cJ5_substring 32 = .ok (.aload_n 0, 1) := dk_42 (dk_at dksJ5_substring_1 8 rfl rfl)
theorem dJ5_substring_33 : decode cJ5_substring 33 = .ok (.getfield 15, 3) := dk_180 0 15 (dk_at dksJ5_substring_1 9 rfl rfl)
theorem dJ5_substring_36 : decode cJ5_substring 36 = .ok (.iload_n 1, 1) := dk_27 (dk_at dksJ5_substring_1 12 rfl rfl)
theorem dJ5_substring_37 : decode cJ5_substring 37 = .ok (.iload_n 2, 1) := dk_28 (dk_at dksJ5_substring_1 13 rfl rfl)
theorem dJ5_substring_38 : decode cJ5_substring 38 = .ok (.iload_n 1, 1) := dk_27 (dk_at dksJ5_substring_1 14 rfl rfl)
theorem dJ5_substring_39 : decode cJ5_substring 39 = .ok (.isub, 1) := dk_100 (dk_at dksJ5_substring_1 15 rfl rfl)
theorem dJ5_substring_40 : decode cJ5_substring 40 = .ok (.invokestatic 308, 3) := dk_184 1 52 (dk_at dksJ5_substring_1 16 rfl rfl)
theorem dJ5_substring_43 : decode cJ5_substring 43 = .ok (.areturn, 1) := dk_176 (dk_at dksJ5_substring_1 19 rfl rfl)
theorem q125 : (Jvm.Cond.initialized "java/lang/AbstractStringBuilder") ∈ lw_all := lw_g (lw_at lw_m1 8 rfl) rfl
theorem q289 : (Jvm.Cond.instanceMethod ({ cls := "java/lang/AbstractStringBuilder", name := "<init>", desc := "(I)V" } : Jvm.MethodName)) ∈ lw_all := lw_g (lw_at lw_m1 172 rfl) rfl
theorem q290 : (Jvm.Cond.code ({ cls := "java/lang/AbstractStringBuilder", name := "<init>", desc := "(I)V" } : Jvm.MethodName) prog_26_method_2_code (2 : Nat) (Option.none : Option Jvm.ClassFile.FieldType)) ∈ lw_all := lw_g (lw_at lw_m1 173 rfl) rfl
theorem q291 : (Jvm.Cond.methodLink "java/lang/AbstractStringBuilder" (3 : Nat) ({ cls := "java/lang/Object", name := "<init>", desc := "()V" } : Jvm.MethodName)) ∈ lw_all := lw_g (lw_at lw_m1 174 rfl) rfl
theorem q292 : (Jvm.Cond.fieldLink "java/lang/AbstractStringBuilder" (18 : Nat) "java/lang/String" "COMPACT_STRINGS" "Z") ∈ lw_all := lw_g (lw_at lw_m1 175 rfl) rfl
theorem q294 : (Jvm.Cond.methodLink "java/lang/AbstractStringBuilder" (26 : Nat) ({ cls := "java/lang/StringUTF16", name := "newBytesFor", desc := "(I)[B" } : Jvm.MethodName)) ∈ lw_all := lw_g (lw_at lw_m1 177 rfl) rfl
theorem q301 : (Jvm.Cond.fieldLink "java/lang/AbstractStringBuilder" (15 : Nat) "java/lang/AbstractStringBuilder" "value" "[B") ∈ lw_all := lw_g (lw_at lw_m1 184 rfl) rfl
theorem q302 : (Jvm.Cond.fieldLink "java/lang/AbstractStringBuilder" (22 : Nat) "java/lang/AbstractStringBuilder" "coder" "B") ∈ lw_all := lw_g (lw_at lw_m1 185 rfl) rfl
theorem q304 : (Jvm.Cond.fieldLink "java/lang/AbstractStringBuilder" (79 : Nat) "java/lang/AbstractStringBuilder" "count" "I") ∈ lw_all := lw_g (lw_at lw_m1 187 rfl) rfl
theorem q306 : (Jvm.Cond.soleField "java/lang/AbstractStringBuilder" "value") ∈ lw_all := lw_g (lw_at lw_m1 189 rfl) rfl
theorem q308 : (Jvm.Cond.soleField "java/lang/AbstractStringBuilder" "coder") ∈ lw_all := lw_g (lw_at lw_m1 191 rfl) rfl
theorem q310 : (Jvm.Cond.soleField "java/lang/AbstractStringBuilder" "maybeLatin1") ∈ lw_all := lw_g (lw_at lw_m1 193 rfl) rfl
theorem q312 : (Jvm.Cond.soleField "java/lang/AbstractStringBuilder" "count") ∈ lw_all := lw_g (lw_at lw_m1 195 rfl) rfl
theorem q437 : (Jvm.Cond.instanceMethod ({ cls := "java/lang/AbstractStringBuilder", name := "append", desc := "(Ljava/lang/String;)Ljava/lang/AbstractStringBuilder;" } : Jvm.MethodName)) ∈ lw_all := lw_g (lw_at lw_m2 80 rfl) rfl
theorem q438 : (Jvm.Cond.code ({ cls := "java/lang/AbstractStringBuilder", name := "append", desc := "(Ljava/lang/String;)Ljava/lang/AbstractStringBuilder;" } : Jvm.MethodName) prog_26_method_22_code (3 : Nat) (Option.some (Jvm.ClassFile.FieldType.object "java/lang/AbstractStringBuilder"))) ∈ lw_all := lw_g (lw_at lw_m2 81 rfl) rfl
theorem q439 : (Jvm.Cond.methodLink "java/lang/AbstractStringBuilder" (204 : Nat) ({ cls := "java/lang/AbstractStringBuilder", name := "appendNull", desc := "()Ljava/lang/AbstractStringBuilder;" } : Jvm.MethodName)) ∈ lw_all := lw_g (lw_at lw_m2 82 rfl) rfl
theorem q440 : (Jvm.Cond.privateMethod ({ cls := "java/lang/AbstractStringBuilder", name := "appendNull", desc := "()Ljava/lang/AbstractStringBuilder;" } : Jvm.MethodName)) ∈ lw_tbl := lw_at lw_m2 83 rfl
theorem q441 : (Jvm.Cond.instanceMethod ({ cls := "java/lang/AbstractStringBuilder", name := "appendNull", desc := "()Ljava/lang/AbstractStringBuilder;" } : Jvm.MethodName)) ∈ lw_all := lw_g (lw_at lw_m2 84 rfl) rfl
theorem q442 : (Jvm.Cond.code ({ cls := "java/lang/AbstractStringBuilder", name := "appendNull", desc := "()Ljava/lang/AbstractStringBuilder;" } : Jvm.MethodName) prog_26_method_26_code (3 : Nat) (Option.some (Jvm.ClassFile.FieldType.object "java/lang/AbstractStringBuilder"))) ∈ lw_all := lw_g (lw_at lw_m2 85 rfl) rfl
theorem q443 : (Jvm.Cond.methodLink "java/lang/AbstractStringBuilder" (100 : Nat) ({ cls := "java/lang/AbstractStringBuilder", name := "ensureCapacityInternal", desc := "(I)V" } : Jvm.MethodName)) ∈ lw_all := lw_g (lw_at lw_m2 86 rfl) rfl
theorem q444 : (Jvm.Cond.privateMethod ({ cls := "java/lang/AbstractStringBuilder", name := "ensureCapacityInternal", desc := "(I)V" } : Jvm.MethodName)) ∈ lw_tbl := lw_at lw_m2 87 rfl
theorem q445 : (Jvm.Cond.instanceMethod ({ cls := "java/lang/AbstractStringBuilder", name := "ensureCapacityInternal", desc := "(I)V" } : Jvm.MethodName)) ∈ lw_all := lw_g (lw_at lw_m2 88 rfl) rfl
theorem q446 : (Jvm.Cond.code ({ cls := "java/lang/AbstractStringBuilder", name := "ensureCapacityInternal", desc := "(I)V" } : Jvm.MethodName) prog_26_method_9_code (3 : Nat) (Option.none : Option Jvm.ClassFile.FieldType)) ∈ lw_all := lw_g (lw_at lw_m2 89 rfl) rfl
theorem q447 : (Jvm.Cond.methodLink "java/lang/AbstractStringBuilder" (104 : Nat) ({ cls := "java/lang/AbstractStringBuilder", name := "newCapacity", desc := "(I)I" } : Jvm.MethodName)) ∈ lw_all := lw_g (lw_at lw_m2 90 rfl) rfl
theorem q448 : (Jvm.Cond.privateMethod ({ cls := "java/lang/AbstractStringBuilder", name := "newCapacity", desc := "(I)I" } : Jvm.MethodName)) ∈ lw_tbl := lw_at lw_m2 91 rfl
theorem q449 : (Jvm.Cond.instanceMethod ({ cls := "java/lang/AbstractStringBuilder", name := "newCapacity", desc := "(I)I" } : Jvm.MethodName)) ∈ lw_all := lw_g (lw_at lw_m2 92 rfl) rfl
theorem q450 : (Jvm.Cond.code ({ cls := "java/lang/AbstractStringBuilder", name := "newCapacity", desc := "(I)I" } : Jvm.MethodName) prog_26_method_10_code (6 : Nat) (Option.some Jvm.ClassFile.FieldType.int)) ∈ lw_all := lw_g (lw_at lw_m2 93 rfl) rfl
theorem q451 : (Jvm.Cond.methodLink "java/lang/AbstractStringBuilder" (114 : Nat) ({ cls := "jdk/internal/util/ArraysSupport", name := "newLength", desc := "(III)I" } : Jvm.MethodName)) ∈ lw_all := lw_g (lw_at lw_m2 94 rfl) rfl
theorem q461 : (Jvm.Cond.constant "java/lang/AbstractStringBuilder" (39 : Nat) (2147483647 : Int32)) ∈ lw_all := lw_g (lw_at lw_m2 104 rfl) rfl
theorem q462 : (Jvm.Cond.methodLink "java/lang/AbstractStringBuilder" (108 : Nat) ({ cls := "java/util/Arrays", name := "copyOf", desc := "([BI)[B" } : Jvm.MethodName)) ∈ lw_all := lw_g (lw_at lw_m2 105 rfl) rfl
theorem q478 : (Jvm.Cond.methodLink "java/lang/AbstractStringBuilder" (83 : Nat) ({ cls := "java/lang/AbstractStringBuilder", name := "isLatin1", desc := "()Z" } : Jvm.MethodName)) ∈ lw_all := lw_g (lw_at lw_m2 121 rfl) rfl
theorem q479 : (Jvm.Cond.instanceMethod ({ cls := "java/lang/AbstractStringBuilder", name := "isLatin1", desc := "()Z" } : Jvm.MethodName)) ∈ lw_all := lw_g (lw_at lw_m2 122 rfl) rfl
theorem q480 : (Jvm.Cond.sameMethod "java/lang/AbstractStringBuilder" "java/lang/AbstractStringBuilder" "isLatin1" "()Z") ∈ lw_all := lw_g (lw_at lw_m2 123 rfl) rfl
theorem q482 : (Jvm.Cond.code ({ cls := "java/lang/AbstractStringBuilder", name := "isLatin1", desc := "()Z" } : Jvm.MethodName) prog_26_method_68_code (1 : Nat) (Option.some Jvm.ClassFile.FieldType.boolean)) ∈ lw_all := lw_g (lw_at lw_m2 125 rfl) rfl
theorem q483 : (Jvm.Cond.methodLink "java/lang/AbstractStringBuilder" (226 : Nat) ({ cls := "java/lang/StringUTF16", name := "putCharsAt", desc := "([BICCCC)I" } : Jvm.MethodName)) ∈ lw_all := lw_g (lw_at lw_m2 126 rfl) rfl
theorem q509 : (Jvm.Cond.methodLink "java/lang/AbstractStringBuilder" (32 : Nat) ({ cls := "java/lang/String", name := "length", desc := "()I" } : Jvm.MethodName)) ∈ lw_all := lw_g (lw_at lw_m2 152 rfl) rfl
theorem q518 : (Jvm.Cond.methodLink "java/lang/AbstractStringBuilder" (208 : Nat) ({ cls := "java/lang/AbstractStringBuilder", name := "putStringAt", desc := "(ILjava/lang/String;)V" } : Jvm.MethodName)) ∈ lw_all := lw_g (lw_at lw_m2 161 rfl) rfl
theorem q519 : (Jvm.Cond.privateMethod ({ cls := "java/lang/AbstractStringBuilder", name := "putStringAt", desc := "(ILjava/lang/String;)V" } : Jvm.MethodName)) ∈ lw_tbl := lw_at lw_m2 162 rfl
theorem q520 : (Jvm.Cond.instanceMethod ({ cls := "java/lang/AbstractStringBuilder", name := "putStringAt", desc := "(ILjava/lang/String;)V" } : Jvm.MethodName)) ∈ lw_all := lw_g (lw_at lw_m2 163 rfl) rfl
theorem q521 : (Jvm.Cond.code ({ cls := "java/lang/AbstractStringBuilder", name := "putStringAt", desc := "(ILjava/lang/String;)V" } : Jvm.MethodName) prog_26_method_73_code (3 : Nat) (Option.none : Option Jvm.ClassFile.FieldType)) ∈ lw_all := lw_g (lw_at lw_m2 164 rfl) rfl
theorem q522 : (Jvm.Cond.methodLink "java/lang/AbstractStringBuilder" (397 : Nat) ({ cls := "java/lang/AbstractStringBuilder", name := "inflateIfNeededFor", desc := "(Ljava/lang/String;)V" } : Jvm.MethodName)) ∈ lw_all := lw_g (lw_at lw_m2 165 rfl) rfl
theorem q523 : (Jvm.Cond.privateMethod ({ cls := "java/lang/AbstractStringBuilder", name := "inflateIfNeededFor", desc := "(Ljava/lang/String;)V" } : Jvm.MethodName)) ∈ lw_tbl := lw_at lw_m2 166 rfl
theorem q524 : (Jvm.Cond.instanceMethod ({ cls := "java/lang/AbstractStringBuilder", name := "inflateIfNeededFor", desc := "(Ljava/lang/String;)V" } : Jvm.MethodName)) ∈ lw_all := lw_g (lw_at lw_m2 167 rfl) rfl
theorem q525 : (Jvm.Cond.code ({ cls := "java/lang/AbstractStringBuilder", name := "inflateIfNeededFor", desc := "(Ljava/lang/String;)V" } : Jvm.MethodName) prog_26_method_71_code (2 : Nat) (Option.none : Option Jvm.ClassFile.FieldType)) ∈ lw_all := lw_g (lw_at lw_m2 168 rfl) rfl
theorem q526 : (Jvm.Cond.methodLink "java/lang/AbstractStringBuilder" (40 : Nat) ({ cls := "java/lang/String", name := "coder", desc := "()B" } : Jvm.MethodName)) ∈ lw_all := lw_g (lw_at lw_m2 169 rfl) rfl
theorem q527 : (Jvm.Cond.methodLink "java/lang/AbstractStringBuilder" (195 : Nat) ({ cls := "java/lang/AbstractStringBuilder", name := "inflate", desc := "()V" } : Jvm.MethodName)) ∈ lw_all := lw_g (lw_at lw_m2 170 rfl) rfl
theorem q528 : (Jvm.Cond.privateMethod ({ cls := "java/lang/AbstractStringBuilder", name := "inflate", desc := "()V" } : Jvm.MethodName)) ∈ lw_tbl := lw_at lw_m2 171 rfl
theorem q529 : (Jvm.Cond.instanceMethod ({ cls := "java/lang/AbstractStringBuilder", name := "inflate", desc := "()V" } : Jvm.MethodName)) ∈ lw_all := lw_g (lw_at lw_m2 172 rfl) rfl
theorem q530 : (Jvm.Cond.code ({ cls := "java/lang/AbstractStringBuilder", name := "inflate", desc := "()V" } : Jvm.MethodName) prog_26_method_11_code (2 : Nat) (Option.none : Option Jvm.ClassFile.FieldType)) ∈ lw_all := lw_g (lw_at lw_m2 173 rfl) rfl
theorem q531 : (Jvm.Cond.methodLink "java/lang/AbstractStringBuilder" (125 : Nat) ({ cls := "java/lang/StringLatin1", name := "inflate", desc := "([BI[BII)V" } : Jvm.MethodName)) ∈ lw_all := lw_g (lw_at lw_m2 174 rfl) rfl
theorem q546 : (Jvm.Cond.methodLink "java/lang/AbstractStringBuilder" (399 : Nat) ({ cls := "java/lang/String", name := "getBytes", desc := "([BIB)V" } : Jvm.MethodName)) ∈ lw_all := lw_g (lw_at lw_m2 189 rfl) rfl
theorem q557 : (Jvm.Cond.instanceMethod ({ cls := "java/lang/AbstractStringBuilder", name := "append", desc := "(I)Ljava/lang/AbstractStringBuilder;" } : Jvm.MethodName)) ∈ lw_all := lw_g (lw_at lw_m2 200 rfl) rfl
theorem q558 : (Jvm.Cond.code ({ cls := "java/lang/AbstractStringBuilder", name := "append", desc := "(I)Ljava/lang/AbstractStringBuilder;" } : Jvm.MethodName) prog_26_method_32_code (4 : Nat) (Option.some (Jvm.ClassFile.FieldType.object "java/lang/AbstractStringBuilder"))) ∈ lw_all := lw_g (lw_at lw_m2 201 rfl) rfl
theorem q559 : (Jvm.Cond.methodLink "java/lang/AbstractStringBuilder" (245 : Nat) ({ cls := "java/lang/Integer", name := "stringSize", desc := "(I)I" } : Jvm.MethodName)) ∈ lw_all := lw_g (lw_at lw_m2 202 rfl) rfl
theorem q562 : (Jvm.Cond.methodLink "java/lang/AbstractStringBuilder" (248 : Nat) ({ cls := "java/lang/Integer", name := "getChars", desc := "(II[B)I" } : Jvm.MethodName)) ∈ lw_all := lw_g (lw_at lw_m2 205 rfl) rfl
theorem q569 : (Jvm.Cond.methodLink "java/lang/AbstractStringBuilder" (251 : Nat) ({ cls := "java/lang/StringUTF16", name := "getChars", desc := "(III[B)I" } : Jvm.MethodName)) ∈ lw_all := lw_g (lw_at lw_m2 212 rfl) rfl
theorem q592 : (Jvm.Cond.instanceMethod ({ cls := "java/lang/AbstractStringBuilder", name := "getValue", desc := "()[B" } : Jvm.MethodName)) ∈ lw_all := lw_g (lw_at lw_m2 235 rfl) rfl
theorem q593 : (Jvm.Cond.sameMethod "java/lang/AbstractStringBuilder" "java/lang/AbstractStringBuilder" "getValue" "()[B") ∈ lw_all := lw_g (lw_at lw_m2 236 rfl) rfl
theorem q595 : (Jvm.Cond.code ({ cls := "java/lang/AbstractStringBuilder", name := "getValue", desc := "()[B" } : Jvm.MethodName) prog_26_method_64_code (1 : Nat) (Option.some (Jvm.ClassFile.FieldType.array Jvm.ClassFile.FieldType.byte))) ∈ lw_all := lw_g (lw_at lw_m2 238 rfl) rfl
theorem q597 : (Jvm.Cond.instanceMethod ({ cls := "java/lang/AbstractStringBuilder", name := "length", desc := "()I" } : Jvm.MethodName)) ∈ lw_all := lw_g (lw_at lw_m3 0 rfl) rfl
theorem q598 : (Jvm.Cond.sameMethod "java/lang/AbstractStringBuilder" "java/lang/AbstractStringBuilder" "length" "()I") ∈ lw_all := lw_g (lw_at lw_m3 1 rfl) rfl
theorem q603 : (Jvm.Cond.code ({ cls := "java/lang/AbstractStringBuilder", name := "length", desc := "()I" } : Jvm.MethodName) prog_26_method_6_code (1 : Nat) (Option.some Jvm.ClassFile.FieldType.int)) ∈ lw_all := lw_g (lw_at lw_m3 6 rfl) rfl
theorem q1283 : (Jvm.Cond.instanceMethod ({ cls := "java/lang/AbstractStringBuilder", name := "append", desc := "(C)Ljava/lang/AbstractStringBuilder;" } : Jvm.MethodName)) ∈ lw_all := lw_g (lw_at lw_m5 206 rfl) rfl
theorem q1284 : (Jvm.Cond.code ({ cls := "java/lang/AbstractStringBuilder", name := "append", desc := "(C)Ljava/lang/AbstractStringBuilder;" } : Jvm.MethodName) prog_26_method_31_code (2 : Nat) (Option.some (Jvm.ClassFile.FieldType.object "java/lang/AbstractStringBuilder"))) ∈ lw_all := lw_g (lw_at lw_m5 207 rfl) rfl
theorem q1285 : (Jvm.Cond.methodLink "java/lang/AbstractStringBuilder" (191 : Nat) ({ cls := "java/lang/StringLatin1", name := "canEncode", desc := "(C)Z" } : Jvm.MethodName)) ∈ lw_all := lw_g (lw_at lw_m5 208 rfl) rfl
theorem q1288 : (Jvm.Cond.methodLink "java/lang/AbstractStringBuilder" (197 : Nat) ({ cls := "java/lang/StringUTF16", name := "putCharSB", desc := "([BII)V" } : Jvm.MethodName)) ∈ lw_all := lw_g (lw_at lw_m5 211 rfl) rfl
theorem q1669 : (Jvm.Cond.instanceMethod ({ cls := "java/lang/AbstractStringBuilder", name := "charAt", desc := "(I)C" } : Jvm.MethodName)) ∈ lw_all := lw_g (lw_at lw_m7 112 rfl) rfl
theorem q1670 : (Jvm.Cond.code ({ cls := "java/lang/AbstractStringBuilder", name := "charAt", desc := "(I)C" } : Jvm.MethodName) prog_26_method_14_code (5 : Nat) (Option.some Jvm.ClassFile.FieldType.char)) ∈ lw_all := lw_g (lw_at lw_m7 113 rfl) rfl
theorem q1671 : (Jvm.Cond.methodLink "java/lang/AbstractStringBuilder" (138 : Nat) ({ cls := "java/lang/Math", name := "min", desc := "(II)I" } : Jvm.MethodName)) ∈ lw_all := lw_g (lw_at lw_m7 114 rfl) rfl
theorem q1672 : (Jvm.Cond.methodLink "java/lang/AbstractStringBuilder" (144 : Nat) ({ cls := "java/lang/String", name := "checkIndex", desc := "(II)V" } : Jvm.MethodName)) ∈ lw_all := lw_g (lw_at lw_m7 115 rfl) rfl
theorem q1673 : (Jvm.Cond.methodLink "java/lang/AbstractStringBuilder" (148 : Nat) ({ cls := "java/lang/StringUTF16", name := "getChar", desc := "([BI)C" } : Jvm.MethodName)) ∈ lw_all := lw_g (lw_at lw_m7 116 rfl) rfl
theorem q1871 : (Jvm.Cond.instanceMethod ({ cls := "java/lang/AbstractStringBuilder", name := "subSequence", desc := "(II)Ljava/lang/CharSequence;" } : Jvm.MethodName)) ∈ lw_all := lw_g (lw_at lw_m8 74 rfl) rfl
theorem q1872 : (Jvm.Cond.code ({ cls := "java/lang/AbstractStringBuilder", name := "subSequence", desc := "(II)Ljava/lang/CharSequence;" } : Jvm.MethodName) prog_26_method_41_code (3 : Nat) (Option.some (Jvm.ClassFile.FieldType.object "java/lang/CharSequence"))) ∈ lw_all := lw_g (lw_at lw_m8 75 rfl) rfl
theorem q1873 : (Jvm.Cond.methodLink "java/lang/AbstractStringBuilder" (300 : Nat) ({ cls := "java/lang/AbstractStringBuilder", name := "substring", desc := "(II)Ljava/lang/String;" } : Jvm.MethodName)) ∈ lw_all := lw_g (lw_at lw_m8 76 rfl) rfl
theorem q1874 : (Jvm.Cond.instanceMethod ({ cls := "java/lang/AbstractStringBuilder", name := "substring", desc := "(II)Ljava/lang/String;" } : Jvm.MethodName)) ∈ lw_all := lw_g (lw_at lw_m8 77 rfl) rfl
theorem q1875 : (Jvm.Cond.sameMethod "java/lang/AbstractStringBuilder" "java/lang/AbstractStringBuilder" "substring" "(II)Ljava/lang/String;") ∈ lw_all := lw_g (lw_at lw_m8 78 rfl) rfl
theorem q1880 : (Jvm.Cond.code ({ cls := "java/lang/AbstractStringBuilder", name := "substring", desc := "(II)Ljava/lang/String;" } : Jvm.MethodName) prog_26_method_42_code (3 : Nat) (Option.some (Jvm.ClassFile.FieldType.object "java/lang/String"))) ∈ lw_all := lw_g (lw_at lw_m8 83 rfl) rfl
theorem q1881 : (Jvm.Cond.fieldLink "java/lang/AbstractStringBuilder" (179 : Nat) "jdk/internal/util/Preconditions" "SIOOBE_FORMATTER" "Ljava/util/function/BiFunction;") ∈ lw_all := lw_g (lw_at lw_m8 84 rfl) rfl
theorem q1882 : (Jvm.Cond.methodLink "java/lang/AbstractStringBuilder" (161 : Nat) ({ cls := "jdk/internal/util/Preconditions", name := "checkFromToIndex", desc := "(IIILjava/util/function/BiFunction;)I" } : Jvm.MethodName)) ∈ lw_all := lw_g (lw_at lw_m8 85 rfl) rfl
theorem q1883 : (Jvm.Cond.methodLink "java/lang/AbstractStringBuilder" (304 : Nat) ({ cls := "java/lang/StringLatin1", name := "newString", desc := "([BII)Ljava/lang/String;" } : Jvm.MethodName)) ∈ lw_all := lw_g (lw_at lw_m8 86 rfl) rfl
theorem q1884 : (Jvm.Cond.methodLink "java/lang/AbstractStringBuilder" (308 : Nat) ({ cls := "java/lang/StringUTF16", name := "newString", desc := "([BII)Ljava/lang/String;" } : Jvm.MethodName)) ∈ lw_all := lw_g (lw_at lw_m8 87 rfl) rfl
theorem q3284 : (Jvm.Cond.sameMethod "java/lang/AbstractStringBuilder" "java/lang/AbstractStringBuilder" "append" "(Ljava/lang/String;)Ljava/lang/AbstractStringBuilder;") ∈ lw_all := lw_g (lw_at lw_m14 47 rfl) rfl
theorem q3285 : (Jvm.Cond.sameMethod "java/lang/AbstractStringBuilder" "java/lang/AbstractStringBuilder" "appendNull" "()Ljava/lang/AbstractStringBuilder;") ∈ lw_all := lw_g (lw_at lw_m14 48 rfl) rfl
theorem q3286 : (Jvm.Cond.sameMethod "java/lang/AbstractStringBuilder" "java/lang/AbstractStringBuilder" "ensureCapacityInternal" "(I)V") ∈ lw_all := lw_g (lw_at lw_m14 49 rfl) rfl
theorem q3287 : (Jvm.Cond.sameMethod "java/lang/AbstractStringBuilder" "java/lang/AbstractStringBuilder" "newCapacity" "(I)I") ∈ lw_all := lw_g (lw_at lw_m14 50 rfl) rfl
theorem q3288 : (Jvm.Cond.sameMethod "java/lang/AbstractStringBuilder" "java/lang/AbstractStringBuilder" "putStringAt" "(ILjava/lang/String;)V") ∈ lw_all := lw_g (lw_at lw_m14 51 rfl) rfl
theorem q3289 : (Jvm.Cond.sameMethod "java/lang/AbstractStringBuilder" "java/lang/AbstractStringBuilder" "inflateIfNeededFor" "(Ljava/lang/String;)V") ∈ lw_all := lw_g (lw_at lw_m14 52 rfl) rfl
theorem q3290 : (Jvm.Cond.sameMethod "java/lang/AbstractStringBuilder" "java/lang/AbstractStringBuilder" "inflate" "()V") ∈ lw_all := lw_g (lw_at lw_m14 53 rfl) rfl
theorem q3291 : (Jvm.Cond.sameMethod "java/lang/AbstractStringBuilder" "java/lang/AbstractStringBuilder" "append" "(I)Ljava/lang/AbstractStringBuilder;") ∈ lw_all := lw_g (lw_at lw_m14 54 rfl) rfl
theorem q3297 : (Jvm.Cond.sameMethod "java/lang/AbstractStringBuilder" "java/lang/AbstractStringBuilder" "append" "(C)Ljava/lang/AbstractStringBuilder;") ∈ lw_all := lw_g (lw_at lw_m14 60 rfl) rfl
theorem q3300 : (Jvm.Cond.sameMethod "java/lang/AbstractStringBuilder" "java/lang/AbstractStringBuilder" "charAt" "(I)C") ∈ lw_all := lw_g (lw_at lw_m14 63 rfl) rfl
theorem q3301 : (Jvm.Cond.sameMethod "java/lang/AbstractStringBuilder" "java/lang/AbstractStringBuilder" "subSequence" "(II)Ljava/lang/CharSequence;") ∈ lw_all := lw_g (lw_at lw_m14 64 rfl) rfl

/-! java/lang/StringBuilder -/
set_option maxRecDepth 100000
def RJ6 : String := "java/lang/StringBuilder"
def TJ6 : u_T := fun k => match k with
  | 0 => ("java/lang/AbstractStringBuilder", "value", "[B", false)
  | 1 => ("java/lang/AbstractStringBuilder", "coder", "B", false)
  | 2 => ("java/lang/AbstractStringBuilder", "maybeLatin1", "Z", false)
  | _ => ("java/lang/AbstractStringBuilder", "count", "I", false)
def tyJ6 : Nat → FieldType := fun k => match k with
  | 0 => .array .byte
  | 1 => .byte
  | 2 => .boolean
  | _ => .int
abbrev wsJ60 : List Cond := u_ws RJ6 TJ6 4
theorem nmJ6 : ∀ a, a < 4 → ∀ b, b < 4 → a ≠ b → (TJ6 a).2.1 ≠ (TJ6 b).2.1 := by decide +kernel
theorem tyJ6_ok : ∀ k, k < 4 → parseFieldDescriptor (TJ6 k).2.2.1 = some (tyJ6 k) := by decide +kernel
abbrev cJ6_init : ByteArray := prog_46_method_1_code
def yJ6_init : MethodName := ⟨RJ6, "<init>", "()V"⟩
def dkwJ6_init_0 : List UInt8 := [42, 16, 16, 183, 0, 1, 177]
abbrev dktJ6_init_0 : List UInt8 := dkwJ6_init_0 ++ []
theorem dksJ6_init_0 : cJ6_init.data.toList.drop 0 = dktJ6_init_0 := by decide +kernel
theorem dJ6_init_0 : decode cJ6_init 0 = .ok (.aload_n 0, 1) := dk_42 (dk_at dksJ6_init_0 0 rfl rfl)
theorem dJ6_init_1 : decode cJ6_init 1 = .ok (.bipush 16, 2) := dk_16 16 (dk_at dksJ6_init_0 1 rfl rfl)
theorem dJ6_init_3 : decode cJ6_init 3 = .ok (.invokespecial 1, 3) := dk_183 0 1 (dk_at dksJ6_init_0 3 rfl rfl)
theorem dJ6_init_6 : decode cJ6_init 6 = .ok (.return_, 1) := dk_177 (dk_at dksJ6_init_0 6 rfl rfl)
abbrev cJ6_append : ByteArray := prog_46_method_7_code
def yJ6_append : MethodName := ⟨RJ6, "append", "(Ljava/lang/String;)Ljava/lang/StringBuilder;"⟩
def dkwJ6_append_0 : List UInt8 := [42, 43, 183, 0, 29, 87, 42, 176]
abbrev dktJ6_append_0 : List UInt8 := dkwJ6_append_0 ++ []
theorem dksJ6_append_0 : cJ6_append.data.toList.drop 0 = dktJ6_append_0 := by decide +kernel
theorem dJ6_append_0 : decode cJ6_append 0 = .ok (.aload_n 0, 1) := dk_42 (dk_at dksJ6_append_0 0 rfl rfl)
theorem dJ6_append_1 : decode cJ6_append 1 = .ok (.aload_n 1, 1) := dk_43 (dk_at dksJ6_append_0 1 rfl rfl)
theorem dJ6_append_2 : decode cJ6_append 2 = .ok (.invokespecial 29, 3) := dk_183 0 29 (dk_at dksJ6_append_0 2 rfl rfl)
theorem dJ6_append_5 : decode cJ6_append 5 = .ok (.pop, 1) := dk_87 (dk_at dksJ6_append_0 5 rfl rfl)
theorem dJ6_append_6 : decode cJ6_append 6 = .ok (.aload_n 0, 1) := dk_42 (dk_at dksJ6_append_0 6 rfl rfl)
theorem dJ6_append_7 : decode cJ6_append 7 = .ok (.areturn, 1) := dk_176 (dk_at dksJ6_append_0 7 rfl rfl)
abbrev cJ6_append_2 : ByteArray := prog_46_method_15_code
def yJ6_append_2 : MethodName := ⟨RJ6, "append", "(I)Ljava/lang/StringBuilder;"⟩
def dkwJ6_append_2_0 : List UInt8 := [42, 27, 183, 0, 53, 87, 42, 176]
abbrev dktJ6_append_2_0 : List UInt8 := dkwJ6_append_2_0 ++ []
theorem dksJ6_append_2_0 : cJ6_append_2.data.toList.drop 0 = dktJ6_append_2_0 := by decide +kernel
theorem dJ6_append_2_0 : decode cJ6_append_2 0 = .ok (.aload_n 0, 1) := dk_42 (dk_at dksJ6_append_2_0 0 rfl rfl)
theorem dJ6_append_2_1 : decode cJ6_append_2 1 = .ok (.iload_n 1, 1) := dk_27 (dk_at dksJ6_append_2_0 1 rfl rfl)
theorem dJ6_append_2_2 : decode cJ6_append_2 2 = .ok (.invokespecial 53, 3) := dk_183 0 53 (dk_at dksJ6_append_2_0 2 rfl rfl)
theorem dJ6_append_2_5 : decode cJ6_append_2 5 = .ok (.pop, 1) := dk_87 (dk_at dksJ6_append_2_0 5 rfl rfl)
theorem dJ6_append_2_6 : decode cJ6_append_2 6 = .ok (.aload_n 0, 1) := dk_42 (dk_at dksJ6_append_2_0 6 rfl rfl)
theorem dJ6_append_2_7 : decode cJ6_append_2 7 = .ok (.areturn, 1) := dk_176 (dk_at dksJ6_append_2_0 7 rfl rfl)
abbrev cJ6_toString : ByteArray := prog_46_method_42_code
def yJ6_toString : MethodName := ⟨RJ6, "toString", "()Ljava/lang/String;"⟩
def dkwJ6_toString_0 : List UInt8 := [187, 0, 18, 89, 42, 183, 0, 137, 176]
abbrev dktJ6_toString_0 : List UInt8 := dkwJ6_toString_0 ++ []
theorem dksJ6_toString_0 : cJ6_toString.data.toList.drop 0 = dktJ6_toString_0 := by decide +kernel
theorem dJ6_toString_0 : decode cJ6_toString 0 = .ok (.new 18, 3) := dk_187 0 18 (dk_at dksJ6_toString_0 0 rfl rfl)
theorem dJ6_toString_3 : decode cJ6_toString 3 = .ok (.dup, 1) := dk_89 (dk_at dksJ6_toString_0 3 rfl rfl)
theorem dJ6_toString_4 : decode cJ6_toString 4 = .ok (.aload_n 0, 1) := dk_42 (dk_at dksJ6_toString_0 4 rfl rfl)
theorem dJ6_toString_5 : decode cJ6_toString 5 = .ok (.invokespecial 137, 3) := dk_183 0 137 (dk_at dksJ6_toString_0 5 rfl rfl)
theorem dJ6_toString_8 : decode cJ6_toString 8 = .ok (.areturn, 1) := dk_176 (dk_at dksJ6_toString_0 8 rfl rfl)
abbrev cJ6_length : ByteArray := prog_46_method_93_code
def yJ6_length : MethodName := ⟨RJ6, "length", "()I"⟩
theorem dJ6_length_0 : decode cJ6_length 0 = .ok (.aload_n 0, 1) := by decide +kernel
theorem dJ6_length_1 : decode cJ6_length 1 = .ok (.invokespecial 343, 3) := by decide +kernel
theorem dJ6_length_4 : decode cJ6_length 4 = .ok (.ireturn, 1) := by decide +kernel
abbrev cJ6_append_3 : ByteArray := prog_46_method_14_code
def yJ6_append_3 : MethodName := ⟨RJ6, "append", "(C)Ljava/lang/StringBuilder;"⟩
def dkwJ6_append_3_0 : List UInt8 := [42, 27, 183, 0, 50, 87, 42, 176]
abbrev dktJ6_append_3_0 : List UInt8 := dkwJ6_append_3_0 ++ []
theorem dksJ6_append_3_0 : cJ6_append_3.data.toList.drop 0 = dktJ6_append_3_0 := by decide +kernel
theorem dJ6_append_3_0 : decode cJ6_append_3 0 = .ok (.aload_n 0, 1) := dk_42 (dk_at dksJ6_append_3_0 0 rfl rfl)
theorem dJ6_append_3_1 : decode cJ6_append_3 1 = .ok (.iload_n 1, 1) := dk_27 (dk_at dksJ6_append_3_0 1 rfl rfl)
theorem dJ6_append_3_2 : decode cJ6_append_3 2 = .ok (.invokespecial 50, 3) := dk_183 0 50 (dk_at dksJ6_append_3_0 2 rfl rfl)
theorem dJ6_append_3_5 : decode cJ6_append_3 5 = .ok (.pop, 1) := dk_87 (dk_at dksJ6_append_3_0 5 rfl rfl)
theorem dJ6_append_3_6 : decode cJ6_append_3 6 = .ok (.aload_n 0, 1) := dk_42 (dk_at dksJ6_append_3_0 6 rfl rfl)
theorem dJ6_append_3_7 : decode cJ6_append_3 7 = .ok (.areturn, 1) := dk_176 (dk_at dksJ6_append_3_0 7 rfl rfl)
abbrev cJ6_charAt : ByteArray := prog_46_method_88_code
def yJ6_charAt : MethodName := ⟨RJ6, "charAt", "(I)C"⟩
def dkwJ6_charAt_0 : List UInt8 := [42, 27, 183, 1, 73, 172]
abbrev dktJ6_charAt_0 : List UInt8 := dkwJ6_charAt_0 ++ []
theorem dksJ6_charAt_0 : cJ6_charAt.data.toList.drop 0 = dktJ6_charAt_0 := by decide +kernel
theorem dJ6_charAt_0 : decode cJ6_charAt 0 = .ok (.aload_n 0, 1) := dk_42 (dk_at dksJ6_charAt_0 0 rfl rfl)
theorem dJ6_charAt_1 : decode cJ6_charAt 1 = .ok (.iload_n 1, 1) := dk_27 (dk_at dksJ6_charAt_0 1 rfl rfl)
theorem dJ6_charAt_2 : decode cJ6_charAt 2 = .ok (.invokespecial 329, 3) := dk_183 1 73 (dk_at dksJ6_charAt_0 2 rfl rfl)
theorem dJ6_charAt_5 : decode cJ6_charAt 5 = .ok (.ireturn, 1) := dk_172 (dk_at dksJ6_charAt_0 5 rfl rfl)
abbrev cJ6_subSequence : ByteArray := prog_46_method_63_code
def yJ6_subSequence : MethodName := ⟨RJ6, "subSequence", "(II)Ljava/lang/CharSequence;"⟩
def dkwJ6_subSequence_0 : List UInt8 := [42, 27, 28, 183, 1, 0, 176]
abbrev dktJ6_subSequence_0 : List UInt8 := dkwJ6_subSequence_0 ++ []
theorem dksJ6_subSequence_0 : cJ6_subSequence.data.toList.drop 0 = dktJ6_subSequence_0 := by decide +kernel
theorem dJ6_subSequence_0 : decode cJ6_subSequence 0 = .ok (.aload_n 0, 1) := dk_42 (dk_at dksJ6_subSequence_0 0 rfl rfl)
theorem dJ6_subSequence_1 : decode cJ6_subSequence 1 = .ok (.iload_n 1, 1) := dk_27 (dk_at dksJ6_subSequence_0 1 rfl rfl)
theorem dJ6_subSequence_2 : decode cJ6_subSequence 2 = .ok (.iload_n 2, 1) := dk_28 (dk_at dksJ6_subSequence_0 2 rfl rfl)
theorem dJ6_subSequence_3 : decode cJ6_subSequence 3 = .ok (.invokespecial 256, 3) := dk_183 1 0 (dk_at dksJ6_subSequence_0 3 rfl rfl)
theorem dJ6_subSequence_6 : decode cJ6_subSequence 6 = .ok (.areturn, 1) := dk_176 (dk_at dksJ6_subSequence_0 6 rfl rfl)
abbrev cJ6_substring : ByteArray := prog_46_method_62_code
def yJ6_substring : MethodName := ⟨RJ6, "substring", "(II)Ljava/lang/String;"⟩
def dkwJ6_substring_0 : List UInt8 := [42, 27, 28, 183, 0, 252, 176]
abbrev dktJ6_substring_0 : List UInt8 := dkwJ6_substring_0 ++ []
theorem dksJ6_substring_0 : cJ6_substring.data.toList.drop 0 = dktJ6_substring_0 := by decide +kernel
theorem dJ6_substring_0 : decode cJ6_substring 0 = .ok (.aload_n 0, 1) := dk_42 (dk_at dksJ6_substring_0 0 rfl rfl)
theorem dJ6_substring_1 : decode cJ6_substring 1 = .ok (.iload_n 1, 1) := dk_27 (dk_at dksJ6_substring_0 1 rfl rfl)
theorem dJ6_substring_2 : decode cJ6_substring 2 = .ok (.iload_n 2, 1) := dk_28 (dk_at dksJ6_substring_0 2 rfl rfl)
theorem dJ6_substring_3 : decode cJ6_substring 3 = .ok (.invokespecial 252, 3) := dk_183 0 252 (dk_at dksJ6_substring_0 3 rfl rfl)
theorem dJ6_substring_6 : decode cJ6_substring 6 = .ok (.areturn, 1) := dk_176 (dk_at dksJ6_substring_0 6 rfl rfl)
theorem q126 : (Jvm.Cond.initialized "java/lang/StringBuilder") ∈ lw_all := lw_g (lw_at lw_m1 9 rfl) rfl
theorem q284 : (Jvm.Cond.instantiable "java/lang/StringBuilder" (4 : Nat)) ∈ lw_all := lw_g (lw_at lw_m1 167 rfl) rfl
theorem q286 : (Jvm.Cond.instanceMethod ({ cls := "java/lang/StringBuilder", name := "<init>", desc := "()V" } : Jvm.MethodName)) ∈ lw_all := lw_g (lw_at lw_m1 169 rfl) rfl
theorem q287 : (Jvm.Cond.code ({ cls := "java/lang/StringBuilder", name := "<init>", desc := "()V" } : Jvm.MethodName) prog_46_method_1_code (1 : Nat) (Option.none : Option Jvm.ClassFile.FieldType)) ∈ lw_all := lw_g (lw_at lw_m1 170 rfl) rfl
theorem q288 : (Jvm.Cond.methodLink "java/lang/StringBuilder" (1 : Nat) ({ cls := "java/lang/AbstractStringBuilder", name := "<init>", desc := "(I)V" } : Jvm.MethodName)) ∈ lw_all := lw_g (lw_at lw_m1 171 rfl) rfl
theorem q305 : (Jvm.Cond.lays "java/lang/StringBuilder" "java/lang/AbstractStringBuilder" "value" "[B") ∈ lw_all := lw_g (lw_at lw_m1 188 rfl) rfl
theorem q307 : (Jvm.Cond.lays "java/lang/StringBuilder" "java/lang/AbstractStringBuilder" "coder" "B") ∈ lw_all := lw_g (lw_at lw_m1 190 rfl) rfl
theorem q309 : (Jvm.Cond.lays "java/lang/StringBuilder" "java/lang/AbstractStringBuilder" "maybeLatin1" "Z") ∈ lw_all := lw_g (lw_at lw_m1 192 rfl) rfl
theorem q311 : (Jvm.Cond.lays "java/lang/StringBuilder" "java/lang/AbstractStringBuilder" "count" "I") ∈ lw_all := lw_g (lw_at lw_m1 194 rfl) rfl
theorem q313 : (Jvm.Cond.superclass "java/lang/StringBuilder" "java/lang/AbstractStringBuilder") ∈ lw_all := lw_g (lw_at lw_m1 196 rfl) rfl
theorem q433 : (Jvm.Cond.instanceMethod ({ cls := "java/lang/StringBuilder", name := "append", desc := "(Ljava/lang/String;)Ljava/lang/StringBuilder;" } : Jvm.MethodName)) ∈ lw_all := lw_g (lw_at lw_m2 76 rfl) rfl
theorem q434 : (Jvm.Cond.selects "java/lang/StringBuilder" ({ cls := "java/lang/StringBuilder", name := "append", desc := "(Ljava/lang/String;)Ljava/lang/StringBuilder;" } : Jvm.MethodName) ({ cls := "java/lang/StringBuilder", name := "append", desc := "(Ljava/lang/String;)Ljava/lang/StringBuilder;" } : Jvm.MethodName)) ∈ lw_all := lw_g (lw_at lw_m2 77 rfl) rfl
theorem q435 : (Jvm.Cond.code ({ cls := "java/lang/StringBuilder", name := "append", desc := "(Ljava/lang/String;)Ljava/lang/StringBuilder;" } : Jvm.MethodName) prog_46_method_7_code (2 : Nat) (Option.some (Jvm.ClassFile.FieldType.object "java/lang/StringBuilder"))) ∈ lw_all := lw_g (lw_at lw_m2 78 rfl) rfl
theorem q436 : (Jvm.Cond.methodLink "java/lang/StringBuilder" (29 : Nat) ({ cls := "java/lang/AbstractStringBuilder", name := "append", desc := "(Ljava/lang/String;)Ljava/lang/AbstractStringBuilder;" } : Jvm.MethodName)) ∈ lw_all := lw_g (lw_at lw_m2 79 rfl) rfl
theorem q481 : (Jvm.Cond.selects "java/lang/StringBuilder" ({ cls := "java/lang/AbstractStringBuilder", name := "isLatin1", desc := "()Z" } : Jvm.MethodName) ({ cls := "java/lang/AbstractStringBuilder", name := "isLatin1", desc := "()Z" } : Jvm.MethodName)) ∈ lw_all := lw_g (lw_at lw_m2 124 rfl) rfl
theorem q553 : (Jvm.Cond.instanceMethod ({ cls := "java/lang/StringBuilder", name := "append", desc := "(I)Ljava/lang/StringBuilder;" } : Jvm.MethodName)) ∈ lw_all := lw_g (lw_at lw_m2 196 rfl) rfl
theorem q554 : (Jvm.Cond.selects "java/lang/StringBuilder" ({ cls := "java/lang/StringBuilder", name := "append", desc := "(I)Ljava/lang/StringBuilder;" } : Jvm.MethodName) ({ cls := "java/lang/StringBuilder", name := "append", desc := "(I)Ljava/lang/StringBuilder;" } : Jvm.MethodName)) ∈ lw_all := lw_g (lw_at lw_m2 197 rfl) rfl
theorem q555 : (Jvm.Cond.code ({ cls := "java/lang/StringBuilder", name := "append", desc := "(I)Ljava/lang/StringBuilder;" } : Jvm.MethodName) prog_46_method_15_code (2 : Nat) (Option.some (Jvm.ClassFile.FieldType.object "java/lang/StringBuilder"))) ∈ lw_all := lw_g (lw_at lw_m2 198 rfl) rfl
theorem q556 : (Jvm.Cond.methodLink "java/lang/StringBuilder" (53 : Nat) ({ cls := "java/lang/AbstractStringBuilder", name := "append", desc := "(I)Ljava/lang/AbstractStringBuilder;" } : Jvm.MethodName)) ∈ lw_all := lw_g (lw_at lw_m2 199 rfl) rfl
theorem q579 : (Jvm.Cond.instanceMethod ({ cls := "java/lang/StringBuilder", name := "toString", desc := "()Ljava/lang/String;" } : Jvm.MethodName)) ∈ lw_all := lw_g (lw_at lw_m2 222 rfl) rfl
theorem q580 : (Jvm.Cond.selects "java/lang/StringBuilder" ({ cls := "java/lang/StringBuilder", name := "toString", desc := "()Ljava/lang/String;" } : Jvm.MethodName) ({ cls := "java/lang/StringBuilder", name := "toString", desc := "()Ljava/lang/String;" } : Jvm.MethodName)) ∈ lw_all := lw_g (lw_at lw_m2 223 rfl) rfl
theorem q581 : (Jvm.Cond.code ({ cls := "java/lang/StringBuilder", name := "toString", desc := "()Ljava/lang/String;" } : Jvm.MethodName) prog_46_method_42_code (1 : Nat) (Option.some (Jvm.ClassFile.FieldType.object "java/lang/String"))) ∈ lw_all := lw_g (lw_at lw_m2 224 rfl) rfl
theorem q582 : (Jvm.Cond.classLink "java/lang/StringBuilder" (18 : Nat) "java/lang/String") ∈ lw_all := lw_g (lw_at lw_m2 225 rfl) rfl
theorem q584 : (Jvm.Cond.methodLink "java/lang/StringBuilder" (137 : Nat) ({ cls := "java/lang/String", name := "<init>", desc := "(Ljava/lang/StringBuilder;)V" } : Jvm.MethodName)) ∈ lw_all := lw_g (lw_at lw_m2 227 rfl) rfl
theorem q594 : (Jvm.Cond.selects "java/lang/StringBuilder" ({ cls := "java/lang/AbstractStringBuilder", name := "getValue", desc := "()[B" } : Jvm.MethodName) ({ cls := "java/lang/AbstractStringBuilder", name := "getValue", desc := "()[B" } : Jvm.MethodName)) ∈ lw_all := lw_g (lw_at lw_m2 237 rfl) rfl
theorem q599 : (Jvm.Cond.selects "java/lang/StringBuilder" ({ cls := "java/lang/AbstractStringBuilder", name := "length", desc := "()I" } : Jvm.MethodName) ({ cls := "java/lang/StringBuilder", name := "length", desc := "()I" } : Jvm.MethodName)) ∈ lw_all := lw_g (lw_at lw_m3 2 rfl) rfl
theorem q600 : (Jvm.Cond.instanceMethod ({ cls := "java/lang/StringBuilder", name := "length", desc := "()I" } : Jvm.MethodName)) ∈ lw_all := lw_g (lw_at lw_m3 3 rfl) rfl
theorem q601 : (Jvm.Cond.code ({ cls := "java/lang/StringBuilder", name := "length", desc := "()I" } : Jvm.MethodName) prog_46_method_93_code (1 : Nat) (Option.some Jvm.ClassFile.FieldType.int)) ∈ lw_all := lw_g (lw_at lw_m3 4 rfl) rfl
theorem q602 : (Jvm.Cond.methodLink "java/lang/StringBuilder" (343 : Nat) ({ cls := "java/lang/AbstractStringBuilder", name := "length", desc := "()I" } : Jvm.MethodName)) ∈ lw_all := lw_g (lw_at lw_m3 5 rfl) rfl
theorem q1018 : (Jvm.Cond.selects "java/lang/StringBuilder" ({ cls := "java/lang/Object", name := "getClass", desc := "()Ljava/lang/Class;" } : Jvm.MethodName) ({ cls := "java/lang/Object", name := "getClass", desc := "()Ljava/lang/Class;" } : Jvm.MethodName)) ∈ lw_all := lw_g (lw_at lw_m4 181 rfl) rfl
theorem q1279 : (Jvm.Cond.instanceMethod ({ cls := "java/lang/StringBuilder", name := "append", desc := "(C)Ljava/lang/StringBuilder;" } : Jvm.MethodName)) ∈ lw_all := lw_g (lw_at lw_m5 202 rfl) rfl
theorem q1280 : (Jvm.Cond.selects "java/lang/StringBuilder" ({ cls := "java/lang/StringBuilder", name := "append", desc := "(C)Ljava/lang/StringBuilder;" } : Jvm.MethodName) ({ cls := "java/lang/StringBuilder", name := "append", desc := "(C)Ljava/lang/StringBuilder;" } : Jvm.MethodName)) ∈ lw_all := lw_g (lw_at lw_m5 203 rfl) rfl
theorem q1281 : (Jvm.Cond.code ({ cls := "java/lang/StringBuilder", name := "append", desc := "(C)Ljava/lang/StringBuilder;" } : Jvm.MethodName) prog_46_method_14_code (2 : Nat) (Option.some (Jvm.ClassFile.FieldType.object "java/lang/StringBuilder"))) ∈ lw_all := lw_g (lw_at lw_m5 204 rfl) rfl
theorem q1282 : (Jvm.Cond.methodLink "java/lang/StringBuilder" (50 : Nat) ({ cls := "java/lang/AbstractStringBuilder", name := "append", desc := "(C)Ljava/lang/AbstractStringBuilder;" } : Jvm.MethodName)) ∈ lw_all := lw_g (lw_at lw_m5 205 rfl) rfl
theorem q1652 : (Jvm.Cond.castable "java/lang/StringBuilder" "java/lang/CharSequence") ∈ lw_tbl := lw_at lw_m7 95 rfl
theorem q1653 : (Jvm.Cond.selects "java/lang/StringBuilder" ({ cls := "java/lang/CharSequence", name := "length", desc := "()I" } : Jvm.MethodName) ({ cls := "java/lang/StringBuilder", name := "length", desc := "()I" } : Jvm.MethodName)) ∈ lw_all := lw_g (lw_at lw_m7 96 rfl) rfl
theorem q1654 : (Jvm.Cond.unhidden "java/lang/StringBuilder" "length" "()I") ∈ lw_tbl := lw_at lw_m7 97 rfl
theorem q1655 : (Jvm.Cond.publicMethod ({ cls := "java/lang/StringBuilder", name := "length", desc := "()I" } : Jvm.MethodName)) ∈ lw_tbl := lw_at lw_m7 98 rfl
theorem q1663 : (Jvm.Cond.selects "java/lang/StringBuilder" ({ cls := "java/lang/CharSequence", name := "charAt", desc := "(I)C" } : Jvm.MethodName) ({ cls := "java/lang/StringBuilder", name := "charAt", desc := "(I)C" } : Jvm.MethodName)) ∈ lw_all := lw_g (lw_at lw_m7 106 rfl) rfl
theorem q1664 : (Jvm.Cond.unhidden "java/lang/StringBuilder" "charAt" "(I)C") ∈ lw_tbl := lw_at lw_m7 107 rfl
theorem q1665 : (Jvm.Cond.instanceMethod ({ cls := "java/lang/StringBuilder", name := "charAt", desc := "(I)C" } : Jvm.MethodName)) ∈ lw_all := lw_g (lw_at lw_m7 108 rfl) rfl
theorem q1666 : (Jvm.Cond.publicMethod ({ cls := "java/lang/StringBuilder", name := "charAt", desc := "(I)C" } : Jvm.MethodName)) ∈ lw_tbl := lw_at lw_m7 109 rfl
theorem q1667 : (Jvm.Cond.code ({ cls := "java/lang/StringBuilder", name := "charAt", desc := "(I)C" } : Jvm.MethodName) prog_46_method_88_code (2 : Nat) (Option.some Jvm.ClassFile.FieldType.char)) ∈ lw_all := lw_g (lw_at lw_m7 110 rfl) rfl
theorem q1668 : (Jvm.Cond.methodLink "java/lang/StringBuilder" (329 : Nat) ({ cls := "java/lang/AbstractStringBuilder", name := "charAt", desc := "(I)C" } : Jvm.MethodName)) ∈ lw_all := lw_g (lw_at lw_m7 111 rfl) rfl
theorem q1865 : (Jvm.Cond.selects "java/lang/StringBuilder" ({ cls := "java/lang/CharSequence", name := "subSequence", desc := "(II)Ljava/lang/CharSequence;" } : Jvm.MethodName) ({ cls := "java/lang/StringBuilder", name := "subSequence", desc := "(II)Ljava/lang/CharSequence;" } : Jvm.MethodName)) ∈ lw_all := lw_g (lw_at lw_m8 68 rfl) rfl
theorem q1866 : (Jvm.Cond.unhidden "java/lang/StringBuilder" "subSequence" "(II)Ljava/lang/CharSequence;") ∈ lw_tbl := lw_at lw_m8 69 rfl
theorem q1867 : (Jvm.Cond.instanceMethod ({ cls := "java/lang/StringBuilder", name := "subSequence", desc := "(II)Ljava/lang/CharSequence;" } : Jvm.MethodName)) ∈ lw_all := lw_g (lw_at lw_m8 70 rfl) rfl
theorem q1868 : (Jvm.Cond.publicMethod ({ cls := "java/lang/StringBuilder", name := "subSequence", desc := "(II)Ljava/lang/CharSequence;" } : Jvm.MethodName)) ∈ lw_tbl := lw_at lw_m8 71 rfl
theorem q1869 : (Jvm.Cond.code ({ cls := "java/lang/StringBuilder", name := "subSequence", desc := "(II)Ljava/lang/CharSequence;" } : Jvm.MethodName) prog_46_method_63_code (3 : Nat) (Option.some (Jvm.ClassFile.FieldType.object "java/lang/CharSequence"))) ∈ lw_all := lw_g (lw_at lw_m8 72 rfl) rfl
theorem q1870 : (Jvm.Cond.methodLink "java/lang/StringBuilder" (256 : Nat) ({ cls := "java/lang/AbstractStringBuilder", name := "subSequence", desc := "(II)Ljava/lang/CharSequence;" } : Jvm.MethodName)) ∈ lw_all := lw_g (lw_at lw_m8 73 rfl) rfl
theorem q1876 : (Jvm.Cond.selects "java/lang/StringBuilder" ({ cls := "java/lang/AbstractStringBuilder", name := "substring", desc := "(II)Ljava/lang/String;" } : Jvm.MethodName) ({ cls := "java/lang/StringBuilder", name := "substring", desc := "(II)Ljava/lang/String;" } : Jvm.MethodName)) ∈ lw_all := lw_g (lw_at lw_m8 79 rfl) rfl
theorem q1877 : (Jvm.Cond.instanceMethod ({ cls := "java/lang/StringBuilder", name := "substring", desc := "(II)Ljava/lang/String;" } : Jvm.MethodName)) ∈ lw_all := lw_g (lw_at lw_m8 80 rfl) rfl
theorem q1878 : (Jvm.Cond.code ({ cls := "java/lang/StringBuilder", name := "substring", desc := "(II)Ljava/lang/String;" } : Jvm.MethodName) prog_46_method_62_code (3 : Nat) (Option.some (Jvm.ClassFile.FieldType.object "java/lang/String"))) ∈ lw_all := lw_g (lw_at lw_m8 81 rfl) rfl
theorem q1879 : (Jvm.Cond.methodLink "java/lang/StringBuilder" (252 : Nat) ({ cls := "java/lang/AbstractStringBuilder", name := "substring", desc := "(II)Ljava/lang/String;" } : Jvm.MethodName)) ∈ lw_all := lw_g (lw_at lw_m8 82 rfl) rfl
theorem q1894 : (Jvm.Cond.selects "java/lang/StringBuilder" ({ cls := "java/lang/CharSequence", name := "toString", desc := "()Ljava/lang/String;" } : Jvm.MethodName) ({ cls := "java/lang/StringBuilder", name := "toString", desc := "()Ljava/lang/String;" } : Jvm.MethodName)) ∈ lw_all := lw_g (lw_at lw_m8 97 rfl) rfl
theorem q1895 : (Jvm.Cond.unhidden "java/lang/StringBuilder" "toString" "()Ljava/lang/String;") ∈ lw_tbl := lw_at lw_m8 98 rfl
theorem q1896 : (Jvm.Cond.publicMethod ({ cls := "java/lang/StringBuilder", name := "toString", desc := "()Ljava/lang/String;" } : Jvm.MethodName)) ∈ lw_tbl := lw_at lw_m8 99 rfl
theorem q3299 : (Jvm.Cond.selects "java/lang/StringBuilder" ({ cls := "java/lang/StringBuilder", name := "length", desc := "()I" } : Jvm.MethodName) ({ cls := "java/lang/StringBuilder", name := "length", desc := "()I" } : Jvm.MethodName)) ∈ lw_all := lw_g (lw_at lw_m14 62 rfl) rfl
theorem q3317 : (Jvm.Cond.castable "java/lang/StringBuilder" "java/lang/Object") ∈ lw_tbl := lw_at lw_m14 80 rfl
theorem in_J6 : ∀ w ∈ wsJ60, w ∈ lw_all := lw_in wsJ60 [305, 307, 309, 311] (by decide +kernel) (by decide +kernel)

/-! java/lang/String -/
set_option maxRecDepth 100000
def RJ7 : String := "java/lang/String"
def TJ7 : u_T := fun k => match k with
  | 0 => ("java/lang/String", "value", "[B", true)
  | 1 => ("java/lang/String", "coder", "B", true)
  | 2 => ("java/lang/String", "hash", "I", false)
  | _ => ("java/lang/String", "hashIsZero", "Z", false)
def tyJ7 : Nat → FieldType := fun k => match k with
  | 0 => .array .byte
  | 1 => .byte
  | 2 => .int
  | _ => .boolean
abbrev wsJ70 : List Cond := u_ws RJ7 TJ7 4
theorem nmJ7 : ∀ a, a < 4 → ∀ b, b < 4 → a ≠ b → (TJ7 a).2.1 ≠ (TJ7 b).2.1 := by decide +kernel
theorem tyJ7_ok : ∀ k, k < 4 → parseFieldDescriptor (TJ7 k).2.2.1 = some (tyJ7 k) := by decide +kernel
abbrev cJ7_checkBoundsBeginEnd : ByteArray := prog_45_method_158_code
def yJ7_checkBoundsBeginEnd : MethodName := ⟨RJ7, "checkBoundsBeginEnd", "(III)V"⟩
def dkwJ7_checkBoundsBeginEnd_0 : List UInt8 := [26, 27, 28, 178, 4, 29, 184, 4, 38, 87, 177]
abbrev dktJ7_checkBoundsBeginEnd_0 : List UInt8 := dkwJ7_checkBoundsBeginEnd_0 ++ []
theorem dksJ7_checkBoundsBeginEnd_0 : cJ7_checkBoundsBeginEnd.data.toList.drop 0 = dktJ7_checkBoundsBeginEnd_0 := by decide +kernel
theorem dJ7_checkBoundsBeginEnd_0 : decode cJ7_checkBoundsBeginEnd 0 = .ok (.iload_n 0, 1) := dk_26 (dk_at dksJ7_checkBoundsBeginEnd_0 0 rfl rfl)
theorem dJ7_checkBoundsBeginEnd_1 : decode cJ7_checkBoundsBeginEnd 1 = .ok (.iload_n 1, 1) := dk_27 (dk_at dksJ7_checkBoundsBeginEnd_0 1 rfl rfl)
theorem dJ7_checkBoundsBeginEnd_2 : decode cJ7_checkBoundsBeginEnd 2 = .ok (.iload_n 2, 1) := dk_28 (dk_at dksJ7_checkBoundsBeginEnd_0 2 rfl rfl)
theorem dJ7_checkBoundsBeginEnd_3 : decode cJ7_checkBoundsBeginEnd 3 = .ok (.getstatic 1053, 3) := dk_178 4 29 (dk_at dksJ7_checkBoundsBeginEnd_0 3 rfl rfl)
theorem dJ7_checkBoundsBeginEnd_6 : decode cJ7_checkBoundsBeginEnd 6 = .ok (.invokestatic 1062, 3) := dk_184 4 38 (dk_at dksJ7_checkBoundsBeginEnd_0 6 rfl rfl)
theorem dJ7_checkBoundsBeginEnd_9 : decode cJ7_checkBoundsBeginEnd 9 = .ok (.pop, 1) := dk_87 (dk_at dksJ7_checkBoundsBeginEnd_0 9 rfl rfl)
theorem dJ7_checkBoundsBeginEnd_10 : decode cJ7_checkBoundsBeginEnd 10 = .ok (.return_, 1) := dk_177 (dk_at dksJ7_checkBoundsBeginEnd_0 10 rfl rfl)
abbrev cJ7_length : ByteArray := prog_45_method_54_code
def yJ7_length : MethodName := ⟨RJ7, "length", "()I"⟩
def dkwJ7_length_0 : List UInt8 := [42, 180, 0, 9, 190, 42, 182, 1, 79, 122, 172]
abbrev dktJ7_length_0 : List UInt8 := dkwJ7_length_0 ++ []
theorem dksJ7_length_0 : cJ7_length.data.toList.drop 0 = dktJ7_length_0 := by decide +kernel
theorem dJ7_length_0 : decode cJ7_length 0 = .ok (.aload_n 0, 1) := dk_42 (dk_at dksJ7_length_0 0 rfl rfl)
theorem dJ7_length_1 : decode cJ7_length 1 = .ok (.getfield 9, 3) := dk_180 0 9 (dk_at dksJ7_length_0 1 rfl rfl)
theorem dJ7_length_4 : decode cJ7_length 4 = .ok (.arraylength, 1) := dk_190 (dk_at dksJ7_length_0 4 rfl rfl)
theorem dJ7_length_5 : decode cJ7_length 5 = .ok (.aload_n 0, 1) := dk_42 (dk_at dksJ7_length_0 5 rfl rfl)
theorem dJ7_length_6 : decode cJ7_length 6 = .ok (.invokevirtual 335, 3) := dk_182 1 79 (dk_at dksJ7_length_0 6 rfl rfl)
theorem dJ7_length_9 : decode cJ7_length 9 = .ok (.ishr, 1) := dk_122 (dk_at dksJ7_length_0 9 rfl rfl)
theorem dJ7_length_10 : decode cJ7_length 10 = .ok (.ireturn, 1) := dk_172 (dk_at dksJ7_length_0 10 rfl rfl)
abbrev cJ7_coder : ByteArray := prog_45_method_152_code
def yJ7_coder : MethodName := ⟨RJ7, "coder", "()B"⟩
def dkwJ7_coder_0 : List UInt8 := [178, 0, 38, 153, 0, 10, 42, 180, 0, 15, 167, 0, 4, 4, 172]
abbrev dktJ7_coder_0 : List UInt8 := dkwJ7_coder_0 ++ []
theorem dksJ7_coder_0 : cJ7_coder.data.toList.drop 0 = dktJ7_coder_0 := by decide +kernel
theorem dJ7_coder_0 : decode cJ7_coder 0 = .ok (.getstatic 38, 3) := dk_178 0 38 (dk_at dksJ7_coder_0 0 rfl rfl)
theorem dJ7_coder_3 : decode cJ7_coder 3 = .ok (.ifCond .eq 10, 3) := dk_153 0 10 (dk_at dksJ7_coder_0 3 rfl rfl)
theorem dJ7_coder_6 : decode cJ7_coder 6 = .ok (.aload_n 0, 1) := dk_42 (dk_at dksJ7_coder_0 6 rfl rfl)
theorem dJ7_coder_7 : decode cJ7_coder 7 = .ok (.getfield 15, 3) := dk_180 0 15 (dk_at dksJ7_coder_0 7 rfl rfl)
theorem dJ7_coder_10 : decode cJ7_coder 10 = .ok (.goto 4, 3) := dk_167 0 4 (dk_at dksJ7_coder_0 10 rfl rfl)
theorem dJ7_coder_13 : decode cJ7_coder 13 = .ok (.iconst 1, 1) := dk_4 (dk_at dksJ7_coder_0 13 rfl rfl)
theorem dJ7_coder_14 : decode cJ7_coder 14 = .ok (.ireturn, 1) := dk_172 (dk_at dksJ7_coder_0 14 rfl rfl)
abbrev cJ7_checkBoundsOffCount : ByteArray := prog_45_method_157_code
def yJ7_checkBoundsOffCount : MethodName := ⟨RJ7, "checkBoundsOffCount", "(III)I"⟩
def dkwJ7_checkBoundsOffCount_0 : List UInt8 := [26, 27, 28, 178, 4, 29, 184, 4, 41, 172]
abbrev dktJ7_checkBoundsOffCount_0 : List UInt8 := dkwJ7_checkBoundsOffCount_0 ++ []
theorem dksJ7_checkBoundsOffCount_0 : cJ7_checkBoundsOffCount.data.toList.drop 0 = dktJ7_checkBoundsOffCount_0 := by decide +kernel
theorem dJ7_checkBoundsOffCount_0 : decode cJ7_checkBoundsOffCount 0 = .ok (.iload_n 0, 1) := dk_26 (dk_at dksJ7_checkBoundsOffCount_0 0 rfl rfl)
theorem dJ7_checkBoundsOffCount_1 : decode cJ7_checkBoundsOffCount 1 = .ok (.iload_n 1, 1) := dk_27 (dk_at dksJ7_checkBoundsOffCount_0 1 rfl rfl)
theorem dJ7_checkBoundsOffCount_2 : decode cJ7_checkBoundsOffCount 2 = .ok (.iload_n 2, 1) := dk_28 (dk_at dksJ7_checkBoundsOffCount_0 2 rfl rfl)
theorem dJ7_checkBoundsOffCount_3 : decode cJ7_checkBoundsOffCount 3 = .ok (.getstatic 1053, 3) := dk_178 4 29 (dk_at dksJ7_checkBoundsOffCount_0 3 rfl rfl)
theorem dJ7_checkBoundsOffCount_6 : decode cJ7_checkBoundsOffCount 6 = .ok (.invokestatic 1065, 3) := dk_184 4 41 (dk_at dksJ7_checkBoundsOffCount_0 6 rfl rfl)
theorem dJ7_checkBoundsOffCount_9 : decode cJ7_checkBoundsOffCount 9 = .ok (.ireturn, 1) := dk_172 (dk_at dksJ7_checkBoundsOffCount_0 9 rfl rfl)
abbrev cJ7_getBytes : ByteArray := prog_45_method_147_code
def yJ7_getBytes : MethodName := ⟨RJ7, "getBytes", "([BIB)V"⟩
def dkwJ7_getBytes_1 : List UInt8 := [184, 0, 212, 167, 0, 18, 42, 180, 0, 9, 3, 43, 28, 42, 180, 0, 9, 190, 184, 0, 106, 177]
abbrev dktJ7_getBytes_1 : List UInt8 := dkwJ7_getBytes_1 ++ []
def dkwJ7_getBytes_0 : List UInt8 := [42, 182, 1, 79, 29, 160, 0, 23, 42, 180, 0, 9, 3, 43, 28, 29, 120, 42, 180, 0, 9, 190]
abbrev dktJ7_getBytes_0 : List UInt8 := dkwJ7_getBytes_0 ++ dktJ7_getBytes_1
theorem dksJ7_getBytes_0 : cJ7_getBytes.data.toList.drop 0 = dktJ7_getBytes_0 := by decide +kernel
theorem dksJ7_getBytes_1 : cJ7_getBytes.data.toList.drop 22 = dktJ7_getBytes_1 := dk_seg dksJ7_getBytes_0 22 rfl rfl
theorem dJ7_getBytes_0 : decode cJ7_getBytes 0 = .ok (.aload_n 0, 1) := dk_42 (dk_at dksJ7_getBytes_0 0 rfl rfl)
theorem dJ7_getBytes_1 : decode cJ7_getBytes 1 = .ok (.invokevirtual 335, 3) := dk_182 1 79 (dk_at dksJ7_getBytes_0 1 rfl rfl)
theorem dJ7_getBytes_4 : decode cJ7_getBytes 4 = .ok (.iload_n 3, 1) := dk_29 (dk_at dksJ7_getBytes_0 4 rfl rfl)
theorem dJ7_getBytes_5 : decode cJ7_getBytes 5 = .ok (.if_icmp .ne 23, 3) := dk_160 0 23 (dk_at dksJ7_getBytes_0 5 rfl rfl)
theorem dJ7_getBytes_8 : decode cJ7_getBytes 8 = .ok (.aload_n 0, 1) := dk_42 (dk_at dksJ7_getBytes_0 8 rfl rfl)
theorem dJ7_getBytes_9 : decode cJ7_getBytes 9 = .ok (.getfield 9, 3) := dk_180 0 9 (dk_at dksJ7_getBytes_0 9 rfl rfl)
theorem dJ7_getBytes_12 : decode cJ7_getBytes 12 = .ok (.iconst 0, 1) := dk_3 (dk_at dksJ7_getBytes_0 12 rfl rfl)
theorem dJ7_getBytes_13 : decode cJ7_getBytes 13 = .ok (.aload_n 1, 1) := dk_43 (dk_at dksJ7_getBytes_0 13 rfl rfl)
theorem dJ7_getBytes_14 : decode cJ7_getBytes 14 = .ok (.iload_n 2, 1) := dk_28 (dk_at dksJ7_getBytes_0 14 rfl rfl)
theorem dJ7_getBytes_15 : decode cJ7_getBytes 15 = .ok (.iload_n 3, 1) := dk_29 (dk_at dksJ7_getBytes_0 15 rfl rfl)
theorem dJ7_getBytes_16 : decode cJ7_getBytes 16 = .ok (.ishl, 1) := dk_120 (dk_at dksJ7_getBytes_0 16 rfl rfl)
theorem dJ7_getBytes_17 : decode cJ7_getBytes 17 = .ok (.aload_n 0, 1) := dk_42 (dk_at dksJ7_getBytes_0 17 rfl rfl)
theorem dJ7_getBytes_18 : decode cJ7_getBytes 18 = .ok (.getfield 9, 3) := dk_180 0 9 (dk_at dksJ7_getBytes_0 18 rfl rfl)
theorem dJ7_getBytes_21 : decode cJ7_getBytes 21 = .ok (.arraylength, 1) := dk_190 (dk_at dksJ7_getBytes_0 21 rfl rfl)
theorem dJ7_getBytes_22 : decode cJ7_getBytes 22 = .ok (.invokestatic 212, 3) := dk_184 0 212 (dk_at dksJ7_getBytes_1 0 rfl rfl)
theorem dJ7_getBytes_25 : decode cJ7_getBytes 25 = .ok (.goto 18, 3) := dk_167 0 18 (dk_at dksJ7_getBytes_1 3 rfl rfl)
theorem dJ7_getBytes_28 : decode cJ7_getBytes 28 = .ok (.aload_n 0, 1) := dk_42 (dk_at dksJ7_getBytes_1 6 rfl rfl)
theorem dJ7_getBytes_29 : decode cJ7_getBytes 29 = .ok (.getfield 9, 3) := dk_180 0 9 (dk_at dksJ7_getBytes_1 7 rfl rfl)
theorem dJ7_getBytes_32 : decode cJ7_getBytes 32 = .ok (.iconst 0, 1) := dk_3 (dk_at dksJ7_getBytes_1 10 rfl rfl)
theorem dJ7_getBytes_33 : decode cJ7_getBytes 33 = .ok (.aload_n 1, 1) := dk_43 (dk_at dksJ7_getBytes_1 11 rfl rfl)
theorem dJ7_getBytes_34 : decode cJ7_getBytes 34 = .ok (.iload_n 2, 1) := dk_28 (dk_at dksJ7_getBytes_1 12 rfl rfl)
theorem dJ7_getBytes_35 : decode cJ7_getBytes 35 = .ok (.aload_n 0, 1) := dk_42 (dk_at dksJ7_getBytes_1 13 rfl rfl)
theorem dJ7_getBytes_36 : decode cJ7_getBytes 36 = .ok (.getfield 9, 3) := dk_180 0 9 (dk_at dksJ7_getBytes_1 14 rfl rfl)
theorem dJ7_getBytes_39 : decode cJ7_getBytes 39 = .ok (.arraylength, 1) := dk_190 (dk_at dksJ7_getBytes_1 17 rfl rfl)
theorem dJ7_getBytes_40 : decode cJ7_getBytes 40 = .ok (.invokestatic 106, 3) := dk_184 0 106 (dk_at dksJ7_getBytes_1 18 rfl rfl)
theorem dJ7_getBytes_43 : decode cJ7_getBytes 43 = .ok (.return_, 1) := dk_177 (dk_at dksJ7_getBytes_1 21 rfl rfl)
abbrev cJ7_init : ByteArray := prog_45_method_53_code
def yJ7_init : MethodName := ⟨RJ7, "<init>", "(Ljava/lang/StringBuilder;)V"⟩
def dkwJ7_init_0 : List UInt8 := [42, 43, 1, 183, 1, 233, 177]
abbrev dktJ7_init_0 : List UInt8 := dkwJ7_init_0 ++ []
theorem dksJ7_init_0 : cJ7_init.data.toList.drop 0 = dktJ7_init_0 := by decide +kernel
theorem dJ7_init_0 : decode cJ7_init 0 = .ok (.aload_n 0, 1) := dk_42 (dk_at dksJ7_init_0 0 rfl rfl)
theorem dJ7_init_1 : decode cJ7_init 1 = .ok (.aload_n 1, 1) := dk_43 (dk_at dksJ7_init_0 1 rfl rfl)
theorem dJ7_init_2 : decode cJ7_init 2 = .ok (.aconst_null, 1) := dk_1 (dk_at dksJ7_init_0 2 rfl rfl)
theorem dJ7_init_3 : decode cJ7_init 3 = .ok (.invokespecial 489, 3) := dk_183 1 233 (dk_at dksJ7_init_0 3 rfl rfl)
theorem dJ7_init_6 : decode cJ7_init 6 = .ok (.return_, 1) := dk_177 (dk_at dksJ7_init_0 6 rfl rfl)
abbrev cJ7_init_2 : ByteArray := prog_45_method_150_code
def yJ7_init_2 : MethodName := ⟨RJ7, "<init>", "(Ljava/lang/AbstractStringBuilder;Ljava/lang/Void;)V"⟩
def dkwJ7_init_2_4 : List UInt8 := [181, 0, 9, 177]
abbrev dktJ7_init_2_4 : List UInt8 := dkwJ7_init_2_4 ++ []
def dkwJ7_init_2_3 : List UInt8 := [184, 0, 47, 181, 0, 15, 177, 42, 4, 181, 0, 15, 42, 45, 3, 21, 4, 4, 120, 184, 0, 54]
abbrev dktJ7_init_2_3 : List UInt8 := dkwJ7_init_2_3 ++ dktJ7_init_2_4
def dkwJ7_init_2_2 : List UInt8 := [180, 4, 24, 153, 0, 28, 42, 45, 3, 21, 4, 184, 4, 27, 181, 0, 9, 42, 42, 180, 0, 9, 21, 4]
abbrev dktJ7_init_2_2 : List UInt8 := dkwJ7_init_2_2 ++ dktJ7_init_2_3
def dkwJ7_init_2_1 : List UInt8 := [181, 0, 15, 42, 45, 3, 21, 4, 184, 0, 54, 181, 0, 9, 167, 0, 59, 178, 0, 38, 153, 0, 35, 43]
abbrev dktJ7_init_2_1 : List UInt8 := dkwJ7_init_2_1 ++ dktJ7_init_2_2
def dkwJ7_init_2_0 : List UInt8 := [42, 183, 0, 1, 43, 182, 2, 40, 78, 43, 182, 2, 37, 54, 4, 43, 182, 4, 23, 153, 0, 22, 42, 3]
abbrev dktJ7_init_2_0 : List UInt8 := dkwJ7_init_2_0 ++ dktJ7_init_2_1
theorem dksJ7_init_2_0 : cJ7_init_2.data.toList.drop 0 = dktJ7_init_2_0 := by decide +kernel
theorem dksJ7_init_2_1 : cJ7_init_2.data.toList.drop 24 = dktJ7_init_2_1 := dk_seg dksJ7_init_2_0 24 rfl rfl
theorem dksJ7_init_2_2 : cJ7_init_2.data.toList.drop 48 = dktJ7_init_2_2 := dk_seg dksJ7_init_2_1 24 rfl rfl
theorem dksJ7_init_2_3 : cJ7_init_2.data.toList.drop 72 = dktJ7_init_2_3 := dk_seg dksJ7_init_2_2 24 rfl rfl
theorem dksJ7_init_2_4 : cJ7_init_2.data.toList.drop 94 = dktJ7_init_2_4 := dk_seg dksJ7_init_2_3 22 rfl rfl
theorem dJ7_init_2_0 : decode cJ7_init_2 0 = .ok (.aload_n 0, 1) := dk_42 (dk_at dksJ7_init_2_0 0 rfl rfl)
theorem dJ7_init_2_1 : decode cJ7_init_2 1 = .ok (.invokespecial 1, 3) := dk_183 0 1 (dk_at dksJ7_init_2_0 1 rfl rfl)
theorem dJ7_init_2_4 : decode cJ7_init_2 4 = .ok (.aload_n 1, 1) := dk_43 (dk_at dksJ7_init_2_0 4 rfl rfl)
theorem dJ7_init_2_5 : decode cJ7_init_2 5 = .ok (.invokevirtual 552, 3) := dk_182 2 40 (dk_at dksJ7_init_2_0 5 rfl rfl)
theorem dJ7_init_2_8 : decode cJ7_init_2 8 = .ok (.astore_n 3, 1) := dk_78 (dk_at dksJ7_init_2_0 8 rfl rfl)
theorem dJ7_init_2_9 : decode cJ7_init_2 9 = .ok (.aload_n 1, 1) := dk_43 (dk_at dksJ7_init_2_0 9 rfl rfl)
theorem dJ7_init_2_10 : decode cJ7_init_2 10 = .ok (.invokevirtual 549, 3) := dk_182 2 37 (dk_at dksJ7_init_2_0 10 rfl rfl)
theorem dJ7_init_2_13 : decode cJ7_init_2 13 = .ok (.istore 4, 2) := dk_54 4 (dk_at dksJ7_init_2_0 13 rfl rfl)
theorem dJ7_init_2_15 : decode cJ7_init_2 15 = .ok (.aload_n 1, 1) := dk_43 (dk_at dksJ7_init_2_0 15 rfl rfl)
theorem dJ7_init_2_16 : decode cJ7_init_2 16 = .ok (.invokevirtual 1047, 3) := dk_182 4 23 (dk_at dksJ7_init_2_0 16 rfl rfl)
theorem dJ7_init_2_19 : decode cJ7_init_2 19 = .ok (.ifCond .eq 22, 3) := dk_153 0 22 (dk_at dksJ7_init_2_0 19 rfl rfl)
theorem dJ7_init_2_22 : decode cJ7_init_2 22 = .ok (.aload_n 0, 1) := dk_42 (dk_at dksJ7_init_2_0 22 rfl rfl)
theorem dJ7_init_2_23 : decode cJ7_init_2 23 = .ok (.iconst 0, 1) := dk_3 (dk_at dksJ7_init_2_0 23 rfl rfl)
theorem dJ7_init_2_24 : decode cJ7_init_2 24 = .ok (.putfield 15, 3) := dk_181 0 15 (dk_at dksJ7_init_2_1 0 rfl rfl)
theorem dJ7_init_2_27 : decode cJ7_init_2 27 = .ok (.aload_n 0, 1) := dk_42 (dk_at dksJ7_init_2_1 3 rfl rfl)
theorem dJ7_init_2_28 : decode cJ7_init_2 28 = .ok (.aload_n 3, 1) := dk_45 (dk_at dksJ7_init_2_1 4 rfl rfl)
theorem dJ7_init_2_29 : decode cJ7_init_2 29 = .ok (.iconst 0, 1) := dk_3 (dk_at dksJ7_init_2_1 5 rfl rfl)
theorem dJ7_init_2_30 : decode cJ7_init_2 30 = .ok (.iload 4, 2) := dk_21 4 (dk_at dksJ7_init_2_1 6 rfl rfl)
theorem dJ7_init_2_32 : decode cJ7_init_2 32 = .ok (.invokestatic 54, 3) := dk_184 0 54 (dk_at dksJ7_init_2_1 8 rfl rfl)
theorem dJ7_init_2_35 : decode cJ7_init_2 35 = .ok (.putfield 9, 3) := dk_181 0 9 (dk_at dksJ7_init_2_1 11 rfl rfl)
theorem dJ7_init_2_38 : decode cJ7_init_2 38 = .ok (.goto 59, 3) := dk_167 0 59 (dk_at dksJ7_init_2_1 14 rfl rfl)
theorem dJ7_init_2_41 : decode cJ7_init_2 41 = .ok (.getstatic 38, 3) := dk_178 0 38 (dk_at dksJ7_init_2_1 17 rfl rfl)
theorem dJ7_init_2_44 : decode cJ7_init_2 44 = .ok (.ifCond .eq 35, 3) := dk_153 0 35 (dk_at dksJ7_init_2_1 20 rfl rfl)
theorem dJ7_init_2_47 : decode cJ7_init_2 47 = .ok (.aload_n 1, 1) := dk_43 (dk_at dksJ7_init_2_1 23 rfl rfl)
theorem dJ7_init_2_48 : decode cJ7_init_2 48 = .ok (.getfield 1048, 3) := dk_180 4 24 (dk_at dksJ7_init_2_2 0 rfl rfl)
theorem dJ7_init_2_51 : decode cJ7_init_2 51 = .ok (.ifCond .eq 28, 3) := dk_153 0 28 (dk_at dksJ7_init_2_2 3 rfl rfl)
theorem dJ7_init_2_54 : decode cJ7_init_2 54 = .ok (.aload_n 0, 1) := dk_42 (dk_at dksJ7_init_2_2 6 rfl rfl)
theorem dJ7_init_2_55 : decode cJ7_init_2 55 = .ok (.aload_n 3, 1) := dk_45 (dk_at dksJ7_init_2_2 7 rfl rfl)
theorem dJ7_init_2_56 : decode cJ7_init_2 56 = .ok (.iconst 0, 1) := dk_3 (dk_at dksJ7_init_2_2 8 rfl rfl)
theorem dJ7_init_2_57 : decode cJ7_init_2 57 = .ok (.iload 4, 2) := dk_21 4 (dk_at dksJ7_init_2_2 9 rfl rfl)
theorem dJ7_init_2_59 : decode cJ7_init_2 59 = .ok (.invokestatic 1051, 3) := dk_184 4 27 (dk_at dksJ7_init_2_2 11 rfl rfl)
theorem dJ7_init_2_62 : decode cJ7_init_2 62 = .ok (.putfield 9, 3) := dk_181 0 9 (dk_at dksJ7_init_2_2 14 rfl rfl)
theorem dJ7_init_2_65 : decode cJ7_init_2 65 = .ok (.aload_n 0, 1) := dk_42 (dk_at dksJ7_init_2_2 17 rfl rfl)
theorem dJ7_init_2_66 : decode cJ7_init_2 66 = .ok (.aload_n 0, 1) := dk_42 (dk_at dksJ7_init_2_2 18 rfl rfl)
theorem dJ7_init_2_67 : decode cJ7_init_2 67 = .ok (.getfield 9, 3) := dk_180 0 9 (dk_at dksJ7_init_2_2 19 rfl rfl)
theorem dJ7_init_2_70 : decode cJ7_init_2 70 = .ok (.iload 4, 2) := dk_21 4 (dk_at dksJ7_init_2_2 22 rfl rfl)
theorem dJ7_init_2_72 : decode cJ7_init_2 72 = .ok (.invokestatic 47, 3) := dk_184 0 47 (dk_at dksJ7_init_2_3 0 rfl rfl)
theorem dJ7_init_2_75 : decode cJ7_init_2 75 = .ok (.putfield 15, 3) := dk_181 0 15 (dk_at dksJ7_init_2_3 3 rfl rfl)
theorem dJ7_init_2_78 : decode cJ7_init_2 78 = .ok (.return_, 1) := dk_177 (dk_at dksJ7_init_2_3 6 rfl rfl)
theorem dJ7_init_2_79 : decode cJ7_init_2 79 = .ok (.aload_n 0, 1) := dk_42 (dk_at dksJ7_init_2_3 7 rfl rfl)
theorem dJ7_init_2_80 : decode cJ7_init_2 80 = .ok (.iconst 1, 1) := dk_4 (dk_at dksJ7_init_2_3 8 rfl rfl)
theorem dJ7_init_2_81 : decode cJ7_init_2 81 = .ok (.putfield 15, 3) := dk_181 0 15 (dk_at dksJ7_init_2_3 9 rfl rfl)
theorem dJ7_init_2_84 : decode cJ7_init_2 84 = .ok (.aload_n 0, 1) := dk_42 (dk_at dksJ7_init_2_3 12 rfl rfl)
theorem dJ7_init_2_85 : decode cJ7_init_2 85 = .ok (.aload_n 3, 1) := dk_45 (dk_at dksJ7_init_2_3 13 rfl rfl)
theorem dJ7_init_2_86 : decode cJ7_init_2 86 = .ok (.iconst 0, 1) := dk_3 (dk_at dksJ7_init_2_3 14 rfl rfl)
theorem dJ7_init_2_87 : decode cJ7_init_2 87 = .ok (.iload 4, 2) := dk_21 4 (dk_at dksJ7_init_2_3 15 rfl rfl)
theorem dJ7_init_2_89 : decode cJ7_init_2 89 = .ok (.iconst 1, 1) := dk_4 (dk_at dksJ7_init_2_3 17 rfl rfl)
theorem dJ7_init_2_90 : decode cJ7_init_2 90 = .ok (.ishl, 1) := dk_120 (dk_at dksJ7_init_2_3 18 rfl rfl)
theorem dJ7_init_2_91 : decode cJ7_init_2 91 = .ok (.invokestatic 54, 3) := dk_184 0 54 (dk_at dksJ7_init_2_3 19 rfl rfl)
theorem dJ7_init_2_94 : decode cJ7_init_2 94 = .ok (.putfield 9, 3) := dk_181 0 9 (dk_at dksJ7_init_2_4 0 rfl rfl)
theorem dJ7_init_2_97 : decode cJ7_init_2 97 = .ok (.return_, 1) := dk_177 (dk_at dksJ7_init_2_4 3 rfl rfl)
abbrev cJ7_charAt : ByteArray := prog_45_method_56_code
def yJ7_charAt : MethodName := ⟨RJ7, "charAt", "(I)C"⟩
def dkwJ7_charAt_1 : List UInt8 := [172]
abbrev dktJ7_charAt_1 : List UInt8 := dkwJ7_charAt_1 ++ []
def dkwJ7_charAt_0 : List UInt8 := [42, 182, 1, 236, 153, 0, 12, 42, 180, 0, 9, 27, 184, 1, 239, 172, 42, 180, 0, 9, 27, 184, 1, 242]
abbrev dktJ7_charAt_0 : List UInt8 := dkwJ7_charAt_0 ++ dktJ7_charAt_1
theorem dksJ7_charAt_0 : cJ7_charAt.data.toList.drop 0 = dktJ7_charAt_0 := by decide +kernel
theorem dksJ7_charAt_1 : cJ7_charAt.data.toList.drop 24 = dktJ7_charAt_1 := dk_seg dksJ7_charAt_0 24 rfl rfl
theorem dJ7_charAt_0 : decode cJ7_charAt 0 = .ok (.aload_n 0, 1) := dk_42 (dk_at dksJ7_charAt_0 0 rfl rfl)
theorem dJ7_charAt_1 : decode cJ7_charAt 1 = .ok (.invokevirtual 492, 3) := dk_182 1 236 (dk_at dksJ7_charAt_0 1 rfl rfl)
theorem dJ7_charAt_4 : decode cJ7_charAt 4 = .ok (.ifCond .eq 12, 3) := dk_153 0 12 (dk_at dksJ7_charAt_0 4 rfl rfl)
theorem dJ7_charAt_7 : decode cJ7_charAt 7 = .ok (.aload_n 0, 1) := dk_42 (dk_at dksJ7_charAt_0 7 rfl rfl)
theorem dJ7_charAt_8 : decode cJ7_charAt 8 = .ok (.getfield 9, 3) := dk_180 0 9 (dk_at dksJ7_charAt_0 8 rfl rfl)
theorem dJ7_charAt_11 : decode cJ7_charAt 11 = .ok (.iload_n 1, 1) := dk_27 (dk_at dksJ7_charAt_0 11 rfl rfl)
theorem dJ7_charAt_12 : decode cJ7_charAt 12 = .ok (.invokestatic 495, 3) := dk_184 1 239 (dk_at dksJ7_charAt_0 12 rfl rfl)
theorem dJ7_charAt_15 : decode cJ7_charAt 15 = .ok (.ireturn, 1) := dk_172 (dk_at dksJ7_charAt_0 15 rfl rfl)
theorem dJ7_charAt_16 : decode cJ7_charAt 16 = .ok (.aload_n 0, 1) := dk_42 (dk_at dksJ7_charAt_0 16 rfl rfl)
theorem dJ7_charAt_17 : decode cJ7_charAt 17 = .ok (.getfield 9, 3) := dk_180 0 9 (dk_at dksJ7_charAt_0 17 rfl rfl)
theorem dJ7_charAt_20 : decode cJ7_charAt 20 = .ok (.iload_n 1, 1) := dk_27 (dk_at dksJ7_charAt_0 20 rfl rfl)
theorem dJ7_charAt_21 : decode cJ7_charAt 21 = .ok (.invokestatic 498, 3) := dk_184 1 242 (dk_at dksJ7_charAt_0 21 rfl rfl)
theorem dJ7_charAt_24 : decode cJ7_charAt 24 = .ok (.ireturn, 1) := dk_172 (dk_at dksJ7_charAt_1 0 rfl rfl)
abbrev cJ7_isLatin1 : ByteArray := prog_45_method_154_code
def yJ7_isLatin1 : MethodName := ⟨RJ7, "isLatin1", "()Z"⟩
def dkwJ7_isLatin1_0 : List UInt8 := [178, 0, 38, 153, 0, 14, 42, 180, 0, 15, 154, 0, 7, 4, 167, 0, 4, 3, 172]
abbrev dktJ7_isLatin1_0 : List UInt8 := dkwJ7_isLatin1_0 ++ []
theorem dksJ7_isLatin1_0 : cJ7_isLatin1.data.toList.drop 0 = dktJ7_isLatin1_0 := by decide +kernel
theorem dJ7_isLatin1_0 : decode cJ7_isLatin1 0 = .ok (.getstatic 38, 3) := dk_178 0 38 (dk_at dksJ7_isLatin1_0 0 rfl rfl)
theorem dJ7_isLatin1_3 : decode cJ7_isLatin1 3 = .ok (.ifCond .eq 14, 3) := dk_153 0 14 (dk_at dksJ7_isLatin1_0 3 rfl rfl)
theorem dJ7_isLatin1_6 : decode cJ7_isLatin1 6 = .ok (.aload_n 0, 1) := dk_42 (dk_at dksJ7_isLatin1_0 6 rfl rfl)
theorem dJ7_isLatin1_7 : decode cJ7_isLatin1 7 = .ok (.getfield 15, 3) := dk_180 0 15 (dk_at dksJ7_isLatin1_0 7 rfl rfl)
theorem dJ7_isLatin1_10 : decode cJ7_isLatin1 10 = .ok (.ifCond .ne 7, 3) := dk_154 0 7 (dk_at dksJ7_isLatin1_0 10 rfl rfl)
theorem dJ7_isLatin1_13 : decode cJ7_isLatin1 13 = .ok (.iconst 1, 1) := dk_4 (dk_at dksJ7_isLatin1_0 13 rfl rfl)
theorem dJ7_isLatin1_14 : decode cJ7_isLatin1 14 = .ok (.goto 4, 3) := dk_167 0 4 (dk_at dksJ7_isLatin1_0 14 rfl rfl)
theorem dJ7_isLatin1_17 : decode cJ7_isLatin1 17 = .ok (.iconst 0, 1) := dk_3 (dk_at dksJ7_isLatin1_0 17 rfl rfl)
theorem dJ7_isLatin1_18 : decode cJ7_isLatin1 18 = .ok (.ireturn, 1) := dk_172 (dk_at dksJ7_isLatin1_0 18 rfl rfl)
abbrev cJ7_checkIndex : ByteArray := prog_45_method_155_code
def yJ7_checkIndex : MethodName := ⟨RJ7, "checkIndex", "(II)V"⟩
def dkwJ7_checkIndex_0 : List UInt8 := [26, 27, 178, 4, 29, 184, 4, 35, 87, 177]
abbrev dktJ7_checkIndex_0 : List UInt8 := dkwJ7_checkIndex_0 ++ []
theorem dksJ7_checkIndex_0 : cJ7_checkIndex.data.toList.drop 0 = dktJ7_checkIndex_0 := by decide +kernel
theorem dJ7_checkIndex_0 : decode cJ7_checkIndex 0 = .ok (.iload_n 0, 1) := dk_26 (dk_at dksJ7_checkIndex_0 0 rfl rfl)
theorem dJ7_checkIndex_1 : decode cJ7_checkIndex 1 = .ok (.iload_n 1, 1) := dk_27 (dk_at dksJ7_checkIndex_0 1 rfl rfl)
theorem dJ7_checkIndex_2 : decode cJ7_checkIndex 2 = .ok (.getstatic 1053, 3) := dk_178 4 29 (dk_at dksJ7_checkIndex_0 2 rfl rfl)
theorem dJ7_checkIndex_5 : decode cJ7_checkIndex 5 = .ok (.invokestatic 1059, 3) := dk_184 4 35 (dk_at dksJ7_checkIndex_0 5 rfl rfl)
theorem dJ7_checkIndex_8 : decode cJ7_checkIndex 8 = .ok (.pop, 1) := dk_87 (dk_at dksJ7_checkIndex_0 8 rfl rfl)
theorem dJ7_checkIndex_9 : decode cJ7_checkIndex 9 = .ok (.return_, 1) := dk_177 (dk_at dksJ7_checkIndex_0 9 rfl rfl)
abbrev cJ7_equals : ByteArray := prog_45_method_66_code
def yJ7_equals : MethodName := ⟨RJ7, "equals", "(Ljava/lang/Object;)Z"⟩
def dkwJ7_equals_2 : List UInt8 := [184, 2, 29, 153, 0, 7, 4, 167, 0, 4, 3, 172]
abbrev dktJ7_equals_2 : List UInt8 := dkwJ7_equals_2 ++ []
def dkwJ7_equals_1 : List UInt8 := [153, 0, 14, 42, 180, 0, 15, 44, 180, 0, 15, 160, 0, 21, 42, 180, 0, 9, 44, 180, 0, 9]
abbrev dktJ7_equals_1 : List UInt8 := dkwJ7_equals_1 ++ dktJ7_equals_2
def dkwJ7_equals_0 : List UInt8 := [42, 43, 166, 0, 5, 4, 172, 43, 193, 0, 10, 153, 0, 43, 43, 192, 0, 10, 77, 178, 0, 38]
abbrev dktJ7_equals_0 : List UInt8 := dkwJ7_equals_0 ++ dktJ7_equals_1
theorem dksJ7_equals_0 : cJ7_equals.data.toList.drop 0 = dktJ7_equals_0 := by decide +kernel
theorem dksJ7_equals_1 : cJ7_equals.data.toList.drop 22 = dktJ7_equals_1 := dk_seg dksJ7_equals_0 22 rfl rfl
theorem dksJ7_equals_2 : cJ7_equals.data.toList.drop 44 = dktJ7_equals_2 := dk_seg dksJ7_equals_1 22 rfl rfl
theorem dJ7_equals_0 : decode cJ7_equals 0 = .ok (.aload_n 0, 1) := dk_42 (dk_at dksJ7_equals_0 0 rfl rfl)
theorem dJ7_equals_1 : decode cJ7_equals 1 = .ok (.aload_n 1, 1) := dk_43 (dk_at dksJ7_equals_0 1 rfl rfl)
theorem dJ7_equals_2 : decode cJ7_equals 2 = .ok (.if_acmp .ne 5, 3) := dk_166 0 5 (dk_at dksJ7_equals_0 2 rfl rfl)
theorem dJ7_equals_5 : decode cJ7_equals 5 = .ok (.iconst 1, 1) := dk_4 (dk_at dksJ7_equals_0 5 rfl rfl)
theorem dJ7_equals_6 : decode cJ7_equals 6 = .ok (.ireturn, 1) := dk_172 (dk_at dksJ7_equals_0 6 rfl rfl)
theorem dJ7_equals_7 : decode cJ7_equals 7 = .ok (.aload_n 1, 1) := dk_43 (dk_at dksJ7_equals_0 7 rfl rfl)
theorem dJ7_equals_8 : decode cJ7_equals 8 = .ok (.instanceof 10, 3) := dk_193 0 10 (dk_at dksJ7_equals_0 8 rfl rfl)
theorem dJ7_equals_11 : decode cJ7_equals 11 = .ok (.ifCond .eq 43, 3) := dk_153 0 43 (dk_at dksJ7_equals_0 11 rfl rfl)
theorem dJ7_equals_14 : decode cJ7_equals 14 = .ok (.aload_n 1, 1) := dk_43 (dk_at dksJ7_equals_0 14 rfl rfl)
theorem dJ7_equals_15 : decode cJ7_equals 15 = .ok (.checkcast 10, 3) := dk_192 0 10 (dk_at dksJ7_equals_0 15 rfl rfl)
theorem dJ7_equals_18 : decode cJ7_equals 18 = .ok (.astore_n 2, 1) := dk_77 (dk_at dksJ7_equals_0 18 rfl rfl)
theorem dJ7_equals_19 : decode cJ7_equals 19 = .ok (.getstatic 38, 3) := dk_178 0 38 (dk_at dksJ7_equals_0 19 rfl rfl)
theorem dJ7_equals_22 : decode cJ7_equals 22 = .ok (.ifCond .eq 14, 3) := dk_153 0 14 (dk_at dksJ7_equals_1 0 rfl rfl)
theorem dJ7_equals_25 : decode cJ7_equals 25 = .ok (.aload_n 0, 1) := dk_42 (dk_at dksJ7_equals_1 3 rfl rfl)
theorem dJ7_equals_26 : decode cJ7_equals 26 = .ok (.getfield 15, 3) := dk_180 0 15 (dk_at dksJ7_equals_1 4 rfl rfl)
theorem dJ7_equals_29 : decode cJ7_equals 29 = .ok (.aload_n 2, 1) := dk_44 (dk_at dksJ7_equals_1 7 rfl rfl)
theorem dJ7_equals_30 : decode cJ7_equals 30 = .ok (.getfield 15, 3) := dk_180 0 15 (dk_at dksJ7_equals_1 8 rfl rfl)
theorem dJ7_equals_33 : decode cJ7_equals 33 = .ok (.if_icmp .ne 21, 3) := dk_160 0 21 (dk_at dksJ7_equals_1 11 rfl rfl)
theorem dJ7_equals_36 : decode cJ7_equals 36 = .ok (.aload_n 0, 1) := dk_42 (dk_at dksJ7_equals_1 14 rfl rfl)
theorem dJ7_equals_37 : decode cJ7_equals 37 = .ok (.getfield 9, 3) := dk_180 0 9 (dk_at dksJ7_equals_1 15 rfl rfl)
theorem dJ7_equals_40 : decode cJ7_equals 40 = .ok (.aload_n 2, 1) := dk_44 (dk_at dksJ7_equals_1 18 rfl rfl)
theorem dJ7_equals_41 : decode cJ7_equals 41 = .ok (.getfield 9, 3) := dk_180 0 9 (dk_at dksJ7_equals_1 19 rfl rfl)
theorem dJ7_equals_44 : decode cJ7_equals 44 = .ok (.invokestatic 541, 3) := dk_184 2 29 (dk_at dksJ7_equals_2 0 rfl rfl)
theorem dJ7_equals_47 : decode cJ7_equals 47 = .ok (.ifCond .eq 7, 3) := dk_153 0 7 (dk_at dksJ7_equals_2 3 rfl rfl)
theorem dJ7_equals_50 : decode cJ7_equals 50 = .ok (.iconst 1, 1) := dk_4 (dk_at dksJ7_equals_2 6 rfl rfl)
theorem dJ7_equals_51 : decode cJ7_equals 51 = .ok (.goto 4, 3) := dk_167 0 4 (dk_at dksJ7_equals_2 7 rfl rfl)
theorem dJ7_equals_54 : decode cJ7_equals 54 = .ok (.iconst 0, 1) := dk_3 (dk_at dksJ7_equals_2 10 rfl rfl)
theorem dJ7_equals_55 : decode cJ7_equals 55 = .ok (.ireturn, 1) := dk_172 (dk_at dksJ7_equals_2 11 rfl rfl)
abbrev cJ7_indexOf : ByteArray := prog_45_method_79_code
def yJ7_indexOf : MethodName := ⟨RJ7, "indexOf", "(I)I"⟩
def dkwJ7_indexOf_0 : List UInt8 := [42, 27, 3, 182, 2, 121, 172]
abbrev dktJ7_indexOf_0 : List UInt8 := dkwJ7_indexOf_0 ++ []
theorem dksJ7_indexOf_0 : cJ7_indexOf.data.toList.drop 0 = dktJ7_indexOf_0 := by decide +kernel
theorem dJ7_indexOf_0 : decode cJ7_indexOf 0 = .ok (.aload_n 0, 1) := dk_42 (dk_at dksJ7_indexOf_0 0 rfl rfl)
theorem dJ7_indexOf_1 : decode cJ7_indexOf 1 = .ok (.iload_n 1, 1) := dk_27 (dk_at dksJ7_indexOf_0 1 rfl rfl)
theorem dJ7_indexOf_2 : decode cJ7_indexOf 2 = .ok (.iconst 0, 1) := dk_3 (dk_at dksJ7_indexOf_0 2 rfl rfl)
theorem dJ7_indexOf_3 : decode cJ7_indexOf 3 = .ok (.invokevirtual 633, 3) := dk_182 2 121 (dk_at dksJ7_indexOf_0 3 rfl rfl)
theorem dJ7_indexOf_6 : decode cJ7_indexOf 6 = .ok (.ireturn, 1) := dk_172 (dk_at dksJ7_indexOf_0 6 rfl rfl)
abbrev cJ7_indexOf_2 : ByteArray := prog_45_method_80_code
def yJ7_indexOf_2 : MethodName := ⟨RJ7, "indexOf", "(II)I"⟩
def dkwJ7_indexOf_2_1 : List UInt8 := [180, 0, 9, 27, 28, 42, 182, 1, 249, 184, 2, 128, 172]
abbrev dktJ7_indexOf_2_1 : List UInt8 := dkwJ7_indexOf_2_1 ++ []
def dkwJ7_indexOf_2_0 : List UInt8 := [42, 182, 1, 236, 153, 0, 19, 42, 180, 0, 9, 27, 28, 42, 182, 1, 249, 184, 2, 125, 167, 0, 16, 42]
abbrev dktJ7_indexOf_2_0 : List UInt8 := dkwJ7_indexOf_2_0 ++ dktJ7_indexOf_2_1
theorem dksJ7_indexOf_2_0 : cJ7_indexOf_2.data.toList.drop 0 = dktJ7_indexOf_2_0 := by decide +kernel
theorem dksJ7_indexOf_2_1 : cJ7_indexOf_2.data.toList.drop 24 = dktJ7_indexOf_2_1 := dk_seg dksJ7_indexOf_2_0 24 rfl rfl
theorem dJ7_indexOf_2_0 : decode cJ7_indexOf_2 0 = .ok (.aload_n 0, 1) := dk_42 (dk_at dksJ7_indexOf_2_0 0 rfl rfl)
theorem dJ7_indexOf_2_1 : decode cJ7_indexOf_2 1 = .ok (.invokevirtual 492, 3) := dk_182 1 236 (dk_at dksJ7_indexOf_2_0 1 rfl rfl)
theorem dJ7_indexOf_2_4 : decode cJ7_indexOf_2 4 = .ok (.ifCond .eq 19, 3) := dk_153 0 19 (dk_at dksJ7_indexOf_2_0 4 rfl rfl)
theorem dJ7_indexOf_2_7 : decode cJ7_indexOf_2 7 = .ok (.aload_n 0, 1) := dk_42 (dk_at dksJ7_indexOf_2_0 7 rfl rfl)
theorem dJ7_indexOf_2_8 : decode cJ7_indexOf_2 8 = .ok (.getfield 9, 3) := dk_180 0 9 (dk_at dksJ7_indexOf_2_0 8 rfl rfl)
theorem dJ7_indexOf_2_11 : decode cJ7_indexOf_2 11 = .ok (.iload_n 1, 1) := dk_27 (dk_at dksJ7_indexOf_2_0 11 rfl rfl)
theorem dJ7_indexOf_2_12 : decode cJ7_indexOf_2 12 = .ok (.iload_n 2, 1) := dk_28 (dk_at dksJ7_indexOf_2_0 12 rfl rfl)
theorem dJ7_indexOf_2_13 : decode cJ7_indexOf_2 13 = .ok (.aload_n 0, 1) := dk_42 (dk_at dksJ7_indexOf_2_0 13 rfl rfl)
theorem dJ7_indexOf_2_14 : decode cJ7_indexOf_2 14 = .ok (.invokevirtual 505, 3) := dk_182 1 249 (dk_at dksJ7_indexOf_2_0 14 rfl rfl)
theorem dJ7_indexOf_2_17 : decode cJ7_indexOf_2 17 = .ok (.invokestatic 637, 3) := dk_184 2 125 (dk_at dksJ7_indexOf_2_0 17 rfl rfl)
theorem dJ7_indexOf_2_20 : decode cJ7_indexOf_2 20 = .ok (.goto 16, 3) := dk_167 0 16 (dk_at dksJ7_indexOf_2_0 20 rfl rfl)
theorem dJ7_indexOf_2_23 : decode cJ7_indexOf_2 23 = .ok (.aload_n 0, 1) := dk_42 (dk_at dksJ7_indexOf_2_0 23 rfl rfl)
theorem dJ7_indexOf_2_24 : decode cJ7_indexOf_2 24 = .ok (.getfield 9, 3) := dk_180 0 9 (dk_at dksJ7_indexOf_2_1 0 rfl rfl)
theorem dJ7_indexOf_2_27 : decode cJ7_indexOf_2 27 = .ok (.iload_n 1, 1) := dk_27 (dk_at dksJ7_indexOf_2_1 3 rfl rfl)
theorem dJ7_indexOf_2_28 : decode cJ7_indexOf_2 28 = .ok (.iload_n 2, 1) := dk_28 (dk_at dksJ7_indexOf_2_1 4 rfl rfl)
theorem dJ7_indexOf_2_29 : decode cJ7_indexOf_2 29 = .ok (.aload_n 0, 1) := dk_42 (dk_at dksJ7_indexOf_2_1 5 rfl rfl)
theorem dJ7_indexOf_2_30 : decode cJ7_indexOf_2 30 = .ok (.invokevirtual 505, 3) := dk_182 1 249 (dk_at dksJ7_indexOf_2_1 6 rfl rfl)
theorem dJ7_indexOf_2_33 : decode cJ7_indexOf_2 33 = .ok (.invokestatic 640, 3) := dk_184 2 128 (dk_at dksJ7_indexOf_2_1 9 rfl rfl)
theorem dJ7_indexOf_2_36 : decode cJ7_indexOf_2 36 = .ok (.ireturn, 1) := dk_172 (dk_at dksJ7_indexOf_2_1 12 rfl rfl)
abbrev cJ7_subSequence : ByteArray := prog_45_method_93_code
def yJ7_subSequence : MethodName := ⟨RJ7, "subSequence", "(II)Ljava/lang/CharSequence;"⟩
def dkwJ7_subSequence_0 : List UInt8 := [42, 27, 28, 182, 2, 169, 176]
abbrev dktJ7_subSequence_0 : List UInt8 := dkwJ7_subSequence_0 ++ []
theorem dksJ7_subSequence_0 : cJ7_subSequence.data.toList.drop 0 = dktJ7_subSequence_0 := by decide +kernel
theorem dJ7_subSequence_0 : decode cJ7_subSequence 0 = .ok (.aload_n 0, 1) := dk_42 (dk_at dksJ7_subSequence_0 0 rfl rfl)
theorem dJ7_subSequence_1 : decode cJ7_subSequence 1 = .ok (.iload_n 1, 1) := dk_27 (dk_at dksJ7_subSequence_0 1 rfl rfl)
theorem dJ7_subSequence_2 : decode cJ7_subSequence 2 = .ok (.iload_n 2, 1) := dk_28 (dk_at dksJ7_subSequence_0 2 rfl rfl)
theorem dJ7_subSequence_3 : decode cJ7_subSequence 3 = .ok (.invokevirtual 681, 3) := dk_182 2 169 (dk_at dksJ7_subSequence_0 3 rfl rfl)
theorem dJ7_subSequence_6 : decode cJ7_subSequence 6 = .ok (.areturn, 1) := dk_176 (dk_at dksJ7_subSequence_0 6 rfl rfl)
abbrev cJ7_substring : ByteArray := prog_45_method_92_code
def yJ7_substring : MethodName := ⟨RJ7, "substring", "(II)Ljava/lang/String;"⟩
def dkwJ7_substring_2 : List UInt8 := [180, 0, 9, 27, 21, 4, 184, 2, 177, 176]
abbrev dktJ7_substring_2 : List UInt8 := dkwJ7_substring_2 ++ []
def dkwJ7_substring_1 : List UInt8 := [100, 54, 4, 42, 182, 1, 236, 153, 0, 16, 42, 180, 0, 9, 27, 21, 4, 184, 2, 173, 167, 0, 13, 42]
abbrev dktJ7_substring_1 : List UInt8 := dkwJ7_substring_1 ++ dktJ7_substring_2
def dkwJ7_substring_0 : List UInt8 := [42, 182, 1, 249, 62, 27, 28, 29, 184, 2, 9, 27, 154, 0, 10, 28, 29, 160, 0, 5, 42, 176, 28, 27]
abbrev dktJ7_substring_0 : List UInt8 := dkwJ7_substring_0 ++ dktJ7_substring_1
theorem dksJ7_substring_0 : cJ7_substring.data.toList.drop 0 = dktJ7_substring_0 := by decide +kernel
theorem dksJ7_substring_1 : cJ7_substring.data.toList.drop 24 = dktJ7_substring_1 := dk_seg dksJ7_substring_0 24 rfl rfl
theorem dksJ7_substring_2 : cJ7_substring.data.toList.drop 48 = dktJ7_substring_2 := dk_seg dksJ7_substring_1 24 rfl rfl
theorem dJ7_substring_0 : decode cJ7_substring 0 = .ok (.aload_n 0, 1) := dk_42 (dk_at dksJ7_substring_0 0 rfl rfl)
theorem dJ7_substring_1 : decode cJ7_substring 1 = .ok (.invokevirtual 505, 3) := dk_182 1 249 (dk_at dksJ7_substring_0 1 rfl rfl)
theorem dJ7_substring_4 : decode cJ7_substring 4 = .ok (.istore_n 3, 1) := dk_62 (dk_at dksJ7_substring_0 4 rfl rfl)
theorem dJ7_substring_5 : decode cJ7_substring 5 = .ok (.iload_n 1, 1) := dk_27 (dk_at dksJ7_substring_0 5 rfl rfl)
theorem dJ7_substring_6 : decode cJ7_substring 6 = .ok (.iload_n 2, 1) := dk_28 (dk_at dksJ7_substring_0 6 rfl rfl)
theorem dJ7_substring_7 : decode cJ7_substring 7 = .ok (.iload_n 3, 1) := dk_29 (dk_at dksJ7_substring_0 7 rfl rfl)
theorem dJ7_substring_8 : decode cJ7_substring 8 = .ok (.invokestatic 521, 3) := dk_184 2 9 (dk_at dksJ7_substring_0 8 rfl rfl)
theorem dJ7_substring_11 : decode cJ7_substring 11 = .ok (.iload_n 1, 1) := dk_27 (dk_at dksJ7_substring_0 11 rfl rfl)
theorem dJ7_substring_12 : decode cJ7_substring 12 = .ok (.ifCond .ne 10, 3) := dk_154 0 10 (dk_at dksJ7_substring_0 12 rfl rfl)
theorem dJ7_substring_15 : decode cJ7_substring 15 = .ok (.iload_n 2, 1) := dk_28 (dk_at dksJ7_substring_0 15 rfl rfl)
theorem dJ7_substring_16 : decode cJ7_substring 16 = .ok (.iload_n 3, 1) := dk_29 (dk_at dksJ7_substring_0 16 rfl rfl)
theorem dJ7_substring_17 : decode cJ7_substring 17 = .ok (.if_icmp .ne 5, 3) := dk_160 0 5 (dk_at dksJ7_substring_0 17 rfl rfl)
theorem dJ7_substring_20 : decode cJ7_substring 20 = .ok (.aload_n 0, 1) := dk_42 (dk_at dksJ7_substring_0 20 rfl rfl)
theorem dJ7_substring_21 : decode cJ7_substring 21 = .ok (.areturn, 1) := dk_176 (dk_at dksJ7_substring_0 21 rfl rfl)
theorem dJ7_substring_22 : decode cJ7_substring 22 = .ok (.iload_n 2, 1) := dk_28 (dk_at dksJ7_substring_0 22 rfl rfl)
theorem dJ7_substring_23 : decode cJ7_substring 23 = .ok (.iload_n 1, 1) := dk_27 (dk_at dksJ7_substring_0 23 rfl rfl)
theorem dJ7_substring_24 : decode cJ7_substring 24 = .ok (.isub, 1) := dk_100 (dk_at dksJ7_substring_1 0 rfl rfl)
theorem dJ7_substring_25 : decode cJ7_substring 25 = .ok (.istore 4, 2) := dk_54 4 (dk_at dksJ7_substring_1 1 rfl rfl)
theorem dJ7_substring_27 : decode cJ7_substring 27 = .ok (.aload_n 0, 1) := dk_42 (dk_at dksJ7_substring_1 3 rfl rfl)
theorem dJ7_substring_28 : decode cJ7_substring 28 = .ok (.invokevirtual 492, 3) := dk_182 1 236 (dk_at dksJ7_substring_1 4 rfl rfl)
theorem dJ7_substring_31 : decode cJ7_substring 31 = .ok (.ifCond .eq 16, 3) := dk_153 0 16 (dk_at dksJ7_substring_1 7 rfl rfl)
theorem dJ7_substring_34 : decode cJ7_substring 34 = .ok (.aload_n 0, 1) := dk_42 (dk_at dksJ7_substring_1 10 rfl rfl)
theorem dJ7_substring_35 : decode cJ7_substring 35 = .ok (.getfield 9, 3) := dk_180 0 9 (dk_at dksJ7_substring_1 11 rfl rfl)
theorem dJ7_substring_38 : decode cJ7_substring 38 = .ok (.iload_n 1, 1) := dk_27 (dk_at dksJ7_substring_1 14 rfl rfl)
theorem dJ7_substring_39 : decode cJ7_substring 39 = .ok (.iload 4, 2) := dk_21 4 (dk_at dksJ7_substring_1 15 rfl rfl)
theorem dJ7_substring_41 : decode cJ7_substring 41 = .ok (.invokestatic 685, 3) := dk_184 2 173 (dk_at dksJ7_substring_1 17 rfl rfl)
theorem dJ7_substring_44 : decode cJ7_substring 44 = .ok (.goto 13, 3) := dk_167 0 13 (dk_at dksJ7_substring_1 20 rfl rfl)
theorem dJ7_substring_47 : decode cJ7_substring 47 = .ok (.aload_n 0, 1) := dk_42 (dk_at dksJ7_substring_1 23 rfl rfl)
theorem dJ7_substring_48 : decode cJ7_substring 48 = .ok (.getfield 9, 3) := dk_180 0 9 (dk_at dksJ7_substring_2 0 rfl rfl)
theorem dJ7_substring_51 : decode cJ7_substring 51 = .ok (.iload_n 1, 1) := dk_27 (dk_at dksJ7_substring_2 3 rfl rfl)
theorem dJ7_substring_52 : decode cJ7_substring 52 = .ok (.iload 4, 2) := dk_21 4 (dk_at dksJ7_substring_2 4 rfl rfl)
theorem dJ7_substring_54 : decode cJ7_substring 54 = .ok (.invokestatic 689, 3) := dk_184 2 177 (dk_at dksJ7_substring_2 6 rfl rfl)
theorem dJ7_substring_57 : decode cJ7_substring 57 = .ok (.areturn, 1) := dk_176 (dk_at dksJ7_substring_2 9 rfl rfl)
abbrev cJ7_init_3 : ByteArray := prog_45_method_151_code
def yJ7_init_3 : MethodName := ⟨RJ7, "<init>", "([BB)V"⟩
def dkwJ7_init_3_0 : List UInt8 := [42, 183, 0, 1, 42, 43, 181, 0, 9, 42, 28, 181, 0, 15, 177]
abbrev dktJ7_init_3_0 : List UInt8 := dkwJ7_init_3_0 ++ []
theorem dksJ7_init_3_0 : cJ7_init_3.data.toList.drop 0 = dktJ7_init_3_0 := by decide +kernel
theorem dJ7_init_3_0 : decode cJ7_init_3 0 = .ok (.aload_n 0, 1) := dk_42 (dk_at dksJ7_init_3_0 0 rfl rfl)
theorem dJ7_init_3_1 : decode cJ7_init_3 1 = .ok (.invokespecial 1, 3) := dk_183 0 1 (dk_at dksJ7_init_3_0 1 rfl rfl)
theorem dJ7_init_3_4 : decode cJ7_init_3 4 = .ok (.aload_n 0, 1) := dk_42 (dk_at dksJ7_init_3_0 4 rfl rfl)
theorem dJ7_init_3_5 : decode cJ7_init_3 5 = .ok (.aload_n 1, 1) := dk_43 (dk_at dksJ7_init_3_0 5 rfl rfl)
theorem dJ7_init_3_6 : decode cJ7_init_3 6 = .ok (.putfield 9, 3) := dk_181 0 9 (dk_at dksJ7_init_3_0 6 rfl rfl)
theorem dJ7_init_3_9 : decode cJ7_init_3 9 = .ok (.aload_n 0, 1) := dk_42 (dk_at dksJ7_init_3_0 9 rfl rfl)
theorem dJ7_init_3_10 : decode cJ7_init_3 10 = .ok (.iload_n 2, 1) := dk_28 (dk_at dksJ7_init_3_0 10 rfl rfl)
theorem dJ7_init_3_11 : decode cJ7_init_3 11 = .ok (.putfield 15, 3) := dk_181 0 15 (dk_at dksJ7_init_3_0 11 rfl rfl)
theorem dJ7_init_3_14 : decode cJ7_init_3 14 = .ok (.return_, 1) := dk_177 (dk_at dksJ7_init_3_0 14 rfl rfl)
abbrev cJ7_toString : ByteArray := prog_45_method_126_code
def yJ7_toString : MethodName := ⟨RJ7, "toString", "()Ljava/lang/String;"⟩
theorem dJ7_toString_0 : decode cJ7_toString 0 = .ok (.aload_n 0, 1) := by decide +kernel
theorem dJ7_toString_1 : decode cJ7_toString 1 = .ok (.areturn, 1) := by decide +kernel
abbrev cJ7_isEmpty : ByteArray := prog_45_method_55_code
def yJ7_isEmpty : MethodName := ⟨RJ7, "isEmpty", "()Z"⟩
def dkwJ7_isEmpty_0 : List UInt8 := [42, 180, 0, 9, 190, 154, 0, 7, 4, 167, 0, 4, 3, 172]
abbrev dktJ7_isEmpty_0 : List UInt8 := dkwJ7_isEmpty_0 ++ []
theorem dksJ7_isEmpty_0 : cJ7_isEmpty.data.toList.drop 0 = dktJ7_isEmpty_0 := by decide +kernel
theorem dJ7_isEmpty_0 : decode cJ7_isEmpty 0 = .ok (.aload_n 0, 1) := dk_42 (dk_at dksJ7_isEmpty_0 0 rfl rfl)
theorem dJ7_isEmpty_1 : decode cJ7_isEmpty 1 = .ok (.getfield 9, 3) := dk_180 0 9 (dk_at dksJ7_isEmpty_0 1 rfl rfl)
theorem dJ7_isEmpty_4 : decode cJ7_isEmpty 4 = .ok (.arraylength, 1) := dk_190 (dk_at dksJ7_isEmpty_0 4 rfl rfl)
theorem dJ7_isEmpty_5 : decode cJ7_isEmpty 5 = .ok (.ifCond .ne 7, 3) := dk_154 0 7 (dk_at dksJ7_isEmpty_0 5 rfl rfl)
theorem dJ7_isEmpty_8 : decode cJ7_isEmpty 8 = .ok (.iconst 1, 1) := dk_4 (dk_at dksJ7_isEmpty_0 8 rfl rfl)
theorem dJ7_isEmpty_9 : decode cJ7_isEmpty 9 = .ok (.goto 4, 3) := dk_167 0 4 (dk_at dksJ7_isEmpty_0 9 rfl rfl)
theorem dJ7_isEmpty_12 : decode cJ7_isEmpty 12 = .ok (.iconst 0, 1) := dk_3 (dk_at dksJ7_isEmpty_0 12 rfl rfl)
theorem dJ7_isEmpty_13 : decode cJ7_isEmpty 13 = .ok (.ireturn, 1) := dk_172 (dk_at dksJ7_isEmpty_0 13 rfl rfl)
theorem q127 : (Jvm.Cond.initialized "java/lang/String") ∈ lw_all := lw_g (lw_at lw_m1 10 rfl) rfl
theorem q293 : (Jvm.Cond.laysStatic "java/lang/String" "COMPACT_STRINGS" "Z") ∈ lw_tbl := lw_at lw_m1 176 rfl
theorem q303 : (Jvm.Cond.fieldLink "java/lang/String" (1048 : Nat) "java/lang/AbstractStringBuilder" "maybeLatin1" "Z") ∈ lw_all := lw_g (lw_at lw_m1 186 rfl) rfl
theorem q493 : (Jvm.Cond.static ({ cls := "java/lang/String", name := "checkBoundsBeginEnd", desc := "(III)V" } : Jvm.MethodName)) ∈ lw_all := lw_g (lw_at lw_m2 136 rfl) rfl
theorem q494 : (Jvm.Cond.code ({ cls := "java/lang/String", name := "checkBoundsBeginEnd", desc := "(III)V" } : Jvm.MethodName) prog_45_method_158_code (3 : Nat) (Option.none : Option Jvm.ClassFile.FieldType)) ∈ lw_all := lw_g (lw_at lw_m2 137 rfl) rfl
theorem q495 : (Jvm.Cond.fieldLink "java/lang/String" (1053 : Nat) "jdk/internal/util/Preconditions" "SIOOBE_FORMATTER" "Ljava/util/function/BiFunction;") ∈ lw_all := lw_g (lw_at lw_m2 138 rfl) rfl
theorem q497 : (Jvm.Cond.methodLink "java/lang/String" (1062 : Nat) ({ cls := "jdk/internal/util/Preconditions", name := "checkFromToIndex", desc := "(IIILjava/util/function/BiFunction;)I" } : Jvm.MethodName)) ∈ lw_all := lw_g (lw_at lw_m2 140 rfl) rfl
theorem q510 : (Jvm.Cond.instanceMethod ({ cls := "java/lang/String", name := "length", desc := "()I" } : Jvm.MethodName)) ∈ lw_all := lw_g (lw_at lw_m2 153 rfl) rfl
theorem q511 : (Jvm.Cond.selects "java/lang/String" ({ cls := "java/lang/String", name := "length", desc := "()I" } : Jvm.MethodName) ({ cls := "java/lang/String", name := "length", desc := "()I" } : Jvm.MethodName)) ∈ lw_all := lw_g (lw_at lw_m2 154 rfl) rfl
theorem q512 : (Jvm.Cond.code ({ cls := "java/lang/String", name := "length", desc := "()I" } : Jvm.MethodName) prog_45_method_54_code (1 : Nat) (Option.some Jvm.ClassFile.FieldType.int)) ∈ lw_all := lw_g (lw_at lw_m2 155 rfl) rfl
theorem q513 : (Jvm.Cond.methodLink "java/lang/String" (335 : Nat) ({ cls := "java/lang/String", name := "coder", desc := "()B" } : Jvm.MethodName)) ∈ lw_all := lw_g (lw_at lw_m2 156 rfl) rfl
theorem q514 : (Jvm.Cond.instanceMethod ({ cls := "java/lang/String", name := "coder", desc := "()B" } : Jvm.MethodName)) ∈ lw_all := lw_g (lw_at lw_m2 157 rfl) rfl
theorem q515 : (Jvm.Cond.selects "java/lang/String" ({ cls := "java/lang/String", name := "coder", desc := "()B" } : Jvm.MethodName) ({ cls := "java/lang/String", name := "coder", desc := "()B" } : Jvm.MethodName)) ∈ lw_all := lw_g (lw_at lw_m2 158 rfl) rfl
theorem q516 : (Jvm.Cond.code ({ cls := "java/lang/String", name := "coder", desc := "()B" } : Jvm.MethodName) prog_45_method_152_code (1 : Nat) (Option.some Jvm.ClassFile.FieldType.byte)) ∈ lw_all := lw_g (lw_at lw_m2 159 rfl) rfl
theorem q517 : (Jvm.Cond.fieldLink "java/lang/String" (38 : Nat) "java/lang/String" "COMPACT_STRINGS" "Z") ∈ lw_all := lw_g (lw_at lw_m2 160 rfl) rfl
theorem q541 : (Jvm.Cond.static ({ cls := "java/lang/String", name := "checkBoundsOffCount", desc := "(III)I" } : Jvm.MethodName)) ∈ lw_all := lw_g (lw_at lw_m2 184 rfl) rfl
theorem q542 : (Jvm.Cond.code ({ cls := "java/lang/String", name := "checkBoundsOffCount", desc := "(III)I" } : Jvm.MethodName) prog_45_method_157_code (3 : Nat) (Option.some Jvm.ClassFile.FieldType.int)) ∈ lw_all := lw_g (lw_at lw_m2 185 rfl) rfl
theorem q543 : (Jvm.Cond.methodLink "java/lang/String" (1065 : Nat) ({ cls := "jdk/internal/util/Preconditions", name := "checkFromIndexSize", desc := "(IIILjava/util/function/BiFunction;)I" } : Jvm.MethodName)) ∈ lw_all := lw_g (lw_at lw_m2 186 rfl) rfl
theorem q547 : (Jvm.Cond.instanceMethod ({ cls := "java/lang/String", name := "getBytes", desc := "([BIB)V" } : Jvm.MethodName)) ∈ lw_all := lw_g (lw_at lw_m2 190 rfl) rfl
theorem q548 : (Jvm.Cond.selects "java/lang/String" ({ cls := "java/lang/String", name := "getBytes", desc := "([BIB)V" } : Jvm.MethodName) ({ cls := "java/lang/String", name := "getBytes", desc := "([BIB)V" } : Jvm.MethodName)) ∈ lw_all := lw_g (lw_at lw_m2 191 rfl) rfl
theorem q549 : (Jvm.Cond.code ({ cls := "java/lang/String", name := "getBytes", desc := "([BIB)V" } : Jvm.MethodName) prog_45_method_147_code (4 : Nat) (Option.none : Option Jvm.ClassFile.FieldType)) ∈ lw_all := lw_g (lw_at lw_m2 192 rfl) rfl
theorem q550 : (Jvm.Cond.methodLink "java/lang/String" (212 : Nat) ({ cls := "java/lang/System", name := "arraycopy", desc := "(Ljava/lang/Object;ILjava/lang/Object;II)V" } : Jvm.MethodName)) ∈ lw_all := lw_g (lw_at lw_m2 193 rfl) rfl
theorem q551 : (Jvm.Cond.methodLink "java/lang/String" (106 : Nat) ({ cls := "java/lang/StringLatin1", name := "inflate", desc := "([BI[BII)V" } : Jvm.MethodName)) ∈ lw_all := lw_g (lw_at lw_m2 194 rfl) rfl
theorem q583 : (Jvm.Cond.instantiable "java/lang/String" (4 : Nat)) ∈ lw_all := lw_g (lw_at lw_m2 226 rfl) rfl
theorem q585 : (Jvm.Cond.instanceMethod ({ cls := "java/lang/String", name := "<init>", desc := "(Ljava/lang/StringBuilder;)V" } : Jvm.MethodName)) ∈ lw_all := lw_g (lw_at lw_m2 228 rfl) rfl
theorem q586 : (Jvm.Cond.code ({ cls := "java/lang/String", name := "<init>", desc := "(Ljava/lang/StringBuilder;)V" } : Jvm.MethodName) prog_45_method_53_code (2 : Nat) (Option.none : Option Jvm.ClassFile.FieldType)) ∈ lw_all := lw_g (lw_at lw_m2 229 rfl) rfl
theorem q587 : (Jvm.Cond.methodLink "java/lang/String" (489 : Nat) ({ cls := "java/lang/String", name := "<init>", desc := "(Ljava/lang/AbstractStringBuilder;Ljava/lang/Void;)V" } : Jvm.MethodName)) ∈ lw_all := lw_g (lw_at lw_m2 230 rfl) rfl
theorem q588 : (Jvm.Cond.instanceMethod ({ cls := "java/lang/String", name := "<init>", desc := "(Ljava/lang/AbstractStringBuilder;Ljava/lang/Void;)V" } : Jvm.MethodName)) ∈ lw_all := lw_g (lw_at lw_m2 231 rfl) rfl
theorem q589 : (Jvm.Cond.code ({ cls := "java/lang/String", name := "<init>", desc := "(Ljava/lang/AbstractStringBuilder;Ljava/lang/Void;)V" } : Jvm.MethodName) prog_45_method_150_code (5 : Nat) (Option.none : Option Jvm.ClassFile.FieldType)) ∈ lw_all := lw_g (lw_at lw_m2 232 rfl) rfl
theorem q590 : (Jvm.Cond.methodLink "java/lang/String" (1 : Nat) ({ cls := "java/lang/Object", name := "<init>", desc := "()V" } : Jvm.MethodName)) ∈ lw_all := lw_g (lw_at lw_m2 233 rfl) rfl
theorem q591 : (Jvm.Cond.methodLink "java/lang/String" (552 : Nat) ({ cls := "java/lang/AbstractStringBuilder", name := "getValue", desc := "()[B" } : Jvm.MethodName)) ∈ lw_all := lw_g (lw_at lw_m2 234 rfl) rfl
theorem q596 : (Jvm.Cond.methodLink "java/lang/String" (549 : Nat) ({ cls := "java/lang/AbstractStringBuilder", name := "length", desc := "()I" } : Jvm.MethodName)) ∈ lw_all := lw_g (lw_at lw_m2 239 rfl) rfl
theorem q604 : (Jvm.Cond.methodLink "java/lang/String" (1047 : Nat) ({ cls := "java/lang/AbstractStringBuilder", name := "isLatin1", desc := "()Z" } : Jvm.MethodName)) ∈ lw_all := lw_g (lw_at lw_m3 7 rfl) rfl
theorem q605 : (Jvm.Cond.methodLink "java/lang/String" (54 : Nat) ({ cls := "java/util/Arrays", name := "copyOfRange", desc := "([BII)[B" } : Jvm.MethodName)) ∈ lw_all := lw_g (lw_at lw_m3 8 rfl) rfl
theorem q654 : (Jvm.Cond.methodLink "java/lang/String" (1051 : Nat) ({ cls := "java/lang/StringUTF16", name := "compress", desc := "([BII)[B" } : Jvm.MethodName)) ∈ lw_all := lw_g (lw_at lw_m3 57 rfl) rfl
theorem q664 : (Jvm.Cond.methodLink "java/lang/String" (47 : Nat) ({ cls := "java/lang/StringUTF16", name := "coderFromArrayLen", desc := "([BI)B" } : Jvm.MethodName)) ∈ lw_all := lw_g (lw_at lw_m3 67 rfl) rfl
theorem q667 : (Jvm.Cond.fieldLink "java/lang/String" (9 : Nat) "java/lang/String" "value" "[B") ∈ lw_all := lw_g (lw_at lw_m3 70 rfl) rfl
theorem q668 : (Jvm.Cond.fieldLink "java/lang/String" (15 : Nat) "java/lang/String" "coder" "B") ∈ lw_all := lw_g (lw_at lw_m3 71 rfl) rfl
theorem q669 : (Jvm.Cond.laysFinal "java/lang/String" "java/lang/String" "value" "[B") ∈ lw_all := lw_g (lw_at lw_m3 72 rfl) rfl
theorem q670 : (Jvm.Cond.soleField "java/lang/String" "value") ∈ lw_all := lw_g (lw_at lw_m3 73 rfl) rfl
theorem q671 : (Jvm.Cond.laysFinal "java/lang/String" "java/lang/String" "coder" "B") ∈ lw_all := lw_g (lw_at lw_m3 74 rfl) rfl
theorem q672 : (Jvm.Cond.soleField "java/lang/String" "coder") ∈ lw_all := lw_g (lw_at lw_m3 75 rfl) rfl
theorem q673 : (Jvm.Cond.lays "java/lang/String" "java/lang/String" "hash" "I") ∈ lw_all := lw_g (lw_at lw_m3 76 rfl) rfl
theorem q674 : (Jvm.Cond.soleField "java/lang/String" "hash") ∈ lw_all := lw_g (lw_at lw_m3 77 rfl) rfl
theorem q675 : (Jvm.Cond.lays "java/lang/String" "java/lang/String" "hashIsZero" "Z") ∈ lw_all := lw_g (lw_at lw_m3 78 rfl) rfl
theorem q676 : (Jvm.Cond.soleField "java/lang/String" "hashIsZero") ∈ lw_all := lw_g (lw_at lw_m3 79 rfl) rfl
theorem q677 : (Jvm.Cond.superclass "java/lang/String" "java/lang/Object") ∈ lw_all := lw_g (lw_at lw_m3 80 rfl) rfl
theorem q1017 : (Jvm.Cond.selects "java/lang/String" ({ cls := "java/lang/Object", name := "getClass", desc := "()Ljava/lang/Class;" } : Jvm.MethodName) ({ cls := "java/lang/Object", name := "getClass", desc := "()Ljava/lang/Class;" } : Jvm.MethodName)) ∈ lw_all := lw_g (lw_at lw_m4 180 rfl) rfl
theorem q1200 : (Jvm.Cond.instanceMethod ({ cls := "java/lang/String", name := "charAt", desc := "(I)C" } : Jvm.MethodName)) ∈ lw_all := lw_g (lw_at lw_m5 123 rfl) rfl
theorem q1201 : (Jvm.Cond.selects "java/lang/String" ({ cls := "java/lang/String", name := "charAt", desc := "(I)C" } : Jvm.MethodName) ({ cls := "java/lang/String", name := "charAt", desc := "(I)C" } : Jvm.MethodName)) ∈ lw_all := lw_g (lw_at lw_m5 124 rfl) rfl
theorem q1202 : (Jvm.Cond.code ({ cls := "java/lang/String", name := "charAt", desc := "(I)C" } : Jvm.MethodName) prog_45_method_56_code (2 : Nat) (Option.some Jvm.ClassFile.FieldType.char)) ∈ lw_all := lw_g (lw_at lw_m5 125 rfl) rfl
theorem q1203 : (Jvm.Cond.methodLink "java/lang/String" (492 : Nat) ({ cls := "java/lang/String", name := "isLatin1", desc := "()Z" } : Jvm.MethodName)) ∈ lw_all := lw_g (lw_at lw_m5 126 rfl) rfl
theorem q1204 : (Jvm.Cond.instanceMethod ({ cls := "java/lang/String", name := "isLatin1", desc := "()Z" } : Jvm.MethodName)) ∈ lw_all := lw_g (lw_at lw_m5 127 rfl) rfl
theorem q1205 : (Jvm.Cond.selects "java/lang/String" ({ cls := "java/lang/String", name := "isLatin1", desc := "()Z" } : Jvm.MethodName) ({ cls := "java/lang/String", name := "isLatin1", desc := "()Z" } : Jvm.MethodName)) ∈ lw_all := lw_g (lw_at lw_m5 128 rfl) rfl
theorem q1206 : (Jvm.Cond.code ({ cls := "java/lang/String", name := "isLatin1", desc := "()Z" } : Jvm.MethodName) prog_45_method_154_code (1 : Nat) (Option.some Jvm.ClassFile.FieldType.boolean)) ∈ lw_all := lw_g (lw_at lw_m5 129 rfl) rfl
theorem q1207 : (Jvm.Cond.methodLink "java/lang/String" (495 : Nat) ({ cls := "java/lang/StringLatin1", name := "charAt", desc := "([BI)C" } : Jvm.MethodName)) ∈ lw_all := lw_g (lw_at lw_m5 130 rfl) rfl
theorem q1211 : (Jvm.Cond.static ({ cls := "java/lang/String", name := "checkIndex", desc := "(II)V" } : Jvm.MethodName)) ∈ lw_all := lw_g (lw_at lw_m5 134 rfl) rfl
theorem q1212 : (Jvm.Cond.code ({ cls := "java/lang/String", name := "checkIndex", desc := "(II)V" } : Jvm.MethodName) prog_45_method_155_code (2 : Nat) (Option.none : Option Jvm.ClassFile.FieldType)) ∈ lw_all := lw_g (lw_at lw_m5 135 rfl) rfl
theorem q1213 : (Jvm.Cond.methodLink "java/lang/String" (1059 : Nat) ({ cls := "jdk/internal/util/Preconditions", name := "checkIndex", desc := "(IILjava/util/function/BiFunction;)I" } : Jvm.MethodName)) ∈ lw_all := lw_g (lw_at lw_m5 136 rfl) rfl
theorem q1214 : (Jvm.Cond.methodLink "java/lang/String" (498 : Nat) ({ cls := "java/lang/StringUTF16", name := "charAt", desc := "([BI)C" } : Jvm.MethodName)) ∈ lw_all := lw_g (lw_at lw_m5 137 rfl) rfl
theorem q1324 : (Jvm.Cond.instanceMethod ({ cls := "java/lang/String", name := "equals", desc := "(Ljava/lang/Object;)Z" } : Jvm.MethodName)) ∈ lw_all := lw_g (lw_at lw_m6 7 rfl) rfl
theorem q1325 : (Jvm.Cond.selects "java/lang/String" ({ cls := "java/lang/String", name := "equals", desc := "(Ljava/lang/Object;)Z" } : Jvm.MethodName) ({ cls := "java/lang/String", name := "equals", desc := "(Ljava/lang/Object;)Z" } : Jvm.MethodName)) ∈ lw_all := lw_g (lw_at lw_m6 8 rfl) rfl
theorem q1326 : (Jvm.Cond.code ({ cls := "java/lang/String", name := "equals", desc := "(Ljava/lang/Object;)Z" } : Jvm.MethodName) prog_45_method_66_code (3 : Nat) (Option.some Jvm.ClassFile.FieldType.boolean)) ∈ lw_all := lw_g (lw_at lw_m6 9 rfl) rfl
theorem q1327 : (Jvm.Cond.classLink "java/lang/String" (10 : Nat) "java/lang/String") ∈ lw_all := lw_g (lw_at lw_m6 10 rfl) rfl
theorem q1328 : (Jvm.Cond.methodLink "java/lang/String" (541 : Nat) ({ cls := "java/lang/StringLatin1", name := "equals", desc := "([B[B)Z" } : Jvm.MethodName)) ∈ lw_all := lw_g (lw_at lw_m6 11 rfl) rfl
theorem q1648 : (Jvm.Cond.castable "java/lang/String" "java/lang/CharSequence") ∈ lw_tbl := lw_at lw_m7 91 rfl
theorem q1649 : (Jvm.Cond.selects "java/lang/String" ({ cls := "java/lang/CharSequence", name := "length", desc := "()I" } : Jvm.MethodName) ({ cls := "java/lang/String", name := "length", desc := "()I" } : Jvm.MethodName)) ∈ lw_all := lw_g (lw_at lw_m7 92 rfl) rfl
theorem q1650 : (Jvm.Cond.unhidden "java/lang/String" "length" "()I") ∈ lw_tbl := lw_at lw_m7 93 rfl
theorem q1651 : (Jvm.Cond.publicMethod ({ cls := "java/lang/String", name := "length", desc := "()I" } : Jvm.MethodName)) ∈ lw_tbl := lw_at lw_m7 94 rfl
theorem q1660 : (Jvm.Cond.selects "java/lang/String" ({ cls := "java/lang/CharSequence", name := "charAt", desc := "(I)C" } : Jvm.MethodName) ({ cls := "java/lang/String", name := "charAt", desc := "(I)C" } : Jvm.MethodName)) ∈ lw_all := lw_g (lw_at lw_m7 103 rfl) rfl
theorem q1661 : (Jvm.Cond.unhidden "java/lang/String" "charAt" "(I)C") ∈ lw_tbl := lw_at lw_m7 104 rfl
theorem q1662 : (Jvm.Cond.publicMethod ({ cls := "java/lang/String", name := "charAt", desc := "(I)C" } : Jvm.MethodName)) ∈ lw_tbl := lw_at lw_m7 105 rfl
theorem q1779 : (Jvm.Cond.instanceMethod ({ cls := "java/lang/String", name := "indexOf", desc := "(I)I" } : Jvm.MethodName)) ∈ lw_all := lw_g (lw_at lw_m7 222 rfl) rfl
theorem q1780 : (Jvm.Cond.selects "java/lang/String" ({ cls := "java/lang/String", name := "indexOf", desc := "(I)I" } : Jvm.MethodName) ({ cls := "java/lang/String", name := "indexOf", desc := "(I)I" } : Jvm.MethodName)) ∈ lw_all := lw_g (lw_at lw_m7 223 rfl) rfl
theorem q1781 : (Jvm.Cond.code ({ cls := "java/lang/String", name := "indexOf", desc := "(I)I" } : Jvm.MethodName) prog_45_method_79_code (2 : Nat) (Option.some Jvm.ClassFile.FieldType.int)) ∈ lw_all := lw_g (lw_at lw_m7 224 rfl) rfl
theorem q1782 : (Jvm.Cond.methodLink "java/lang/String" (633 : Nat) ({ cls := "java/lang/String", name := "indexOf", desc := "(II)I" } : Jvm.MethodName)) ∈ lw_all := lw_g (lw_at lw_m7 225 rfl) rfl
theorem q1783 : (Jvm.Cond.instanceMethod ({ cls := "java/lang/String", name := "indexOf", desc := "(II)I" } : Jvm.MethodName)) ∈ lw_all := lw_g (lw_at lw_m7 226 rfl) rfl
theorem q1784 : (Jvm.Cond.selects "java/lang/String" ({ cls := "java/lang/String", name := "indexOf", desc := "(II)I" } : Jvm.MethodName) ({ cls := "java/lang/String", name := "indexOf", desc := "(II)I" } : Jvm.MethodName)) ∈ lw_all := lw_g (lw_at lw_m7 227 rfl) rfl
theorem q1785 : (Jvm.Cond.code ({ cls := "java/lang/String", name := "indexOf", desc := "(II)I" } : Jvm.MethodName) prog_45_method_80_code (3 : Nat) (Option.some Jvm.ClassFile.FieldType.int)) ∈ lw_all := lw_g (lw_at lw_m7 228 rfl) rfl
theorem q1786 : (Jvm.Cond.methodLink "java/lang/String" (505 : Nat) ({ cls := "java/lang/String", name := "length", desc := "()I" } : Jvm.MethodName)) ∈ lw_all := lw_g (lw_at lw_m7 229 rfl) rfl
theorem q1787 : (Jvm.Cond.methodLink "java/lang/String" (637 : Nat) ({ cls := "java/lang/StringLatin1", name := "indexOf", desc := "([BIII)I" } : Jvm.MethodName)) ∈ lw_all := lw_g (lw_at lw_m7 230 rfl) rfl
theorem q1798 : (Jvm.Cond.methodLink "java/lang/String" (640 : Nat) ({ cls := "java/lang/StringUTF16", name := "indexOf", desc := "([BIII)I" } : Jvm.MethodName)) ∈ lw_all := lw_g (lw_at lw_m8 1 rfl) rfl
theorem q1837 : (Jvm.Cond.selects "java/lang/String" ({ cls := "java/lang/CharSequence", name := "subSequence", desc := "(II)Ljava/lang/CharSequence;" } : Jvm.MethodName) ({ cls := "java/lang/String", name := "subSequence", desc := "(II)Ljava/lang/CharSequence;" } : Jvm.MethodName)) ∈ lw_all := lw_g (lw_at lw_m8 40 rfl) rfl
theorem q1838 : (Jvm.Cond.unhidden "java/lang/String" "subSequence" "(II)Ljava/lang/CharSequence;") ∈ lw_tbl := lw_at lw_m8 41 rfl
theorem q1839 : (Jvm.Cond.instanceMethod ({ cls := "java/lang/String", name := "subSequence", desc := "(II)Ljava/lang/CharSequence;" } : Jvm.MethodName)) ∈ lw_all := lw_g (lw_at lw_m8 42 rfl) rfl
theorem q1840 : (Jvm.Cond.publicMethod ({ cls := "java/lang/String", name := "subSequence", desc := "(II)Ljava/lang/CharSequence;" } : Jvm.MethodName)) ∈ lw_tbl := lw_at lw_m8 43 rfl
theorem q1841 : (Jvm.Cond.code ({ cls := "java/lang/String", name := "subSequence", desc := "(II)Ljava/lang/CharSequence;" } : Jvm.MethodName) prog_45_method_93_code (3 : Nat) (Option.some (Jvm.ClassFile.FieldType.object "java/lang/CharSequence"))) ∈ lw_all := lw_g (lw_at lw_m8 44 rfl) rfl
theorem q1842 : (Jvm.Cond.methodLink "java/lang/String" (681 : Nat) ({ cls := "java/lang/String", name := "substring", desc := "(II)Ljava/lang/String;" } : Jvm.MethodName)) ∈ lw_all := lw_g (lw_at lw_m8 45 rfl) rfl
theorem q1843 : (Jvm.Cond.instanceMethod ({ cls := "java/lang/String", name := "substring", desc := "(II)Ljava/lang/String;" } : Jvm.MethodName)) ∈ lw_all := lw_g (lw_at lw_m8 46 rfl) rfl
theorem q1844 : (Jvm.Cond.selects "java/lang/String" ({ cls := "java/lang/String", name := "substring", desc := "(II)Ljava/lang/String;" } : Jvm.MethodName) ({ cls := "java/lang/String", name := "substring", desc := "(II)Ljava/lang/String;" } : Jvm.MethodName)) ∈ lw_all := lw_g (lw_at lw_m8 47 rfl) rfl
theorem q1845 : (Jvm.Cond.code ({ cls := "java/lang/String", name := "substring", desc := "(II)Ljava/lang/String;" } : Jvm.MethodName) prog_45_method_92_code (5 : Nat) (Option.some (Jvm.ClassFile.FieldType.object "java/lang/String"))) ∈ lw_all := lw_g (lw_at lw_m8 48 rfl) rfl
theorem q1846 : (Jvm.Cond.methodLink "java/lang/String" (521 : Nat) ({ cls := "java/lang/String", name := "checkBoundsBeginEnd", desc := "(III)V" } : Jvm.MethodName)) ∈ lw_all := lw_g (lw_at lw_m8 49 rfl) rfl
theorem q1847 : (Jvm.Cond.methodLink "java/lang/String" (685 : Nat) ({ cls := "java/lang/StringLatin1", name := "newString", desc := "([BII)Ljava/lang/String;" } : Jvm.MethodName)) ∈ lw_all := lw_g (lw_at lw_m8 50 rfl) rfl
theorem q1854 : (Jvm.Cond.instanceMethod ({ cls := "java/lang/String", name := "<init>", desc := "([BB)V" } : Jvm.MethodName)) ∈ lw_all := lw_g (lw_at lw_m8 57 rfl) rfl
theorem q1855 : (Jvm.Cond.code ({ cls := "java/lang/String", name := "<init>", desc := "([BB)V" } : Jvm.MethodName) prog_45_method_151_code (3 : Nat) (Option.none : Option Jvm.ClassFile.FieldType)) ∈ lw_all := lw_g (lw_at lw_m8 58 rfl) rfl
theorem q1856 : (Jvm.Cond.methodLink "java/lang/String" (689 : Nat) ({ cls := "java/lang/StringUTF16", name := "newString", desc := "([BII)Ljava/lang/String;" } : Jvm.MethodName)) ∈ lw_all := lw_g (lw_at lw_m8 59 rfl) rfl
theorem q1889 : (Jvm.Cond.selects "java/lang/String" ({ cls := "java/lang/CharSequence", name := "toString", desc := "()Ljava/lang/String;" } : Jvm.MethodName) ({ cls := "java/lang/String", name := "toString", desc := "()Ljava/lang/String;" } : Jvm.MethodName)) ∈ lw_all := lw_g (lw_at lw_m8 92 rfl) rfl
theorem q1890 : (Jvm.Cond.unhidden "java/lang/String" "toString" "()Ljava/lang/String;") ∈ lw_tbl := lw_at lw_m8 93 rfl
theorem q1891 : (Jvm.Cond.instanceMethod ({ cls := "java/lang/String", name := "toString", desc := "()Ljava/lang/String;" } : Jvm.MethodName)) ∈ lw_all := lw_g (lw_at lw_m8 94 rfl) rfl
theorem q1892 : (Jvm.Cond.publicMethod ({ cls := "java/lang/String", name := "toString", desc := "()Ljava/lang/String;" } : Jvm.MethodName)) ∈ lw_tbl := lw_at lw_m8 95 rfl
theorem q1893 : (Jvm.Cond.code ({ cls := "java/lang/String", name := "toString", desc := "()Ljava/lang/String;" } : Jvm.MethodName) prog_45_method_126_code (1 : Nat) (Option.some (Jvm.ClassFile.FieldType.object "java/lang/String"))) ∈ lw_all := lw_g (lw_at lw_m8 96 rfl) rfl
theorem q2623 : (Jvm.Cond.instanceMethod ({ cls := "java/lang/String", name := "isEmpty", desc := "()Z" } : Jvm.MethodName)) ∈ lw_all := lw_g (lw_at lw_m11 106 rfl) rfl
theorem q2624 : (Jvm.Cond.selects "java/lang/String" ({ cls := "java/lang/String", name := "isEmpty", desc := "()Z" } : Jvm.MethodName) ({ cls := "java/lang/String", name := "isEmpty", desc := "()Z" } : Jvm.MethodName)) ∈ lw_all := lw_g (lw_at lw_m11 107 rfl) rfl
theorem q2625 : (Jvm.Cond.code ({ cls := "java/lang/String", name := "isEmpty", desc := "()Z" } : Jvm.MethodName) prog_45_method_55_code (1 : Nat) (Option.some Jvm.ClassFile.FieldType.boolean)) ∈ lw_all := lw_g (lw_at lw_m11 108 rfl) rfl
theorem q3336 : (Jvm.Cond.castable "java/lang/String" "java/lang/Object") ∈ lw_tbl := lw_at lw_m14 99 rfl
theorem in_J7 : ∀ w ∈ wsJ70, w ∈ lw_all := lw_in wsJ70 [669, 671, 673, 675] (by decide +kernel) (by decide +kernel)

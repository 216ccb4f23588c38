/-! THE LOGIC for the component: the start's other words, casts, rows of references, statics, texts, copies (printed by gen/mklo.py) -/
section LO
def srL : List (String × Nat × String × Nat) := [("java/util/Arrays", 337, " > ", 0), ("java/lang/StringLatin1", 151, "", 1), ("java/util/ArrayList", 201, "Index: ", 2), ("java/util/ArrayList", 203, ", Size: ", 3), ("java/util/LinkedList", 100, "Index: ", 4), ("java/util/LinkedList", 109, ", Size: ", 5), ("java/util/ArrayDeque", 35, "Sorry, deque too big", 6), ("java/lang/StringUTF16", 295, "", 7), ("java/lang/Throwable", 81, ": ", 8), ("DanceNotation", 62, "", 9), ("DanceNotation$Cue", 13, "!", 10), ("DanceNotation$Phrase", 77, "c", 11), ("DanceNotation$Phrase", 91, ":", 12), ("DanceNotation$Mirrored", 30, "m", 13), ("DanceNotation$Reversed", 30, "r", 14), ("DanceNotation$Several", 76, "", 15), ("DanceNotation$Several", 78, "|", 16), ("DanceNotation$Several", 80, ";", 17), ("DanceNotation$Dance$Planner", 124, "", 18), ("DanceNotation$Dance$Planner", 71, "nesw.", 19), ("DanceNotation$Parser", 114, "nesw.", 20), ("DanceNotation$Node", 45, "(", 21), ("DanceNotation$Node", 47, "", 22), ("DanceNotation$Node", 59, ")", 23)]
def stL : List (String × String × String × (Nat ⊕ Int32)) := [("java/util/ArrayList", "DEFAULTCAPACITY_EMPTY_ELEMENTDATA", "[Ljava/lang/Object;", .inl 48), ("java/util/ArrayList", "EMPTY_ELEMENTDATA", "[Ljava/lang/Object;", .inl 49), ("java/lang/Integer", "DigitOnes", "[B", .inl 50), ("java/lang/Integer", "DigitTens", "[B", .inl 51), ("java/lang/String", "COMPACT_STRINGS", "Z", .inr 1), ("DanceNotation$Verb", "PLACE", "LDanceNotation$Verb;", .inl 53), ("DanceNotation$Verb", "PIECE", "LDanceNotation$Verb;", .inl 54), ("DanceNotation$Verb", "FORMATION", "LDanceNotation$Verb;", .inl 55), ("java/lang/Integer$IntegerCache", "high", "I", .inr 127), ("java/lang/Integer$IntegerCache", "cache", "[Ljava/lang/Integer;", .inl 52)]
def ldL : List (String × MethodName × MethodName) := [("DanceNotation$Cue", ⟨"DanceNotation$Node", "used", "()I"⟩, ⟨"DanceNotation$Parts", "used", "()I"⟩), ("DanceNotation$Mirrored", ⟨"DanceNotation$Node", "used", "()I"⟩, ⟨"DanceNotation$Parts", "used", "()I"⟩), ("DanceNotation$Leaf", ⟨"DanceNotation$Leaf", "used", "()I"⟩, ⟨"DanceNotation$Parts", "used", "()I"⟩), ("DanceNotation$Repeat", ⟨"DanceNotation$Node", "used", "()I"⟩, ⟨"DanceNotation$Parts", "used", "()I"⟩), ("DanceNotation$Reversed", ⟨"DanceNotation$Node", "used", "()I"⟩, ⟨"DanceNotation$Parts", "used", "()I"⟩), ("DanceNotation$Several", ⟨"DanceNotation$Node", "used", "()I"⟩, ⟨"DanceNotation$Parts", "used", "()I"⟩), ("DanceNotation$Cue", ⟨"DanceNotation$Node", "depth", "()I"⟩, ⟨"DanceNotation$Parts", "depth", "()I"⟩), ("DanceNotation$Mirrored", ⟨"DanceNotation$Node", "depth", "()I"⟩, ⟨"DanceNotation$Parts", "depth", "()I"⟩), ("DanceNotation$Phrase", ⟨"DanceNotation$Node", "depth", "()I"⟩, ⟨"DanceNotation$Parts", "depth", "()I"⟩), ("DanceNotation$Repeat", ⟨"DanceNotation$Node", "depth", "()I"⟩, ⟨"DanceNotation$Parts", "depth", "()I"⟩), ("DanceNotation$Reversed", ⟨"DanceNotation$Node", "depth", "()I"⟩, ⟨"DanceNotation$Parts", "depth", "()I"⟩), ("DanceNotation$Several", ⟨"DanceNotation$Node", "depth", "()I"⟩, ⟨"DanceNotation$Parts", "depth", "()I"⟩), ("DanceNotation$Cue", ⟨"DanceNotation$Node", "nodes", "()I"⟩, ⟨"DanceNotation$Parts", "nodes", "()I"⟩), ("DanceNotation$Mirrored", ⟨"DanceNotation$Node", "nodes", "()I"⟩, ⟨"DanceNotation$Parts", "nodes", "()I"⟩), ("DanceNotation$Phrase", ⟨"DanceNotation$Node", "nodes", "()I"⟩, ⟨"DanceNotation$Parts", "nodes", "()I"⟩), ("DanceNotation$Repeat", ⟨"DanceNotation$Node", "nodes", "()I"⟩, ⟨"DanceNotation$Parts", "nodes", "()I"⟩), ("DanceNotation$Reversed", ⟨"DanceNotation$Node", "nodes", "()I"⟩, ⟨"DanceNotation$Parts", "nodes", "()I"⟩), ("DanceNotation$Several", ⟨"DanceNotation$Node", "nodes", "()I"⟩, ⟨"DanceNotation$Parts", "nodes", "()I"⟩)]
def ncL : List (String × String) := [("DanceNotation$Repeat", "DanceNotation$Several"), ("DanceNotation$Cue", "DanceNotation$Several"), ("DanceNotation$Phrase", "DanceNotation$Several"), ("DanceNotation$Mirrored", "DanceNotation$Several"), ("DanceNotation$Reversed", "DanceNotation$Several"), ("DanceNotation$Cue", "DanceNotation$Repeat"), ("DanceNotation$Phrase", "DanceNotation$Repeat"), ("DanceNotation$Mirrored", "DanceNotation$Repeat"), ("DanceNotation$Reversed", "DanceNotation$Repeat"), ("DanceNotation$Several", "DanceNotation$Repeat"), ("java/lang/IndexOutOfBoundsException", "java/lang/IllegalArgumentException"), ("java/util/NoSuchElementException", "java/lang/IllegalArgumentException"), ("java/lang/IllegalStateException", "java/lang/IllegalArgumentException"), ("java/lang/UnsupportedOperationException", "java/lang/IllegalArgumentException"), ("DanceNotation$SyntaxException", "java/lang/IllegalArgumentException"), ("DanceNotation$RefusedException", "java/lang/IllegalArgumentException"), ("java/lang/ArithmeticException", "java/lang/IllegalArgumentException"), ("java/lang/IllegalArgumentException", "java/lang/IndexOutOfBoundsException"), ("java/util/NoSuchElementException", "java/lang/IndexOutOfBoundsException"), ("java/lang/IllegalStateException", "java/lang/IndexOutOfBoundsException"), ("java/lang/UnsupportedOperationException", "java/lang/IndexOutOfBoundsException"), ("DanceNotation$SyntaxException", "java/lang/IndexOutOfBoundsException"), ("DanceNotation$RefusedException", "java/lang/IndexOutOfBoundsException"), ("java/lang/ArithmeticException", "java/lang/IndexOutOfBoundsException"), ("java/lang/IllegalArgumentException", "java/lang/UnsupportedOperationException"), ("java/lang/IndexOutOfBoundsException", "java/lang/UnsupportedOperationException"), ("java/util/NoSuchElementException", "java/lang/UnsupportedOperationException"), ("java/lang/IllegalStateException", "java/lang/UnsupportedOperationException"), ("DanceNotation$SyntaxException", "java/lang/UnsupportedOperationException"), ("DanceNotation$RefusedException", "java/lang/UnsupportedOperationException"), ("java/lang/ArithmeticException", "java/lang/UnsupportedOperationException"), ("java/lang/IllegalArgumentException", "DanceNotation$SyntaxException"), ("java/lang/IndexOutOfBoundsException", "DanceNotation$SyntaxException"), ("java/util/NoSuchElementException", "DanceNotation$SyntaxException"), ("java/lang/IllegalStateException", "DanceNotation$SyntaxException"), ("java/lang/UnsupportedOperationException", "DanceNotation$SyntaxException"), ("DanceNotation$RefusedException", "DanceNotation$SyntaxException"), ("java/lang/ArithmeticException", "DanceNotation$SyntaxException"), ("java/lang/IllegalArgumentException", "DanceNotation$RefusedException"), ("java/lang/IndexOutOfBoundsException", "DanceNotation$RefusedException"), ("java/util/NoSuchElementException", "DanceNotation$RefusedException"), ("java/lang/IllegalStateException", "DanceNotation$RefusedException"), ("java/lang/UnsupportedOperationException", "DanceNotation$RefusedException"), ("DanceNotation$SyntaxException", "DanceNotation$RefusedException"), ("java/lang/ArithmeticException", "DanceNotation$RefusedException"), ("java/lang/IllegalArgumentException", "java/util/NoSuchElementException"), ("java/lang/IndexOutOfBoundsException", "java/util/NoSuchElementException"), ("java/lang/IllegalStateException", "java/util/NoSuchElementException"), ("java/lang/UnsupportedOperationException", "java/util/NoSuchElementException"), ("DanceNotation$SyntaxException", "java/util/NoSuchElementException"), ("DanceNotation$RefusedException", "java/util/NoSuchElementException"), ("java/lang/ArithmeticException", "java/util/NoSuchElementException"), ("java/lang/IllegalArgumentException", "java/lang/IllegalStateException"), ("java/lang/IndexOutOfBoundsException", "java/lang/IllegalStateException"), ("java/util/NoSuchElementException", "java/lang/IllegalStateException"), ("java/lang/UnsupportedOperationException", "java/lang/IllegalStateException"), ("DanceNotation$SyntaxException", "java/lang/IllegalStateException"), ("DanceNotation$RefusedException", "java/lang/IllegalStateException"), ("java/lang/ArithmeticException", "java/lang/IllegalStateException"), ("DanceNotation$Repeat", "DanceNotation$Mirrored"), ("DanceNotation$Cue", "DanceNotation$Mirrored"), ("DanceNotation$Phrase", "DanceNotation$Mirrored"), ("DanceNotation$Reversed", "DanceNotation$Mirrored"), ("DanceNotation$Several", "DanceNotation$Mirrored"), ("DanceNotation$Repeat", "DanceNotation$Reversed"), ("DanceNotation$Cue", "DanceNotation$Reversed"), ("DanceNotation$Phrase", "DanceNotation$Reversed"), ("DanceNotation$Mirrored", "DanceNotation$Reversed"), ("DanceNotation$Several", "DanceNotation$Reversed"), ("DanceNotation$Repeat", "DanceNotation$Phrase"), ("DanceNotation$Cue", "DanceNotation$Phrase"), ("DanceNotation$Mirrored", "DanceNotation$Phrase"), ("DanceNotation$Reversed", "DanceNotation$Phrase"), ("DanceNotation$Several", "DanceNotation$Phrase"), ("java/lang/IllegalArgumentException", "java/lang/ArithmeticException"), ("java/lang/IndexOutOfBoundsException", "java/lang/ArithmeticException"), ("java/util/NoSuchElementException", "java/lang/ArithmeticException"), ("java/lang/IllegalStateException", "java/lang/ArithmeticException"), ("java/lang/UnsupportedOperationException", "java/lang/ArithmeticException"), ("DanceNotation$SyntaxException", "java/lang/ArithmeticException"), ("DanceNotation$RefusedException", "java/lang/ArithmeticException")]
def miL : List (String × Nat) := [("[Ljava/lang/Object;", 400), ("java/util/ArrayList", 401), ("java/util/LinkedList", 402), ("java/util/ArrayDeque", 403)]
/-- words that don't ride in the lists, beside those of nwk -/
def nwk2 : Cond → Bool
  | .interfaceMethod _ _ _ _ => true
  | .publicMethod _ => true
  | .unhidden _ _ _ => true
  | .castable _ _ => true
  | .declares _ => true
  | .arrayOver _ => true
  | .interfaceEntry _ _ => true
  | _ => false
def stV (g : GB) (x : Nat ⊕ Int32) : Value := match x with
  | .inl i => .ref (g.2.2.2.2 i)
  | .inr v => .int v
/-- the lambdas of a score's rules -/
def lamN (i : Nat) : String := match i with
  | 0 => "lambda$new$0"
  | 1 => "lambda$new$1"
  | 2 => "lambda$new$2"
  | _ => "lambda$new$3"
def lamS (i : Nat) : Lambda.Shape := { iface := "DanceNotation$StepRule", name := "of", sam := { parameters := [.char], returnType := some .char }, captured := [], kind := 6, implClass := "DanceNotation$Score", implName := lamN i, implDesc := { parameters := [.char], returnType := some .char }, implItf := false, inst := { parameters := [.char], returnType := some .char } }
/-- what is linked at their sites -/
def lamD (g : GB) (U : State) : Prop := ∀ i : Nat, i < 4 → ∃ (m : MethodId) (k : Class) (i0 p0 : Nat) (c : ClassId) (cell : Cell), U.methodNamed? ⟨"DanceNotation$Score", "<init>", "(I)V"⟩ = some m ∧ U.vm.classes[m.cls]? = some k ∧ (k.callSites.find? fun y => y.1 == m.idx && y.2.1 == 11 + 8 * i) = some (i0, p0, .constant (g.2.2.2.2 (56 + i))) ∧ Lambda.isMade { classPath := fun _ => none } U.vm m.cls (lamS i) c = true ∧ U.lambdaCallable (lamS i) c = true ∧ g.2.2.2.2 (56 + i) < gB g ∧ g.2.2.1[g.2.2.2.2 (56 + i)]? = some cell ∧ cell.cls = c ∧ cell.vm = .none
/-- WHAT THE START'S OTHER WORDS SAY, of a state U: all that stays true while tables are warmed; the constants' addresses are g's -/
def gKD (g : GB) (U : State) : Prop :=
  (∀ w ∈ lw_tbl, nwk2 w = true → w.before #[] U = true) ∧
  (∀ w ∈ defaultWords_1, w.before #[] U = true) ∧
  (∀ (i : Nat) (x : String × MethodName × MethodName), ldL[i]? = some x → (Cond.landsInDefault x.1 x.2.1 x.2.2).before #[] U = true) ∧
  (∀ (i : Nat) (x : String × String), ncL[i]? = some x → va_Nc x.1 x.2 U) ∧
  (∀ (i : Nat) (x : String × Nat × String × Nat), srL[i]? = some x → vk_R x.1 x.2.1 x.2.2.1 (g.2.2.2.2 x.2.2.2) U) ∧
  (∀ (i : Nat) (x : String × String × String × (Nat ⊕ Int32)), stL[i]? = some x → va_Z x.1 x.2.1 x.2.2.1 (stV g x.2.2.2) (gA g) U g.2.2.1) ∧
  (∀ (i : Nat) (x : String × Nat), miL[i]? = some x → va_Mi x.1 (g.2.2.2.2 x.2) U) ∧
  (∀ j : Nat, j < 3 → va_OF "java/lang/Enum" "ordinal" "I" (.int (Int32.ofNat j)) (g.2.2.2.2 (53 + j)) (gA g) U g.2.2.1 ∧ va_O "DanceNotation$Verb" (g.2.2.2.2 (53 + j)) (gA g) U g.2.2.1) ∧
  va_T (.object "java/lang/Integer") (g.2.2.2.2 52) 256 (fun j => .ref (g.2.2.2.2 (64 + j))) (gA g) U g.2.2.1 ∧
  (vx_Zq Bundle.tN "UNASSIGNED_STACK" Bundle.steD (gA g) U g.2.2.1 ∧ vx_Zq Bundle.tN "SUPPRESSED_SENTINEL" Bundle.listD (gA g) U g.2.2.1) ∧
  (∀ t : Nat, t < 4 → ∃ q : Option Nat, va_Z "jdk/internal/util/Preconditions" "SIOOBE_FORMATTER" "Ljava/util/function/BiFunction;" (va_rf q) (gA g) U g.2.2.1) ∧
  lamD g U
def GKx (g : GB) : Prop := ∀ U : State, g.2.2.2.1 U → gKD g U
variable {g : GB} {M : MI} {d c k : Nat} {Q : RS → HM → Prop} {pc : Nat} {ls : List (Option Value)} {st : List Value} {h : HM}
section
variable {p : Program} {l : Launch} {R : Room} {s : State} {m : MethodId} {args : Array Value} {meth : Method} {cd : Code}
theorem Fix.z (F : Fix g M d p l R s m args meth cd) {C n dd : String} {v : Value} (hZ : va_Z C n dd v (gA g) s g.2.2.1) : va_Z C n dd v (gA g) s s.heap := hZ.kept (fun a ha _ => F.low2 a ha)
theorem recv (F : Fix g M d p l R s m args meth cd) {H : Heap} (hR : Rel g h H) {a ci N : Nat} {C : String} {T : u_T} {fs : List Value} (hb : h a = some (.inr (ci, fs))) (hci : clG[ci]? = some (C, T, N)) : ∃ cell : Cell, H[a]? = some cell ∧ cell.vm.isStatics = false ∧ s.vm.findClass C = some cell.cls := by
  obtain ⟨q', h1, cell, g1, g2, -, -, g3, -⟩ := hR.rd hb
  have hK := (F.kn.1 ci _ hci).2
  exact ⟨cell, g1, g3, by rw [g2]; exact hK.1⟩
theorem recvA (F : Fix g M d p l R s m args meth cd) {H : Heap} (hR : Rel g h H) {a t : Nat} {ty : FieldType} {x : vp_A} (ha : h a = some (.inl (t, x))) (ht : tyL[t]? = some ty) : ∃ cell : Cell, H[a]? = some cell ∧ cell.vm.isStatics = false ∧ s.vm.findClass ("[" ++ ty.toString) = some cell.cls := by
  obtain ⟨cell, q1, q2, q3, q5, -⟩ := hR.rd ha
  exact ⟨cell, q1, q5, by rw [q2]; exact (F.kn.2.1 t ty ht).2⟩
end
theorem cO : ∀ (ci : Nat) (r : vw_C), clG[ci]? = some r → (Jvm.Cond.castable r.1 "java/lang/Object") ∈ lw_tbl := by
  intro ci r h
  match ci, h with
  | 0, h => cases h; exact q3313
  | 1, h => cases h; exact q3314
  | 2, h => cases h; exact q3318
  | 3, h => cases h; exact q3322
  | 4, h => cases h; exact q3327
  | 5, h => cases h; exact q3329
  | 6, h => cases h; exact q3331
  | 7, h => cases h; exact q3332
  | 8, h => cases h; exact q3333
  | 9, h => cases h; exact q3335
  | 10, h => cases h; exact q3337
  | 11, h => cases h; exact q3338
  | 12, h => cases h; exact q3339
  | 13, h => cases h; exact q3340
  | 14, h => cases h; exact q3341
  | 15, h => cases h; exact q3342
  | 16, h => cases h; exact q3345
  | 17, h => cases h; exact q3315
  | 18, h => cases h; exact q3316
  | 19, h => cases h; exact q3317
  | 20, h => cases h; exact q3336
  | 21, h => cases h; exact q3349
  | 22, h => cases h; exact q3319
  | 23, h => cases h; exact q3321
  | 24, h => cases h; exact q3320
  | 25, h => cases h; exact q3324
  | 26, h => cases h; exact q3325
  | 27, h => cases h; exact q3326
  | 28, h => cases h; exact q3328
  | 29, h => cases h; exact q3330
  | 30, h => cases h; exact q3334
  | 31, h => cases h; exact q3343
  | 32, h => cases h; exact q3344
  | 33, h => cases h; exact q3347
  | 34, h => cases h; exact q3348
  | n + 35, h => cases h
theorem cOA : ∀ (t : Nat) (ty : FieldType), tyL[t]? = some ty → (Jvm.Cond.castable ("[" ++ ty.toString) "java/lang/Object") ∈ lw_tbl := by
  intro t ty h
  match t, h with
  | 0, h => cases h; exact q3353
  | 1, h => cases h; exact q3360
  | 2, h => cases h; exact q3355
  | 3, h => cases h; exact q3358
  | 4, h => cases h; exact q3361
  | 5, h => cases h; exact q3362
  | 6, h => cases h; exact q3352
  | 7, h => cases h; exact q3357
  | 8, h => cases h; exact q3359
  | 9, h => cases h; exact q3354
  | 10, h => cases h; exact q3356
  | n + 11, h => cases h
/-! casts -/
theorem ev_castY {idx a ci N : Nat} {C nm : String} {T : u_T} {fs : List Value} (hd : decode M.2.1 pc = .ok (.checkcast idx, 3)) (hw : (Jvm.Cond.classLink M.1.cls idx nm) ∈ lw_all) (hb : h a = some (.inr (ci, fs))) (hci : clG[ci]? = some (C, T, N)) (hc : C = nm ∨ (Jvm.Cond.castable C nm) ∈ lw_tbl) (kk : Ev g M d c k Q (pc + 3) ls (.ref a :: st) h) : Ev g M d c k Q pc ls (.ref a :: st) h := by
  intro p l e R s m args below meth cd H locs cells slots mc ms lz F hc' hk hmc hms hL hR hz hl
  have hr := recv F hR hb hci
  have w := kk p l e R s m args below meth cd H locs cells slots mc ms lz F hc' hk hmc hms hL hR hz hl
  rcases hc with rfl | hc
  · exact va_castE F.1 F.2.1 F.own (F.words _ hw) hr hd w
  · exact va_castY F.1 F.2.1 F.own (F.words _ hw) (F.nw _ hc rfl) hr hd w
theorem ev_castA {idx a t : Nat} {nm : String} {ty : FieldType} {x : vp_A} (hd : decode M.2.1 pc = .ok (.checkcast idx, 3)) (hw : (Jvm.Cond.classLink M.1.cls idx nm) ∈ lw_all) (ha : h a = some (.inl (t, x))) (ht : tyL[t]? = some ty) (hn : "[" ++ ty.toString = nm) (kk : Ev g M d c k Q (pc + 3) ls (.ref a :: st) h) : Ev g M d c k Q pc ls (.ref a :: st) h := by
  intro p l e R s m args below meth cd H locs cells slots mc ms lz F hc' hk hmc hms hL hR hz hl
  subst hn
  exact va_castE F.1 F.2.1 F.own (F.words _ hw) (recvA F hR ha ht) hd (kk p l e R s m args below meth cd H locs cells slots mc ms lz F hc' hk hmc hms hL hR hz hl)
theorem ev_instY {idx a ci N : Nat} {C nm : String} {T : u_T} {fs : List Value} (hd : decode M.2.1 pc = .ok (.instanceof idx, 3)) (hw : (Jvm.Cond.classLink M.1.cls idx nm) ∈ lw_all) (hb : h a = some (.inr (ci, fs))) (hci : clG[ci]? = some (C, T, N)) (hc : C = nm) (kk : Ev g M d c k Q (pc + 3) ls (.int 1 :: st) h) : Ev g M d c k Q pc ls (.ref a :: st) h := by
  intro p l e R s m args below meth cd H locs cells slots mc ms lz F hc' hk hmc hms hL hR hz hl
  subst hc
  exact va_instE F.1 F.2.1 F.own (F.words _ hw) (recv F hR hb hci) hd (kk p l e R s m args below meth cd H locs cells slots mc ms lz F hc' hk hmc hms hL hR hz hl)
theorem ev_instN {idx a ci N i : Nat} {C nm : String} {T : u_T} {fs : List Value} (hG : GKx g) (hd : decode M.2.1 pc = .ok (.instanceof idx, 3)) (hw : (Jvm.Cond.classLink M.1.cls idx nm) ∈ lw_all) (hb : h a = some (.inr (ci, fs))) (hci : clG[ci]? = some (C, T, N)) (hi : ncL[i]? = some (C, nm)) (kk : Ev g M d c k Q (pc + 3) ls (.int 0 :: st) h) : Ev g M d c k Q pc ls (.ref a :: st) h := by
  intro p l e R s m args below meth cd H locs cells slots mc ms lz F hc' hk hmc hms hL hR hz hl
  exact va_instNo F.1 F.2.1 F.own (F.words _ hw) ((hG s F.gk).2.2.2.1 i _ hi) (recv F hR hb hci) hd (kk p l e R s m args below meth cd H locs cells slots mc ms lz F hc' hk hmc hms hL hR hz hl)
/-! statics, texts, class objects -/
theorem ev_gets {idx i : Nat} {x : String × String × String × (Nat ⊕ Int32)} (hG : GKx g) (hd : decode M.2.1 pc = .ok (.getstatic idx, 3)) (hi : stL[i]? = some x) (hw : (Jvm.Cond.fieldLink M.1.cls idx x.1 x.2.1 x.2.2.1) ∈ lw_all) (kk : Ev g M d c k Q (pc + 3) ls (stV g x.2.2.2 :: st) h) : Ev g M d c k Q pc ls st h := by
  intro p l e R s m args below meth cd H locs cells slots mc ms lz F hc' hk hmc hms hL hR hz hl
  exact va_gets F.1 F.2.1 (F.z ((hG s F.gk).2.2.2.2.2.1 i x hi)) (F.vaS hR hz hl) F.own (F.words _ hw) (fun _ q => q) hd (kk p l e R s m args below meth cd H locs cells slots mc ms lz F hc' hk hmc hms hL hR hz hl)
theorem ev_ldcS {idx i : Nat} {tx : String} (hG : GKx g) (hd : decode M.2.1 pc = .ok (.ldc idx, 2)) (hi : srL[i]? = some (M.1.cls, idx, tx, i)) (kk : Ev g M d c k Q (pc + 2) ls (.ref (g.2.2.2.2 i) :: st) h) : Ev g M d c k Q pc ls st h := by
  intro p l e R s m args below meth cd H locs cells slots mc ms lz F hc' hk hmc hms hL hR hz hl
  exact va_ldcS F.1 F.2.1 F.own ((hG s F.gk).2.2.2.2.1 i _ hi) hd (kk p l e R s m args below meth cd H locs cells slots mc ms lz F hc' hk hmc hms hL hR hz hl)
theorem ev_ldcM {idx i n : Nat} {C : String} (hG : GKx g) (hd : decode M.2.1 pc = .ok (.ldc idx, 2)) (hw : (Jvm.Cond.classLink M.1.cls idx C) ∈ lw_all) (hi : miL[i]? = some (C, n)) (kk : Ev g M d c k Q (pc + 2) ls (.ref (g.2.2.2.2 n) :: st) h) : Ev g M d c k Q pc ls st h := by
  intro p l e R s m args below meth cd H locs cells slots mc ms lz F hc' hk hmc hms hL hR hz hl
  exact va_ldcM F.1 F.2.1 F.own (F.words _ hw) ((hG s F.gk).2.2.2.2.2.2.1 i _ hi) hd (kk p l e R s m args below meth cd H locs cells slots mc ms lz F hc' hk hmc hms hL hR hz hl)
theorem va_up_rf (f : Nat → Option Nat) (i : Nat) (v : Option Nat) : (fun q => va_rf (va_up f i v q)) = updV (fun q => va_rf (f q)) i (va_rf v) := by
  funext q
  by_cases hq : q = i
  · subst hq; simp [updV, va_up]
  · simp [updV, va_up, hq]
/-! rows of references: a store -/
theorem ev_aast {a n t v : Nat} {ty : FieldType} {f : Nat → Option Nat} {i : Int32} (hd : decode M.2.1 pc = .ok (.aastore, 1)) (ha : h a = some (.inl (t, (n, .inr (.inr (.inr (.inr f))))))) (ht : tyL[t]? = some ty) (href : ty.isReference = true) (hB : gB g ≤ a) (hin : vp_in i n)
    (hv : ∀ (s : State) (H : Heap), g.2.2.2.1 s → KnG g s → NW s → Rel g h H → va_Any (cnm ty) s H v)
    (kk : Ev g M d c k Q (pc + 1) ls st (hs h a (.inl (t, (n, .inr (.inr (.inr (.inr (va_up f i.toNatClampNeg (some v)))))))))) : Ev g M d c k Q pc ls (.ref v :: .int i :: .ref a :: st) h := by
  intro p l e R s m args below meth cd H locs cells slots mc ms lz F hc hk hmc hms hL hR hz hl
  have hlt : i.toNatClampNeg < n := Nat.not_le.mp fun q => hin (Or.inr q)
  have h0 : ¬ i < 0 := fun q => hin (Or.inl q)
  obtain ⟨cellV, g1, g3, ⟨kC, hkC⟩, hasg⟩ := hv s H F.gk F.kn F.nw hR
  obtain ⟨kA, comp, kE, k1, k2, k3, hkE⟩ := F.kn.2.2 t ty ht href
  refine W.aast F.1 F.2.1 (hR.at hB ha) (fun q h => by cases h) (fun h => by cases h) k1 k2 href hkE ⟨h0, by show _ < (arrV _ _ _).slots.size; rw [arrV_size]; exact hlt⟩ g1 (fun q h => by rw [h] at g3; cases g3) hkC (hasg _ k3) rfl rfl hd fun H1 e1 z oq => ?_
  refine kk p l e R s m args below meth cd H1 _ cells slots mc ms lz F hc hk hmc hms hL (hR.set hB z oq ?_) (by rw [z]; exact hz) (locs_add hl hB)
  show H1[a]? = some (vp_cell _ _)
  rw [e1]
  show some ((vp_cell _ _).setSlot _ _) = _
  rw [vp_cell_q, vp_cell_q, arrV_store, va_up_rf]
  rfl
end LO

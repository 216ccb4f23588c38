/-! THE LOGIC: a heap as a function, one judgement Ev, a rule for each kind of instruction (printed by gen/mklg.py) -/
section LG
/-- a cell: an array (number of its type in tyL, length and contents) or an object (number of its class in clG, fields) -/
abbrev MO : Type := (Nat × vp_A) ⊕ (Nat × List Value)
abbrev HM : Type := Nat → Option MO
/-- how a method ends: with an answer, or with an object of the class thrown -/
abbrev RS : Type := Option Value ⊕ (String × Nat)
/-- the run's fixed things: classes and slots, array classes, the heap at the start, what the tables say, constants' addresses -/
abbrev GB : Type := va_G × (Nat → ClassId) × Heap × (State → Prop) × (Nat → Nat)
/-- a method: name, code, locals, answer, handlers -/
abbrev MI : Type := MethodName × ByteArray × Nat × Option FieldType × Option (List (Nat × Nat × Nat × Nat))
def gB (g : GB) : Nat := g.2.2.1.size
def gA (g : GB) : Nat → Prop := fun q => gB g ≤ q
def toE (g : GB) (e : MO) : va_E := match e with
  | .inl x => .inl (g.2.1 x.1, x.2)
  | .inr o => .inr o
def hs (h : HM) (q : Nat) (e : MO) : HM := fun x => if x = q then some e else h x
def tyL : List FieldType := [.int, .boolean, .byte, .char, .long, .double, .array .int, .array .char, .array .boolean, .object "java/lang/Object", .object "DanceNotation$StepRule"]
/-- a type's class's name -/
def cnm : FieldType → String
  | .object C => C
  | t => t.toString
/-- an array of references: its component is the class of that name -/
def RAx (U : State) (cA : ClassId) (ty : FieldType) : Prop := ∃ (kA : Class) (comp : ClassId) (kc : Class), U.vm.classes[cA]? = some kA ∧ kA.kind = .array comp ty ∧ U.vm.findClass (cnm ty) = some comp ∧ U.vm.classes[comp]? = some kc
def KnG (g : GB) (U : State) : Prop := (∀ (c : Nat) (q : vw_C), clG[c]? = some q → u_Kn U q.1 q.2.1 q.2.2 (g.1.1 c) (g.1.2 c)) ∧ (∀ (t : Nat) (ty : FieldType), tyL[t]? = some ty → ArrOfT U (g.2.1 t) ty ∧ U.vm.findClass ("[" ++ ty.toString) = some (g.2.1 t)) ∧ ∀ (t : Nat) (ty : FieldType), tyL[t]? = some ty → ty.isReference = true → RAx U (g.2.1 t) ty
/-- words that don't ride in the lists, and stay true under warming -/
def nwk : Cond → Bool
  | .fieldLinkNest _ _ _ _ _ _ => true
  | .methodLinkNest _ _ _ _ => true
  | .declares _ => true
  | .castable _ _ => true
  | .privateMethod _ => true
  | _ => false
def NW (U : State) : Prop := ∀ w ∈ lw_tbl, nwk w = true → w.before #[] U = true
def GBase (g : GB) : Prop := (∀ s U : State, s.WarmedH U.vm → g.2.2.2.1 s → g.2.2.2.1 U) ∧ ∀ U : State, g.2.2.2.1 U → KnG g U ∧ NW U
/-- classes of which objects lie below: texts, small Integers -/
def lowK (ci : Nat) : Bool := ci == 20 || ci == 30
/-- what is read of a cell (one that was there before may hold more: a lock, a hash) -/
def rd_at (g : GB) (q : Nat) (e : MO) (H : Heap) : Prop := match e with
  | .inl x => ∃ cell : Cell, H[q]? = some cell ∧ cell.cls = g.2.1 x.1 ∧ cell.vm ≠ .unknown ∧ cell.vm.isStatics = false ∧ x.2.1 ≤ cell.slots.size ∧ cell.slots.size.toInt32 = Int32.ofNat x.2.1 ∧ ∀ j : Nat, j < x.2.1 → cell.slots[j]? = (vp_cell (g.2.1 x.1) x.2).slots[j]?
  | .inr o => ∃ r : vw_C, clG[o.1]? = some r ∧ ∃ cell : Cell, H[q]? = some cell ∧ cell.cls = g.1.1 o.1 ∧ (lowK o.1 = false → cell.vm = .none) ∧ cell.vm ≠ .unknown ∧ cell.vm.isStatics = false ∧ ∀ k : Nat, k < r.2.2 → (o.1 = 20 → k < 2) → cell.slots[g.1.2 o.1 k]? = some (vp_V o.2 k)
theorem rd_of {g : GB} {q : Nat} {e : MO} {H : Heap} (h : va_at g.1 clG (q, toE g e) H) : rd_at g q e H := by
  cases e with
  | inl x =>
    obtain ⟨t, n, f | f | f | f | f⟩ := x <;> refine ⟨_, h, rfl, (fun q => by cases q), rfl, ?_, ?_, fun _ _ => rfl⟩ <;> first | (show n ≤ (arrV _ _ _).slots.size; rw [arrV_size]; exact Nat.le_refl n) | (show (arrV _ _ _).slots.size.toInt32 = _; rw [arrV_size] <;> rfl)
  | inr o =>
    obtain ⟨r, h1, cell, h2, h3, h4, h5⟩ := h
    exact ⟨r, h1, cell, h2, h3, fun _ => h4, (by rw [h4]; exact fun q => (by cases q)), (by rw [h4]; rfl), fun k hk _ => h5 k hk⟩
theorem rd_at.kept {g : GB} {q : Nat} {e : MO} {H H1 : Heap} (h : rd_at g q e H) (hq : H1[q]? = H[q]?) : rd_at g q e H1 := by
  cases e with
  | inl x => obtain ⟨cell, h1, h2⟩ := h; exact ⟨cell, hq.trans h1, h2⟩
  | inr o => obtain ⟨r, h0, cell, h1, h2⟩ := h; exact ⟨r, h0, cell, hq.trans h1, h2⟩
theorem rd_at.lt {g : GB} {q : Nat} {e : MO} {H : Heap} (h : rd_at g q e H) : q < H.size := by
  cases e with
  | inl x => obtain ⟨cell, h1, h2⟩ := h; exact (Array.getElem?_eq_some_iff.mp h1).1
  | inr o => obtain ⟨r, h0, cell, h1, h2⟩ := h; exact (Array.getElem?_eq_some_iff.mp h1).1
theorem arr_of {U : State} {cA : ClassId} {ty : FieldType} {cell : Cell} (h : ArrOfT U cA ty) (hc : cell.cls = cA) (hs : cell.vm.isStatics = false) : U.isArrayOf cell ty := ⟨fun k q => (by rw [q] at hs; cases hs), by rw [hc]; exact (h 0 (fun _ => .null)).2⟩
def Rel (g : GB) (h : HM) (H : Heap) : Prop := gB g ≤ H.size ∧ (∀ q : Nat, q < gB g → H[q]? = g.2.2.1[q]?) ∧ ∀ (q : Nat) (e : MO), h q = some e → rd_at g q e H ∧ (gB g ≤ q → va_at g.1 clG (q, toE g e) H)
theorem Rel.at {g : GB} {h : HM} {H : Heap} (r : Rel g h H) {q : Nat} {e : MO} (hB : gB g ≤ q) (hq : h q = some e) : va_at g.1 clG (q, toE g e) H := (r.2.2 q e hq).2 hB
theorem Rel.rd {g : GB} {h : HM} {H : Heap} (r : Rel g h H) {q : Nat} {e : MO} (hq : h q = some e) : rd_at g q e H := (r.2.2 q e hq).1
theorem Rel.set {g : GB} {h : HM} {H H1 : Heap} {a : Nat} {e : MO} (r : Rel g h H) (ha : gB g ≤ a) (z : H1.size = H.size) (o : ∀ q : Nat, q ≠ a → H1[q]? = H[q]?) (he : va_at g.1 clG (a, toE g e) H1) : Rel g (hs h a e) H1 := by
  obtain ⟨r1, r2, r3⟩ := r
  refine ⟨by rw [z]; exact r1, fun q hq => by rw [o q (by omega)]; exact r2 q hq, fun q e' hq => ?_⟩
  unfold hs at hq
  by_cases hqa : q = a
  · rw [if_pos hqa] at hq
    cases hq
    rw [hqa]; exact ⟨rd_of he, fun _ => he⟩
  · rw [if_neg hqa] at hq
    exact ⟨(r3 q e' hq).1.kept (o q hqa), fun hB => ((r3 q e' hq).2 hB).kept (o q hqa)⟩
theorem Rel.lt {g : GB} {h : HM} {H : Heap} (r : Rel g h H) {q : Nat} {e : MO} (hq : h q = some e) : q < H.size := (r.2.2 q e hq).1.lt
theorem Rel.push {g : GB} {h : HM} {H H1 : Heap} {e : MO} (r : Rel g h H) (z : H1.size = H.size + 1) (o : ∀ q : Nat, q < H.size → H1[q]? = H[q]?) (he : va_at g.1 clG (H.size, toE g e) H1) : Rel g (hs h H.size e) H1 := by
  obtain ⟨r1, r2, r3⟩ := id r
  refine ⟨by omega, fun q hq => by rw [o q (by omega)]; exact r2 q hq, fun q e' hq => ?_⟩
  unfold hs at hq
  by_cases hqa : q = H.size
  · rw [if_pos hqa] at hq
    cases hq
    rw [hqa]; exact ⟨rd_of he, fun _ => he⟩
  · rw [if_neg hqa] at hq
    exact ⟨(r3 q e' hq).1.kept (o q (r.lt hq)), fun hB => ((r3 q e' hq).2 hB).kept (o q (r.lt hq))⟩
theorem Rel.kept {g : GB} {h : HM} {H H1 : Heap} (r : Rel g h H) (z : H.size ≤ H1.size) (o : ∀ q : Nat, q < H.size → H1[q]? = H[q]?) : Rel g h H1 := by
  obtain ⟨r1, r2, r3⟩ := id r
  exact ⟨by omega, fun q hq => by rw [o q (by omega)]; exact r2 q hq, fun q e' hq => ⟨(r3 q e' hq).1.kept (o q (r.lt hq)), fun hB => ((r3 q e' hq).2 hB).kept (o q (r.lt hq))⟩⟩
theorem Rel.fresh {g : GB} {h : HM} {H : Heap} (r : Rel g h H) : h H.size = none := by
  cases hc : h H.size with
  | none => rfl
  | some e => exact absurd (r.lt hc) (Nat.lt_irrefl _)
theorem Rel.low {g : GB} {h : HM} {H : Heap} (r : Rel g h H) : Rel g h H := r
/-! locals -/
def slotO : Slot → Option Value
  | .val v => some v
  | _ => none
def Lr (lz : Array Slot) (nL : Nat) (ls : List (Option Value)) : Prop := lz.size = nL ∧ lv_wf lz ∧ ∀ (i : Nat) (v : Value), ls[i]? = some (some v) → lz[i]? = some (.val v)
def lsE (nL : Nat) (vs : List Value) : List (Option Value) := (lg_sl vs ++ List.replicate (nL - (lg_sl vs).length) Slot.unset).map slotO
theorem Lr.entry (vs : List Value) {n : Nat} (h : (lg_sl vs).length ≤ n) : Lr ((lg_sl vs ++ List.replicate (n - (lg_sl vs).length) Slot.unset).toArray) n (lsE n vs) := by
  obtain ⟨h1, h2, -⟩ := lv_entry vs h
  refine ⟨h1, h2, fun i v hi => ?_⟩
  unfold lsE at hi
  rw [List.getElem?_map] at hi
  simp only [List.getElem?_toArray]
  cases hc : (lg_sl vs ++ List.replicate (n - (lg_sl vs).length) Slot.unset)[i]? with
  | none => rw [hc] at hi; cases hi
  | some x =>
    rw [hc] at hi
    cases x with
    | val w => simp only [Option.map_some, slotO, Option.some.injEq] at hi; rw [hi]
    | unset => simp [slotO] at hi
    | second => simp [slotO] at hi
def okP (ls : List (Option Value)) : Nat → Bool
  | 0 => true
  | i + 1 => match ls[i]? with
    | some (some v) => v.category == 1
    | _ => true
theorem Lr.store {lz : Array Slot} {nL i : Nat} {ls : List (Option Value)} {v : Value} (h : Lr lz nL ls) (hi : i < nL) (hc : v.category = 1) (hp : okP ls i = true) : ∃ lz', storeLocals lz i v = some lz' ∧ Lr lz' nL (ls.set i (some v)) := by
  obtain ⟨lz', e1, h1⟩ := lv_store1 (l := []) ⟨h.1, h.2.1, fun q hq => nomatch hq⟩ hi hc
  refine ⟨lz', e1, h1.1, h1.2.1, fun j w hj => ?_⟩
  by_cases hij : i = j
  · subst hij
    rw [List.getElem?_set_self'] at hj
    cases hx : ls[i]? with
    | none => rw [hx] at hj; cases hj
    | some y =>
      rw [hx] at hj
      simp only [Option.map_eq_map, Option.map_some, Option.some.injEq] at hj
      have hv : v = w := by simpa using hj
      subst hv
      exact h1.2.2 (i, v) List.mem_cons_self
  · rw [List.getElem?_set_ne hij] at hj
    obtain ⟨lz2, e2, h2⟩ := lv_store1 (l := [(j, w)]) ⟨h.1, h.2.1, fun q hq => by rw [List.mem_singleton.mp hq]; exact h.2.2 j w hj⟩ hi hc
    cases Option.some.inj (e1.symm.trans e2)
    refine h2.2.2 (j, w) (List.mem_cons_of_mem _ (List.mem_filter.mpr ⟨List.mem_singleton.mpr rfl, ?_⟩))
    have hji : ¬ j = i := fun q => hij q.symm
    have hw : ¬ (j + 1 = i ∧ w.category = 2) := by
      rintro ⟨q1, q2⟩
      subst q1
      simp only [okP, hj, q2] at hp
      exact absurd hp (by decide)
    simp only [Bool.and_eq_true, Bool.not_eq_true', beq_eq_false_iff_ne, ne_eq, Bool.and_eq_false_iff]
    refine ⟨hji, ?_⟩
    by_cases q1 : j + 1 = i
    · exact Or.inr (fun q2 => hw ⟨q1, q2⟩)
    · exact Or.inl q1
theorem Lr.store2 {lz : Array Slot} {nL i : Nat} {ls : List (Option Value)} {v : Value} (h : Lr lz nL ls) (hi : i + 1 < nL) (hc : v.category = 2) (hp : okP ls i = true) : ∃ lz', storeLocals lz i v = some lz' ∧ Lr lz' nL ((ls.set i (some v)).set (i + 1) none) := by
  obtain ⟨lz', e1, h1⟩ := lv_store2 (l := []) ⟨h.1, h.2.1, fun q hq => nomatch hq⟩ hi hc
  refine ⟨lz', e1, h1.1, h1.2.1, fun j w hj => ?_⟩
  by_cases hi1 : i + 1 = j
  · subst hi1
    rw [List.getElem?_set_self'] at hj
    cases hx : (ls.set i (some v))[i + 1]? with
    | none => rw [hx] at hj; cases hj
    | some y =>
      rw [hx] at hj
      simp at hj
  · rw [List.getElem?_set_ne hi1] at hj
    by_cases hij : i = j
    · subst hij
      rw [List.getElem?_set_self'] at hj
      cases hx : ls[i]? with
      | none => rw [hx] at hj; cases hj
      | some y =>
        rw [hx] at hj
        have hv : v = w := by simpa using hj
        subst hv
        exact h1.2.2 (i, v) List.mem_cons_self
    · rw [List.getElem?_set_ne hij] at hj
      obtain ⟨lz2, e2, h2⟩ := lv_store2 (l := [(j, w)]) ⟨h.1, h.2.1, fun q hq => by rw [List.mem_singleton.mp hq]; exact h.2.2 j w hj⟩ hi hc
      cases Option.some.inj (e1.symm.trans e2)
      refine h2.2.2 (j, w) (List.mem_cons_of_mem _ (List.mem_filter.mpr ⟨List.mem_singleton.mpr rfl, ?_⟩))
      have hji : ¬ j = i := fun q => hij q.symm
      have hj1 : ¬ j = i + 1 := fun q => hi1 q.symm
      have hw : ¬ (j + 1 = i ∧ w.category = 2) := by
        rintro ⟨q1, q2⟩
        subst q1
        simp only [okP, hj, q2] at hp
        exact absurd hp (by decide)
      simp only [Bool.and_eq_true, Bool.not_eq_true', beq_eq_false_iff_ne, ne_eq, Bool.and_eq_false_iff]
      refine ⟨hji, hj1, ?_⟩
      by_cases q1 : j + 1 = i
      · exact Or.inr (fun q2 => hw ⟨q1, q2⟩)
      · exact Or.inl q1
/-! the judgement -/
def hTab (M : MI) : List ExceptionTableEntry := match M.2.2.2.2 with
  | none => []
  | some hh => tableOf hh
def Fix (g : GB) (M : MI) (d : Nat) (p : Program) (l : Launch) (R : Room) (s : State) (m : MethodId) (args : Array Value) (meth : Method) (cd : Code) : Prop :=
  p.tables.exec = Jvm.exec ∧ cd.code = M.2.1 ∧ cd.maxLocals = M.2.2.1 ∧ meth.sig.returnType = M.2.2.2.1 ∧ meth.locks = false ∧ s.vm.findClass M.1.cls = some m.cls ∧ (∀ w ∈ lw_all, w.before args s = true) ∧ g.2.2.2.1 s ∧ d ≤ R.frames ∧ 64 * d ≤ R.locals ∧ meth.name = M.1.name ∧ cd.exceptionTable.toList = hTab M ∧ l.stackTraces = false ∧ GBase g ∧ gB g ≤ s.heap.size ∧ (∀ q : Nat, q < gB g → s.heap[q]? = g.2.2.1[q]?) ∧ s.methodNamed? M.1 = some m
def rQ (g : GB) (Q : RS → HM → Prop) : Array Value → State → Outcome → State → Prop := fun _ st o t => ∃ (v : Option Value) (h' : HM), o = .returned v ∧ Q (.inl v) h' ∧ Rel g h' t.heap ∧ st.heap.size ≤ t.heap.size
def xQ (g : GB) (Q : RS → HM → Prop) : String → Addr → State → State → Prop := fun E q st t => ∃ h' : HM, Q (.inr (E, q)) h' ∧ Rel g h' t.heap ∧ st.heap.size ≤ t.heap.size
def EQ (g : GB) (below : List Frame) (Q : RS → HM → Prop) (args : Array Value) (s : State) (mc ms : Nat) : State → Prop := vx_MQ below (rQ g Q) (xQ g Q) args s mc ms (gA g)
def Ev (g : GB) (M : MI) (d c k : Nat) (Q : RS → HM → Prop) (pc : Nat) (ls : List (Option Value)) (st : List Value) (h : HM) : Prop :=
  ∀ (p : Program) (l : Launch) (e : Env) (R : Room) (s : State) (m : MethodId) (args : Array Value) (below : List Frame) (meth : Method) (cd : Code) (H : Heap) (locs : List Loc) (cells slots mc ms : Nat) (lz : Array Slot),
    Fix g M d p l R s m args meth cd → cells + c ≤ mc → slots + k ≤ ms → mc ≤ R.cells → ms ≤ R.slots → Lr lz M.2.2.1 ls → Rel g h H → s.heap.size ≤ H.size → (∀ z ∈ locs, gA g z.base) →
    W p l e R s m args below meth cd H locs cells slots (EQ g below Q args s mc ms) (F0 m pc lz st)
/-- .. with q of the class E thrown at pc -/
def EvX (g : GB) (M : MI) (d c k : Nat) (Q : RS → HM → Prop) (pc : Nat) (ls : List (Option Value)) (h : HM) (E : String) (q : Nat) : Prop :=
  ∀ (p : Program) (l : Launch) (e : Env) (R : Room) (s : State) (m : MethodId) (args : Array Value) (below : List Frame) (meth : Method) (cd : Code) (H : Heap) (locs : List Loc) (cells slots mc ms : Nat) (lz : Array Slot) (ce : Cell) (rest : List Value),
    Fix g M d p l R s m args meth cd → cells + c ≤ mc → slots + k ≤ ms → mc ≤ R.cells → ms ≤ R.slots → Lr lz M.2.2.1 ls → Rel g h H → s.heap.size ≤ H.size → (∀ z ∈ locs, gA g z.base) → H[q]? = some ce → ce.vm = .none → s.vm.findClass E = some ce.cls →
    vx_W p l e R s m args below meth cd H locs cells slots (EQ g below Q args s mc ms) (F0 m pc lz rest) q
variable {g : GB} {M : MI} {d c k : Nat} {Q : RS → HM → Prop} {pc : Nat} {ls : List (Option Value)} {st : List Value} {h : HM}
theorem Ev.le {c' k' : Nat} (hc' : c' ≤ c) (hk' : k' ≤ k) (kk : Ev g M d c' k' Q pc ls st h) : Ev g M d c k Q pc ls st h :=
  fun p l e R s m args below meth cd H locs cells slots mc ms lz F hc hk => kk p l e R s m args below meth cd H locs cells slots mc ms lz F (by omega) (by omega)
theorem Ev.eq {pc' : Nat} {ls' : List (Option Value)} {st' : List Value} {h' : HM} (kk : Ev g M d c k Q pc' ls' st' h') (e1 : pc = pc') (e2 : ls = ls') (e3 : st = st') (e4 : h = h') : Ev g M d c k Q pc ls st h := by subst e1; subst e2; subst e3; subst e4; exact kk

theorem ev_iconst {n : Int} (hd : decode M.2.1 pc = .ok (.iconst n, 1)) (kk : Ev g M d c k Q (pc + 1) ls (.int (Int32.ofInt n) :: st) h) : Ev g M d c k Q pc ls st h := by
  intro p l e R s m args below meth cd H locs cells slots mc ms lz F hc hk hmc hms hL hR hz hl
  exact lv_iconst F.1 F.2.1 hd rfl (kk p l e R s m args below meth cd H locs cells slots mc ms lz F hc hk hmc hms hL hR hz hl)
theorem ev_bipush {n : Int} {v : Int32} (hd : decode M.2.1 pc = .ok (.bipush n, 2)) (hv : (Int8.ofInt n).toInt32 = v) (kk : Ev g M d c k Q (pc + 2) ls (.int v :: st) h) : Ev g M d c k Q pc ls st h := by
  intro p l e R s m args below meth cd H locs cells slots mc ms lz F hc hk hmc hms hL hR hz hl
  exact lv_bipush F.1 F.2.1 hd hv (kk p l e R s m args below meth cd H locs cells slots mc ms lz F hc hk hmc hms hL hR hz hl)
theorem ev_sipush {n : Int} {v : Int32} (hd : decode M.2.1 pc = .ok (.sipush n, 3)) (hv : (Int16.ofInt n).toInt32 = v) (kk : Ev g M d c k Q (pc + 3) ls (.int v :: st) h) : Ev g M d c k Q pc ls st h := by
  intro p l e R s m args below meth cd H locs cells slots mc ms lz F hc hk hmc hms hL hR hz hl
  exact lv_sipush F.1 F.2.1 hd hv (kk p l e R s m args below meth cd H locs cells slots mc ms lz F hc hk hmc hms hL hR hz hl)
theorem ev_lconst {n : Fin 2} (hd : decode M.2.1 pc = .ok (.lconst n, 1)) (kk : Ev g M d c k Q (pc + 1) ls (.long (Int64.ofNat n) :: st) h) : Ev g M d c k Q pc ls st h := by
  intro p l e R s m args below meth cd H locs cells slots mc ms lz F hc hk hmc hms hL hR hz hl
  exact lv_lconst F.1 F.2.1 hd rfl (kk p l e R s m args below meth cd H locs cells slots mc ms lz F hc hk hmc hms hL hR hz hl)
theorem ev_null (hd : decode M.2.1 pc = .ok (.aconst_null, 1)) (kk : Ev g M d c k Q (pc + 1) ls (.null :: st) h) : Ev g M d c k Q pc ls st h := by
  intro p l e R s m args below meth cd H locs cells slots mc ms lz F hc hk hmc hms hL hR hz hl
  exact lv_null F.1 F.2.1 hd (kk p l e R s m args below meth cd H locs cells slots mc ms lz F hc hk hmc hms hL hR hz hl)
theorem ev_iadd {x y : Int32} (hd : decode M.2.1 pc = .ok (.iadd, 1)) (kk : Ev g M d c k Q (pc + 1) ls (.int (x + y) :: st) h) : Ev g M d c k Q pc ls (.int y :: .int x :: st) h := by
  intro p l e R s m args below meth cd H locs cells slots mc ms lz F hc hk hmc hms hL hR hz hl
  exact lv_iadd F.1 F.2.1 hd (kk p l e R s m args below meth cd H locs cells slots mc ms lz F hc hk hmc hms hL hR hz hl)
theorem ev_isub {x y : Int32} (hd : decode M.2.1 pc = .ok (.isub, 1)) (kk : Ev g M d c k Q (pc + 1) ls (.int (x - y) :: st) h) : Ev g M d c k Q pc ls (.int y :: .int x :: st) h := by
  intro p l e R s m args below meth cd H locs cells slots mc ms lz F hc hk hmc hms hL hR hz hl
  exact lv_isub F.1 F.2.1 hd (kk p l e R s m args below meth cd H locs cells slots mc ms lz F hc hk hmc hms hL hR hz hl)
theorem ev_imul {x y : Int32} (hd : decode M.2.1 pc = .ok (.imul, 1)) (kk : Ev g M d c k Q (pc + 1) ls (.int (x * y) :: st) h) : Ev g M d c k Q pc ls (.int y :: .int x :: st) h := by
  intro p l e R s m args below meth cd H locs cells slots mc ms lz F hc hk hmc hms hL hR hz hl
  exact lv_imul F.1 F.2.1 hd (kk p l e R s m args below meth cd H locs cells slots mc ms lz F hc hk hmc hms hL hR hz hl)
theorem ev_iand {x y : Int32} (hd : decode M.2.1 pc = .ok (.iand, 1)) (kk : Ev g M d c k Q (pc + 1) ls (.int (x &&& y) :: st) h) : Ev g M d c k Q pc ls (.int y :: .int x :: st) h := by
  intro p l e R s m args below meth cd H locs cells slots mc ms lz F hc hk hmc hms hL hR hz hl
  exact lv_iand F.1 F.2.1 hd (kk p l e R s m args below meth cd H locs cells slots mc ms lz F hc hk hmc hms hL hR hz hl)
theorem ev_ior {x y : Int32} (hd : decode M.2.1 pc = .ok (.ior, 1)) (kk : Ev g M d c k Q (pc + 1) ls (.int (x ||| y) :: st) h) : Ev g M d c k Q pc ls (.int y :: .int x :: st) h := by
  intro p l e R s m args below meth cd H locs cells slots mc ms lz F hc hk hmc hms hL hR hz hl
  exact lv_ior F.1 F.2.1 hd (kk p l e R s m args below meth cd H locs cells slots mc ms lz F hc hk hmc hms hL hR hz hl)
theorem ev_ixor {x y : Int32} (hd : decode M.2.1 pc = .ok (.ixor, 1)) (kk : Ev g M d c k Q (pc + 1) ls (.int (x ^^^ y) :: st) h) : Ev g M d c k Q pc ls (.int y :: .int x :: st) h := by
  intro p l e R s m args below meth cd H locs cells slots mc ms lz F hc hk hmc hms hL hR hz hl
  exact lv_ixor F.1 F.2.1 hd (kk p l e R s m args below meth cd H locs cells slots mc ms lz F hc hk hmc hms hL hR hz hl)
theorem ev_ishl {x y : Int32} (hd : decode M.2.1 pc = .ok (.ishl, 1)) (kk : Ev g M d c k Q (pc + 1) ls (.int (x <<< (y &&& 31)) :: st) h) : Ev g M d c k Q pc ls (.int y :: .int x :: st) h := by
  intro p l e R s m args below meth cd H locs cells slots mc ms lz F hc hk hmc hms hL hR hz hl
  exact lv_ishl F.1 F.2.1 hd (kk p l e R s m args below meth cd H locs cells slots mc ms lz F hc hk hmc hms hL hR hz hl)
theorem ev_ishr {x y : Int32} (hd : decode M.2.1 pc = .ok (.ishr, 1)) (kk : Ev g M d c k Q (pc + 1) ls (.int (x >>> (y &&& 31)) :: st) h) : Ev g M d c k Q pc ls (.int y :: .int x :: st) h := by
  intro p l e R s m args below meth cd H locs cells slots mc ms lz F hc hk hmc hms hL hR hz hl
  exact lv_ishr F.1 F.2.1 hd (kk p l e R s m args below meth cd H locs cells slots mc ms lz F hc hk hmc hms hL hR hz hl)
theorem ev_iushr {x y : Int32} (hd : decode M.2.1 pc = .ok (.iushr, 1)) (kk : Ev g M d c k Q (pc + 1) ls (.int (x.toUInt32 >>> (y.toUInt32 &&& Int32.toUInt32 31)).toInt32 :: st) h) : Ev g M d c k Q pc ls (.int y :: .int x :: st) h := by
  intro p l e R s m args below meth cd H locs cells slots mc ms lz F hc hk hmc hms hL hR hz hl
  exact lv_iushr F.1 F.2.1 hd rfl (kk p l e R s m args below meth cd H locs cells slots mc ms lz F hc hk hmc hms hL hR hz hl)
theorem ev_idiv {x y : Int32} (hd : decode M.2.1 pc = .ok (.idiv, 1)) (hne : ¬ y = 0) (kk : Ev g M d c k Q (pc + 1) ls (.int (x / y) :: st) h) : Ev g M d c k Q pc ls (.int y :: .int x :: st) h := by
  intro p l e R s m args below meth cd H locs cells slots mc ms lz F hc hk hmc hms hL hR hz hl
  exact lv_idiv F.1 F.2.1 hd hne (kk p l e R s m args below meth cd H locs cells slots mc ms lz F hc hk hmc hms hL hR hz hl)
theorem ev_irem {x y : Int32} (hd : decode M.2.1 pc = .ok (.irem, 1)) (hne : ¬ y = 0) (kk : Ev g M d c k Q (pc + 1) ls (.int (x - x / y * y) :: st) h) : Ev g M d c k Q pc ls (.int y :: .int x :: st) h := by
  intro p l e R s m args below meth cd H locs cells slots mc ms lz F hc hk hmc hms hL hR hz hl
  exact lv_irem F.1 F.2.1 hd hne (kk p l e R s m args below meth cd H locs cells slots mc ms lz F hc hk hmc hms hL hR hz hl)
theorem ev_ineg {x : Int32} (hd : decode M.2.1 pc = .ok (.ineg, 1)) (kk : Ev g M d c k Q (pc + 1) ls (.int (-x) :: st) h) : Ev g M d c k Q pc ls (.int x :: st) h := by
  intro p l e R s m args below meth cd H locs cells slots mc ms lz F hc hk hmc hms hL hR hz hl
  exact lv_ineg F.1 F.2.1 hd (kk p l e R s m args below meth cd H locs cells slots mc ms lz F hc hk hmc hms hL hR hz hl)
theorem ev_i2l {x : Int32} (hd : decode M.2.1 pc = .ok (.i2l, 1)) (kk : Ev g M d c k Q (pc + 1) ls (.long x.toInt64 :: st) h) : Ev g M d c k Q pc ls (.int x :: st) h := by
  intro p l e R s m args below meth cd H locs cells slots mc ms lz F hc hk hmc hms hL hR hz hl
  exact lv_i2l F.1 F.2.1 hd rfl (kk p l e R s m args below meth cd H locs cells slots mc ms lz F hc hk hmc hms hL hR hz hl)
theorem ev_i2b {x : Int32} (hd : decode M.2.1 pc = .ok (.i2b, 1)) (kk : Ev g M d c k Q (pc + 1) ls (.int x.toInt8.toInt32 :: st) h) : Ev g M d c k Q pc ls (.int x :: st) h := by
  intro p l e R s m args below meth cd H locs cells slots mc ms lz F hc hk hmc hms hL hR hz hl
  exact lv_i2b F.1 F.2.1 hd rfl (kk p l e R s m args below meth cd H locs cells slots mc ms lz F hc hk hmc hms hL hR hz hl)
theorem ev_i2c {x : Int32} (hd : decode M.2.1 pc = .ok (.i2c, 1)) (kk : Ev g M d c k Q (pc + 1) ls (.int (x.toUInt32 % 65536).toInt32 :: st) h) : Ev g M d c k Q pc ls (.int x :: st) h := by
  intro p l e R s m args below meth cd H locs cells slots mc ms lz F hc hk hmc hms hL hR hz hl
  exact lv_i2c F.1 F.2.1 hd rfl (kk p l e R s m args below meth cd H locs cells slots mc ms lz F hc hk hmc hms hL hR hz hl)
theorem ev_i2f {x : Int32} (hd : decode M.2.1 pc = .ok (.i2f, 1)) (kk : Ev g M d c k Q (pc + 1) ls (.float (FP.i2f x) :: st) h) : Ev g M d c k Q pc ls (.int x :: st) h := by
  intro p l e R s m args below meth cd H locs cells slots mc ms lz F hc hk hmc hms hL hR hz hl
  exact lv_i2f F.1 F.2.1 hd (kk p l e R s m args below meth cd H locs cells slots mc ms lz F hc hk hmc hms hL hR hz hl)
theorem ev_i2d {x : Int32} (hd : decode M.2.1 pc = .ok (.i2d, 1)) (kk : Ev g M d c k Q (pc + 1) ls (.double (FP.i2d x) :: st) h) : Ev g M d c k Q pc ls (.int x :: st) h := by
  intro p l e R s m args below meth cd H locs cells slots mc ms lz F hc hk hmc hms hL hR hz hl
  exact lv_i2d F.1 F.2.1 hd (kk p l e R s m args below meth cd H locs cells slots mc ms lz F hc hk hmc hms hL hR hz hl)
theorem ev_fdiv {x y : UInt32} (hd : decode M.2.1 pc = .ok (.fdiv, 1)) (hne : vf_n32 (FP.fdiv x y)) (kk : Ev g M d c k Q (pc + 1) ls (.float (FP.fdiv x y) :: st) h) : Ev g M d c k Q pc ls (.float y :: .float x :: st) h := by
  intro p l e R s m args below meth cd H locs cells slots mc ms lz F hc hk hmc hms hL hR hz hl
  exact lv_fdiv F.1 F.2.1 hd hne (kk p l e R s m args below meth cd H locs cells slots mc ms lz F hc hk hmc hms hL hR hz hl)
theorem ev_ddiv {x y : UInt64} (hd : decode M.2.1 pc = .ok (.ddiv, 1)) (hne : vf_n64 (FP.ddiv x y)) (kk : Ev g M d c k Q (pc + 1) ls (.double (FP.ddiv x y) :: st) h) : Ev g M d c k Q pc ls (.double y :: .double x :: st) h := by
  intro p l e R s m args below meth cd H locs cells slots mc ms lz F hc hk hmc hms hL hR hz hl
  exact lv_ddiv F.1 F.2.1 hd hne (kk p l e R s m args below meth cd H locs cells slots mc ms lz F hc hk hmc hms hL hR hz hl)
theorem ev_f2d {x : UInt32} (hd : decode M.2.1 pc = .ok (.f2d, 1)) (hne : vf_n64 (FP.f2d x)) (kk : Ev g M d c k Q (pc + 1) ls (.double (FP.f2d x) :: st) h) : Ev g M d c k Q pc ls (.float x :: st) h := by
  intro p l e R s m args below meth cd H locs cells slots mc ms lz F hc hk hmc hms hL hR hz hl
  exact lv_f2d F.1 F.2.1 hd hne (kk p l e R s m args below meth cd H locs cells slots mc ms lz F hc hk hmc hms hL hR hz hl)
theorem ev_dcmp {x y : UInt64} {op : CmpOp} (hd : decode M.2.1 pc = .ok (.dcmp op, 1)) (kk : Ev g M d c k Q (pc + 1) ls (.int (Op.cmpValue (FP.dcmp x y) op) :: st) h) : Ev g M d c k Q pc ls (.double y :: .double x :: st) h := by
  intro p l e R s m args below meth cd H locs cells slots mc ms lz F hc hk hmc hms hL hR hz hl
  exact lv_dcmp F.1 F.2.1 hd (kk p l e R s m args below meth cd H locs cells slots mc ms lz F hc hk hmc hms hL hR hz hl)
theorem ev_fcmp {x y : UInt32} {op : CmpOp} (hd : decode M.2.1 pc = .ok (.fcmp op, 1)) (kk : Ev g M d c k Q (pc + 1) ls (.int (Op.cmpValue (FP.fcmp x y) op) :: st) h) : Ev g M d c k Q pc ls (.float y :: .float x :: st) h := by
  intro p l e R s m args below meth cd H locs cells slots mc ms lz F hc hk hmc hms hL hR hz hl
  exact lv_fcmp F.1 F.2.1 hd (kk p l e R s m args below meth cd H locs cells slots mc ms lz F hc hk hmc hms hL hR hz hl)
theorem ev_fconst0 (hd : decode M.2.1 pc = .ok (.fconst 0, 1)) (kk : Ev g M d c k Q (pc + 1) ls (.float FP.fconst0 :: st) h) : Ev g M d c k Q pc ls st h := by
  intro p l e R s m args below meth cd H locs cells slots mc ms lz F hc hk hmc hms hL hR hz hl
  exact lv_fconst0 F.1 F.2.1 hd (kk p l e R s m args below meth cd H locs cells slots mc ms lz F hc hk hmc hms hL hR hz hl)
theorem ev_dconst0 (hd : decode M.2.1 pc = .ok (.dconst 0, 1)) (kk : Ev g M d c k Q (pc + 1) ls (.double FP.dconst0 :: st) h) : Ev g M d c k Q pc ls st h := by
  intro p l e R s m args below meth cd H locs cells slots mc ms lz F hc hk hmc hms hL hR hz hl
  exact lv_dconst0 F.1 F.2.1 hd (kk p l e R s m args below meth cd H locs cells slots mc ms lz F hc hk hmc hms hL hR hz hl)
theorem ev_dup {va : Value} (hd : decode M.2.1 pc = .ok (.dup, 1)) (hva : va.category = 1) (kk : Ev g M d c k Q (pc + 1) ls (va :: va :: st) h) : Ev g M d c k Q pc ls (va :: st) h := by
  intro p l e R s m args below meth cd H locs cells slots mc ms lz F hc hk hmc hms hL hR hz hl
  exact lv_dup F.1 F.2.1 hd hva (kk p l e R s m args below meth cd H locs cells slots mc ms lz F hc hk hmc hms hL hR hz hl)
theorem ev_pop {va : Value} (hd : decode M.2.1 pc = .ok (.pop, 1)) (hva : va.category = 1) (kk : Ev g M d c k Q (pc + 1) ls st h) : Ev g M d c k Q pc ls (va :: st) h := by
  intro p l e R s m args below meth cd H locs cells slots mc ms lz F hc hk hmc hms hL hR hz hl
  exact lv_pop F.1 F.2.1 hd hva (kk p l e R s m args below meth cd H locs cells slots mc ms lz F hc hk hmc hms hL hR hz hl)
theorem ev_dup_x1 {va vb : Value} (hd : decode M.2.1 pc = .ok (.dup_x1, 1)) (hva : va.category = 1) (hvb : vb.category = 1) (kk : Ev g M d c k Q (pc + 1) ls (va :: vb :: va :: st) h) : Ev g M d c k Q pc ls (va :: vb :: st) h := by
  intro p l e R s m args below meth cd H locs cells slots mc ms lz F hc hk hmc hms hL hR hz hl
  exact lv_dup_x1 F.1 F.2.1 hd hva hvb (kk p l e R s m args below meth cd H locs cells slots mc ms lz F hc hk hmc hms hL hR hz hl)
theorem ev_dup2 {va vb : Value} (hd : decode M.2.1 pc = .ok (.dup2, 1)) (hva : va.category = 1) (hvb : vb.category = 1) (kk : Ev g M d c k Q (pc + 1) ls (va :: vb :: va :: vb :: st) h) : Ev g M d c k Q pc ls (va :: vb :: st) h := by
  intro p l e R s m args below meth cd H locs cells slots mc ms lz F hc hk hmc hms hL hR hz hl
  exact lv_dup2_11 F.1 F.2.1 hd hva hvb (kk p l e R s m args below meth cd H locs cells slots mc ms lz F hc hk hmc hms hL hR hz hl)
theorem ev_iload {i : Nat} {x : Int32} (hd : decode M.2.1 pc = .ok (.iload i, 2)) (hv : ls[i]? = some (some (.int x))) (kk : Ev g M d c k Q (pc + 2) ls (.int x :: st) h) : Ev g M d c k Q pc ls st h := by
  intro p l e R s m args below meth cd H locs cells slots mc ms lz F hc hk hmc hms hL hR hz hl
  exact lv_iload F.1 F.2.1 hd (hL.2.2 _ _ hv) (kk p l e R s m args below meth cd H locs cells slots mc ms lz F hc hk hmc hms hL hR hz hl)
theorem ev_iload_n {i : Fin 4} {x : Int32} (hd : decode M.2.1 pc = .ok (.iload_n i, 1)) (hv : ls[(i : Nat)]? = some (some (.int x))) (kk : Ev g M d c k Q (pc + 1) ls (.int x :: st) h) : Ev g M d c k Q pc ls st h := by
  intro p l e R s m args below meth cd H locs cells slots mc ms lz F hc hk hmc hms hL hR hz hl
  exact lv_iload_n F.1 F.2.1 hd rfl (hL.2.2 _ _ hv) (kk p l e R s m args below meth cd H locs cells slots mc ms lz F hc hk hmc hms hL hR hz hl)
theorem ev_lload {i : Nat} {x : Int64} (hd : decode M.2.1 pc = .ok (.lload i, 2)) (hv : ls[i]? = some (some (.long x))) (kk : Ev g M d c k Q (pc + 2) ls (.long x :: st) h) : Ev g M d c k Q pc ls st h := by
  intro p l e R s m args below meth cd H locs cells slots mc ms lz F hc hk hmc hms hL hR hz hl
  exact lv_lload F.1 F.2.1 hd (hL.2.2 _ _ hv) (kk p l e R s m args below meth cd H locs cells slots mc ms lz F hc hk hmc hms hL hR hz hl)
theorem ev_lload_n {i : Fin 4} {x : Int64} (hd : decode M.2.1 pc = .ok (.lload_n i, 1)) (hv : ls[(i : Nat)]? = some (some (.long x))) (kk : Ev g M d c k Q (pc + 1) ls (.long x :: st) h) : Ev g M d c k Q pc ls st h := by
  intro p l e R s m args below meth cd H locs cells slots mc ms lz F hc hk hmc hms hL hR hz hl
  exact lv_lload_n F.1 F.2.1 hd rfl (hL.2.2 _ _ hv) (kk p l e R s m args below meth cd H locs cells slots mc ms lz F hc hk hmc hms hL hR hz hl)
theorem ev_fload {i : Nat} {x : UInt32} (hd : decode M.2.1 pc = .ok (.fload i, 2)) (hv : ls[i]? = some (some (.float x))) (kk : Ev g M d c k Q (pc + 2) ls (.float x :: st) h) : Ev g M d c k Q pc ls st h := by
  intro p l e R s m args below meth cd H locs cells slots mc ms lz F hc hk hmc hms hL hR hz hl
  exact lv_fload F.1 F.2.1 hd (hL.2.2 _ _ hv) (kk p l e R s m args below meth cd H locs cells slots mc ms lz F hc hk hmc hms hL hR hz hl)
theorem ev_fload_n {i : Fin 4} {x : UInt32} (hd : decode M.2.1 pc = .ok (.fload_n i, 1)) (hv : ls[(i : Nat)]? = some (some (.float x))) (kk : Ev g M d c k Q (pc + 1) ls (.float x :: st) h) : Ev g M d c k Q pc ls st h := by
  intro p l e R s m args below meth cd H locs cells slots mc ms lz F hc hk hmc hms hL hR hz hl
  exact lv_fload_n F.1 F.2.1 hd rfl (hL.2.2 _ _ hv) (kk p l e R s m args below meth cd H locs cells slots mc ms lz F hc hk hmc hms hL hR hz hl)
theorem ev_dload {i : Nat} {x : UInt64} (hd : decode M.2.1 pc = .ok (.dload i, 2)) (hv : ls[i]? = some (some (.double x))) (kk : Ev g M d c k Q (pc + 2) ls (.double x :: st) h) : Ev g M d c k Q pc ls st h := by
  intro p l e R s m args below meth cd H locs cells slots mc ms lz F hc hk hmc hms hL hR hz hl
  exact lv_dload F.1 F.2.1 hd (hL.2.2 _ _ hv) (kk p l e R s m args below meth cd H locs cells slots mc ms lz F hc hk hmc hms hL hR hz hl)
theorem ev_dload_n {i : Fin 4} {x : UInt64} (hd : decode M.2.1 pc = .ok (.dload_n i, 1)) (hv : ls[(i : Nat)]? = some (some (.double x))) (kk : Ev g M d c k Q (pc + 1) ls (.double x :: st) h) : Ev g M d c k Q pc ls st h := by
  intro p l e R s m args below meth cd H locs cells slots mc ms lz F hc hk hmc hms hL hR hz hl
  exact lv_dload_n F.1 F.2.1 hd rfl (hL.2.2 _ _ hv) (kk p l e R s m args below meth cd H locs cells slots mc ms lz F hc hk hmc hms hL hR hz hl)
theorem ev_aload {i : Nat} {x : Nat} (hd : decode M.2.1 pc = .ok (.aload i, 2)) (hv : ls[i]? = some (some (.ref x))) (kk : Ev g M d c k Q (pc + 2) ls (.ref x :: st) h) : Ev g M d c k Q pc ls st h := by
  intro p l e R s m args below meth cd H locs cells slots mc ms lz F hc hk hmc hms hL hR hz hl
  exact lv_aload F.1 F.2.1 hd (hL.2.2 _ _ hv) (kk p l e R s m args below meth cd H locs cells slots mc ms lz F hc hk hmc hms hL hR hz hl)
theorem ev_aload_n {i : Fin 4} {x : Nat} (hd : decode M.2.1 pc = .ok (.aload_n i, 1)) (hv : ls[(i : Nat)]? = some (some (.ref x))) (kk : Ev g M d c k Q (pc + 1) ls (.ref x :: st) h) : Ev g M d c k Q pc ls st h := by
  intro p l e R s m args below meth cd H locs cells slots mc ms lz F hc hk hmc hms hL hR hz hl
  exact lv_aload_n F.1 F.2.1 hd rfl (hL.2.2 _ _ hv) (kk p l e R s m args below meth cd H locs cells slots mc ms lz F hc hk hmc hms hL hR hz hl)
theorem ev_aloadN {i : Nat} (hd : decode M.2.1 pc = .ok (.aload i, 2)) (hv : ls[i]? = some (some .null)) (kk : Ev g M d c k Q (pc + 2) ls (.null :: st) h) : Ev g M d c k Q pc ls st h := by
  intro p l e R s m args below meth cd H locs cells slots mc ms lz F hc hk hmc hms hL hR hz hl
  exact lv_aloadN F.1 F.2.1 hd (hL.2.2 _ _ hv) (kk p l e R s m args below meth cd H locs cells slots mc ms lz F hc hk hmc hms hL hR hz hl)
theorem ev_aload_nN {i : Fin 4} (hd : decode M.2.1 pc = .ok (.aload_n i, 1)) (hv : ls[(i : Nat)]? = some (some .null)) (kk : Ev g M d c k Q (pc + 1) ls (.null :: st) h) : Ev g M d c k Q pc ls st h := by
  intro p l e R s m args below meth cd H locs cells slots mc ms lz F hc hk hmc hms hL hR hz hl
  exact lv_aload_nN F.1 F.2.1 hd rfl (hL.2.2 _ _ hv) (kk p l e R s m args below meth cd H locs cells slots mc ms lz F hc hk hmc hms hL hR hz hl)
theorem ev_istore {i : Nat} {x : Int32} (hd : decode M.2.1 pc = .ok (.istore i, 2)) (hi : i < M.2.2.1) (hp : okP ls i = true) (kk : Ev g M d c k Q (pc + 2) (ls.set i (some (.int x))) st h) : Ev g M d c k Q pc ls ((.int x) :: st) h := by
  intro p l e R s m args below meth cd H locs cells slots mc ms lz F hc hk hmc hms hL hR hz hl
  obtain ⟨lz', e', hL'⟩ := hL.store hi (v := (.int x)) rfl hp
  exact ws_istore F.1 F.2.1 hd e' (kk p l e R s m args below meth cd H locs cells slots mc ms lz' F hc hk hmc hms hL' hR hz hl)
theorem ev_istore_n {i : Fin 4} {x : Int32} (hd : decode M.2.1 pc = .ok (.istore_n i, 1)) (hi : (i : Nat) < M.2.2.1) (hp : okP ls (i : Nat) = true) (kk : Ev g M d c k Q (pc + 1) (ls.set (i : Nat) (some (.int x))) st h) : Ev g M d c k Q pc ls ((.int x) :: st) h := by
  intro p l e R s m args below meth cd H locs cells slots mc ms lz F hc hk hmc hms hL hR hz hl
  obtain ⟨lz', e', hL'⟩ := hL.store hi (v := (.int x)) rfl hp
  exact ws_istore_n F.1 F.2.1 hd e' (kk p l e R s m args below meth cd H locs cells slots mc ms lz' F hc hk hmc hms hL' hR hz hl)
theorem ev_fstore {i : Nat} {x : UInt32} (hd : decode M.2.1 pc = .ok (.fstore i, 2)) (hi : i < M.2.2.1) (hp : okP ls i = true) (kk : Ev g M d c k Q (pc + 2) (ls.set i (some (.float x))) st h) : Ev g M d c k Q pc ls ((.float x) :: st) h := by
  intro p l e R s m args below meth cd H locs cells slots mc ms lz F hc hk hmc hms hL hR hz hl
  obtain ⟨lz', e', hL'⟩ := hL.store hi (v := (.float x)) rfl hp
  exact ws_fstore F.1 F.2.1 hd e' (kk p l e R s m args below meth cd H locs cells slots mc ms lz' F hc hk hmc hms hL' hR hz hl)
theorem ev_fstore_n {i : Fin 4} {x : UInt32} (hd : decode M.2.1 pc = .ok (.fstore_n i, 1)) (hi : (i : Nat) < M.2.2.1) (hp : okP ls (i : Nat) = true) (kk : Ev g M d c k Q (pc + 1) (ls.set (i : Nat) (some (.float x))) st h) : Ev g M d c k Q pc ls ((.float x) :: st) h := by
  intro p l e R s m args below meth cd H locs cells slots mc ms lz F hc hk hmc hms hL hR hz hl
  obtain ⟨lz', e', hL'⟩ := hL.store hi (v := (.float x)) rfl hp
  exact ws_fstore_n F.1 F.2.1 hd e' (kk p l e R s m args below meth cd H locs cells slots mc ms lz' F hc hk hmc hms hL' hR hz hl)
theorem ev_astore {i : Nat} {x : Nat} (hd : decode M.2.1 pc = .ok (.astore i, 2)) (hi : i < M.2.2.1) (hp : okP ls i = true) (kk : Ev g M d c k Q (pc + 2) (ls.set i (some (.ref x))) st h) : Ev g M d c k Q pc ls ((.ref x) :: st) h := by
  intro p l e R s m args below meth cd H locs cells slots mc ms lz F hc hk hmc hms hL hR hz hl
  obtain ⟨lz', e', hL'⟩ := hL.store hi (v := (.ref x)) rfl hp
  exact ws_astore F.1 F.2.1 hd e' (kk p l e R s m args below meth cd H locs cells slots mc ms lz' F hc hk hmc hms hL' hR hz hl)
theorem ev_astore_n {i : Fin 4} {x : Nat} (hd : decode M.2.1 pc = .ok (.astore_n i, 1)) (hi : (i : Nat) < M.2.2.1) (hp : okP ls (i : Nat) = true) (kk : Ev g M d c k Q (pc + 1) (ls.set (i : Nat) (some (.ref x))) st h) : Ev g M d c k Q pc ls ((.ref x) :: st) h := by
  intro p l e R s m args below meth cd H locs cells slots mc ms lz F hc hk hmc hms hL hR hz hl
  obtain ⟨lz', e', hL'⟩ := hL.store hi (v := (.ref x)) rfl hp
  exact ws_astore_n F.1 F.2.1 hd e' (kk p l e R s m args below meth cd H locs cells slots mc ms lz' F hc hk hmc hms hL' hR hz hl)
theorem ev_astoreN {i : Nat} (hd : decode M.2.1 pc = .ok (.astore i, 2)) (hi : i < M.2.2.1) (hp : okP ls i = true) (kk : Ev g M d c k Q (pc + 2) (ls.set i (some .null)) st h) : Ev g M d c k Q pc ls (.null :: st) h := by
  intro p l e R s m args below meth cd H locs cells slots mc ms lz F hc hk hmc hms hL hR hz hl
  obtain ⟨lz', e', hL'⟩ := hL.store hi (v := .null) rfl hp
  exact ws_astoreN F.1 F.2.1 hd e' (kk p l e R s m args below meth cd H locs cells slots mc ms lz' F hc hk hmc hms hL' hR hz hl)
theorem ev_astore_nN {i : Fin 4} (hd : decode M.2.1 pc = .ok (.astore_n i, 1)) (hi : (i : Nat) < M.2.2.1) (hp : okP ls (i : Nat) = true) (kk : Ev g M d c k Q (pc + 1) (ls.set (i : Nat) (some .null)) st h) : Ev g M d c k Q pc ls (.null :: st) h := by
  intro p l e R s m args below meth cd H locs cells slots mc ms lz F hc hk hmc hms hL hR hz hl
  obtain ⟨lz', e', hL'⟩ := hL.store hi (v := .null) rfl hp
  exact ws_astore_nN F.1 F.2.1 hd e' (kk p l e R s m args below meth cd H locs cells slots mc ms lz' F hc hk hmc hms hL' hR hz hl)
theorem ev_dstore {i : Nat} {x : UInt64} (hd : decode M.2.1 pc = .ok (.dstore i, 2)) (hi : i + 1 < M.2.2.1) (hp : okP ls i = true) (kk : Ev g M d c k Q (pc + 2) ((ls.set i (some (.double x))).set (i + 1) none) st h) : Ev g M d c k Q pc ls (.double x :: st) h := by
  intro p l e R s m args below meth cd H locs cells slots mc ms lz F hc hk hmc hms hL hR hz hl
  obtain ⟨lz', e', hL'⟩ := hL.store2 hi (v := .double x) rfl hp
  exact ws_dstore F.1 F.2.1 hd e' (kk p l e R s m args below meth cd H locs cells slots mc ms lz' F hc hk hmc hms hL' hR hz hl)
theorem ev_iinc {i : Nat} {n : Int} {x : Int32} (hd : decode M.2.1 pc = .ok (.iinc i n, 3)) (hv : ls[i]? = some (some (.int x))) (hi : i < M.2.2.1) (hp : okP ls i = true) (kk : Ev g M d c k Q (pc + 3) (ls.set i (some (.int (x + Int32.ofInt n)))) st h) : Ev g M d c k Q pc ls st h := by
  intro p l e R s m args below meth cd H locs cells slots mc ms lz F hc hk hmc hms hL hR hz hl
  obtain ⟨lz', e', hL'⟩ := hL.store hi (v := .int (x + Int32.ofInt n)) rfl hp
  exact ws_iinc F.1 F.2.1 hd (hL.2.2 _ _ hv) e' (kk p l e R s m args below meth cd H locs cells slots mc ms lz' F hc hk hmc hms hL' hR hz hl)
theorem ev_goto {off : Int} {tgt : Nat} (hd : decode M.2.1 pc = .ok (.goto off, 3)) (ht : (pc : Int) + off = (tgt : Int)) (kk : Ev g M d c k Q tgt ls st h) : Ev g M d c k Q pc ls st h := by
  intro p l e R s m args below meth cd H locs cells slots mc ms lz F hc hk hmc hms hL hR hz hl
  exact lv_goto F.1 F.2.1 hd ht (kk p l e R s m args below meth cd H locs cells slots mc ms lz F hc hk hmc hms hL hR hz hl)
theorem ev_if_eq {x : Int32} {off : Int} {tgt : Nat} (hd : decode M.2.1 pc = .ok (.ifCond .eq off, 3)) (ht : (pc : Int) + off = (tgt : Int)) (kt : x = 0 → Ev g M d c k Q tgt ls st h) (kf : ¬ x = 0 → Ev g M d c k Q (pc + 3) ls st h) : Ev g M d c k Q pc ls (.int x :: st) h := by
  intro p l e R s m args below meth cd H locs cells slots mc ms lz F hc hk hmc hms hL hR hz hl
  exact lv_if_eq F.1 F.2.1 hd ht (fun q => kt q p l e R s m args below meth cd H locs cells slots mc ms lz F hc hk hmc hms hL hR hz hl) (fun q => kf q p l e R s m args below meth cd H locs cells slots mc ms lz F hc hk hmc hms hL hR hz hl)
theorem ev_icmp_eq {x y : Int32} {off : Int} {tgt : Nat} (hd : decode M.2.1 pc = .ok (.if_icmp .eq off, 3)) (ht : (pc : Int) + off = (tgt : Int)) (kt : x = y → Ev g M d c k Q tgt ls st h) (kf : ¬ x = y → Ev g M d c k Q (pc + 3) ls st h) : Ev g M d c k Q pc ls (.int y :: .int x :: st) h := by
  intro p l e R s m args below meth cd H locs cells slots mc ms lz F hc hk hmc hms hL hR hz hl
  exact lv_icmp_eq F.1 F.2.1 hd ht (fun q => kt q p l e R s m args below meth cd H locs cells slots mc ms lz F hc hk hmc hms hL hR hz hl) (fun q => kf q p l e R s m args below meth cd H locs cells slots mc ms lz F hc hk hmc hms hL hR hz hl)
theorem ev_if_ne {x : Int32} {off : Int} {tgt : Nat} (hd : decode M.2.1 pc = .ok (.ifCond .ne off, 3)) (ht : (pc : Int) + off = (tgt : Int)) (kt : ¬ x = 0 → Ev g M d c k Q tgt ls st h) (kf : x = 0 → Ev g M d c k Q (pc + 3) ls st h) : Ev g M d c k Q pc ls (.int x :: st) h := by
  intro p l e R s m args below meth cd H locs cells slots mc ms lz F hc hk hmc hms hL hR hz hl
  exact lv_if_ne F.1 F.2.1 hd ht (fun q => kt q p l e R s m args below meth cd H locs cells slots mc ms lz F hc hk hmc hms hL hR hz hl) (fun q => kf q p l e R s m args below meth cd H locs cells slots mc ms lz F hc hk hmc hms hL hR hz hl)
theorem ev_icmp_ne {x y : Int32} {off : Int} {tgt : Nat} (hd : decode M.2.1 pc = .ok (.if_icmp .ne off, 3)) (ht : (pc : Int) + off = (tgt : Int)) (kt : ¬ x = y → Ev g M d c k Q tgt ls st h) (kf : x = y → Ev g M d c k Q (pc + 3) ls st h) : Ev g M d c k Q pc ls (.int y :: .int x :: st) h := by
  intro p l e R s m args below meth cd H locs cells slots mc ms lz F hc hk hmc hms hL hR hz hl
  exact lv_icmp_ne F.1 F.2.1 hd ht (fun q => kt q p l e R s m args below meth cd H locs cells slots mc ms lz F hc hk hmc hms hL hR hz hl) (fun q => kf q p l e R s m args below meth cd H locs cells slots mc ms lz F hc hk hmc hms hL hR hz hl)
theorem ev_if_lt {x : Int32} {off : Int} {tgt : Nat} (hd : decode M.2.1 pc = .ok (.ifCond .lt off, 3)) (ht : (pc : Int) + off = (tgt : Int)) (kt : x < 0 → Ev g M d c k Q tgt ls st h) (kf : ¬ x < 0 → Ev g M d c k Q (pc + 3) ls st h) : Ev g M d c k Q pc ls (.int x :: st) h := by
  intro p l e R s m args below meth cd H locs cells slots mc ms lz F hc hk hmc hms hL hR hz hl
  exact lv_if_lt F.1 F.2.1 hd ht (fun q => kt q p l e R s m args below meth cd H locs cells slots mc ms lz F hc hk hmc hms hL hR hz hl) (fun q => kf q p l e R s m args below meth cd H locs cells slots mc ms lz F hc hk hmc hms hL hR hz hl)
theorem ev_icmp_lt {x y : Int32} {off : Int} {tgt : Nat} (hd : decode M.2.1 pc = .ok (.if_icmp .lt off, 3)) (ht : (pc : Int) + off = (tgt : Int)) (kt : x < y → Ev g M d c k Q tgt ls st h) (kf : ¬ x < y → Ev g M d c k Q (pc + 3) ls st h) : Ev g M d c k Q pc ls (.int y :: .int x :: st) h := by
  intro p l e R s m args below meth cd H locs cells slots mc ms lz F hc hk hmc hms hL hR hz hl
  exact lv_icmp_lt F.1 F.2.1 hd ht (fun q => kt q p l e R s m args below meth cd H locs cells slots mc ms lz F hc hk hmc hms hL hR hz hl) (fun q => kf q p l e R s m args below meth cd H locs cells slots mc ms lz F hc hk hmc hms hL hR hz hl)
theorem ev_if_ge {x : Int32} {off : Int} {tgt : Nat} (hd : decode M.2.1 pc = .ok (.ifCond .ge off, 3)) (ht : (pc : Int) + off = (tgt : Int)) (kt : 0 ≤ x → Ev g M d c k Q tgt ls st h) (kf : ¬ 0 ≤ x → Ev g M d c k Q (pc + 3) ls st h) : Ev g M d c k Q pc ls (.int x :: st) h := by
  intro p l e R s m args below meth cd H locs cells slots mc ms lz F hc hk hmc hms hL hR hz hl
  exact lv_if_ge F.1 F.2.1 hd ht (fun q => kt q p l e R s m args below meth cd H locs cells slots mc ms lz F hc hk hmc hms hL hR hz hl) (fun q => kf q p l e R s m args below meth cd H locs cells slots mc ms lz F hc hk hmc hms hL hR hz hl)
theorem ev_icmp_ge {x y : Int32} {off : Int} {tgt : Nat} (hd : decode M.2.1 pc = .ok (.if_icmp .ge off, 3)) (ht : (pc : Int) + off = (tgt : Int)) (kt : y ≤ x → Ev g M d c k Q tgt ls st h) (kf : ¬ y ≤ x → Ev g M d c k Q (pc + 3) ls st h) : Ev g M d c k Q pc ls (.int y :: .int x :: st) h := by
  intro p l e R s m args below meth cd H locs cells slots mc ms lz F hc hk hmc hms hL hR hz hl
  exact lv_icmp_ge F.1 F.2.1 hd ht (fun q => kt q p l e R s m args below meth cd H locs cells slots mc ms lz F hc hk hmc hms hL hR hz hl) (fun q => kf q p l e R s m args below meth cd H locs cells slots mc ms lz F hc hk hmc hms hL hR hz hl)
theorem ev_if_gt {x : Int32} {off : Int} {tgt : Nat} (hd : decode M.2.1 pc = .ok (.ifCond .gt off, 3)) (ht : (pc : Int) + off = (tgt : Int)) (kt : 0 < x → Ev g M d c k Q tgt ls st h) (kf : ¬ 0 < x → Ev g M d c k Q (pc + 3) ls st h) : Ev g M d c k Q pc ls (.int x :: st) h := by
  intro p l e R s m args below meth cd H locs cells slots mc ms lz F hc hk hmc hms hL hR hz hl
  exact lv_if_gt F.1 F.2.1 hd ht (fun q => kt q p l e R s m args below meth cd H locs cells slots mc ms lz F hc hk hmc hms hL hR hz hl) (fun q => kf q p l e R s m args below meth cd H locs cells slots mc ms lz F hc hk hmc hms hL hR hz hl)
theorem ev_icmp_gt {x y : Int32} {off : Int} {tgt : Nat} (hd : decode M.2.1 pc = .ok (.if_icmp .gt off, 3)) (ht : (pc : Int) + off = (tgt : Int)) (kt : y < x → Ev g M d c k Q tgt ls st h) (kf : ¬ y < x → Ev g M d c k Q (pc + 3) ls st h) : Ev g M d c k Q pc ls (.int y :: .int x :: st) h := by
  intro p l e R s m args below meth cd H locs cells slots mc ms lz F hc hk hmc hms hL hR hz hl
  exact lv_icmp_gt F.1 F.2.1 hd ht (fun q => kt q p l e R s m args below meth cd H locs cells slots mc ms lz F hc hk hmc hms hL hR hz hl) (fun q => kf q p l e R s m args below meth cd H locs cells slots mc ms lz F hc hk hmc hms hL hR hz hl)
theorem ev_if_le {x : Int32} {off : Int} {tgt : Nat} (hd : decode M.2.1 pc = .ok (.ifCond .le off, 3)) (ht : (pc : Int) + off = (tgt : Int)) (kt : x ≤ 0 → Ev g M d c k Q tgt ls st h) (kf : ¬ x ≤ 0 → Ev g M d c k Q (pc + 3) ls st h) : Ev g M d c k Q pc ls (.int x :: st) h := by
  intro p l e R s m args below meth cd H locs cells slots mc ms lz F hc hk hmc hms hL hR hz hl
  exact lv_if_le F.1 F.2.1 hd ht (fun q => kt q p l e R s m args below meth cd H locs cells slots mc ms lz F hc hk hmc hms hL hR hz hl) (fun q => kf q p l e R s m args below meth cd H locs cells slots mc ms lz F hc hk hmc hms hL hR hz hl)
theorem ev_icmp_le {x y : Int32} {off : Int} {tgt : Nat} (hd : decode M.2.1 pc = .ok (.if_icmp .le off, 3)) (ht : (pc : Int) + off = (tgt : Int)) (kt : x ≤ y → Ev g M d c k Q tgt ls st h) (kf : ¬ x ≤ y → Ev g M d c k Q (pc + 3) ls st h) : Ev g M d c k Q pc ls (.int y :: .int x :: st) h := by
  intro p l e R s m args below meth cd H locs cells slots mc ms lz F hc hk hmc hms hL hR hz hl
  exact lv_icmp_le F.1 F.2.1 hd ht (fun q => kt q p l e R s m args below meth cd H locs cells slots mc ms lz F hc hk hmc hms hL hR hz hl) (fun q => kf q p l e R s m args below meth cd H locs cells slots mc ms lz F hc hk hmc hms hL hR hz hl)
theorem ev_acmp_eq {rx ry : Option Nat} {off : Int} {tgt : Nat} (hd : decode M.2.1 pc = .ok (.if_acmp .eq off, 3)) (ht : (pc : Int) + off = (tgt : Int)) (kt : rx = ry → Ev g M d c k Q tgt ls st h) (kf : ¬ rx = ry → Ev g M d c k Q (pc + 3) ls st h) : Ev g M d c k Q pc ls (va_rf ry :: va_rf rx :: st) h := by
  intro p l e R s m args below meth cd H locs cells slots mc ms lz F hc hk hmc hms hL hR hz hl
  exact lv_acmp_eq F.1 F.2.1 hd ht (fun q => kt q p l e R s m args below meth cd H locs cells slots mc ms lz F hc hk hmc hms hL hR hz hl) (fun q => kf q p l e R s m args below meth cd H locs cells slots mc ms lz F hc hk hmc hms hL hR hz hl)
theorem ev_acmp_ne {rx ry : Option Nat} {off : Int} {tgt : Nat} (hd : decode M.2.1 pc = .ok (.if_acmp .ne off, 3)) (ht : (pc : Int) + off = (tgt : Int)) (kt : ¬ rx = ry → Ev g M d c k Q tgt ls st h) (kf : rx = ry → Ev g M d c k Q (pc + 3) ls st h) : Ev g M d c k Q pc ls (va_rf ry :: va_rf rx :: st) h := by
  intro p l e R s m args below meth cd H locs cells slots mc ms lz F hc hk hmc hms hL hR hz hl
  exact lv_acmp_ne F.1 F.2.1 hd ht (fun q => kt q p l e R s m args below meth cd H locs cells slots mc ms lz F hc hk hmc hms hL hR hz hl) (fun q => kf q p l e R s m args below meth cd H locs cells slots mc ms lz F hc hk hmc hms hL hR hz hl)
theorem ev_ifnull {x : Nat} {off : Int} (hd : decode M.2.1 pc = .ok (.ifnull off, 3)) (kk : Ev g M d c k Q (pc + 3) ls st h) : Ev g M d c k Q pc ls (.ref x :: st) h := by
  intro p l e R s m args below meth cd H locs cells slots mc ms lz F hc hk hmc hms hL hR hz hl
  exact lv_ifnull F.1 F.2.1 hd (kk p l e R s m args below meth cd H locs cells slots mc ms lz F hc hk hmc hms hL hR hz hl)
theorem ev_ifnullN {off : Int} {tgt : Nat} (hd : decode M.2.1 pc = .ok (.ifnull off, 3)) (ht : (pc : Int) + off = (tgt : Int)) (kk : Ev g M d c k Q tgt ls st h) : Ev g M d c k Q pc ls (.null :: st) h := by
  intro p l e R s m args below meth cd H locs cells slots mc ms lz F hc hk hmc hms hL hR hz hl
  exact lv_ifnullN F.1 F.2.1 hd ht (kk p l e R s m args below meth cd H locs cells slots mc ms lz F hc hk hmc hms hL hR hz hl)
theorem ev_ifnonnull {x : Nat} {off : Int} {tgt : Nat} (hd : decode M.2.1 pc = .ok (.ifnonnull off, 3)) (ht : (pc : Int) + off = (tgt : Int)) (kk : Ev g M d c k Q tgt ls st h) : Ev g M d c k Q pc ls (.ref x :: st) h := by
  intro p l e R s m args below meth cd H locs cells slots mc ms lz F hc hk hmc hms hL hR hz hl
  exact lv_ifnonnull F.1 F.2.1 hd ht (kk p l e R s m args below meth cd H locs cells slots mc ms lz F hc hk hmc hms hL hR hz hl)
theorem ev_ifnonnullN {off : Int} (hd : decode M.2.1 pc = .ok (.ifnonnull off, 3)) (kk : Ev g M d c k Q (pc + 3) ls st h) : Ev g M d c k Q pc ls (.null :: st) h := by
  intro p l e R s m args below meth cd H locs cells slots mc ms lz F hc hk hmc hms hL hR hz hl
  exact lv_ifnonnullN F.1 F.2.1 hd (kk p l e R s m args below meth cd H locs cells slots mc ms lz F hc hk hmc hms hL hR hz hl)
theorem ev_lcmp {x y : Int64} {v : Int32} (hd : decode M.2.1 pc = .ok (.lcmp, 1)) (hv : lg_cmp x y = v) (kk : Ev g M d c k Q (pc + 1) ls (.int v :: st) h) : Ev g M d c k Q pc ls (.long y :: .long x :: st) h := by
  intro p l e R s m args below meth cd H locs cells slots mc ms lz F hc hk hmc hms hL hR hz hl
  subst hv
  exact W.lcmp F.1 F.2.1 hd (kk p l e R s m args below meth cd H locs cells slots mc ms lz F hc hk hmc hms hL hR hz hl)
theorem ev_tableIn {dflt lo hi : Int} {offs : Array Int} {len : Nat} {x : Int32} {off : Int} {tgt : Nat} (hd : decode M.2.1 pc = .ok (.tableswitch dflt lo hi offs, len)) (h1 : ¬ x.toInt < lo) (h2 : ¬ hi < x.toInt) (ho : offs[(x.toInt - lo).toNat]? = some off) (ht : (pc : Int) + off = (tgt : Int)) (kk : Ev g M d c k Q tgt ls st h) : Ev g M d c k Q pc ls (.int x :: st) h := by
  intro p l e R s m args below meth cd H locs cells slots mc ms lz F hc hk hmc hms hL hR hz hl
  exact lv_tableIn F.1 F.2.1 hd h1 h2 ho ht (kk p l e R s m args below meth cd H locs cells slots mc ms lz F hc hk hmc hms hL hR hz hl)
theorem ev_tableOut {dflt lo hi : Int} {offs : Array Int} {len : Nat} {x : Int32} {tgt : Nat} (hd : decode M.2.1 pc = .ok (.tableswitch dflt lo hi offs, len)) (h1 : x.toInt < lo ∨ hi < x.toInt) (ht : (pc : Int) + dflt = (tgt : Int)) (kk : Ev g M d c k Q tgt ls st h) : Ev g M d c k Q pc ls (.int x :: st) h := by
  intro p l e R s m args below meth cd H locs cells slots mc ms lz F hc hk hmc hms hL hR hz hl
  exact lv_tableOut F.1 F.2.1 hd h1 ht (kk p l e R s m args below meth cd H locs cells slots mc ms lz F hc hk hmc hms hL hR hz hl)
theorem ev_lookup {dflt : Int} {ps : Array (Int × Int)} {len : Nat} {x : Int32} {off : Int} {tgt : Nat} (hd : decode M.2.1 pc = .ok (.lookupswitch dflt ps, len)) (hp : (ps.toList.zip (ps.toList.drop 1)).all (fun (a, next) => a.1 < next.1) = true) (ho : Op.lookupswitch.offset ps.toList dflt x.toInt = off) (ht : (pc : Int) + off = (tgt : Int)) (kk : Ev g M d c k Q tgt ls st h) : Ev g M d c k Q pc ls (.int x :: st) h := by
  intro p l e R s m args below meth cd H locs cells slots mc ms lz F hc hk hmc hms hL hR hz hl
  exact lv_lookup F.1 F.2.1 hd hp ho ht (kk p l e R s m args below meth cd H locs cells slots mc ms lz F hc hk hmc hms hL hR hz hl)
theorem ev_ldci {index : Nat} {v : Int32} (hd : decode M.2.1 pc = .ok (.ldc index, 2)) (hw : (Jvm.Cond.constant M.1.cls index v) ∈ lw_all) (kk : Ev g M d c k Q (pc + 2) ls (.int v :: st) h) : Ev g M d c k Q pc ls st h := by
  intro p l e R s m args below meth cd H locs cells slots mc ms lz F hc hk hmc hms hL hR hz hl
  exact lv_ldc F.1 F.2.1 F.2.2.2.2.2.1 (F.2.2.2.2.2.2.1 _ hw) hd (kk p l e R s m args below meth cd H locs cells slots mc ms lz F hc hk hmc hms hL hR hz hl)
theorem ev_ldc2 {index : Nat} {v : Int64} (hd : decode M.2.1 pc = .ok (.ldc2_w index, 3)) (hw : (Jvm.Cond.constantLong M.1.cls index v) ∈ lw_all) (kk : Ev g M d c k Q (pc + 3) ls (.long v :: st) h) : Ev g M d c k Q pc ls st h := by
  intro p l e R s m args below meth cd H locs cells slots mc ms lz F hc hk hmc hms hL hR hz hl
  exact lv_ldc2 F.1 F.2.1 F.2.2.2.2.2.1 (F.2.2.2.2.2.2.1 _ hw) hd (kk p l e R s m args below meth cd H locs cells slots mc ms lz F hc hk hmc hms hL hR hz hl)
end LG

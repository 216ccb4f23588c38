/-! THE LOGIC: contracts, calls, exceptions (printed by gen/mklc.py) -/
section LC
def rmG (d c k : Nat) : Room := { frames := d, cells := c, slots := k, locals := 64 * d }
def mW (M : MI) : Cond := match M.2.2.2.2 with
  | none => .code M.1 M.2.1 M.2.2.1 M.2.2.2.1
  | some hh => .codeWith M.1 M.2.1 M.2.2.1 M.2.2.2.1 hh
/-- THE CONTRACT of the method M: called with these arguments in a heap that holds h, with d frames, c cells, k slots left, it ends with Q -/
def Kc (g : GB) (M : MI) (d c k : Nat) (as : List Value) (h : HM) (Q : RS → HM → Prop) : Prop :=
  ∀ l : Launch, l.stackTraces = false → vx_Met l M.1 (mW M :: lw_all) (rmG d c k) (fun a U => a = as.toArray ∧ g.2.2.2.1 U ∧ GBase g ∧ Rel g h U.heap) (rQ g Q) (xQ g Q) c k (gA g)
theorem Kc.of {g : GB} {M : MI} {d c k : Nat} {as : List Value} {h : HM} {Q : RS → HM → Prop} {ls : List (Option Value)} (hy : plainName M.1.cls = true) (hL : (lg_sl as).length ≤ M.2.2.1) (hls : lsE M.2.2.1 as = ls) (he : Ev g M d c k Q 0 ls [] h) : Kc g M d c k as h Q := by
  intro l hl
  subst hls
  obtain ⟨y, cc, nL, ret, hh⟩ := M
  cases hh with
  | none =>
    refine vx_ofW (cc := cc) (maxL := nL) (ret := ret) hy rfl ?_
    intro p e s m args below meth cd s₁ B hml ht hv
    obtain ⟨rfl, hk, hgb, hR⟩ := hv
    have hts := atoms_spec (ws := mW (y, cc, nL, ret, none) :: lw_all) B.pre
    have htab : cd.exceptionTable.toList = [] := List.eq_nil_iff_forall_not_mem.mpr fun x hx => ht x hx
    rw [lg_entry_eq]
    exact he p l e _ s m _ below meth cd s.heap [] 0 0 c k _ ⟨B.exec, B.bytes, hml, B.returns, B.notSynchronized, findClass_of_methodNamed B.named, fun w h => hts w (List.mem_cons_of_mem _ h), hk, Nat.le_refl _, Nat.le_refl _, (name_of_methodNamed B.named B.method).1, htab, hl, hgb, hR.1, hR.2.1, B.named⟩ (by omega) (by omega) (Nat.le_refl _) (Nat.le_refl _) (Lr.entry as hL) hR (Nat.le_refl _) (fun _ h => nomatch h)
  | some hh =>
    refine vx_ofWH (cc := cc) (maxL := nL) (ret := ret) (hh := hh) hy rfl ?_
    intro p e s m args below meth cd s₁ B hml hv
    obtain ⟨rfl, hk, hgb, hR⟩ := hv
    have hts := atoms_spec (ws := mW (y, cc, nL, ret, some hh) :: lw_all) B.pre
    have htab : cd.exceptionTable.toList = tableOf hh := vx_table (x := y) B (hts _ List.mem_cons_self)
    rw [lg_entry_eq]
    exact he p l e _ s m _ below meth cd s.heap [] 0 0 c k _ ⟨B.exec, B.bytes, hml, B.returns, B.notSynchronized, findClass_of_methodNamed B.named, fun w h => hts w (List.mem_cons_of_mem _ h), hk, Nat.le_refl _, Nat.le_refl _, (name_of_methodNamed B.named B.method).1, htab, hl, hgb, hR.1, hR.2.1, B.named⟩ (by omega) (by omega) (Nat.le_refl _) (Nat.le_refl _) (Lr.entry as hL) hR (Nat.le_refl _) (fun _ h => nomatch h)
/-- a method's end may be told in weaker words -/
theorem rQ.mono {g : GB} {Q Q' : RS → HM → Prop} (hQ : ∀ r h, Q r h → Q' r h) {a : Array Value} {st t : State} {o : Outcome} (h : rQ g Q a st o t) : rQ g Q' a st o t := by
  obtain ⟨v, h', e1, e2, e3⟩ := h
  exact ⟨v, h', e1, hQ _ _ e2, e3⟩
theorem xQ.mono {g : GB} {Q Q' : RS → HM → Prop} (hQ : ∀ r h, Q r h → Q' r h) {E : String} {q : Addr} {st t : State} (h : xQ g Q E q st t) : xQ g Q' E q st t := by
  obtain ⟨h', e1, e2⟩ := h
  exact ⟨h', hQ _ _ e1, e2⟩
theorem EQ.mono {g : GB} {below : List Frame} {Q Q' : RS → HM → Prop} {args : Array Value} {s : State} {mc ms : Nat} (hQ : ∀ r h, Q r h → Q' r h) {t : State} (h : EQ g below Q args s mc ms t) : EQ g below Q' args s mc ms t := by
  obtain ⟨o, h1, h2, h3⟩ := h
  refine ⟨o, h1, h2, ?_⟩
  rcases h3 with ⟨h3, h4⟩ | ⟨q, e, E, ce, L, hx, h5⟩
  · exact Or.inl ⟨rQ.mono hQ h3, h4⟩
  · exact Or.inr ⟨q, e, E, ce, L, xQ.mono hQ hx, h5⟩
theorem Ev.mono {g : GB} {M : MI} {d c k : Nat} {Q Q' : RS → HM → Prop} {pc : Nat} {ls : List (Option Value)} {st : List Value} {h : HM} (kk : Ev g M d c k Q pc ls st h) (hQ : ∀ r h, Q r h → Q' r h) : Ev g M d c k Q' pc ls st h := by
  intro p l e R s m args below meth cd H locs cells slots mc ms lz F hc hk hmc hms hL hR hz hl T hT X
  obtain ⟨t, a, b⟩ := kk p l e R s m args below meth cd H locs cells slots mc ms lz F hc hk hmc hms hL hR hz hl T hT X
  exact ⟨t, a, EQ.mono hQ b⟩
theorem Kc.mono {g : GB} {M : MI} {d c k : Nat} {as : List Value} {h : HM} {Q Q' : RS → HM → Prop} (kk : Kc g M d c k as h Q) (hQ : ∀ r h, Q r h → Q' r h) : Kc g M d c k as h Q' := by
  intro l hl
  intro p e h1 h2 h3 s m args below h4 h5 h6 h7
  obtain ⟨s', o, k1, k2, k3, k4⟩ := kk l hl p e h1 h2 h3 s m args below h4 h5 h6 h7
  refine ⟨s', o, k1, k2, k3, ?_⟩
  rcases k4 with ⟨h3, h4⟩ | ⟨q, e, E, ce, L, hx, h5⟩
  · exact Or.inl ⟨rQ.mono hQ h3, h4⟩
  · exact Or.inr ⟨q, e, E, ce, L, xQ.mono hQ hx, h5⟩
/-- the machine comes from the call's frame to the callee's invocation -/
def Ent (p : Program) (l : Launch) (e : Env) (R : Room) (s : State) (m : MethodId) (args : Array Value) (below : List Frame) (meth : Method) (cd : Code) (H : Heap) (locs : List Loc) (cells slots : Nat) (gf : JFrame) (y : MethodName) (a : Array Value) (rest : List Value) : Prop :=
  ∀ T : State, T.heap = H → Stand p l e R s m args below meth cd T locs cells slots → ∃ (vm₁ : Vm) (mk : MethodId), s.WarmedH vm₁ ∧ Stand p l e R s m args below meth cd (T.setVm vm₁) locs cells slots ∧ (T.setVm vm₁).methodNamed? y = some mk ∧
    ∀ target, Steps p.tables e below (doInvoke e ((T.setVm vm₁).setTop { gf with stack := rest }) [] mk a).1 target → Steps p.tables e below (T.setTop gf) target
/-- a call's place: by an object of the class C; of a static method -/
def EntV (g : GB) (own : String) (i : Instr) (len : Nat) (C : String) (y : MethodName) (n : Nat) : Prop :=
  ∀ (p : Program) (l : Launch) (e : Env) (R : Room) (s : State) (m : MethodId) (args : Array Value) (below : List Frame) (meth : Method) (cd : Code) (H : Heap) (locs : List Loc) (cells slots pc : Nat) (lz : Array Slot) (as rest : List Value) (b : Nat) (cellB : Cell),
    p.tables.exec = Jvm.exec → s.vm.findClass own = some m.cls → (∀ w ∈ lw_all, w.before args s = true) → g.2.2.2.1 s → NW s → decode cd.code pc = .ok (i, len) → as.length = n → H[b]? = some cellB → cellB.vm.isStatics = false → s.vm.findClass C = some cellB.cls → (∃ kB, s.vm.classes[cellB.cls]? = some kB) →
    Ent p l e R s m args below meth cd H locs cells slots (F0 m pc lz (as.reverse ++ .ref b :: rest)) y (Value.ref b :: as).toArray rest
def EntS (g : GB) (own : String) (i : Instr) (len : Nat) (y : MethodName) (n : Nat) : Prop :=
  ∀ (p : Program) (l : Launch) (e : Env) (R : Room) (s : State) (m : MethodId) (args : Array Value) (below : List Frame) (meth : Method) (cd : Code) (H : Heap) (locs : List Loc) (cells slots pc : Nat) (lz : Array Slot) (as rest : List Value),
    p.tables.exec = Jvm.exec → s.vm.findClass own = some m.cls → (∀ w ∈ lw_all, w.before args s = true) → g.2.2.2.1 s → NW s → decode cd.code pc = .ok (i, len) → as.length = n →
    Ent p l e R s m args below meth cd H locs cells slots (F0 m pc lz (as.reverse ++ rest)) y as.toArray rest
abbrev notMH (C : String) : Prop := C ≠ "java/lang/invoke/MethodHandle" ∧ C ≠ "java/lang/invoke/VarHandle"
abbrev nPar (y : MethodName) (n : Nat) : Prop := (parseMethodDescriptor y.desc).map (fun d => d.parameters.length) = some n
theorem nPar.len {y : MethodName} {n : Nat} (h : nPar y n) {sig : MethodDescriptor} (hs : parseMethodDescriptor y.desc = some sig) {as : List Value} (ha : as.length = n) : as.length = sig.parameters.length := by
  unfold nPar at h
  rw [hs] at h
  rw [ha]
  exact (Option.some.inj h).symm
theorem sg_m {M : MI} {args : Array Value} {s : State} (h : (mW M).before args s = true) : ∃ (mk : MethodId) (methM : Method), s.methodNamed? M.1 = some mk ∧ s.vm.method? mk = some methM ∧ parseMethodDescriptor M.1.desc = some methM.sig := by
  obtain ⟨y, cc, nL, ret, hh⟩ := M
  cases hh with
  | none =>
    obtain ⟨mk, hnamed⟩ := Cond.code_named h
    obtain ⟨methM, cM, hmethM, -, -, -, -, -, -, hsigM⟩ := Cond.code_spec hnamed h
    exact ⟨mk, methM, hnamed, hmethM, hsigM⟩
  | some hh =>
    obtain ⟨mk, methM, cM, hnamed, hmethM, -, -, -, -, -, -, hsigM⟩ := Cond.codeWith_spec h
    exact ⟨mk, methM, hnamed, hmethM, hsigM⟩
section
variable {g : GB} {own C : String} {idx n : Nat} {M : MI}
theorem entV_V (hl : (Jvm.Cond.methodLink own idx M.1) ∈ lw_all) (hin : (Jvm.Cond.instanceMethod M.1) ∈ lw_all) (hse : (Jvm.Cond.selects C M.1 M.1) ∈ lw_all) (hcd : mW M ∈ lw_all) (hy : notMH M.1.cls) (hn : nPar M.1 n) : EntV g own (.invokevirtual idx) 3 C M.1 n := by
  intro p l e R s m args below meth cd H locs cells slots pc lz as rest b cellB hexec hown hts hgk hnw hdg has hcell hobj hcls hkB T hT X
  obtain ⟨mk, methM, hnamed, hmethM, hstM, habM⟩ := Cond.instanceMethod_spec (hts _ hin)
  obtain ⟨mk', methM', hn', hm', hsigM⟩ := sg_m (hts _ hcd)
  cases hnamed.symm.trans hn'
  cases hmethM.symm.trans hm'
  obtain ⟨c2, r2, m2, q1, q2, q3, q4, kP, hkP, hkPi⟩ := Cond.selects_spec (hts _ hse)
  cases hcls.symm.trans q1
  cases (State.methodFound?_of_named hnamed hy).symm.trans q2
  cases hnamed.symm.trans q3
  have hselP : selectMethod e.platform s.vm cellB.cls mk = .method mk := by rw [Launch.admits_selectMethod X.admits]; exact q4
  obtain ⟨vm₁, X₁, hstep₁⟩ := X.invokevirtual hexec hown (hts _ hl) hnamed hmethM hstM hkP hkPi hy (a := b) (cell := cellB) (by rw [hT]; exact hcell)
    (fun z h => by rw [h] at hobj; cases hobj) hselP hmethM habM hkP hkPi (g := F0 m pc lz (as.reverse ++ .ref b :: rest)) rfl (argsL := as) (rest := rest) (nPar.len hn hsigM has) rfl hdg
  exact ⟨vm₁, mk, X₁.warmed, X₁, X₁.named hnamed, fun target h => hstep₁ _ fun acts => by rw [doInvoke_state]; exact h⟩
theorem entV_VN {host : String} (hl : (Jvm.Cond.methodLinkNest own idx M.1 host) ∈ lw_tbl) (hin : (Jvm.Cond.instanceMethod M.1) ∈ lw_all) (hse : (Jvm.Cond.selects C M.1 M.1) ∈ lw_all) (hcd : mW M ∈ lw_all) (hy : notMH M.1.cls) (hn : nPar M.1 n) : EntV g own (.invokevirtual idx) 3 C M.1 n := by
  intro p l e R s m args below meth cd H locs cells slots pc lz as rest b cellB hexec hown hts hgk hnw hdg has hcell hobj hcls hkB T hT X
  obtain ⟨mk, methM, hnamed, hmethM, hstM, habM⟩ := Cond.instanceMethod_spec (hts _ hin)
  obtain ⟨mk', methM', hn', hm', hsigM⟩ := sg_m (hts _ hcd)
  cases hnamed.symm.trans hn'
  cases hmethM.symm.trans hm'
  obtain ⟨c2, r2, m2, q1, q2, q3, q4, kP, hkP, hkPi⟩ := Cond.selects_spec (hts _ hse)
  cases hcls.symm.trans q1
  cases (State.methodFound?_of_named hnamed hy).symm.trans q2
  cases hnamed.symm.trans q3
  have hselP : selectMethod e.platform s.vm cellB.cls mk = .method mk := by rw [Launch.admits_selectMethod X.admits]; exact q4
  obtain ⟨vm₁, X₁, hstep₁⟩ := X.invokevirtualNest hexec hown (va_Nw.use (A := args) rfl (hnw _ hl rfl)) hnamed hmethM hstM hkP hkPi hy (a := b) (cell := cellB) (by rw [hT]; exact hcell)
    (fun z h => by rw [h] at hobj; cases hobj) hselP hmethM habM hkP hkPi (g := F0 m pc lz (as.reverse ++ .ref b :: rest)) rfl (argsL := as) (rest := rest) (nPar.len hn hsigM has) rfl hdg
  exact ⟨vm₁, mk, X₁.warmed, X₁, X₁.named hnamed, fun target h => hstep₁ _ fun acts => by rw [doInvoke_state]; exact h⟩
/-- a private method, by an object of any class -/
theorem entV_P (hl : (Jvm.Cond.methodLink own idx M.1) ∈ lw_all) (hin : (Jvm.Cond.instanceMethod M.1) ∈ lw_all) (hp : (Jvm.Cond.privateMethod M.1) ∈ lw_tbl) (hni : ∀ (s : State) (args : Array Value), (∀ w ∈ lw_all, w.before args s = true) → ∀ mk : MethodId, s.methodNamed? M.1 = some mk → ∃ kP, s.vm.classes[mk.cls]? = some kP ∧ kP.isInterface = false) (hcd : mW M ∈ lw_all) (hy : notMH M.1.cls) (hn : nPar M.1 n) : EntV g own (.invokevirtual idx) 3 C M.1 n := by
  intro p l e R s m args below meth cd H locs cells slots pc lz as rest b cellB hexec hown hts hgk hnw hdg has hcell hobj hcls hkB T hT X
  obtain ⟨mk, methM, hnamed, hmethM, hstM, habM⟩ := Cond.instanceMethod_spec (hts _ hin)
  obtain ⟨mk', methM', hn', hm', hsigM⟩ := sg_m (hts _ hcd)
  cases hnamed.symm.trans hn'
  cases hmethM.symm.trans hm'
  obtain ⟨kP, hkP, hkPi⟩ := hni s args hts mk hnamed
  have hselP : selectMethod e.platform s.vm cellB.cls mk = .method mk := selectMethod_private hmethM (Cond.privateMethod_at (va_Nw.use (A := args) rfl (hnw _ hp rfl)) mk methM hnamed hmethM)
  obtain ⟨vm₁, X₁, hstep₁⟩ := X.invokevirtual hexec hown (hts _ hl) hnamed hmethM hstM hkP hkPi hy (a := b) (cell := cellB) (by rw [hT]; exact hcell)
    (fun z h => by rw [h] at hobj; cases hobj) hselP hmethM habM hkP hkPi (g := F0 m pc lz (as.reverse ++ .ref b :: rest)) rfl (argsL := as) (rest := rest) (nPar.len hn hsigM has) rfl hdg
  exact ⟨vm₁, mk, X₁.warmed, X₁, X₁.named hnamed, fun target h => hstep₁ _ fun acts => by rw [doInvoke_state]; exact h⟩
/-- inherited, overriding or abstract: the reference names x, found in owner; the receiver's class selects M -/
theorem entV_U {owner : String} {x : MethodName} (hl : (Jvm.Cond.methodLink own idx x) ∈ lw_all) (hsm : (Jvm.Cond.sameMethod x.cls owner x.name x.desc) ∈ lw_all) (hd0 : ∀ (s : State) (args : Array Value), (∀ w ∈ lw_all, w.before args s = true) → NW s → va_Decl s ⟨owner, x.name, x.desc⟩) (howner : notMH owner) (hse : (Jvm.Cond.selects C x M.1) ∈ lw_all) (hin : (Jvm.Cond.instanceMethod M.1) ∈ lw_all) (hn : nPar x n) : EntV g own (.invokevirtual idx) 3 C M.1 n := by
  intro p l e R s m args below meth cd H locs cells slots pc lz as rest b cellB hexec hown hts hgk hnw hdg has hcell hobj hcls hkB T hT X
  obtain ⟨r0, r, hn0, hrm, hstR, hsigR⟩ := hd0 s args hts hnw
  have hsame := hts _ hsm
  obtain ⟨cn, ck, r1, hcn, hck, hni, hf, hn1⟩ := Cond.sameMethod_found hsame
  cases hn0.symm.trans hn1
  obtain ⟨mk, methM, hnamed, hmethM, -, habM⟩ := Cond.instanceMethod_spec (hts _ hin)
  obtain ⟨c2, r2, m2, q1, q2, q3, q4, kP, hkP, hkPi⟩ := Cond.selects_spec (hts _ hse)
  cases hcls.symm.trans q1
  cases hf.symm.trans q2
  cases hnamed.symm.trans q3
  have hselP : selectMethod e.platform s.vm cellB.cls r0 = .method mk := by rw [Launch.admits_selectMethod X.admits]; exact q4
  obtain ⟨vm₁, X₁, hstep₁⟩ := X.invokevirtualUp hexec hown (hts _ hl) hsame howner hn0 hrm hstR (a := b) (cell := cellB) (by rw [hT]; exact hcell)
    (fun z h => by rw [h] at hobj; cases hobj) hselP hmethM habM hkP hkPi (g := F0 m pc lz (as.reverse ++ .ref b :: rest)) rfl (argsL := as) (rest := rest) (nPar.len hn hsigR has) rfl hdg
  exact ⟨vm₁, mk, X₁.warmed, X₁, X₁.named hnamed, fun target h => hstep₁ _ fun acts => by rw [doInvoke_state]; exact h⟩
theorem decl_d {x : MethodName} (h : (Jvm.Cond.declares x) ∈ lw_tbl) : ∀ (s : State) (args : Array Value), (∀ w ∈ lw_all, w.before args s = true) → NW s → va_Decl s x := fun s _ _ hnw => va_Decl.abs (hnw _ h rfl)
theorem decl_m {M0 : MI} (hin : (Jvm.Cond.instanceMethod M0.1) ∈ lw_all) (hcd : mW M0 ∈ lw_all) : ∀ (s : State) (args : Array Value), (∀ w ∈ lw_all, w.before args s = true) → NW s → va_Decl s M0.1 := by
  intro s args hts _
  obtain ⟨mk, methM, hnamed, hmethM, hstM, habM⟩ := Cond.instanceMethod_spec (hts _ hin)
  obtain ⟨mk', methM', hn', hm', hsigM⟩ := sg_m (hts _ hcd)
  cases hnamed.symm.trans hn'
  cases hmethM.symm.trans hm'
  exact ⟨mk, methM, hnamed, hmethM, hstM, hsigM⟩
/-- a constructor; a nest mate's -/
theorem entV_I (h1 : M.1.name = "<init>") (hret : M.2.2.2.1 = none) (hhh : M.2.2.2.2 = none) (hl : (Jvm.Cond.methodLink own idx M.1) ∈ lw_all) (hin : (Jvm.Cond.instanceMethod M.1) ∈ lw_all) (hcd : mW M ∈ lw_all) (hy : notMH M.1.cls) (hn : nPar M.1 n) : EntV g own (.invokespecial idx) 3 C M.1 n := by
  intro p l e R s m args below meth cd H locs cells slots pc lz as rest b cellB hexec hown hts hgk hnw hdg has hcell hobj hcls hkB T hT X
  obtain ⟨y, cc, nL, ret, hh⟩ := M
  dsimp only at hret hhh
  subst hret
  subst hhh
  have hpl : e.platform.magicAccessors = ({} : Platform).magicAccessors := by rw [X.admits.platform]
  obtain ⟨mk, methM, cM, kP, vm₁, hnamed, hmethM, hcodeM, -, hlocalsM, -, hkP, -, hW₁, hstep₁⟩ := Steps.initColdArgs (e := e) X.here hexec X.warmed hpl hown h1 hy (hts _ hl) (hts _ hin) (hts _ hcd) (f := F0 m pc lz (as.reverse ++ .ref b :: rest)) rfl (fun sig hs => nPar.len hn hs has) rfl hdg
  have X₁ := X.noted hW₁
  exact ⟨vm₁, mk, hW₁, X₁, X₁.named hnamed, fun target h => hstep₁ _ fun acts => by rw [doInvoke_state]; exact h⟩
theorem entV_IN {host : String} (h1 : M.1.name = "<init>") (hret : M.2.2.2.1 = none) (hhh : M.2.2.2.2 = none) (hl : (Jvm.Cond.methodLinkNest own idx M.1 host) ∈ lw_tbl) (hin : (Jvm.Cond.instanceMethod M.1) ∈ lw_all) (hcd : mW M ∈ lw_all) (hy : notMH M.1.cls) (hn : nPar M.1 n) : EntV g own (.invokespecial idx) 3 C M.1 n := by
  intro p l e R s m args below meth cd H locs cells slots pc lz as rest b cellB hexec hown hts hgk hnw hdg has hcell hobj hcls hkB T hT X
  obtain ⟨y, cc, nL, ret, hh⟩ := M
  dsimp only at hret hhh
  subst hret
  subst hhh
  have hpl : e.platform.magicAccessors = ({} : Platform).magicAccessors := by rw [X.admits.platform]
  obtain ⟨mk, methM, cM, kP, vm₁, hnamed, hmethM, hcodeM, -, hlocalsM, -, hkP, -, hW₁, hstep₁⟩ := Steps.initColdArgsNest (e := e) X.here hexec X.warmed hpl hown h1 hy (va_Nw.use (A := args) rfl (hnw _ hl rfl)) (hts _ hin) (hts _ hcd) (f := F0 m pc lz (as.reverse ++ .ref b :: rest)) rfl (fun sig hs => nPar.len hn hs has) rfl hdg
  have X₁ := X.noted hW₁
  exact ⟨vm₁, mk, hW₁, X₁, X₁.named hnamed, fun target h => hstep₁ _ fun acts => by rw [doInvoke_state]; exact h⟩
/-- super.m(..) -/
theorem entV_SU (hl : (Jvm.Cond.methodLink own idx M.1) ∈ lw_all) (hsm : (Jvm.Cond.sameMethod M.1.cls M.1.cls M.1.name M.1.desc) ∈ lw_all) (hsup : (Jvm.Cond.superclass own M.1.cls) ∈ lw_all) (hin : (Jvm.Cond.instanceMethod M.1) ∈ lw_all) (hcd : mW M ∈ lw_all) (hno : M.1.name ≠ "<init>") (hn : nPar M.1 n) : EntV g own (.invokespecial idx) 3 C M.1 n := by
  intro p l e R s m args below meth cd H locs cells slots pc lz as rest b cellB hexec hown hts hgk hnw hdg has hcell hobj hcls hkB T hT X
  obtain ⟨kB, hkB⟩ := hkB
  obtain ⟨mk, methM, hnamed, hmethM, hstM, habM⟩ := Cond.instanceMethod_spec (hts _ hin)
  obtain ⟨mk', methM', hn', hm', hsigM⟩ := sg_m (hts _ hcd)
  cases hnamed.symm.trans hn'
  cases hmethM.symm.trans hm'
  obtain ⟨ps, dk, kp, hps, hdk, hkp, hsuper, -, -, hnid⟩ := Cond.superclass_spec hown (hts _ hsup)
  have hnm : s.methodNamed? ⟨M.1.cls, M.1.name, M.1.desc⟩ = some mk := hnamed
  have hpm : ps = mk.cls := Option.some.inj (hps.symm.trans (findClass_of_methodNamed hnamed))
  have hsub : s.vm.isSubclass ps mk.cls = true := by rw [hpm]; simp [Vm.isSubclass, Vm.isSubclassAux]
  obtain ⟨vm₁, X₁, hstep₁⟩ := X.invokespecialUp hexec hown (hts _ hl) (hts _ hsm) hnm hmethM hstM habM hno hdk hnid hps hsuper hsub (a := b) (cell := cellB) (by rw [hT]; exact hcell)
    (fun z h => by rw [h] at hobj; cases hobj) hkB (g := F0 m pc lz (as.reverse ++ .ref b :: rest)) rfl (argsL := as) (rest := rest) (nPar.len hn hsigM has) rfl hdg
  exact ⟨vm₁, mk, X₁.warmed, X₁, X₁.named hnamed, fun target h => hstep₁ _ (by rw [doInvoke_state]; exact h)⟩
theorem entS_S (hl : (Jvm.Cond.methodLink own idx M.1) ∈ lw_all) (hst : (Jvm.Cond.static M.1) ∈ lw_all) (hini : (Jvm.Cond.initialized M.1.cls) ∈ lw_all) (hcd : mW M ∈ lw_all) (hy : notMH M.1.cls) (hn : nPar M.1 n) : EntS g own (.invokestatic idx) 3 M.1 n := by
  intro p l e R s m args below meth cd H locs cells slots pc lz as rest hexec hown hts hgk hnw hdg has T hT X
  obtain ⟨mk, methM, hnamed, hmethM, hsigM⟩ := sg_m (hts _ hcd)
  have hstatic : methM.isStatic = true := Cond.static_spec hnamed hmethM (hts _ hst)
  obtain ⟨kP, hkP, -⟩ := className_of_methodNamed hnamed
  have hinitP : kP.init = .initialized := Cond.initialized_spec (findClass_of_methodNamed hnamed) hkP (hts _ hini)
  obtain ⟨vm₁, X₁, hstep₁⟩ := X.invokestatic hexec hown (hts _ hl) hnamed hmethM hstatic hkP hinitP hy (g := F0 m pc lz (as.reverse ++ rest)) rfl (argsL := as) (rest := rest) (nPar.len hn hsigM has) rfl hdg
  exact ⟨vm₁, mk, X₁.warmed, X₁, X₁.named hnamed, fun target h => hstep₁ _ fun acts => by rw [doInvoke_state]; exact h⟩
theorem entS_SN {host : String} (hl : (Jvm.Cond.methodLinkNest own idx M.1 host) ∈ lw_tbl) (hst : (Jvm.Cond.static M.1) ∈ lw_all) (hini : (Jvm.Cond.initialized M.1.cls) ∈ lw_all) (hcd : mW M ∈ lw_all) (hy : notMH M.1.cls) (hn : nPar M.1 n) : EntS g own (.invokestatic idx) 3 M.1 n := by
  intro p l e R s m args below meth cd H locs cells slots pc lz as rest hexec hown hts hgk hnw hdg has T hT X
  obtain ⟨mk, methM, hnamed, hmethM, hsigM⟩ := sg_m (hts _ hcd)
  have hstatic : methM.isStatic = true := Cond.static_spec hnamed hmethM (hts _ hst)
  obtain ⟨kP, hkP, -⟩ := className_of_methodNamed hnamed
  have hinitP : kP.init = .initialized := Cond.initialized_spec (findClass_of_methodNamed hnamed) hkP (hts _ hini)
  obtain ⟨vm₁, X₁, hstep₁⟩ := X.invokestaticNest hexec hown (va_Nw.use (A := args) rfl (hnw _ hl rfl)) hnamed hmethM hstatic hkP hinitP hy (g := F0 m pc lz (as.reverse ++ rest)) rfl (argsL := as) (rest := rest) (nPar.len hn hsigM has) rfl hdg
  exact ⟨vm₁, mk, X₁.warmed, X₁, X₁.named hnamed, fun target h => hstep₁ _ fun acts => by rw [doInvoke_state]; exact h⟩
/-- through an interface -/
theorem entV_F {count : Nat} {x : MethodName} (hl : (Jvm.Cond.methodLink own idx x) ∈ lw_all) (hse : (Jvm.Cond.selects C x M.1) ∈ lw_all) (hin : (Jvm.Cond.instanceMethod M.1) ∈ lw_all) (hF : ∀ s : State, g.2.2.2.1 s → va_Fw C x M.1 s) (hx : notMH x.cls) (hn : nPar x n) : EntV g own (.invokeinterface idx count) 5 C M.1 n := by
  intro p l e R s m args below meth cd H locs cells slots pc lz as rest b cellB hexec hown hts hgk hnw hdg has hcell hobj hcls hkB T hT X
  obtain ⟨kB, hkB⟩ := hkB
  obtain ⟨f1, f2, f3, f4, f5⟩ := hF s hgk
  obtain ⟨r0, r, hn0, hrm, hstR, hsigR⟩ := Cond.declares_spec f1
  obtain ⟨cL, kL, r1, hcL, hkL, hiL, hfoundL, hn1⟩ := Cond.interfaceMethod_spec f2
  cases hn0.symm.trans hn1
  have hr0cls : r0.cls = cL := Option.some.inj ((findClass_of_methodNamed hn0).symm.trans hcL)
  obtain ⟨hnameR, hdescR⟩ := name_of_methodNamed hn0 hrm
  obtain ⟨mk, methM, hnamed, hmethM, -, habM⟩ := Cond.instanceMethod_spec (hts _ hin)
  obtain ⟨c2, r2, m2, q1, q2, q3, q4, -⟩ := Cond.selects_spec (hts _ hse)
  cases hcls.symm.trans q1
  cases hfoundL.symm.trans q2
  cases hnamed.symm.trans q3
  have hselP : selectMethod e.platform s.vm cellB.cls r0 = .method mk := by rw [Launch.admits_selectMethod X.admits]; exact q4
  have hpubM : hasFlag methM.accessFlags Acc.public_ = true := Cond.publicMethod_spec hnamed hmethM f3
  have hway : ((cellB.cls :: s.vm.superclasses cellB.cls).any fun k => (declaredIn s.vm r.name r.desc k).any fun (_, z) => z.isPrivate || z.isStatic) = false := by
    rw [hnameR, hdescR]; exact Cond.unhidden_spec hcls f4
  obtain ⟨c3, t3, w1, w2, w3⟩ := Cond.castable_spec f5
  cases hcls.symm.trans w1
  cases hcL.symm.trans w2
  obtain ⟨vm₁, X₁, hstep₁⟩ := X.invokeinterface hexec hown (hts _ hl) hn0 hrm hstR (by rw [hr0cls]; exact hkL) hiL hx (a := b) (cell := cellB) (kcell := kB) (by rw [hT]; exact hcell)
    (fun z h => by rw [h] at hobj; cases hobj) hkB (by rw [hr0cls]; exact w3) hselP hmethM hway hpubM habM (g := F0 m pc lz (as.reverse ++ .ref b :: rest)) rfl (argsL := as) (rest := rest) (nPar.len hn hsigR has) rfl hdg
  exact ⟨vm₁, mk, X₁.warmed, X₁, X₁.named hnamed, fun target h => hstep₁ _ fun acts => by rw [doInvoke_state]; exact h⟩
end
variable {g : GB} {M : MI} {d c k : Nat} {Q : RS → HM → Prop} {pc : Nat} {ls : List (Option Value)} {st : List Value} {h : HM}
theorem kc_blind {l : Launch} {as : List Value} : FrameBlind (fun (a : Array Value) (U : State) => a = as.toArray ∧ g.2.2.2.1 U ∧ GBase g ∧ Rel g h U.heap) := by
  intro a U gf mk q
  obtain ⟨q1, q2, q3, q4⟩ := q
  exact ⟨q1, q3.1 U _ (State.WarmedH.refl U) q2, q3, q4⟩
/-- A CALL, once its place and the callee's contract are known -/
theorem ev_callG {i : Instr} {len d' c' k' : Nat} {My : MI} {as rest : List Value} {Q' : RS → HM → Prop} (hd : decode M.2.1 pc = .ok (i, len))
    (hE : ∀ (p : Program) (l : Launch) (e : Env) (R : Room) (s : State) (m : MethodId) (args : Array Value) (below : List Frame) (meth : Method) (cd : Code) (H : Heap) (locs : List Loc) (cells slots : Nat) (lz : Array Slot), Fix g M d p l R s m args meth cd → Rel g h H → Ent p l e R s m args below meth cd H locs cells slots (F0 m pc lz st) My.1 as.toArray rest)
    (hcd : mW My ∈ lw_all) (hini : (Jvm.Cond.initialized My.1.cls) ∈ lw_all) (hK : Kc g My d' c' k' as h Q') (hdd : d' + 1 ≤ d) (hnL : My.2.2.1 ≤ 45) (hc' : c' ≤ c) (hk' : k' ≤ k) (hW8 : (rest.map fun v => v.category).sum ≤ 8)
    (kr : ∀ (v : Option Value) (h' : HM), Q' (.inl v) h' → Ev g M d (c - c') (k - k') Q (pc + len) ls (v.toList ++ rest) h')
    (kx : ∀ (E : String) (q : Nat) (h' : HM), Q' (.inr (E, q)) h' → EvX g M d (c - c') (k - k') Q pc ls h' E q) : Ev g M d c k Q pc ls st h := by
  intro p l e R s m args below meth cd H locs cells slots mc ms lz F hc hk hmc hms hL hR hz hl T hT X
  obtain ⟨vm₁, mk, hW1, X1, hnm, hst⟩ := hE p l e R s m args below meth cd H locs cells slots lz F hR T hT X
  have hM := hK l F.notr
  have f1 := F.frames
  have f2 := F.room
  have hws : ∀ w ∈ mW My :: lw_all, ∀ (a' : Array Value) (U : State), s.WarmedH U.vm → w.before a' U = true := pay_in F.words (fun w hw => by
    rcases List.mem_cons.mp hw with e1 | e1
    · rw [e1]; exact lw_self _ hcd
    · exact lw_self _ e1)
  have hin' : ∀ (a' : Array Value) (U : State), s.WarmedH U.vm → (Cond.initialized My.1.cls).before a' U = true := fun a' U hW => word_at hW (lw_self _ hini).2 (F.words _ hini)
  have hB : vx_Back l R p e below s args My.1 len 8 (PreOf R c' k' (fun a U => a = as.toArray ∧ g.2.2.2.1 U ∧ GBase g ∧ Rel g h U.heap)) (PostOf (rQ g Q') c' k' (gA g)) (vx_Post (xQ g Q') c' k' (gA g)) := by
    obtain ⟨y, cc, nL, ret, hh⟩ := My
    dsimp only at hnL
    cases hh with
    | none => exact vx_back (bytes := cc) (maxL := nL) (ret := ret) hM (kc_blind (l := l)) rfl rfl (by show d' + 1 ≤ R.frames; omega) (by show 8 + (nL + 11) + 64 * d' ≤ R.locals; omega) hws List.mem_cons_self hin'
    | some hh => exact vx_backW (bytes := cc) (maxL := nL) (ret := ret) (hh := hh) hM (kc_blind (l := l)) rfl rfl (by show d' + 1 ≤ R.frames; omega) (by show 8 + (nL + 11) + 64 * d' ≤ R.locals; omega) hws List.mem_cons_self hin'
  have hdg : decode cd.code pc = .ok (i, len) := by rw [F.2.1]; exact hd
  rcases hB m meth cd ⟨T.setVm vm₁, locs, cells, slots⟩ { F0 m pc lz st with stack := rest } i mk as.toArray X1 rfl (by show lz.size = _; rw [F.2.2.1]; exact hL.1) hdg (by show 2 * 0 + (rest.map fun v => v.category).sum ≤ 8; omega) hnm
    ⟨by show cells + c' ≤ R.cells; omega, by show slots + k' ≤ R.slots; omega, rfl, F.gbase.1 s (T.setVm vm₁) hW1 F.gk, F.gbase, by show Rel g h T.heap; rw [hT]; exact hR⟩ with ⟨v, ⟨U', l2, c2, s2⟩, X', ⟨g', mk', t, L, e1, e2, ⟨v', h', hv, hq, hR', hsz⟩, h1, hL2, h2, h3⟩, hsteps⟩ | ⟨q, ⟨U', l2, c2, s2⟩, X', ⟨g', mk', t, L, E, ce, e1, e2, ⟨h', hq, hR', hsz⟩, hce, hcv, hcl, h1, hL2, h2, h3⟩, hsteps⟩
  · dsimp only [Pt.U, Pt.locs, Pt.cells, Pt.slots] at X' e1 e2 h1 h2 h3 hsteps
    subst h1; subst h2; subst h3
    cases hv
    have hsz' : T.heap.size ≤ t.heap.size := hsz
    rw [hT] at hsz'
    obtain ⟨t2, a1, b1⟩ := kr v h' hq p l e R s m args below meth cd t.heap (locs ++ L) (cells + c') (slots + k') mc ms lz F (by omega) (by omega) hmc hms hL hR' (Nat.le_trans hz hsz') (fun z hzz => (List.mem_append.mp hzz).elim (hl z) (hL2 z)) U' e1 X'
    exact ⟨t2, hst _ (hsteps.trans a1), b1⟩
  · dsimp only [Pt.U, Pt.locs, Pt.cells, Pt.slots] at X' e1 e2 h1 h2 h3 hsteps hcl
    subst h1; subst h2; subst h3
    have hsz' : T.heap.size ≤ t.heap.size := hsz
    rw [hT] at hsz'
    obtain ⟨t2, a1, b1⟩ := kx E q h' hq p l e R s m args below meth cd t.heap (locs ++ L) (cells + c') (slots + k') mc ms lz ce rest F (by omega) (by omega) hmc hms hL hR' (Nat.le_trans hz hsz') (fun z hzz => (List.mem_append.mp hzz).elim (hl z) (hL2 z)) hce hcv (vx_cls hW1 hcl) U' e1 X'
    exact ⟨t2, hst _ (hsteps.trans a1), b1⟩
theorem entOf_V {i : Instr} {len b n ci N : Nat} {C : String} {T : u_T} {y : MethodName} {as rest : List Value} {fs : List Value} (hd : decode M.2.1 pc = .ok (i, len)) (hV : EntV g M.1.cls i len C y n) (hb : h b = some (.inr (ci, fs))) (hci : clG[ci]? = some (C, T, N)) (hn : as.length = n) (hst : st = as.reverse ++ .ref b :: rest) :
    ∀ (p : Program) (l : Launch) (e : Env) (R : Room) (s : State) (m : MethodId) (args : Array Value) (below : List Frame) (meth : Method) (cd : Code) (H : Heap) (locs : List Loc) (cells slots : Nat) (lz : Array Slot), Fix g M d p l R s m args meth cd → Rel g h H → Ent p l e R s m args below meth cd H locs cells slots (F0 m pc lz st) y (Value.ref b :: as).toArray rest := by
  intro p l e R s m args below meth cd H locs cells slots lz F hR
  subst hst
  obtain ⟨q', h1, cell, g1, g2, -, -, g3, -⟩ := hR.rd hb
  have hK := (F.kn.1 ci _ hci).2
  obtain ⟨k9, hk9, -⟩ := hK.2
  exact hV p l e R s m args below meth cd H locs cells slots pc lz as rest b cell F.1 F.own F.words F.gk F.nw (by rw [F.2.1]; exact hd) hn g1 g3 (by rw [g2]; exact hK.1) ⟨k9, by rw [g2]; exact hk9⟩
theorem entOf_S {i : Instr} {len n : Nat} {y : MethodName} {as rest : List Value} (hd : decode M.2.1 pc = .ok (i, len)) (hS : EntS g M.1.cls i len y n) (hn : as.length = n) (hst : st = as.reverse ++ rest) :
    ∀ (p : Program) (l : Launch) (e : Env) (R : Room) (s : State) (m : MethodId) (args : Array Value) (below : List Frame) (meth : Method) (cd : Code) (H : Heap) (locs : List Loc) (cells slots : Nat) (lz : Array Slot), Fix g M d p l R s m args meth cd → Rel g h H → Ent p l e R s m args below meth cd H locs cells slots (F0 m pc lz st) y as.toArray rest := by
  intro p l e R s m args below meth cd H locs cells slots lz F hR
  subst hst
  exact hS p l e R s m args below meth cd H locs cells slots pc lz as rest F.1 F.own F.words F.gk F.nw (by rw [F.2.1]; exact hd) hn
/-- what the tables say of a callee: its code's word, its class's -/
abbrev Cee (My : MI) : Prop := mW My ∈ lw_all ∧ (Jvm.Cond.initialized My.1.cls) ∈ lw_all ∧ My.2.2.1 ≤ 45
/-- by an object, a general end -/
theorem ev_callV {i : Instr} {len b n ci N d' c' k' : Nat} {C : String} {T : u_T} {My : MI} {as rest : List Value} {fs : List Value} {Q' : RS → HM → Prop} (hd : decode M.2.1 pc = .ok (i, len)) (hV : EntV g M.1.cls i len C My.1 n) (hC : Cee My) (hb : h b = some (.inr (ci, fs))) (hci : clG[ci]? = some (C, T, N)) (hn : as.length = n) (hst : st = as.reverse ++ .ref b :: rest)
    (hK : Kc g My d' c' k' (.ref b :: as) h Q') (hdd : d' + 1 ≤ d) (hc' : c' ≤ c) (hk' : k' ≤ k) (hW8 : (rest.map fun v => v.category).sum ≤ 8)
    (kr : ∀ (v : Option Value) (h' : HM), Q' (.inl v) h' → Ev g M d (c - c') (k - k') Q (pc + len) ls (v.toList ++ rest) h')
    (kx : ∀ (E : String) (q : Nat) (h' : HM), Q' (.inr (E, q)) h' → EvX g M d (c - c') (k - k') Q pc ls h' E q) : Ev g M d c k Q pc ls st h :=
  ev_callG hd (entOf_V hd hV hb hci hn hst) hC.1 hC.2.1 hK hdd hC.2.2 hc' hk' hW8 kr kx
theorem ev_callS {i : Instr} {len n d' c' k' : Nat} {My : MI} {as rest : List Value} {Q' : RS → HM → Prop} (hd : decode M.2.1 pc = .ok (i, len)) (hS : EntS g M.1.cls i len My.1 n) (hC : Cee My) (hn : as.length = n) (hst : st = as.reverse ++ rest)
    (hK : Kc g My d' c' k' as h Q') (hdd : d' + 1 ≤ d) (hc' : c' ≤ c) (hk' : k' ≤ k) (hW8 : (rest.map fun v => v.category).sum ≤ 8)
    (kr : ∀ (v : Option Value) (h' : HM), Q' (.inl v) h' → Ev g M d (c - c') (k - k') Q (pc + len) ls (v.toList ++ rest) h')
    (kx : ∀ (E : String) (q : Nat) (h' : HM), Q' (.inr (E, q)) h' → EvX g M d (c - c') (k - k') Q pc ls h' E q) : Ev g M d c k Q pc ls st h :=
  ev_callG hd (entOf_S hd hS hn hst) hC.1 hC.2.1 hK hdd hC.2.2 hc' hk' hW8 kr kx
/-! exceptions -/
theorem evx_out {E : String} {q : Nat} (hout : (hTab M).all (fun x => !covers x pc) = true) (hq : Q (.inr (E, q)) h) : EvX g M d c k Q pc ls h E q := by
  intro p l e R s m args below meth cd H locs cells slots mc ms lz ce rest F hc hk hmc hms hL hR hz hl hce hcv hcl
  refine vx_widen (k := mc) (n := ms) (by omega) (by omega) (vx_out (fun x hx => ?_) F.locks hce hcv hcl (fun t ht hW => ⟨h, hq, by rw [ht]; exact hR, by rw [ht]; exact hz⟩) hl (Nat.le_refl _) (Nat.le_refl _))
  rw [F.tab] at hx
  have h9 : (!covers x pc) = true := List.all_eq_true.mp hout x hx
  rw [Bool.not_eq_true'] at h9
  exact h9
/-- what a row of the table that comes ahead says: it doesn't cover, or E is none of its class's -/
def Pass (g : GB) (own : String) (pc : Nat) (E : String) (z : ExceptionTableEntry) : Prop := covers z pc = false ∨ (z.catchType ≠ 0 ∧ ∃ nm : String, (Jvm.Cond.classLink own z.catchType nm) ∈ lw_all ∧ ∀ U : State, g.2.2.2.1 U → va_Nc E nm U)
theorem evx_outP {E : String} {q : Nat} (hout : ∀ z ∈ hTab M, Pass g M.1.cls pc E z) (hq : Q (.inr (E, q)) h) : EvX g M d c k Q pc ls h E q := by
  intro p l e R s m args below meth cd H locs cells slots mc ms lz ce rest F hc hk hmc hms hL hR hz hl hce hcv hcl
  refine vx_widen (k := mc) (n := ms) (by omega) (by omega) (vx_outP F.own F.locks (fun z hx => ?_) hce hcv hcl (fun t ht hW => ⟨h, hq, by rw [ht]; exact hR, by rw [ht]; exact hz⟩) hl (Nat.le_refl _) (Nat.le_refl _))
  rw [F.tab] at hx
  rcases hout z hx with q1 | ⟨q1, nm, q2, q3⟩
  · exact Or.inl q1
  · exact Or.inr ⟨q1, nm, F.words _ q2, q3 s F.gk⟩
theorem evx_catch {E name : String} {q : Nat} (pre : List ExceptionTableEntry) (x : ExceptionTableEntry) (suf : List ExceptionTableEntry) (hsplit : hTab M = pre ++ x :: suf) (hpass : ∀ z ∈ pre, Pass g M.1.cls pc E z) (hx : covers x pc = true) (h0 : x.catchType ≠ 0) (hlink : (Jvm.Cond.classLink M.1.cls x.catchType name) ∈ lw_all) (hcast : ∀ U : State, g.2.2.2.1 U → (Jvm.Cond.castable E name).before #[] U = true) (kk : Ev g M d c k Q x.handlerPc ls [.ref q] h) : EvX g M d c k Q pc ls h E q := by
  intro p l e R s m args below meth cd H locs cells slots mc ms lz ce rest F hc hk hmc hms hL hR hz hl hce hcv hcl
  refine vx_catch F.own pre x suf (by rw [F.tab]; exact hsplit) (fun z hzz => ?_) hx h0 (F.words _ hlink) (va_Nw.use (A := args) rfl (hcast s F.gk)) hce hcv hcl (kk p l e R s m args below meth cd H locs cells slots mc ms lz F hc hk hmc hms hL hR hz hl)
  rcases hpass z hzz with q1 | ⟨q1, nm, q2, q3⟩
  · exact Or.inl q1
  · exact Or.inr ⟨q1, nm, F.words _ q2, q3 s F.gk⟩
/-- 'finally': a row that takes all -/
theorem evx_any {E : String} {q : Nat} (pre : List ExceptionTableEntry) (x : ExceptionTableEntry) (suf : List ExceptionTableEntry) (hsplit : hTab M = pre ++ x :: suf) (hpass : ∀ z ∈ pre, covers z pc = false) (hx : covers x pc = true) (h0 : x.catchType = 0) (kk : Ev g M d c k Q x.handlerPc ls [.ref q] h) : EvX g M d c k Q pc ls h E q := by
  intro p l e R s m args below meth cd H locs cells slots mc ms lz ce rest F hc hk hmc hms hL hR hz hl hce hcv hcl
  have w := kk p l e R s m args below meth cd H locs cells slots mc ms lz F hc hk hmc hms hL hR hz hl
  intro T hT X
  obtain ⟨vm', X', st⟩ := X.thenCaughtThrough q (g := F0 m pc lz rest) rfl (Steps.refl _) (by rw [hT]; exact hce) (by rw [hcv]; rfl) (by obtain ⟨k9, h9, -⟩ := Vm.findClass_spec hcl; exact ⟨k9, h9⟩) pre x suf (by rw [F.tab]; exact hsplit)
    (fun z hzz => Or.inl (hpass z hzz)) hx (Or.inl h0)
  obtain ⟨t, a1, b1⟩ := w (T.setVm vm') hT X'
  exact ⟨t, st.trans a1, b1⟩
theorem ev_athrow {E : String} {q ci : Nat} {C : String} {T : u_T} {N : Nat} {fs : List Value} (hd : decode M.2.1 pc = .ok (.athrow, 1)) (hq : h q = some (.inr (ci, fs))) (hci : clG[ci]? = some (E, T, N)) (kk : EvX g M d c k Q pc ls h E q) (hlo : lowK ci = false := by rfl) : Ev g M d c k Q pc ls (.ref q :: st) h := by
  intro p l e R s m args below meth cd H locs cells slots mc ms lz F hc hk hmc hms hL hR hz hl
  obtain ⟨q', h1, cell, g1, g2, g3', -⟩ := hR.rd hq
  have g3 := g3' hlo
  have hK := (F.kn.1 ci _ hci).2
  exact vx_athrow F.1 F.2.1 hd (kk p l e R s m args below meth cd H locs cells slots mc ms lz cell st F hc hk hmc hms hL hR hz hl g1 g3 (by rw [g2]; exact hK.1))
/-- .. of a caught one that goes on -/
theorem ev_rethrow {E : String} {q : Nat} (hd : decode M.2.1 pc = .ok (.athrow, 1)) (hcell : ∀ (s : State) (H : Heap), g.2.2.2.1 s → KnG g s → Rel g h H → ∃ ce : Cell, H[q]? = some ce ∧ ce.vm = .none ∧ s.vm.findClass E = some ce.cls) (kk : EvX g M d c k Q pc ls h E q) : Ev g M d c k Q pc ls (.ref q :: st) h := by
  intro p l e R s m args below meth cd H locs cells slots mc ms lz F hc hk hmc hms hL hR hz hl
  obtain ⟨ce, h1, h2, h3⟩ := hcell s H F.gk F.kn hR
  exact vx_athrow F.1 F.2.1 hd (kk p l e R s m args below meth cd H locs cells slots mc ms lz ce st F hc hk hmc hms hL hR hz hl h1 h2 h3)
end LC


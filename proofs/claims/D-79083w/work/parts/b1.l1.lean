/-! THE LOGIC: lambdas of no captured values: their sites, a call of the made object (printed by gen/mkl_1.py) -/
section L1S
variable {g : GB} {M : MI} {d c k : Nat} {Q : RS → HM → Prop} {pc : Nat} {ls : List (Option Value)} {st : List Value} {h : HM}
def lamF : ByteArray := ⟨#[0x1b, 0xb8, 0x00, 0x11, 0xac]⟩
theorem lamF0 : decode lamF 0 = .ok (.iload_n 1, 1) := by decide +kernel
theorem lamF1 : decode lamF 1 = .ok (.invokestatic 17, 3) := by decide +kernel
theorem lamF4 : decode lamF 4 = .ok (.ireturn, 1) := by decide +kernel
def lamC (i : Nat) : ClassFile := ((lamS i).file "DanceNotation$Score").getD { minorVersion := 0, majorVersion := 0, constantPool := #[], accessFlags := 0, thisClass := 0, superClass := 0, interfaces := #[], fields := #[], methods := #[], attributes := #[] }
def lamM (i : Nat) : Method := ((layoutMethods (lamC i)).bind (·[1]?)).getD default
theorem lam_file (i : Fin 4) : (lamS i).file "DanceNotation$Score" = some (lamC i) := by
  have h : ∀ i : Fin 4, ((lamS i).file "DanceNotation$Score").isSome = true := by decide +kernel
  obtain ⟨x, hx⟩ := Option.isSome_iff_exists.mp (h i)
  simp [lamC, hx]
theorem lam_second (i : Fin 4) : ∀ ms, layoutMethods (lamC i) = some ms → ms[1]? = some (lamM i) := by
  intro ms hms
  have h : ∀ i : Fin 4, ((layoutMethods (lamC i)).bind (·[1]?)).isSome = true := by decide +kernel
  obtain ⟨x, hx⟩ := Option.isSome_iff_exists.mp (h i)
  have hf : lamM i = x := by simp [lamM, hx]
  rw [hms] at hx
  rw [hf]
  exact hx
theorem lam_code : ∀ i : Fin 4, ((lamM i).code.map fun c => (c.code.data, c.maxLocals)) = some (lamF.data, 2) := by decide +kernel
theorem lam_flags : ∀ i : Fin 4, ((lamM i).accessFlags, (lamM i).name, (lamM i).sig.returnType) = (0x0001, "of", some FieldType.char) := by decide +kernel
theorem lam_17 : ∀ i : Fin 4, (lamC i).constantPool[17]? = some (.methodref 14 16) ∧ (lamC i).constantPool.className? 14 = some "DanceNotation$Score" ∧ (lamC i).constantPool.nameAndType? 16 = some (lamN i, "(C)C") := by decide +kernel
theorem lam_14 : ∀ i : Fin 4, (lamC i).constantPool[14]? = some (.class_ 13) ∧ (lamC i).constantPool.string? 13 = some "DanceNotation$Score" ∧ 14 ≠ (lamC i).thisClass := by decide +kernel
theorem lam_facts {e : Setting} {vm : Vm} {dd c : ClassId} {dk : Class} (i : Fin 4) (hd : vm.classes[dd]? = some dk) (hname : dk.name = "DanceNotation$Score") (h : Lambda.isMade e vm dd (lamS i) c = true) :
    ∃ (k tk : Class) (file : ClassFile) (methk : Method) (ck : Code) (toy iface : ClassId) (t found : MethodId),
      vm.classes[c]? = some k ∧ k.name = "DanceNotation$Score$$Lambda" ∧ k.cf = some file ∧ file.constantPool = (lamC i).constantPool ∧
      vm.method? ⟨c, 1⟩ = some methk ∧ methk.code = some ck ∧ ck.code = lamF ∧ ck.maxLocals = 2 ∧ methk.locks = false ∧ methk.accessFlags = 0x0001 ∧ methk.sig.returnType = some .char ∧
      vm.findClass "DanceNotation$Score" = some toy ∧ vm.classes[toy]? = some tk ∧ ((methodIn toy (lamN i) "(C)C" tk.isInterface none).ask e vm).1 = .ok t ∧
      vm.methodReady c 17 t ∧ vm.classReady c 14 toy ∧ vm.findClass "DanceNotation$StepRule" = some iface ∧ ((methodIn iface "of" "(C)C" true none).ask e vm).1 = .ok found ∧ selectMethod {} vm c found = .method ⟨c, 1⟩ := by
  obtain ⟨dk', k, ok, tk, file, cf, object, iface, toy, lay, methods, target, found, hd', hk, hfile, hcf, -, hif, -, -, hms, ht, htk, hg, hfd, hrec, -, -, -, -, hpool, hmeth, -, -, hres, hsel⟩ := Lambda.isMade_spec h
  cases hd.symm.trans hd'
  rw [hname, lam_file i] at hcf
  cases hcf
  obtain ⟨b, hb, hsame⟩ := hmeth 1 (lamM i) (lam_second i methods hms)
  simp only [Lambda.sameMethod, Bool.and_eq_true, decide_eq_true_eq] at hsame
  obtain ⟨⟨⟨⟨hn, -⟩, hsig⟩, hfl⟩, hcode⟩ := And.intro (And.intro (And.intro (And.intro hsame.1.1 trivial) hsame.1.2.2.1) hsame.1.2.2.2) hsame.2
  have fc := lam_code i
  have ff := lam_flags i
  simp only [Prod.mk.injEq] at ff
  cases hfc : (lamM i).code with
  | none => rw [hfc] at fc; cases fc
  | some x =>
    cases hbc : b.code with
    | none => simp [hfc, hbc] at hcode
    | some y =>
      simp only [hfc, hbc, Bool.and_eq_true, decide_eq_true_eq] at hcode
      simp only [hfc, Option.map_some, Option.some.injEq, Prod.mk.injEq] at fc
      obtain ⟨h14, hs14, hne⟩ := lam_14 i
      obtain ⟨e1, e2, e3⟩ := lam_17 i
      have hdesc : (lamS i).implDesc.toString = "(C)C" := (show ∀ i : Fin 4, (lamS i).implDesc.toString = "(C)C" by decide +kernel) i
      have hdesc2 : (lamS i).sam.toString = "(C)C" := (show ∀ i : Fin 4, (lamS i).sam.toString = "(C)C" by decide +kernel) i
      refine ⟨k, tk, file, b, y, toy, iface, target, found, hk, by rw [hrec.1, hname]; rfl, hfile, hpool.2.1, by simp [Vm.method?, hk, hb], hbc, ?_, by rw [← hcode.1.1.1.1.2.1]; exact fc.2, ?_, by rw [← hfl]; exact ff.1, by rw [← hsig]; exact ff.2.2, ht, htk, by rw [← hdesc]; exact hg,
        ⟨k, hk, hres 17 _ (Lambda.resolvedOf_method e1 e2 ht htk e3 (by rw [← hdesc]; exact hg))⟩, ⟨k, hk, hres 14 _ (Lambda.resolvedOf_class h14 hne hs14 ht)⟩, hif, by rw [← hdesc2]; exact hfd, hsel⟩
      · rw [← hcode.1.1.1.1.2.2]
        exact ByteArray.ext fc.1
      · simp [Method.locks, Method.isSynchronized, ← hfl, ff.1, hasFlag, Acc.synchronized]
/-- at a lambda's site -/
theorem ev_indy {i idx : Nat} (hG : GKx g) (hi : i < 4) (hpc : pc = 11 + 8 * i) (hM : M.1 = ⟨"DanceNotation$Score", "<init>", "(I)V"⟩) (hd : decode M.2.1 pc = .ok (.invokedynamic idx, 5)) (hdd : 50 ≤ d) (hW8 : (st.map fun v => v.category).sum ≤ 8) (kk : Ev g M d c k Q (pc + 5) ls (.ref (g.2.2.2.2 (56 + i)) :: st) h) : Ev g M d c k Q pc ls st h := by
  intro p l e R s m args below meth cd H locs cells slots mc ms lz F hc hk hmc hms hL hR hz hl T hT X
  obtain ⟨mS, kS, i0, p0, cK, cellL, n1, n2, n3, -⟩ := (hG s F.gk).2.2.2.2.2.2.2.2.2.2.2 i hi
  have hn := F.named
  rw [hM] at hn
  cases hn.symm.trans n1
  obtain ⟨t, a1, b1⟩ := kk p l e R s m args below meth cd H locs cells slots mc ms lz F hc hk hmc hms hL hR hz hl T hT X
  have f1 := F.frames
  have f2 := F.room
  refine ⟨t, ?_, b1⟩
  exact X.lambdaConstant F.1 (g := F0 m pc lz st) rfl (by show lz.size = _; rw [hL.1, F.2.2.1]) (by show decode cd.code pc = _; rw [F.2.1]; exact hd) n2 (by show (kS.callSites.find? fun y => y.1 == m.idx && y.2.1 == pc) = _; rw [hpc]; exact n3) (by rw [X.admits.platform]; show 2 * 0 + (st.map fun v => v.category).sum + 3072 ≤ R.locals; omega) a1
/-- a call of the made object -/
theorem ev_lam {i idx count d' : Nat} {My : MI} {x y : Int} {rest : List Value} (hG : GKx g) (hi : i < 4) (hd : decode M.2.1 pc = .ok (.invokeinterface idx count, 5)) (hl9 : (Jvm.Cond.methodLink M.1.cls idx ⟨"DanceNotation$StepRule", "of", "(C)C"⟩) ∈ lw_all) (q1 : (Jvm.Cond.declares ⟨"DanceNotation$StepRule", "of", "(C)C"⟩) ∈ lw_tbl) (q2 : (Jvm.Cond.interfaceMethod "DanceNotation$StepRule" "DanceNotation$StepRule" "of" "(C)C") ∈ lw_tbl)
    (hMy : My.1 = ⟨"DanceNotation$Score", lamN i, "(C)C"⟩) (hcd : mW My ∈ lw_all) (hini : (Jvm.Cond.initialized My.1.cls) ∈ lw_all) (hsta : (Jvm.Cond.static My.1) ∈ lw_all) (hpar : nPar My.1 1) (hK : Kc g My d' 0 0 [vz x] h (sR (some (vz y)) h)) (hdd : d' + 2 ≤ d) (hnL : My.2.2.1 ≤ 5) (hy : narrow .char (vz y) = vz y) (hW8 : (rest.map fun v => v.category).sum ≤ 8) (kk : Ev g M d c k Q (pc + 5) ls (vz y :: rest) h) : Ev g M d c k Q pc ls (vz x :: .ref (g.2.2.2.2 (56 + i)) :: rest) h := by
  intro p l e R s m args below meth cd H locs cells slots mc ms lz F hc hk hmc hms hL hR hz hl T hT X
  obtain ⟨mS, kS, i0, p0, cK, cellL, n1, n2, n3, hmade, hcan, hlt, hcellG, hcls, hvm⟩ := (hG s F.gk).2.2.2.2.2.2.2.2.2.2.2 i hi
  subst hcls
  have f1 := F.frames
  have f2 := F.room
  have hcell : T.heap[g.2.2.2.2 (56 + i)]? = some cellL := by rw [hT, hR.2.1 _ hlt]; exact hcellG
  obtain ⟨kN, hkN, hkname⟩ := className_of_methodNamed n1
  cases n2.symm.trans hkN
  obtain ⟨kL, tk, file, methk, ck, toy, iface, t, found, a1, a2, a3, a4, a5, a6, a7, a8, a9, a10, a11, a12, a13, a14, a15, a16, a17, a18, a19⟩ := lam_facts ⟨i, hi⟩ n2 hkname hmade
  obtain ⟨r0, r, hn0, hrm, hstR, hsigR⟩ := Cond.declares_spec ((hG s F.gk).1 _ q1 rfl)
  obtain ⟨cI, kI, r1, hcI, hkI, hiI, hfoundI, hn9⟩ := Cond.interfaceMethod_spec ((hG s F.gk).1 _ q2 rfl)
  cases hn0.symm.trans hn9
  have hr0cls : r0.cls = cI := Option.some.inj ((findClass_of_methodNamed hn0).symm.trans hcI)
  cases hcI.symm.trans a17
  have hfr : found = r0 := by
    simp only [State.methodFound?, hcI, hkI, hiI, Option.bind_eq_bind, Option.bind_some, a18, Except.toOption] at hfoundI
    exact Option.some.inj hfoundI
  subst hfr
  obtain ⟨hnameR, hdescR⟩ := name_of_methodNamed hn0 hrm
  obtain ⟨i2, hi2, hasg, hway⟩ := State.lambdaCallable_spec hcan
  cases hi2.symm.trans hcI
  have hsam : (lamS i).sam.toString = "(C)C" := by
    have : ∀ i : Fin 4, (lamS i).sam.toString = "(C)C" := by decide +kernel
    exact this ⟨i, hi⟩
  have hselP : selectMethod e.platform s.vm cellL.cls found = .method ⟨cellL.cls, 1⟩ := by rw [Launch.admits_selectMethod X.admits]; exact a19
  have hlen1 : [vz x].length = r.sig.parameters.length := by
    have : nPar ⟨"DanceNotation$StepRule", "of", "(C)C"⟩ 1 := by decide +kernel
    exact nPar.len this hsigR rfl
  obtain ⟨vm₁, X₁, hstep₁⟩ := X.invokeinterface F.1 F.own (F.words _ hl9) hn0 hrm hstR (by rw [hr0cls]; exact hkI) hiI ⟨by decide, by decide⟩ (a := g.2.2.2.2 (56 + i)) (cell := cellL) (kcell := kL) hcell (fun z h => by rw [hvm] at h; cases h) a1 (by rw [hr0cls]; exact hasg) hselP a5
    (by rw [hnameR, hdescR]; rw [hsam] at hway; exact hway) (by rw [a10]; decide) (by simp [Method.isAbstract, a10, hasFlag, Acc.abstract]) (g := F0 m pc lz (vz x :: .ref (g.2.2.2.2 (56 + i)) :: rest)) rfl (argsL := [vz x]) (rest := rest) hlen1 rfl (by show decode cd.code pc = _; rw [F.2.1]; exact hd)
  -- the made method's frame
  have hW1 : s.WarmedH vm₁ := X₁.warmed
  have hmade1 := Lambda.isMade_warmer hW1 hmade
  obtain ⟨kS1, hkS1, heS1⟩ := hW1.alike.2.2 _ _ n2
  obtain ⟨kL1, tk1, file1, methk1, ck1, toy1, iface1, t1, found1, b1, b2, b3, b4, b5, b6, b7, b8, b9, b10, b11, b12, b13, b14, b15, b16, -⟩ := lam_facts ⟨i, hi⟩ hkS1 (by rw [heS1]; exact hkname) hmade1
  obtain ⟨ga, hga⟩ : ∃ ga : Nat, ga = g.2.2.2.2 (56 + i) := ⟨_, rfl⟩
  rw [← hga] at hstep₁ ⊢
  obtain ⟨Y₀, hin⟩ := X₁.into (g := { F0 m pc lz (vz x :: .ref ga :: rest) with stack := rest }) rfl (by show lz.size = _; rw [hL.1, F.2.2.1]) (ig := .invokeinterface idx count) (len := 5) (by show decode cd.code pc = _; rw [F.2.1]; exact hd) #[.ref ga, vz x] (mk := ⟨cellL.cls, 1⟩)
    (R' := { frames := d' + 1, locals := 64 * d' + 24, cells := 0, slots := 0 }) b5 b6 b9 (State.plainMethod.of_name (fun k' hk' => by cases b1.symm.trans hk'; rw [b2]; decide +kernel)) (by show d' + 1 + 1 ≤ R.frames; omega) (by rw [b8]; show 2 * 0 + (rest.map fun v => v.category).sum + (2 + 11) + (64 * d' + 24) ≤ R.locals; omega) (by show cells + 0 ≤ R.cells; omega) (by show slots + 0 ≤ R.slots; omega)
  have hent : entryFrame ⟨cellL.cls, 1⟩ #[.ref ga, vz x] ck1.maxLocals = { method := ⟨cellL.cls, 1⟩, pc := 0, locals := #[.val (.ref ga), .val (vz x)], stack := [], locked := none } := by rw [b8]; rfl
  generalize hU : ((T.setVm vm₁).setTop { F0 m pc lz (vz x :: .ref ga :: rest) with stack := rest }).pushFrame (.java (entryFrame ⟨cellL.cls, 1⟩ #[.ref ga, vz x] ck1.maxLocals)) = U at Y₀ hin
  generalize hbase : (T.setVm vm₁).calling { F0 m pc lz (vz x :: .ref ga :: rest) with stack := rest } ⟨cellL.cls, 1⟩ #[.ref ga, vz x] = base at Y₀
  have hbv : base.vm = vm₁ := by rw [← hbase]; rfl
  have hUvm : U.vm = vm₁ := by rw [← hU]; rfl
  have hUheap : U.heap = T.heap := by rw [← hU]; rfl
  have hWb : s.WarmedH base.vm := by rw [hbv]; exact hW1
  -- the static method
  obtain ⟨mt, metht, hnt, hmt, hsigt⟩ := sg_m (F.words _ hcd)
  have hst : metht.isStatic = true := Cond.static_spec hnt hmt (F.words _ hsta)
  obtain ⟨kP, hkP, hkPn⟩ := className_of_methodNamed hnt
  have hinitP : kP.init = .initialized := Cond.initialized_spec (findClass_of_methodNamed hnt) hkP (F.words _ hini)
  have hcT : s.vm.findClass "DanceNotation$Score" = some mt.cls := by have := findClass_of_methodNamed hnt; rw [hMy] at this; exact this
  cases a12.symm.trans hcT
  cases a13.symm.trans hkP
  have hft : s.methodFound? "DanceNotation$Score" (lamN i) "(C)C" = some mt := by
    rw [hMy] at hnt
    exact State.methodFound?_of_named hnt ⟨show "DanceNotation$Score" ≠ _ by decide, show "DanceNotation$Score" ≠ _ by decide⟩
  have htm : t = mt := by
    simp only [State.methodFound?, a12, a13, Option.bind_eq_bind, Option.bind_some] at hft
    have a14' : ((methodIn mt.cls (lamN i) "(C)C" tk.isInterface none).ask { classPath := fun _ => none } s.vm).1 = .ok t := a14
    rw [a14'] at hft
    exact Option.some.inj hft
  subst htm
  have hal := hW1.alike
  have e12 : vm₁.findClass "DanceNotation$Score" = some t.cls := by rw [hal.findClass]; exact a12
  cases e12.symm.trans b12
  obtain ⟨tk1', htk1', hetk⟩ := hal.2.2 _ _ a13
  cases b13.symm.trans htk1'
  have htt : t1 = t := by
    have : ((methodIn t.cls (lamN i) "(C)C" tk1.isInterface none).ask { classPath := fun _ => none } vm₁).1 = ((methodIn t.cls (lamN i) "(C)C" tk.isInterface none).ask { classPath := fun _ => none } s.vm).1 := by
      rw [show tk1.isInterface = tk.isInterface by rw [hetk]; rfl]
      exact Lambda.methodIn_ask_alike hal _ _ _ _
    have b14' : ((methodIn t.cls (lamN i) "(C)C" tk1.isInterface none).ask { classPath := fun _ => none } vm₁).1 = .ok t1 := b14
    have a14' : ((methodIn t.cls (lamN i) "(C)C" tk.isInterface none).ask { classPath := fun _ => none } s.vm).1 = .ok t := a14
    rw [b14', a14'] at this
    exact Except.ok.inj this
  subst htt
  have hmt1 : vm₁.method? t1 = some metht := by rw [hal.method?]; exact hmt
  have hpoly : ∀ y, signaturePolymorphic tk1 y = false := fun y => by
    have : tk1.name = "DanceNotation$Score" := by rw [hetk, hkPn, hMy]
    simp [signaturePolymorphic, this]
  obtain ⟨bb, hmem⟩ := memberRef_ask' (e := e) (vm := U.vm) (d := cellL.cls) (index := 17) (by rw [hUvm]; exact b1) b3 (Or.inl (by rw [b4]; exact (lam_17 ⟨i, hi⟩).1)) (by rw [b4]; exact (lam_17 ⟨i, hi⟩).2.2)
  have href : plainRef U e cellL.cls 17 := ⟨14, _, _, bb, t1.cls, tk1, hmem, by rw [hUvm]; exact b16, by rw [hUvm]; exact b13, by simp [hpoly]⟩
  have hpar1 : [vz x].length = metht.sig.parameters.length := nPar.len hpar hsigt rfl
  -- its contract
  have hM := hK l F.notr
  have hws : ∀ w ∈ mW My :: lw_all, ∀ (a' : Array Value) (U : State), base.WarmedH U.vm → w.before a' U = true := fun w hw a' U' hU' => pay_in F.words (fun w hw => by
    rcases List.mem_cons.mp hw with e1 | e1
    · rw [e1]; exact lw_self _ hcd
    · exact lw_self _ e1) w hw a' U' (State.WarmedH.trans hWb hU')
  have hin' : ∀ (a' : Array Value) (U : State), base.WarmedH U.vm → (Cond.initialized My.1.cls).before a' U = true := fun a' U hW => word_at (State.WarmedH.trans hWb hW) (lw_self _ hini).2 (F.words _ hini)
  have hB : vx_Back l { frames := d' + 1, locals := 64 * d' + 24, cells := 0, slots := 0 } p e (.java { F0 m pc lz (vz x :: .ref ga :: rest) with stack := rest } :: below) base #[.ref ga, vz x] My.1 3 8 (PreOf { frames := d' + 1, locals := 64 * d' + 24, cells := 0, slots := 0 } 0 0 (fun a U => a = [vz x].toArray ∧ g.2.2.2.1 U ∧ GBase g ∧ Rel g h U.heap)) (PostOf (rQ g (sR (some (vz y)) h)) 0 0 (gA g)) (vx_Post (xQ g (sR (some (vz y)) h)) 0 0 (gA g)) := by
    clear htk1' hsigt hpar
    obtain ⟨y9, cc, nL, ret, hh⟩ := My
    dsimp only at hnL
    cases hh with
    | none => exact vx_back (bytes := cc) (maxL := nL) (ret := ret) hM (kc_blind (l := l)) rfl rfl (by show d' + 1 ≤ d' + 1; omega) (by show 8 + (nL + 11) + 64 * d' ≤ 64 * d' + 24; omega) hws List.mem_cons_self hin'
    | some hh => exact vx_backW (bytes := cc) (maxL := nL) (ret := ret) (hh := hh) hM (kc_blind (l := l)) rfl rfl (by show d' + 1 ≤ d' + 1; omega) (by show 8 + (nL + 11) + 64 * d' ≤ 64 * d' + 24; omega) hws List.mem_cons_self hin'
  have hnU : U.methodNamed? My.1 = some t1 := by
    have := X₁.named hnt
    simp only [State.methodNamed?, hUvm] at this ⊢
    exact this
  rcases hB ⟨cellL.cls, 1⟩ methk1 ck1 ⟨U, [], 0, 0⟩ { method := ⟨cellL.cls, 1⟩, pc := 1, locals := #[.val (.ref ga), .val (vz x)], stack := [], locked := none } (.invokestatic 17) t1 [vz x].toArray Y₀ rfl (by show 2 = ck1.maxLocals; rw [b8]) (by show decode ck1.code 1 = _; rw [b7]; exact lamF1) (by show 2 * 0 + 0 ≤ 8; omega) hnU
    ⟨by show 0 + 0 ≤ 0; omega, by show 0 + 0 ≤ 0; omega, rfl, F.gbase.1 s U (by rw [hUvm]; exact hW1) F.gk, F.gbase, by show Rel g h U.heap; rw [hUheap, hT]; exact hR⟩ with ⟨v, ⟨U', l2, c2, s2⟩, X', ⟨g', mk', t9, L, e1, e2, ⟨v', h', hv, hq, hR', hsz⟩, h1, hL2, h2, h3⟩, hsteps⟩ | ⟨q, ⟨U', l2, c2, s2⟩, X', ⟨g', mk', t9, L, E, ce, e1, e2, ⟨h', hq, hR', hsz⟩, -⟩, -⟩
  · dsimp only [Pt.U, Pt.locs, Pt.cells, Pt.slots] at X' e1 e2 h1 h2 h3 hsteps
    subst h1; subst h2; subst h3
    cases hv
    obtain ⟨hq1, hq2⟩ := hq
    cases hq1
    subst hq2
    have hsz' : U.heap.size ≤ t9.heap.size := hsz
    rw [hUheap, hT] at hsz'
    obtain ⟨fs, hleave, -, hended, hWe, hsame⟩ := X'.leave (v := some (vz y)) (fun h => by rw [b11] at h; cases h) b9
    rw [← hbase] at hWe hsame
    obtain ⟨T', X'', hW', -, ht⟩ := X₁.outOf (g := { F0 m pc lz (vz x :: .ref ga :: rest) with stack := rest }) rfl (ig := .invokeinterface idx count) (len := 5) (by show decode cd.code pc = _; rw [F.2.1]; exact hd) hended hWe hsame
    have hTh : T'.heap = t9.heap := by
      have := congrArg State.heap ht
      rw [← e1]
      simpa using this.symm
    obtain ⟨t2, s1, s2⟩ := kk p l e R s m args below meth cd T'.heap (locs ++ l2) (cells + (0 + 0)) (slots + (0 + 0)) mc ms lz F (by omega) (by omega) hmc hms hL (by rw [hTh]; exact hR') (by rw [hTh]; omega) (fun z hzz => (List.mem_append.mp hzz).elim (hl z) (hL2 z)) T' rfl X''
    refine ⟨t2, hstep₁ _ (fun acts => ?_), s2⟩
    have hargs : (Value.ref ga :: [vz x]).toArray = #[.ref ga, vz x] := rfl
    rw [hargs, hin acts, hent]
    refine Steps.trans (Steps.weaken (mid := [.java { F0 m pc lz (vz x :: .ref ga :: rest) with stack := rest }]) (b := T'.setTop (F0 m (pc + 5) lz (vz y :: rest))) ?_) s1
    have hs : U.topJava?.isSome := Y₀.here.top
    jvm_step Y₀.here [F.1, b7, lamF0]
    jvm_step Y₀.here [F.1, b7, lamF1, invokestatic.wp_ready (e := e) (s := U) (m := t1) (k := tk1) (meth := metht) (args := [vz x]) (rest := [])
      (f := { method := ⟨cellL.cls, 1⟩, pc := 1, locals := #[.val (.ref ga), .val (vz x)], stack := [vz x], locked := none }) hs href (by rw [hUvm]; exact b15) (by rw [hUvm]; exact b13) (by rw [hUvm]; exact hmt1) (hpoly _) hst (by rw [hetk]; exact hinitP) hpar1 rfl]
    intro acts'
    rw [doInvoke_state]
    refine hsteps.trans ?_
    show Steps p.tables e (.java { F0 m pc lz (vz x :: .ref ga :: rest) with stack := rest } :: below) (U'.setTop { method := ⟨cellL.cls, 1⟩, pc := 4, locals := #[.val (.ref ga), .val (vz x)], stack := [vz y], locked := none }) _
    have hs' : U'.topJava?.isSome := X'.here.top
    have hvU : U'.vm.method? ⟨cellL.cls, 1⟩ = some methk1 := X'.method'
    jvm_step X'.here [hs', F.1, b7, lamF4, hvU, b11, hy]
    intro acts''
    rw [hleave { method := ⟨cellL.cls, 1⟩, pc := 4, locals := #[.val (.ref ga), .val (vz x)], stack := [], locked := none } acts'' rfl rfl rfl, ht]
    exact Steps.refl _
  · cases hq.1
end L1S

/-! THE LOGIC: super.m(..) where a class further up or an interface has m (printed by gen/mko5.py) -/
section O5S
variable {g : GB} {M : MI} {d c k : Nat} {h : HM}
theorem pig : ∀ (n : Nat) (f : Nat → Nat), (∀ i, i ≤ n → f i < n) → ∃ i j, i < j ∧ j ≤ n ∧ f i = f j := by
  intro n
  induction n with
  | zero => intro f hf; exact absurd (hf 0 (Nat.le_refl _)) (by omega)
  | succ n ih =>
    intro f hf
    by_cases hx : ∃ i, i ≤ n ∧ f i = f (n + 1)
    · obtain ⟨i, h1, h2⟩ := hx
      exact ⟨i, n + 1, by omega, Nat.le_refl _, h2⟩
    · have hx' : ∀ i, i ≤ n → f i ≠ f (n + 1) := fun i hi q => hx ⟨i, hi, q⟩
      obtain ⟨i, j, h1, h2, h3⟩ := ih (fun i => if f i = n then f (n + 1) else f i) (fun i hi => by
        have a := hf i (by omega)
        have b := hf (n + 1) (by omega)
        have e := hx' i hi
        split <;> omega)
      have e1 := hx' i (by omega)
      have e2 := hx' j h2
      refine ⟨i, j, h1, by omega, ?_⟩
      split at h3 <;> split at h3 <;> omega
def upN (vm : Vm) : Nat → ClassId → Option ClassId
  | 0, c => some c
  | n + 1, c => (vm.classes[c]?.bind (·.super)).bind (upN vm n)
theorem upN_add (vm : Vm) (j : Nat) : ∀ (i : Nat) (c : ClassId), upN vm (i + j) c = (upN vm i c).bind (upN vm j) := by
  intro i
  induction i with
  | zero => intro c; rw [Nat.zero_add]; rfl
  | succ i ih =>
    intro c
    rw [show i + 1 + j = (i + j) + 1 by omega]
    show (vm.classes[c]?.bind (·.super)).bind (upN vm (i + j)) = ((vm.classes[c]?.bind (·.super)).bind (upN vm i)).bind (upN vm j)
    cases vm.classes[c]?.bind (·.super) with
    | none => rfl
    | some q => exact ih q
theorem look_none (vm : Vm) (name desc : String) : ∀ (n : Nat) (c : ClassId), lookupInSuperclasses vm name desc n c = none → ∀ i, i < n → ∀ p, upN vm i c = some p → ownMethod vm name desc p = none := by
  intro n
  induction n with
  | zero => intro c _ i hi; omega
  | succ n ih =>
    intro c hl i hi p hp
    unfold lookupInSuperclasses at hl
    cases hk : vm.classes[c]? with
    | none =>
      cases i with
      | zero => cases hp; simp [ownMethod, hk]
      | succ i => simp [upN, hk] at hp
    | some kc =>
      simp only [hk, Option.bind_eq_bind, Option.bind_some] at hl
      cases hf : kc.findMethod name desc with
      | some j => simp [hf] at hl
      | none =>
        simp only [hf] at hl
        cases i with
        | zero => cases hp; simp [ownMethod, hk, hf]
        | succ i =>
          cases hs : kc.super with
          | none => simp [upN, hk, hs] at hp
          | some q =>
            simp only [hs, Option.bind_some] at hl
            exact ih q hl i (by omega) p (by simpa [upN, hk, hs] using hp)
theorem sel_none (vm : Vm) (name desc : String) (mR : MethodId) : ∀ (n : Nat) (c : ClassId), lookupInSuperclasses vm name desc n c = none → selectInSuperclasses vm mR name desc n c = none := by
  intro n
  induction n with
  | zero => intro c _; rfl
  | succ n ih =>
    intro c hl
    unfold lookupInSuperclasses at hl
    unfold selectInSuperclasses
    cases hk : vm.classes[c]? with
    | none => simp
    | some kc =>
      simp only [hk, Option.bind_eq_bind, Option.bind_some] at hl ⊢
      cases hf : kc.findMethod name desc with
      | some j => simp [hf] at hl
      | none =>
        simp only [hf] at hl
        cases hs : kc.super with
        | none => simp
        | some q =>
          simp only [hs, Option.bind_some] at hl
          simp [ih q hl]
theorem sup_mem (vm : Vm) : ∀ (n : Nat) (c p : ClassId), p ∈ vm.superclassesAux n c → ∃ i, i ≤ n ∧ upN vm i c = some p := by
  intro n
  induction n with
  | zero => intro c p hp; simp [Vm.superclassesAux] at hp
  | succ n ih =>
    intro c p hp
    unfold Vm.superclassesAux at hp
    cases hs : vm.classes[c]?.bind (·.super) with
    | none => rw [hs] at hp; simp at hp
    | some q =>
      rw [hs] at hp
      rcases List.mem_cons.mp hp with rfl | r
      · exact ⟨1, by omega, by simp [upN, hs]⟩
      · obtain ⟨i, h1, h2⟩ := ih q p r
        exact ⟨i + 1, by omega, by simp only [upN, hs, Option.bind_some]; exact h2⟩
theorem above_none (vm : Vm) (name desc : String) (c : ClassId) (hl : lookupInSuperclasses vm name desc (vm.classes.size + 1) c = none) : superclassMethods vm c name desc = [] := by
  unfold superclassMethods
  refine List.filterMap_eq_nil_iff.mpr fun p hp => ?_
  obtain ⟨i, h1, h2⟩ := sup_mem vm _ _ _ hp
  show ownMethod vm name desc p = none
  by_cases hi : i ≤ vm.classes.size
  · exact look_none vm name desc _ c hl i (by omega) p h2
  · have hi' : i = vm.classes.size + 1 := by omega
    subst hi'
    have hex : ∀ j, j ≤ vm.classes.size → ∃ q, upN vm j c = some q ∧ q < vm.classes.size := by
      intro j hj
      have e := upN_add vm (vm.classes.size + 1 - j) j c
      rw [show j + (vm.classes.size + 1 - j) = vm.classes.size + 1 by omega, h2] at e
      cases hq : upN vm j c with
      | none => rw [hq] at e; cases e
      | some q =>
        rw [hq] at e
        refine ⟨q, rfl, ?_⟩
        rw [show vm.classes.size + 1 - j = (vm.classes.size - j) + 1 by omega] at e
        rcases Nat.lt_or_ge q vm.classes.size with r | r
        · exact r
        · have : vm.classes[q]? = none := Array.getElem?_eq_none r
          simp [upN, this] at e
    obtain ⟨i, j, h3, h4, h5⟩ := pig vm.classes.size (fun j => (upN vm j c).getD 0) (fun j hj => by
      obtain ⟨q, q1, q2⟩ := hex j hj
      show (upN vm j c).getD 0 < _
      rw [q1]; exact q2)
    obtain ⟨q1, e1, -⟩ := hex i (by omega)
    obtain ⟨q2, e2, -⟩ := hex j h4
    rw [e1, e2] at h5
    have h5' : q1 = q2 := h5
    subst h5'
    have a := upN_add vm (vm.classes.size + 1 - j) j c
    have b := upN_add vm (vm.classes.size + 1 - j) i c
    rw [e2] at a
    rw [e1, ← a, show j + (vm.classes.size + 1 - j) = vm.classes.size + 1 by omega, h2] at b
    exact look_none vm name desc _ c hl _ (by omega) p b
theorem itf_mem {vm : Vm} {c : ClassId} {name desc : String} {m : MethodId} (h : lookupInSuperinterfaces vm c name desc = some m) : m ∈ superinterfaceMethods vm c name desc := by
  unfold lookupInSuperinterfaces at h
  split at h
  · rename_i m' e
    cases h
    have h1 : m ∈ (maximallySpecific vm c name desc).filter (fun m => (vm.method? m).any (!·.isAbstract)) := by rw [e]; exact List.mem_singleton.mpr rfl
    have h2 := (List.mem_filter.mp h1).1
    unfold maximallySpecific at h2
    exact (List.mem_filter.mp h2).1
  · obtain ⟨i, -, h2⟩ := List.exists_of_findSome?_eq_some h
    exact List.mem_of_find?_eq_some h2
theorem itf_pub {vm : Vm} {c : ClassId} {name desc : String} {m : MethodId} (h : m ∈ superinterfaceMethods vm c name desc) : ∃ rm, vm.method? m = some rm ∧ rm.isPrivate = false := by
  unfold superinterfaceMethods at h
  obtain ⟨i, -, h⟩ := List.mem_filterMap.mp h
  simp only [Option.bind_eq_bind, Option.bind_eq_some_iff] at h
  obtain ⟨kk, -, idx, -, mm, hmm, h⟩ := h
  split at h
  · cases h
  · rename_i hp
    cases h
    refine ⟨mm, hmm, ?_⟩
    simp only [Bool.or_eq_true, not_or, Bool.not_eq_true] at hp
    exact hp.1
/-- a default method, by the class below -/
theorem special_default {vm : Vm} {c : ClassId} {name desc : String} {m : MethodId} {rm : Method} (hup : vm.lookupUp c name desc = some m) (hrm : vm.method? m = some rm) (hst : rm.isStatic = false) {kc : Class} (hk : vm.classes[c]? = some kc) (hni : kc.isInterface = false) (hnm : rm.name = name ∧ rm.desc = desc) (hitf : (vm.classes[m.cls]?).any (·.isInterface) = true) (hsel : selectMethod {} vm c m = .method m) : lookupSpecial vm c name desc = .method m := by
  cases hl : lookupInSuperclasses vm name desc (vm.classes.size + 1) c with
  | some x => exact lookupSpecial_of_lookupUp hk hni hup (by rw [hl]; rfl) hrm hst
  | none =>
    obtain ⟨rfl, rfl⟩ := hnm
    have hpv : rm.isPrivate = false := by
      unfold Vm.lookupUp at hup
      rw [hl] at hup
      obtain ⟨rm', e1, e2⟩ := itf_pub (itf_mem hup)
      rw [hrm] at e1
      cases e1
      exact e2
    have h1 := above_none vm _ _ c hl
    have h2 : ownMethod vm rm.name rm.desc c = none := look_none vm _ _ _ c hl 0 (by omega) c rfl
    have h3 := sel_none vm rm.name rm.desc m _ c hl
    have h4 : (maximallySpecific vm c rm.name rm.desc).filter (fun m => (vm.method? m).any (!·.isAbstract)) = [m] := by
      unfold selectMethod at hsel
      rw [hrm] at hsel
      simp only [hpv, Bool.false_eq_true, if_false, hitf, Bool.not_true, Bool.and_false, h3] at hsel
      split at hsel
      · cases hsel
      · split at hsel
        · rename_i m' e
          cases hsel
          exact e
        · cases hsel
        · cases hsel
    unfold lookupSpecial
    have h2' : ((vm.classes[c]?.bind (·.findMethod rm.name rm.desc)).map fun i => (⟨c, i⟩ : MethodId)) = none := h2
    simp only [h2', h1, Option.toList_none, List.filter_nil, List.append_nil, List.find?_nil, h4]
/-- super.m(..): m is declared further up -/
theorem entV_SU2 {own C owner : String} {idx n : Nat} {M : MI} {x : MethodName} (hl : (Jvm.Cond.methodLink own idx x) ∈ lw_all) (hsm : (Jvm.Cond.sameMethod x.cls owner x.name x.desc) ∈ lw_all) (hM : M.1 = ⟨owner, x.name, x.desc⟩) (hsup : (Jvm.Cond.superclass own x.cls) ∈ lw_all) (hsup2 : (Jvm.Cond.superclass x.cls owner) ∈ lw_all) (hin : (Jvm.Cond.instanceMethod M.1) ∈ lw_all) (hcd : mW M ∈ lw_all) (hno : x.name ≠ "<init>") (hn : nPar M.1 n) : EntV g own (.invokespecial idx) 3 C M.1 n := by
  intro p l e R s m args below meth cd H locs cells slots pc lz as rest b cellB hexec hown hts hgk hnw hdg has hcell hobj hcls hkB T hT X
  obtain ⟨kB, hkB⟩ := hkB
  obtain ⟨mk, methM, hnamed, hmethM, hstM, habM⟩ := Cond.instanceMethod_spec (hts _ hin)
  obtain ⟨mk', methM', hn', hm', hsigM⟩ := sg_m (hts _ hcd)
  cases hnamed.symm.trans hn'
  cases hmethM.symm.trans hm'
  obtain ⟨ps, dk, kp, hps, hdk, hkp, hsuper, -, -, hnid⟩ := Cond.superclass_spec hown (hts _ hsup)
  obtain ⟨po, kp', ko, hpo, hkp', hko, hsuper2, -⟩ := Cond.superclass_spec hps (hts _ hsup2)
  cases hkp.symm.trans hkp'
  have hnm : s.methodNamed? ⟨owner, x.name, x.desc⟩ = some mk := by rw [← hM]; exact hnamed
  have hpm : po = mk.cls := Option.some.inj (hpo.symm.trans (findClass_of_methodNamed hnm))
  have hsz : ∃ z, s.vm.classes.size = z + 1 := by
    have := (Array.getElem?_eq_some_iff.mp hkp).1
    exact ⟨s.vm.classes.size - 1, by omega⟩
  obtain ⟨z, hz⟩ := hsz
  have hsub : s.vm.isSubclass ps mk.cls = true := by rw [← hpm]; simp [Vm.isSubclass, hz, Vm.isSubclassAux, hkp, hsuper2]
  obtain ⟨vm₁, X₁, hstep₁⟩ := X.invokespecialUp hexec hown (hts _ hl) (hts _ hsm) hnm hmethM hstM habM hno hdk hnid hps hsuper hsub (a := b) (cell := cellB) (by rw [hT]; exact hcell)
    (fun z h => by rw [h] at hobj; cases hobj) hkB (g := F0 m pc lz (as.reverse ++ .ref b :: rest)) rfl (argsL := as) (rest := rest) (nPar.len hn hsigM has) rfl hdg
  exact ⟨vm₁, mk, X₁.warmed, X₁, X₁.named hnamed, fun target h => hstep₁ _ (by rw [doInvoke_state]; exact h)⟩
/-- super.m(..): m is a default method -/
theorem entV_SD {own C owner : String} {idx n i : Nat} {M : MI} {x : MethodName} (hG : GKx g) (hl : (Jvm.Cond.methodLink own idx x) ∈ defaultWords_1) (hsm : (Jvm.Cond.sameMethod x.cls owner x.name x.desc) ∈ defaultWords_1) (hM : M.1 = ⟨owner, x.name, x.desc⟩) (hld : ldL[i]? = some (x.cls, x, M.1)) (hsup : (Jvm.Cond.superclass own x.cls) ∈ lw_all) (hin : (Jvm.Cond.instanceMethod M.1) ∈ lw_all) (hcd : mW M ∈ lw_all) (hno : x.name ≠ "<init>") (hn : nPar M.1 n) : EntV g own (.invokespecial idx) 3 C M.1 n := by
  intro p l e R s m args below meth cd H locs cells slots pc lz as rest b cellB hexec hown hts hgk hnw hdg has hcell hobj hcls hkB T hT X
  obtain ⟨kB, hkB⟩ := hkB
  obtain ⟨mk, methM, hnamed, hmethM, hstM, habM⟩ := Cond.instanceMethod_spec (hts _ hin)
  obtain ⟨mk', methM', hn', hm', hsigM⟩ := sg_m (hts _ hcd)
  cases hnamed.symm.trans hn'
  cases hmethM.symm.trans hm'
  obtain ⟨ps, dk, kp, hps, hdk, hkp, hsuper, -, -, hnid⟩ := Cond.superclass_spec hown (hts _ hsup)
  have hsame : (Cond.sameMethod x.cls owner x.name x.desc).before args s = true := sm_args ((hG s hgk).2.1 _ hsm)
  have hlink : (Cond.methodLink own idx x).before args s = true := ml_args ((hG s hgk).2.1 _ hl)
  obtain ⟨cn, ck, r1, hcn, hck, hni, hf, hn1⟩ := Cond.sameMethod_found hsame
  have hnm : s.methodNamed? ⟨owner, x.name, x.desc⟩ = some mk := by rw [← hM]; exact hnamed
  cases hnm.symm.trans hn1
  cases hps.symm.trans hcn
  cases hkp.symm.trans hck
  have hpl : e.platform.magicAccessors = ({} : Platform).magicAccessors := by rw [X.admits.platform]
  obtain ⟨ci, hlk, hright⟩ := Cond.methodLink_specUp hown hcn hck hni hf hlink e.platform hpl (by rw [X.admits.platform])
  obtain ⟨kr, hkr, -⟩ := className_of_methodNamed hnm
  obtain ⟨hrn, hrd⟩ := name_of_methodNamed hnm hmethM
  obtain ⟨dk₀, cfile, nt, _, _, ck₀, _, _, hd₀, hcf, hcp, -, -, -, hc₀, -, hpoly, -⟩ := hlk.here
  cases hdk.symm.trans hd₀
  cases hck.symm.trans hc₀
  have hup : s.vm.lookupUp ps x.name x.desc = some mk := ((State.methodFound?_class hcn hck hni hpoly mk).mp hf).1
  obtain ⟨c2, r2, m2, rm, q1, q2, q3, q4, q5, ⟨mkc, hmkc, hitf⟩, q7, q8⟩ := Cond.landsInDefault_spec ((hG s hgk).2.2.1 i _ hld)
  cases hps.symm.trans q1
  cases hf.symm.trans q2
  cases hnamed.symm.trans q3
  have hfound0 : lookupSpecial s.vm ps x.name x.desc = .method mk := special_default hup hmethM hstM hck hni ⟨hrn, hrd⟩ (by rw [hmkc]; exact hitf) q5
  obtain ⟨vm', hW', st⟩ := Steps.invokeSuperColdArgs (tb := p.tables) (e := e) (s₀ := s) (U := T) (f := F0 m pc lz (as.reverse ++ .ref b :: rest)) (args := as) (rest := rest) (a := b) (cell := cellB) (m := mk) X.here hexec hdg X.warmed hlk hright hdk hcf hcp hmethM hck
    (by rw [hrn]; simp [hno]) hstM (by rw [hrn, hrd, hsuper]; simpa using hfound0) hnid hkr habM (nPar.len hn hsigM has) rfl (by rw [hT]; exact hcell) (fun z h => by rw [h] at hobj; cases hobj) hkB
  exact ⟨vm', mk, hW', X.noted hW', (X.noted hW').named hnamed, fun target h => st _ (by rw [doInvoke_state]; exact h)⟩
end O5S

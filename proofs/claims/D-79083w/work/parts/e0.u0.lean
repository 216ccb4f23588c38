/-! THE COMPONENT: the verbs (printed by gen) -/
section U0S
variable {g : GB} {M : MI} {d c k : Nat} {h : HM}
section
variable {Q : RS → HM → Prop} {pc : Nat} {ls : List (Option Value)} {st : List Value}
set_option maxRecDepth 100000 in
set_option maxHeartbeats 4000000 in
theorem ev_callG2 {i : Instr} {len d' c' k' : Nat} {My : MI} {as rest : List Value} {Q' : RS → HM → Prop} (hd : decode M.2.1 pc = .ok (i, len))
    (hE : ∀ (p : Program) (l : Launch) (e : Env) (R : Room) (s : State) (m : MethodId) (args : Array Value) (below : List Frame) (meth : Method) (cd : Code) (H : Heap) (locs : List Loc) (cells slots : Nat) (lz : Array Slot), Fix g M d p l R s m args meth cd → Rel g h H → s.heap.size ≤ H.size → (∀ z ∈ locs, gA g z.base) → Ent p l e R s m args below meth cd H locs cells slots (F0 m pc lz st) My.1 as.toArray rest)
    (hcd : mW My ∈ lw_all) (hini : (Jvm.Cond.initialized My.1.cls) ∈ lw_all) (hK : Kc g My d' c' k' as h Q') (hdd : d' + 1 ≤ d) (hnL : My.2.2.1 ≤ 45) (hc' : c' ≤ c) (hk' : k' ≤ k) (hW8 : (rest.map fun v => v.category).sum ≤ 8)
    (kr : ∀ (v : Option Value) (h' : HM), Q' (.inl v) h' → Ev g M d (c - c') (k - k') Q (pc + len) ls (v.toList ++ rest) h')
    (kx : ∀ (E : String) (q : Nat) (h' : HM), Q' (.inr (E, q)) h' → EvX g M d (c - c') (k - k') Q pc ls h' E q) : Ev g M d c k Q pc ls st h := by
  intro p l e R s m args below meth cd H locs cells slots mc ms lz F hc hk hmc hms hL hR hz hl T hT X
  obtain ⟨vm₁, mk, hW1, X1, hnm, hst⟩ := hE p l e R s m args below meth cd H locs cells slots lz F hR hz hl T hT X
  have hM := hK l F.notr
  have f1 := F.frames
  have f2 := F.room
  have hws : ∀ w ∈ mW My :: lw_all, ∀ (a' : Array Value) (U : State), s.WarmedH U.vm → w.before a' U = true := pay_in F.words (fun w hw => by
    rcases List.mem_cons.mp hw with e1 | e1
    · rw [e1]; exact lw_self _ hcd
    · exact lw_self _ e1)
  have hin' : ∀ (a' : Array Value) (U : State), s.WarmedH U.vm → (Cond.initialized My.1.cls).before a' U = true := fun a' U hW => word_at hW (lw_self _ hini).2 (F.words _ hini)
  have hB : vx_Back l R p e below s args My.1 len 8 (PreOf R c' k' (fun a U => a = as.toArray ∧ g.2.2.2.1 U ∧ GBase g ∧ Rel g h U.heap)) (PostOf (rQ g Q') c' k' (gA g)) (vx_Post (xQ g Q') c' k' (gA g)) := by
    obtain ⟨y, cc, nL, ret, hh⟩ := My
    dsimp only at hnL
    cases hh with
    | none => exact vx_back (bytes := cc) (maxL := nL) (ret := ret) hM (kc_blind (l := l)) rfl rfl (by show d' + 1 ≤ R.frames; omega) (by show 8 + (nL + 11) + 64 * d' ≤ R.locals; omega) hws List.mem_cons_self hin'
    | some hh => exact vx_backW (bytes := cc) (maxL := nL) (ret := ret) (hh := hh) hM (kc_blind (l := l)) rfl rfl (by show d' + 1 ≤ R.frames; omega) (by show 8 + (nL + 11) + 64 * d' ≤ R.locals; omega) hws List.mem_cons_self hin'
  have hdg : decode cd.code pc = .ok (i, len) := by rw [F.2.1]; exact hd
  rcases hB m meth cd ⟨T.setVm vm₁, locs, cells, slots⟩ { F0 m pc lz st with stack := rest } i mk as.toArray X1 rfl (by show lz.size = _; rw [F.2.2.1]; exact hL.1) hdg (by show 2 * 0 + (rest.map fun v => v.category).sum ≤ 8; omega) hnm
    ⟨by show cells + c' ≤ R.cells; omega, by show slots + k' ≤ R.slots; omega, rfl, F.gbase.1 s (T.setVm vm₁) hW1 F.gk, F.gbase, by show Rel g h T.heap; rw [hT]; exact hR⟩ with ⟨v, ⟨U', l2, c2, s2⟩, X', ⟨g', mk', t, L, e1, e2, ⟨v', h', hv, hq, hR', hsz⟩, h1, hL2, h2, h3⟩, hsteps⟩ | ⟨q, ⟨U', l2, c2, s2⟩, X', ⟨g', mk', t, L, E, ce, e1, e2, ⟨h', hq, hR', hsz⟩, hce, hcv, hcl, h1, hL2, h2, h3⟩, hsteps⟩
  · dsimp only [Pt.U, Pt.locs, Pt.cells, Pt.slots] at X' e1 e2 h1 h2 h3 hsteps
    subst h1; subst h2; subst h3
    cases hv
    have hsz' : T.heap.size ≤ t.heap.size := hsz
    rw [hT] at hsz'
    obtain ⟨t2, a1, b1⟩ := kr v h' hq p l e R s m args below meth cd t.heap (locs ++ L) (cells + c') (slots + k') mc ms lz F (by omega) (by omega) hmc hms hL hR' (Nat.le_trans hz hsz') (fun z hzz => (List.mem_append.mp hzz).elim (hl z) (hL2 z)) U' e1 X'
    exact ⟨t2, hst _ (hsteps.trans a1), b1⟩
  · dsimp only [Pt.U, Pt.locs, Pt.cells, Pt.slots] at X' e1 e2 h1 h2 h3 hsteps hcl
    subst h1; subst h2; subst h3
    have hsz' : T.heap.size ≤ t.heap.size := hsz
    rw [hT] at hsz'
    obtain ⟨t2, a1, b1⟩ := kx E q h' hq p l e R s m args below meth cd t.heap (locs ++ L) (cells + c') (slots + k') mc ms lz ce rest F (by omega) (by omega) hmc hms hL hR' (Nat.le_trans hz hsz') (fun z hzz => (List.mem_append.mp hzz).elim (hl z) (hL2 z)) hce hcv (vx_cls hW1 hcl) U' e1 X'
    exact ⟨t2, hst _ (hsteps.trans a1), b1⟩
theorem cv_X4_23 : EntV g RX4 (.invokevirtual 23) 3 "DanceNotation$Verb" mJ15_ordinal.1 0 := entV_U (M := mJ15_ordinal) (x := ⟨"DanceNotation$Verb", "ordinal", "()I"⟩) (owner := "java/lang/Enum") q1093 q1094 (decl_m (M0 := mJ15_ordinal) q1097 q1098) ⟨by decide +kernel, by decide +kernel⟩ q1096 q1097 (by decide +kernel)
theorem ord_v : ∀ j : Fin 3, Int32.ofNat j.val = zI ((j.val : Nat) : Int) := by decide +kernel
theorem ev_getOrd {j : Nat} (hG : GKx g) (hj : j < 3) (hcls : M.1.cls = "java/lang/Enum") (hd : decode M.2.1 pc = .ok (.getfield 7, 3)) (kk : Ev g M d c k Q (pc + 3) ls (vz ((j : Nat) : Int) :: st) h) : Ev g M d c k Q pc ls (.ref (g.2.2.2.2 (53 + j)) :: st) h := by
  intro p l e R s m args below meth cd H locs cells slots mc ms lz F hc' hk hmc hms hL hR hz hl
  have hE := ((hG s F.gk).2.2.2.2.2.2.2.1 j hj).1
  have ev : (Value.int (Int32.ofNat j)) = vz ((j : Nat) : Int) := congrArg Value.int (ord_v ⟨j, hj⟩)
  rw [ev] at hE
  exact vk_getf F.1 F.2.1 (hE.kept (fun a ha _ => F.low2 a ha)) (F.vaS hR hz hl) (by have := F.own; rw [hcls] at this; exact this) (F.words _ q3363) (fun x q => q) hd (kk p l e R s m args below meth cd H locs cells slots mc ms lz F hc' hk hmc hms hL hR hz hl)
theorem ev_callOrd {len j : Nat} {rest : List Value} (hG : GKx g) (hj : j < 3) (hd : decode M.2.1 pc = .ok (.invokevirtual 23, 3)) (hV : EntV g M.1.cls (.invokevirtual 23) 3 "DanceNotation$Verb" mJ15_ordinal.1 0) (hst : st = .ref (g.2.2.2.2 (53 + j)) :: rest)
    (hK : Kc g mJ15_ordinal 0 0 0 [.ref (g.2.2.2.2 (53 + j))] h (sR (some (vz ((j : Nat) : Int))) h)) (hdd : 1 ≤ d) (hW8 : (rest.map fun v => v.category).sum ≤ 8) (kk : Ev g M d c k Q (pc + 3) ls (vz ((j : Nat) : Int) :: rest) h) : Ev g M d c k Q pc ls st h := by
  subst hst
  refine ev_callG2 (d' := 0) (c' := 0) (k' := 0) (My := mJ15_ordinal) (as := [.ref (g.2.2.2.2 (53 + j))]) (rest := rest) hd (fun p l e R s m args below meth cd H locs cells slots lz F hR hz hl => ?_) ce_J15_ordinal.1 ce_J15_ordinal.2.1 hK (by omega) ce_J15_ordinal.2.2 (Nat.zero_le _) (Nat.zero_le _) hW8 (fun v h' q => ?_) (fun E q h' r => ?_)
  · have hO := ((hG s F.gk).2.2.2.2.2.2.2.1 j hj).2
    obtain ⟨cell, o1, o2, o3, -⟩ := (hO.kept (fun a ha _ => F.low2 a ha)).kept (F.vaS hR hz hl).2.1
    obtain ⟨cn, ck, r1, hcn, hck, -⟩ := Cond.sameMethod_found (F.words _ q1094)
    have o3c := o3.symm.trans hcn
    have hk9 : ∃ kB, s.vm.classes[cell.cls]? = some kB := ⟨ck, by rw [Option.some.inj o3c]; exact hck⟩
    exact hV p l e R s m args below meth cd H locs cells slots pc lz [] rest (g.2.2.2.2 (53 + j)) cell F.1 F.own F.words F.gk F.nw (by rw [F.2.1]; exact hd) rfl o1 o2 o3 hk9
  · cases q.1; rw [q.2]; exact kk
  · cases r.1
end
set_option maxRecDepth 100000 in
set_option maxHeartbeats 4000000 in
theorem k_ordinal {j : Nat} (hG : GKx g) (hj : j < 3) : Kc g mJ15_ordinal d (0) (0) [.ref (g.2.2.2.2 (53 + j))] h (sR (some (vz ((j : Nat) : Int))) h) := by
  refine Kc.of (ls := [some (.ref (g.2.2.2.2 (53 + j)))]) (by decide +kernel) (Nat.le_of_ble_eq_true rfl) rfl ?_
  refine ev_aload_n dJ15_ordinal_0 rfl ?_
  refine ev_getOrd hG hj rfl dJ15_ordinal_1 ?_
  refine ev_ireturn dJ15_ordinal_4 rfl ?_
  exact ⟨rfl, rfl⟩
end U0S

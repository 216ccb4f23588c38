/-! THE COMPONENT: new ArrayList(list), Several.of, Several.with (printed by gen) -/
section S6S
variable {g : GB} {M : MI} {d c k : Nat} {h : HM}
theorem sel_faceC {args : Array Value} {s : State} {C : String} (hs : (Cond.selects C ⟨"java/lang/Object", "getClass", "()Ljava/lang/Class;"⟩ ⟨"java/lang/Object", "getClass", "()Ljava/lang/Class;"⟩).before args s = true) (hm : (Cond.sameMethod "java/lang/Object" "java/lang/Object" "getClass" "()Ljava/lang/Class;").before args s = true) (hf : (Cond.interfaceMethod "java/util/Collection" "java/lang/Object" "getClass" "()Ljava/lang/Class;").before args s = true) : (Cond.selects C ⟨"java/util/Collection", "getClass", "()Ljava/lang/Class;"⟩ ⟨"java/lang/Object", "getClass", "()Ljava/lang/Class;"⟩).before args s = true := by
  obtain ⟨c1, r1, m1, a1, a2, a3, a4, mk, a5, a6⟩ := Cond.selects_spec hs
  obtain ⟨cL, kL, r2, b1, b2, b3, b4, b5⟩ := Cond.interfaceMethod_spec hf
  obtain ⟨cn, ck, r3, d1, d2, d3, d4, d5⟩ := Cond.sameMethod_found hm
  cases a3.symm.trans b5
  cases a3.symm.trans d5
  cases a2.symm.trans d4
  show (Cond.selects C ⟨"java/util/Collection", "getClass", "()Ljava/lang/Class;"⟩ ⟨"java/lang/Object", "getClass", "()Ljava/lang/Class;"⟩).holds _ _ _ _ _ = true
  have e1 : s.methodFound? "java/util/Collection" "getClass" "()Ljava/lang/Class;" = some r1 := b4
  have e2 : s.methodNamed? ⟨"java/lang/Object", "getClass", "()Ljava/lang/Class;"⟩ = some r1 := a3
  simp [Cond.holds, Cond.value, a1, e1, e2, a4, a5, a6]
section VMI
variable {p : Program} {l : Launch} {e : Env} {R : Room} {s : State} {m : MethodId} {args : Array Value} {below : List Frame} {meth : Method} {c : Code} {H : Heap} {locs : List Loc} {cells slots : Nat} {Q : State → Prop}
variable {cc : ByteArray} {pc : Nat} {ls : Array Slot} {rest : List Value} {a : Nat}
theorem va_getCI (hexec : p.tables.exec = Jvm.exec) (hb : c.code = cc) (hml : c.maxLocals = ls.size) {own C : String} {index count mi : Nat} (hown : s.vm.findClass own = some m.cls) (hlink : (Cond.methodLink own index ⟨"java/util/Collection", "getClass", "()Ljava/lang/Class;"⟩).before args s = true) (hdecl : (Cond.declares ⟨"java/lang/Object", "getClass", "()Ljava/lang/Class;"⟩).before args s = true)
    (hface : (Cond.interfaceMethod "java/util/Collection" "java/lang/Object" "getClass" "()Ljava/lang/Class;").before args s = true) (hsame : (Cond.sameMethod "java/lang/Object" "java/lang/Object" "getClass" "()Ljava/lang/Class;").before args s = true) (hpub : (Cond.publicMethod ⟨"java/lang/Object", "getClass", "()Ljava/lang/Class;"⟩).before args s = true) (hunh : (Cond.unhidden C "getClass" "()Ljava/lang/Class;").before args s = true) (hcast : (Cond.castable C "java/util/Collection").before args s = true)
    (hsel : (Cond.selects C ⟨"java/lang/Object", "getClass", "()Ljava/lang/Class;"⟩ ⟨"java/lang/Object", "getClass", "()Ljava/lang/Class;"⟩).before args s = true) (hinst : (Cond.instanceMethod ⟨"java/lang/Object", "getClass", "()Ljava/lang/Class;"⟩).before args s = true) (hnat : (Cond.native ⟨"java/lang/Object", "getClass", "()Ljava/lang/Class;"⟩).before args s = true) (hM : va_Mi C mi s)
    (hr : ∃ cell : Cell, H[a]? = some cell ∧ cell.vm.isStatics = false ∧ s.vm.findClass C = some cell.cls) (hframes : 1 ≤ R.frames) (hlocals : (rest.map fun v => v.category).sum + 14 ≤ R.locals) (hdg : decode cc pc = .ok (.invokeinterface index count, 5))
    (k : W p l e R s m args below meth c H locs cells slots Q (F0 m (pc + 5) ls (.ref mi :: rest))) : W p l e R s m args below meth c H locs cells slots Q (F0 m pc ls (.ref a :: rest)) := by
  obtain ⟨c0, k0, h1, h2, h3⟩ := hM
  obtain ⟨cell, g1, g2, g3⟩ := hr
  cases h1.symm.trans g3
  intro T hT X
  obtain ⟨vm', X', st⟩ := X.getClassOfI hexec hown hlink hdecl hface (sel_faceC hsel hsame hface) hinst hpub hunh hcast hnat (by decide) (by decide) rfl rfl h1 h2 ⟨cell, by rw [hT]; exact g1, rfl, g2⟩ h3 (g := F0 m pc ls (.ref a :: rest)) rfl (by rw [hml]) rfl (by rw [hb]; exact hdg) hframes (by show 2 * 0 + _ + _ ≤ _; have hw : nativeFrameWords "java/lang/Object" "getClass" 1 = 3 := (by decide); omega)
  obtain ⟨t, a1, b1⟩ := k (T.setVm vm') hT X'
  exact ⟨t, st t a1, b1⟩
end VMI
section
variable {Q : RS → HM → Prop} {pc : Nat} {ls : List (Option Value)} {st : List Value}
theorem ev_getCI {idx a : Nat} {x : List Value} (hG : GKx g) (hd : decode M.2.1 pc = .ok (.invokeinterface idx 1, 5)) (hw : (Jvm.Cond.methodLink M.1.cls idx ⟨"java/util/Collection", "getClass", "()Ljava/lang/Class;"⟩) ∈ lw_all) (ha : h a = some (.inr (29, x))) (hdd : 1 ≤ d) (hW8 : (st.map fun v => v.category).sum ≤ 8) (kk : Ev g M d c k Q (pc + 5) ls (.ref (g.2.2.2.2 401) :: st) h) : Ev g M d c k Q pc ls (.ref a :: st) h := by
  intro p l e R s m args below meth cd H locs cells slots mc ms lz F hc' hk hmc hms hL hR hz hl
  have er := recv F hR ha rfl
  have hw9 : ∀ {w : Cond}, w ∈ lw_tbl → nwk2 w = true → w.before #[] s = true := fun hw hn => (hG s F.gk).1 _ hw hn
  exact va_getCI F.1 F.2.1 (by rw [F.2.2.1]; exact hL.1.symm) F.own (F.words _ hw) (va_any rfl (hw9 q2647 rfl)) (va_any rfl (hw9 q2646 rfl)) (F.words _ q992) (va_any rfl (hw9 q2649 rfl)) (va_any rfl (hw9 q2650 rfl)) (va_any rfl (hw9 q1375 rfl)) (F.words _ q1022) (F.words _ q991) (F.words _ q1029) ((hG s F.gk).2.2.2.2.2.2.1 1 _ rfl) er (by have := F.frames; omega) (by have := F.room; omega) hd (kk p l e R s m args below meth cd H locs cells slots mc ms lz F hc' hk hmc hms hL hR hz hl)
end
set_option maxRecDepth 100000 in
set_option maxHeartbeats 4000000 in
theorem k_copyOf3m {a n m : Nat} {f : Nat → Option Nat} (hG : GKx g) (ha : h a = some (.inl (9, (n, .inr (.inr (.inr (.inr (f)))))))) (hel : ∀ i y : Nat, i < min n m → f i = some y → isO h y) (hn : n ≤ 10000000 ∧ m ≤ 10000000) : Kc g mJ18_copyOf_3 1 (1) (m) [.ref a, vz (m : Nat), .ref (g.2.2.2.2 400)] h (rR (fun r h' => ∃ q : Nat, r = some (.ref q) ∧ h q = none ∧ gB g ≤ q ∧ h' q = some (.inl (9, (m, .inr (.inr (.inr (.inr (cpQ f (fun _ => none) 0 0 (min n m)))))))) ∧ Fr g h h' [])) := by
  refine Kc.of (ls := [some (.ref a), some (vz (m : Nat)), some (.ref (g.2.2.2.2 400)), none]) (by decide +kernel) (Nat.le_of_ble_eq_true rfl) rfl ?_
  refine ev_aload_n dJ18_copyOf_3_0 rfl ?_
  refine ev_ldcM (i := 0) hG dJ18_copyOf_3_1 q1372 rfl ?_
  refine ev_acmp_ne (rx := (some ((g.2.2.2.2 400)))) (ry := (some ((g.2.2.2.2 400)))) (tgt := 13) dJ18_copyOf_3_3 (by decide) (fun c3 => absurd rfl c3) (fun c3 => ?_)
  refine ev_iload_n dJ18_copyOf_3_6 rfl ?_
  refine ev_anewOY (N := m) (c' := 0) (k' := 0) hG dJ18_copyOf_3_7 q1373 (by omega) (by omega) (by omega) (by omega) (by omega) (fun q1 hp_2 e3 B4 Hq1_5 f6 => ?_)
  have ha_7 := (f6 _ (ne_no ha e3)).trans ha
  have z8 := ((Fr.refl (g := g) _ [])).fresh e3
  have F9 := ((Fr.refl (g := g) _ [])).alloc (Or.inr ⟨_, Hq1_5, Nat.le_of_ble_eq_true rfl⟩) f6 e3
  refine ev_goto (tgt := 24) dJ18_copyOf_3_10 (by decide) ?_
  refine ev_astore_n dJ18_copyOf_3_24 (by decide) rfl ?_
  dsimp only [List.set]
  refine ev_aload_n dJ18_copyOf_3_25 rfl ?_
  refine ev_iconstZ dJ18_copyOf_3_26 ?_
  refine ev_aload_n dJ18_copyOf_3_27 rfl ?_
  refine ev_iconstZ dJ18_copyOf_3_28 ?_
  refine ev_aload_n dJ18_copyOf_3_29 rfl ?_
  refine ev_alenZ dJ18_copyOf_3_30 ha_7 rfl ?_
  refine ev_iload_n dJ18_copyOf_3_31 rfl ?_
  refine ev_mminN (a := n) (b := m) dJ18_copyOf_3_32 q472 (by omega) (by omega) (by omega) (Nat.le_of_ble_eq_true rfl) ?_
  refine ev_copyqY (sp := 0) (dp := 0) (n := min n m) dJ18_copyOf_3_35 q475 ha_7 Hq1_5 (fun i y _ hi2 hy => (F9.o (hel i y (by omega) hy))) B4 (by omega) (by omega) (by omega) (by omega) (Nat.le_of_ble_eq_true rfl) (fun hp_10 Hq1_11 f12 => ?_)
  have ha_13 := (f12 _ (ne_no ha e3)).trans ha_7
  have F14 := (F9).writeN (Or.inr ⟨_, Hq1_11, Nat.le_of_ble_eq_true rfl⟩) f12 z8
  refine ev_aload_n dJ18_copyOf_3_38 rfl ?_
  refine ev_areturn dJ18_copyOf_3_39 rfl (Or.inr ⟨_, rfl⟩) (Or.inr ⟨_, rfl⟩) ?_
  exact ⟨_, rfl, _, rfl, z8, B4, Hq1_11, F14⟩
set_option maxRecDepth 100000 in
set_option maxHeartbeats 4000000 in
theorem k_copyOf2m {a n m : Nat} {f : Nat → Option Nat} (hG : GKx g) (ha : h a = some (.inl (9, (n, .inr (.inr (.inr (.inr (f)))))))) (hel : ∀ i y : Nat, i < min n m → f i = some y → isO h y) (hn : n ≤ 10000000 ∧ m ≤ 10000000) : Kc g mJ18_copyOf_2 2 (1) (m) [.ref a, vz (m : Nat)] h (rR (fun r h' => ∃ q : Nat, r = some (.ref q) ∧ h q = none ∧ gB g ≤ q ∧ h' q = some (.inl (9, (m, .inr (.inr (.inr (.inr (cpQ f (fun _ => none) 0 0 (min n m)))))))) ∧ Fr g h h' [])) := by
  refine Kc.of (ls := [some (.ref a), some (vz (m : Nat))]) (by decide +kernel) (Nat.le_of_ble_eq_true rfl) rfl ?_
  refine ev_aload_n dJ18_copyOf_2_0 rfl ?_
  refine ev_iload_n dJ18_copyOf_2_1 rfl ?_
  refine ev_aload_n dJ18_copyOf_2_2 rfl ?_
  refine ev_getCA hG dJ18_copyOf_2_3 q1384 ha (by omega) (Nat.le_of_ble_eq_true rfl) ?_
  refine ev_callSR dJ18_copyOf_2_6 cs_J18_300 ce_J18_copyOf_3 rfl rfl (k_copyOf3m (m := m) hG ha hel (by omega)) (by omega) (by omega) (by omega) (Nat.le_of_ble_eq_true rfl) (fun v1 hp_1 P1 => ?_)
  obtain ⟨q, rfl, e1, B1, H1, fr1⟩ := P1
  have ha_2 := fr1.keep ha (fun q => by cases q)
  have F3 := ((Fr.refl (g := g) _ [])).call fr1 nil_in
  refine ev_areturn dJ18_copyOf_2_9 rfl (Or.inr ⟨_, rfl⟩) (Or.inr ⟨_, rfl⟩) ?_
  exact ⟨_, rfl, _, rfl, e1, B1, H1, F3⟩
set_option maxRecDepth 100000 in
set_option maxHeartbeats 4000000 in
theorem al_toArray {b v cap : Nat} {mc : Int} {l : List Nat} {f : Nat → Option Nat} (hG : GKx g) (hb : h b = some (.inr (29, [vz mc, .ref v, vz ((l.length : Nat) : Int)]))) (hv : h v = some (.inl (9, (cap, .inr (.inr (.inr (.inr (f)))))))) (hf : ∀ i : Nat, i < l.length → f i = l[i]?) (hel : ∀ y ∈ l, isO h y) (hcap : l.length ≤ cap ∧ cap ≤ 10000000) : Kc g mJ26_toArray 3 (1) (l.length) [.ref b] h (rR (fun r h' => ∃ (q : Nat) (f' : Nat → Option Nat), r = some (.ref q) ∧ h q = none ∧ gB g ≤ q ∧ h' q = some (.inl (9, (l.length, .inr (.inr (.inr (.inr (f'))))))) ∧ (∀ i : Nat, i < l.length → f' i = l[i]?) ∧ Fr g h h' [])) := by
  refine Kc.of (ls := [some (.ref b)]) (by decide +kernel) (Nat.le_of_ble_eq_true rfl) rfl ?_
  refine ev_aload_n dJ26_toArray_0 rfl ?_
  refine ev_getf dJ26_toArray_1 gf_J26_9_J26 hb rfl ?_
  refine ev_aload_n dJ26_toArray_4 rfl ?_
  refine ev_getf dJ26_toArray_5 gf_J26_48_J26 hb rfl ?_
  refine ev_callSR dJ26_toArray_8 cs_J26_66 ce_J18_copyOf_2 rfl rfl (k_copyOf2m (m := l.length) hG hv (fun i y hi hy => hel y (by rw [hf i (by omega)] at hy; exact List.mem_of_getElem? hy)) (by omega)) (by omega) (by omega) (by omega) (Nat.le_of_ble_eq_true rfl) (fun v1 hp_1 P1 => ?_)
  obtain ⟨q, rfl, e1, B1, H1, fr1⟩ := P1
  have hb_2 := fr1.keep hb (fun q => by cases q)
  have hv_3 := fr1.keep hv (fun q => by cases q)
  have F4 := ((Fr.refl (g := g) _ [])).call fr1 nil_in
  refine ev_areturn dJ26_toArray_11 rfl (Or.inr ⟨_, rfl⟩) (Or.inr ⟨_, rfl⟩) ?_
  exact ⟨_, rfl, _, _, rfl, e1, B1, H1, fun i hi => by unfold cpQ; rw [if_pos (by omega), Nat.sub_zero, Nat.zero_add]; exact hf i hi, F4⟩
set_option maxRecDepth 100000 in
set_option maxHeartbeats 4000000 in
theorem al_copy {a b v cap : Nat} {mc : Int} {x y z : Value} {l : List Nat} {f : Nat → Option Nat} (hG : GKx g) (ha : h a = some (.inr (29, [x, y, z]))) (hB : gB g ≤ a) (hab : a ≠ b) (hb : h b = some (.inr (29, [vz mc, .ref v, vz ((l.length : Nat) : Int)]))) (hv : h v = some (.inl (9, (cap, .inr (.inr (.inr (.inr (f)))))))) (hf : ∀ i : Nat, i < l.length → f i = l[i]?) (hel : ∀ y ∈ l, isO h y) (hcap : l.length ≤ cap ∧ cap ≤ 10000000) (h1l : 1 ≤ l.length) : Kc g mJ26_init_2 5 (1) (l.length) [.ref a, .ref b] h (rR (fun r h' => r = none ∧ ∃ q : Nat, ALh g h' a q l.length 0 l ∧ h q = none ∧ Fr g h h' [a])) := by
  refine Kc.of (ls := [some (.ref a), some (.ref b), none]) (by decide +kernel) (Nat.le_of_ble_eq_true rfl) rfl ?_
  refine ev_aload_n dJ26_init_2_0 rfl ?_
  refine ev_callVR dJ26_init_2_1 ci_J26_1 ce_J1_init ha rfl rfl rfl (k_J1iJ26 ha hB) (by omega) (by omega) (by omega) (Nat.le_of_ble_eq_true rfl) (fun v1 hp_1 P1 => ?_)
  obtain ⟨rfl, H1, fr1⟩ := P1
  have hb_2 := fr1.keep hb (by simp only [List.mem_cons, List.not_mem_nil, or_false, not_or]; exact hab.symm)
  have hv_3 := fr1.keep hv (by simp only [List.mem_cons, List.not_mem_nil, or_false, not_or]; exact (ne_of hv ha (by simp)))
  have F4 := ((Fr.refl (g := g) _ [a])).call fr1 (by intro x hx; exact Or.inl hx)
  have Frq := F4
  refine ev_aload_n dJ26_init_2_4 rfl ?_
  refine ev_callVR dJ26_init_2_5 (cf_J26_42_J26 hG) ce_J26_toArray hb_2 rfl rfl rfl (al_toArray hG hb_2 hv_3 hf (fun y hy => (F4).o (hel y hy)) hcap) (by omega) (by omega) (by omega) (Nat.le_of_ble_eq_true rfl) (fun v5 hp_5 P5 => ?_)
  obtain ⟨q, f', rfl, eq, Bq, Hq, hf', fr5⟩ := P5
  have H1_6 := fr5.keep H1 (fun q => by cases q)
  have hb_7 := fr5.keep hb_2 (fun q => by cases q)
  have hv_8 := fr5.keep hv_3 (fun q => by cases q)
  have F9 := (F4).call fr5 nil_in
  refine ev_astore_n dJ26_init_2_10 (by decide) rfl ?_
  dsimp only [List.set]
  refine ev_aload_n dJ26_init_2_11 rfl ?_
  refine ev_aload_n dJ26_init_2_12 rfl ?_
  refine ev_alenZ dJ26_init_2_13 Hq rfl ?_
  refine ev_dup_x1 dJ26_init_2_14 rfl rfl ?_
  refine ev_putC [vz 0, y, vz (l.length : Nat)] dJ26_init_2_15 gf_J26_48_J26 H1_6 hB (Or.inl rfl) rfl rfl (Nat.le_of_ble_eq_true rfl) rfl (fun hp_10 H1_11 f12 => ?_)
  have hb_13 := (f12 _ hab.symm).trans hb_7
  have hv_14 := (f12 _ (ne_of hv_8 H1_6 (by simp))).trans hv_8
  have Hq_15 := (f12 _ ((ne_no H1 eq)).symm).trans Hq
  have F16 := (F9).write (Or.inl ⟨_, H1_11⟩) f12 hB (by simp)
  refine ev_if_eqZ (tgt := 57) dJ26_init_2_18 (by decide) (by omega) (fun c18 => by omega) (fun c18 => ?_)
  refine ev_aload_n dJ26_init_2_21 rfl ?_
  refine ev_getCI hG dJ26_init_2_22 q2645 hb_13 (by omega) (Nat.le_of_ble_eq_true rfl) ?_
  refine ev_ldcM (i := 1) hG dJ26_init_2_27 q2652 rfl ?_
  refine ev_acmp_ne (rx := (some ((g.2.2.2.2 401)))) (ry := (some ((g.2.2.2.2 401)))) (tgt := 40) dJ26_init_2_29 (by decide) (fun c29 => absurd rfl c29) (fun c29 => ?_)
  refine ev_aload_n dJ26_init_2_32 rfl ?_
  refine ev_aload_n dJ26_init_2_33 rfl ?_
  refine ev_putC [vz 0, .ref q, vz (l.length : Nat)] dJ26_init_2_34 gf_J26_9_J26 H1_11 hB (Or.inl rfl) rfl rfl (Nat.le_of_ble_eq_true rfl) rfl (fun hp_17 H1_18 f19 => ?_)
  have hb_20 := (f19 _ hab.symm).trans hb_13
  have hv_21 := (f19 _ (ne_of hv_14 H1_11 (by simp))).trans hv_14
  have Hq_22 := (f19 _ ((ne_no H1 eq)).symm).trans Hq_15
  have F23 := (F16).write (Or.inl ⟨_, H1_18⟩) f19 hB (by simp)
  refine ev_goto (tgt := 64) dJ26_init_2_37 (by decide) ?_
  refine ev_return dJ26_init_2_64 rfl ?_
  skip
  refine ⟨_, rfl, rfl, q, ⟨H1_18, hB, ⟨_, Hq_22, hf'⟩, fun y hy => (F23).o (hel y hy), Nat.le_refl _, by omega, Or.inr ⟨by omega, Bq⟩⟩, ?_, F23⟩
  exact Frq.fresh eq
end S6S

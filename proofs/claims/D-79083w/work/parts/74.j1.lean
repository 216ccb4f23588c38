/-! THE COMPONENT: Math, Objects.checkIndex, Arrays.copyOf, ArrayList (printed by gen) -/
section J1S
variable {g : GB} {M : MI} {d c k : Nat} {h : HM}
theorem zI_half {u : Nat} (hu : u < 2147483648) : zI (u : Int) >>> (zI 1 &&& 31) = zI ((u / 2 : Nat) : Int) := by
  apply Int32.toInt.inj
  have e1 : (zI 1 &&& 31 : Int32) = 1 := by decide
  have e2 : ((1 : Int32).toBitVec.smod 32) = 1#32 := by decide
  rw [e1]
  show ((zI (u : Int)).toBitVec.sshiftRight' ((1 : Int32).toBitVec.smod 32)).toInt = _
  rw [e2]
  show ((zI (u : Int)).toBitVec.sshiftRight 1).toInt = _
  rw [BitVec.toInt_sshiftRight]
  show (zI (u : Int)).toInt >>> 1 = _
  rw [zI_toInt (by omega), zI_toInt (by omega), Int.shiftRight_eq_div_pow]
  omega
theorem sel_face {args : Array Value} {s : State} {C I : String} {n dd : String} {y : MethodName} (hf : (Cond.interfaceMethod I "java/lang/Object" n dd).before args s = true) (hsel : (Cond.selects C ⟨"java/lang/Object", n, dd⟩ y).before args s = true) (hmh : "java/lang/Object" ≠ "java/lang/invoke/MethodHandle" ∧ "java/lang/Object" ≠ "java/lang/invoke/VarHandle") : (Cond.selects C ⟨I, n, dd⟩ y).before args s = true := by
  obtain ⟨c0, k0, m0, a1, a2, a3, a4, a5⟩ := Cond.interfaceMethod_spec hf
  obtain ⟨c, r, m, b1, b2, b3, b4, mk, b5, b6⟩ := Cond.selects_spec hsel
  cases (State.methodFound?_of_named a5 hmh).symm.trans b2
  show (Cond.selects C ⟨I, n, dd⟩ y).holds _ _ _ _ _ = true
  simp only [Cond.holds, Cond.value, b1, a4, b3, b4, b5]
  simp [b6]
section
variable {Q : RS → HM → Prop} {pc : Nat} {ls : List (Option Value)} {st : List Value}
theorem ev_getCA {idx a : Nat} {x : vp_A} (hG : GKx g) (hd : decode M.2.1 pc = .ok (.invokevirtual idx, 3)) (hw : (Jvm.Cond.methodLink M.1.cls idx ⟨"java/lang/Object", "getClass", "()Ljava/lang/Class;"⟩) ∈ lw_all) (ha : h a = some (.inl (9, x))) (hdd : 1 ≤ d) (hW8 : (st.map fun v => v.category).sum ≤ 8) (kk : Ev g M d c k Q (pc + 3) ls (.ref (g.2.2.2.2 400) :: st) h) : Ev g M d c k Q pc ls (.ref a :: st) h := by
  intro p l e R s m args below meth cd H locs cells slots mc ms lz F hc' hk hmc hms hL hR hz hl
  have er := recvA F hR ha rfl
  exact va_getC F.1 F.2.1 (by rw [F.2.2.1]; exact hL.1.symm) F.own (F.words _ hw) (va_any rfl ((hG s F.gk).1 _ q2647 rfl)) (F.words _ q3351) (F.words _ q991) (F.words _ q1029) ((hG s F.gk).2.2.2.2.2.2.1 0 _ rfl) er (by have := F.frames; omega) (by have := F.room; omega) hd (kk p l e R s m args below meth cd H locs cells slots mc ms lz F hc' hk hmc hms hL hR hz hl)
theorem ev_half {u : Nat} (hd : decode M.2.1 pc = .ok (.ishr, 1)) (hu : u < 2147483648) (kk : Ev g M d c k Q (pc + 1) ls (vz ((u / 2 : Nat) : Int) :: st) h) : Ev g M d c k Q pc ls (vz 1 :: vz (u : Int) :: st) h := ev_ishr hd (by rw [zI_half hu]; exact kk)
theorem mx_code : prog_42_method_65_code = Lib.Math.max.code := by decide +kernel
theorem mn_code : prog_42_method_69_code = Lib.Math.min.code := by decide +kernel
theorem ab_code : prog_42_method_59_code = Lib.Math.abs.code := by decide +kernel
theorem ev_mmaxZ {idx : Nat} {a b : Int} (hd : decode M.2.1 pc = .ok (.invokestatic idx, 3)) (hw : (Jvm.Cond.methodLink M.1.cls idx ⟨"java/lang/Math", "max", "(II)I"⟩) ∈ lw_all) (ha : inR a) (hb : inR b) (hdd : 1 ≤ d) (hW8 : (st.map fun v => v.category).sum ≤ 8) (kk : Ev g M d c k Q (pc + 3) ls (vz (max a b) :: st) h) : Ev g M d c k Q pc ls (vz b :: vz a :: st) h := by
  intro p l e R s m args below meth cd H locs cells slots mc ms lz F hc' hk hmc hms hL hR hz hl
  have e1 : (if zI a < zI b then zI b else zI a) = zI (max a b) := by
    by_cases q : a < b
    · rw [if_pos ((zI_lt ha hb).mpr q), show max a b = b by omega]
    · rw [if_neg (fun r => q ((zI_lt ha hb).mp r)), show max a b = a by omega]
  refine va_mmax F.1 F.2.1 (by rw [F.2.2.1]; exact hL.1.symm) F.own (F.words _ hw) (F.words _ q455) (F.words _ q143) (by have q := F.words _ q456; rw [mx_code] at q; exact q) (by have := F.frames; omega) (by have := F.room; omega) (by omega) (by omega) hd ?_
  rw [e1]
  exact kk p l e R s m args below meth cd H locs cells slots mc ms lz F hc' hk hmc hms hL hR hz hl
theorem ev_mminZ {idx : Nat} {a b : Int} (hd : decode M.2.1 pc = .ok (.invokestatic idx, 3)) (hw : (Jvm.Cond.methodLink M.1.cls idx ⟨"java/lang/Math", "min", "(II)I"⟩) ∈ lw_all) (ha : inR a) (hb : inR b) (hdd : 1 ≤ d) (hW8 : (st.map fun v => v.category).sum ≤ 8) (kk : Ev g M d c k Q (pc + 3) ls (vz (min a b) :: st) h) : Ev g M d c k Q pc ls (vz b :: vz a :: st) h := by
  intro p l e R s m args below meth cd H locs cells slots mc ms lz F hc' hk hmc hms hL hR hz hl
  have e1 : (if zI b < zI a then zI b else zI a) = zI (min a b) := by
    by_cases q : b < a
    · rw [if_pos ((zI_lt hb ha).mpr q), show min a b = b by omega]
    · rw [if_neg (fun r => q ((zI_lt hb ha).mp r)), show min a b = a by omega]
  refine va_mmin F.1 F.2.1 (by rw [F.2.2.1]; exact hL.1.symm) F.own (F.words _ hw) (F.words _ q473) (F.words _ q143) (by have q := F.words _ q474; rw [mn_code] at q; exact q) (by have := F.frames; omega) (by have := F.room; omega) (by omega) (by omega) hd ?_
  rw [e1]
  exact kk p l e R s m args below meth cd H locs cells slots mc ms lz F hc' hk hmc hms hL hR hz hl
theorem ev_mabsZ {idx : Nat} {a : Int} (hd : decode M.2.1 pc = .ok (.invokestatic idx, 3)) (hw : (Jvm.Cond.methodLink M.1.cls idx ⟨"java/lang/Math", "abs", "(I)I"⟩) ∈ lw_all) (ha : inR a) (hdd : 1 ≤ d) (hW8 : (st.map fun v => v.category).sum ≤ 8) (kk : Ev g M d c k Q (pc + 3) ls (vz (a.natAbs : Int) :: st) h) : Ev g M d c k Q pc ls (vz a :: st) h := by
  intro p l e R s m args below meth cd H locs cells slots mc ms lz F hc' hk hmc hms hL hR hz hl
  have z0 : zI 0 = (0 : Int32) := rfl
  have e1 : (if 0 ≤ zI a then zI a else 0 - zI a) = zI (a.natAbs : Int) := by
    by_cases q : 0 ≤ a
    · rw [if_pos ((zI_0le ha).mpr q), show (a.natAbs : Int) = a by omega]
    · rw [if_neg (fun r => q ((zI_0le ha).mp r)), show (a.natAbs : Int) = 0 - a by omega, ← z0, zI_sub]
  refine va_mabs F.1 F.2.1 (by rw [F.2.2.1]; exact hL.1.symm) F.own (F.words _ hw) (F.words _ q2526) (F.words _ q143) (by have q := F.words _ q2527; rw [ab_code] at q; exact q) (by have := F.frames; omega) (by have := F.room; omega) (by omega) (by omega) hd ?_
  rw [e1]
  exact kk p l e R s m args below meth cd H locs cells slots mc ms lz F hc' hk hmc hms hL hR hz hl
theorem ev_mminN {idx a b : Nat} (hd : decode M.2.1 pc = .ok (.invokestatic idx, 3)) (hw : (Jvm.Cond.methodLink M.1.cls idx ⟨"java/lang/Math", "min", "(II)I"⟩) ∈ lw_all) (ha : a < 2147483648) (hb : b < 2147483648) (hdd : 1 ≤ d) (hW8 : (st.map fun v => v.category).sum ≤ 8) (kk : Ev g M d c k Q (pc + 3) ls (vz ((min a b : Nat) : Int) :: st) h) : Ev g M d c k Q pc ls (vz (b : Int) :: vz (a : Int) :: st) h :=
  ev_mminZ hd hw (by omega) (by omega) hdd hW8 (by rw [show min (a : Int) (b : Int) = ((min a b : Nat) : Int) by omega]; exact kk)
theorem ev_mmaxN {idx a b : Nat} (hd : decode M.2.1 pc = .ok (.invokestatic idx, 3)) (hw : (Jvm.Cond.methodLink M.1.cls idx ⟨"java/lang/Math", "max", "(II)I"⟩) ∈ lw_all) (ha : a < 2147483648) (hb : b < 2147483648) (hdd : 1 ≤ d) (hW8 : (st.map fun v => v.category).sum ≤ 8) (kk : Ev g M d c k Q (pc + 3) ls (vz ((max a b : Nat) : Int) :: st) h) : Ev g M d c k Q pc ls (vz (b : Int) :: vz (a : Int) :: st) h :=
  ev_mmaxZ hd hw (by omega) (by omega) hdd hW8 (by rw [show max (a : Int) (b : Int) = ((max a b : Nat) : Int) by omega]; exact kk)
end
set_option maxRecDepth 100000 in
set_option maxHeartbeats 4000000 in
theorem k_pCI {a b : Int} {v : Value} (h0 : 0 ≤ a ∧ a < b) (hb : inR b) : Kc g mJ22_checkIndex 0 (0) (0) [vz a, vz b, .null] h (sR (some (vz a)) h) := by
  refine Kc.of (ls := [some (vz a), some (vz b), some (.null)]) (by decide +kernel) (Nat.le_of_ble_eq_true rfl) rfl ?_
  refine ev_iload_n dJ22_checkIndex_0 rfl ?_
  refine ev_if_ltZ (tgt := 9) dJ22_checkIndex_1 (by decide) (by omega) (fun c1 => by omega) (fun c1 => ?_)
  refine ev_iload_n dJ22_checkIndex_4 rfl ?_
  refine ev_iload_n dJ22_checkIndex_5 rfl ?_
  refine ev_icmp_ltZ (tgt := 16) dJ22_checkIndex_6 (by decide) (by omega) (by omega) (fun c6 => ?_) (fun c6 => by omega)
  refine ev_iload_n dJ22_checkIndex_16 rfl ?_
  refine ev_ireturn dJ22_checkIndex_17 rfl ?_
  exact ⟨rfl, rfl⟩
set_option maxRecDepth 100000 in
set_option maxHeartbeats 4000000 in
theorem k_oCI {a b : Int} (h0 : 0 ≤ a ∧ a < b) (hb : inR b) : Kc g mJ21_checkIndex 1 (0) (0) [vz a, vz b] h (sR (some (vz a)) h) := by
  refine Kc.of (ls := [some (vz a), some (vz b)]) (by decide +kernel) (Nat.le_of_ble_eq_true rfl) rfl ?_
  refine ev_iload_n dJ21_checkIndex_0 rfl ?_
  refine ev_iload_n dJ21_checkIndex_1 rfl ?_
  refine ev_null dJ21_checkIndex_2 ?_
  refine ev_callSE dJ21_checkIndex_3 cs_J21_105 ce_J22_checkIndex rfl rfl (k_pCI (v := .null) h0 hb) (by omega) (Nat.le_of_ble_eq_true rfl) ?_
  refine ev_ireturn dJ21_checkIndex_6 rfl ?_
  exact ⟨rfl, rfl⟩
set_option maxRecDepth 100000 in
set_option maxHeartbeats 4000000 in
theorem al_size {a v : Nat} {n mc : Int} (ha : h a = some (.inr (29, [vz (mc), .ref v, vz n]))) : Kc g mJ26_size 0 (0) (0) [.ref a] h (sR (some (vz n)) h) := by
  refine Kc.of (ls := [some (.ref a)]) (by decide +kernel) (Nat.le_of_ble_eq_true rfl) rfl ?_
  refine ev_aload_n dJ26_size_0 rfl ?_
  refine ev_getf dJ26_size_1 gf_J26_48_J26 ha rfl ?_
  refine ev_ireturn dJ26_size_4 rfl ?_
  exact ⟨rfl, rfl⟩
set_option maxRecDepth 100000 in
set_option maxHeartbeats 4000000 in
theorem al_isEmpty {a v : Nat} {n mc : Int} (ha : h a = some (.inr (29, [vz (mc), .ref v, vz n]))) (hn : inR n) : Kc g mJ26_isEmpty 0 (0) (0) [.ref a] h (sR (some (vz (if n = 0 then 1 else 0))) h) := by
  refine Kc.of (ls := [some (.ref a)]) (by decide +kernel) (Nat.le_of_ble_eq_true rfl) rfl ?_
  refine ev_aload_n dJ26_isEmpty_0 rfl ?_
  refine ev_getf dJ26_isEmpty_1 gf_J26_48_J26 ha rfl ?_
  refine ev_if_neZ (tgt := 11) dJ26_isEmpty_4 (by decide) (by omega) (fun c4 => ?_) (fun c4 => ?_)
  · refine ev_iconstZ dJ26_isEmpty_11 ?_
    refine ev_zreturn dJ26_isEmpty_12 rfl rfl ?_
    exact ⟨by first | rw [if_pos (by omega)] | rw [if_neg (by omega)], rfl⟩
  · refine ev_iconstZ dJ26_isEmpty_7 ?_
    refine ev_goto (tgt := 12) dJ26_isEmpty_8 (by decide) ?_
    refine ev_zreturn dJ26_isEmpty_12 rfl rfl ?_
    exact ⟨by first | rw [if_pos (by omega)] | rw [if_neg (by omega)], rfl⟩
set_option maxRecDepth 100000 in
set_option maxHeartbeats 4000000 in
theorem al_ed {a v cap e : Nat} {n mc i : Int} {f : Nat → Option Nat} (ha : h a = some (.inr (29, [vz (mc), .ref v, vz n]))) (hv : h v = some (.inl (9, (cap, .inr (.inr (.inr (.inr (f)))))))) (hi : 0 ≤ i ∧ i < cap ∧ inR i) (he : f i.toNat = some e) : Kc g mJ26_elementData 0 (0) (0) [.ref a, vz i] h (sR (some (.ref e)) h) := by
  refine Kc.of (ls := [some (.ref a), some (vz i)]) (by decide +kernel) (Nat.le_of_ble_eq_true rfl) rfl ?_
  refine ev_aload_n dJ26_elementData_0 rfl ?_
  refine ev_getf dJ26_elementData_1 gf_J26_9_J26 ha rfl ?_
  refine ev_iload_n dJ26_elementData_4 rfl ?_
  refine ev_aaldY (v := .ref e) dJ26_elementData_5 hv rfl rfl hi (by rw [he]; rfl) ?_
  refine ev_areturn dJ26_elementData_6 rfl (Or.inl ⟨_, rfl⟩) (Or.inr ⟨_, rfl⟩) ?_
  exact ⟨rfl, rfl⟩
set_option maxRecDepth 100000 in
set_option maxHeartbeats 4000000 in
theorem al_get {a v cap e : Nat} {n mc i : Int} {f : Nat → Option Nat} (ha : h a = some (.inr (29, [vz (mc), .ref v, vz n]))) (hv : h v = some (.inl (9, (cap, .inr (.inr (.inr (.inr (f)))))))) (hi : 0 ≤ i ∧ i < n) (hn : n ≤ cap ∧ inR n) (he : f i.toNat = some e) : Kc g mJ26_get 2 (0) (0) [.ref a, vz i] h (sR (some (.ref e)) h) := by
  refine Kc.of (ls := [some (.ref a), some (vz i)]) (by decide +kernel) (Nat.le_of_ble_eq_true rfl) rfl ?_
  refine ev_iload_n dJ26_get_0 rfl ?_
  refine ev_aload_n dJ26_get_1 rfl ?_
  refine ev_getf dJ26_get_2 gf_J26_48_J26 ha rfl ?_
  refine ev_callSE dJ26_get_5 cs_J26_118 ce_J21_checkIndex rfl rfl (k_oCI hi hn.2) (by omega) (Nat.le_of_ble_eq_true rfl) ?_
  refine ev_pop dJ26_get_8 rfl ?_
  refine ev_aload_n dJ26_get_9 rfl ?_
  refine ev_iload_n dJ26_get_10 rfl ?_
  refine ev_callVE dJ26_get_11 cv_J26_123_J26 ce_J26_elementData ha rfl rfl rfl (al_ed ha hv ⟨hi.1, by omega, by omega⟩ he) (by omega) (Nat.le_of_ble_eq_true rfl) ?_
  refine ev_areturn dJ26_get_14 rfl (Or.inl ⟨_, rfl⟩) (Or.inr ⟨_, rfl⟩) ?_
  exact ⟨rfl, rfl⟩
set_option maxRecDepth 100000 in
set_option maxHeartbeats 4000000 in
theorem k_newLen {a b e : Int} (h0 : 0 ≤ a ∧ a ≤ 100000000 ∧ 0 < b ∧ b ≤ 100000000 ∧ 0 ≤ e ∧ e ≤ 100000000) : Kc g mJ25_newLength 1 (0) (0) [vz a, vz b, vz e] h (sR (some (vz (a + max b e))) h) := by
  refine Kc.of (ls := [some (vz a), some (vz b), some (vz e), none]) (by decide +kernel) (Nat.le_of_ble_eq_true rfl) rfl ?_
  refine ev_iload_n dJ25_newLength_0 rfl ?_
  refine ev_iload_n dJ25_newLength_1 rfl ?_
  refine ev_iload_n dJ25_newLength_2 rfl ?_
  refine ev_mmaxZ dJ25_newLength_3 q454 (by omega) (by omega) (by omega) (Nat.le_of_ble_eq_true rfl) ?_
  refine ev_iaddZ dJ25_newLength_6 ?_
  refine ev_istore_n dJ25_newLength_7 (by decide) rfl ?_
  dsimp only [List.set]
  refine ev_iconstZ dJ25_newLength_8 ?_
  refine ev_iload_n dJ25_newLength_9 rfl ?_
  refine ev_icmp_geZ (tgt := 21) dJ25_newLength_10 (by decide) (by omega) (by omega) (fun c10 => by omega) (fun c10 => ?_)
  refine ev_iload_n dJ25_newLength_13 rfl ?_
  refine ev_ldciZ (n := 2147483639) (v := 2147483639) dJ25_newLength_14 q457 (by decide) ?_
  refine ev_icmp_gtZ (tgt := 21) dJ25_newLength_16 (by decide) (by omega) (by omega) (fun c16 => by omega) (fun c16 => ?_)
  refine ev_iload_n dJ25_newLength_19 rfl ?_
  refine ev_ireturn dJ25_newLength_20 rfl ?_
  exact ⟨rfl, rfl⟩
set_option maxRecDepth 100000 in
set_option maxHeartbeats 4000000 in
theorem k_copyOf3 {a n m : Nat} {f : Nat → Option Nat} (hG : GKx g) (ha : h a = some (.inl (9, (n, .inr (.inr (.inr (.inr (f)))))))) (hel : ∀ i y : Nat, i < n → f i = some y → isO h y) (hn : n ≤ 10000000 ∧ m ≤ 10000000) : Kc g mJ18_copyOf_3 1 (1) (m) [.ref a, vz (m : Nat), .ref (g.2.2.2.2 400)] h (rR (fun r h' => ∃ q : Nat, r = some (.ref q) ∧ h q = none ∧ gB g ≤ q ∧ h' q = some (.inl (9, (m, .inr (.inr (.inr (.inr (cpQ f (fun _ => none) 0 0 (min n m)))))))) ∧ Fr g h h' [])) := by
  refine Kc.of (ls := [some (.ref a), some (vz (m : Nat)), some (.ref (g.2.2.2.2 400)), none]) (by decide +kernel) (Nat.le_of_ble_eq_true rfl) rfl ?_
  refine ev_aload_n dJ18_copyOf_3_0 rfl ?_
  refine ev_ldcM (i := 0) hG dJ18_copyOf_3_1 q1372 rfl ?_
  refine ev_acmp_ne (rx := (some ((g.2.2.2.2 400)))) (ry := (some ((g.2.2.2.2 400)))) (tgt := 13) dJ18_copyOf_3_3 (by decide) (fun c3 => absurd rfl c3) (fun c3 => ?_)
  refine ev_iload_n dJ18_copyOf_3_6 rfl ?_
  refine ev_anewOY (N := m) (c' := 0) (k' := 0) hG dJ18_copyOf_3_7 q1373 (by omega) (by omega) (by omega) (by omega) (by omega) (fun q1 hp_2 e3 B4 Hq1_5 f6 => ?_)
  have ha_7 := (f6 _ (ne_no ha e3)).trans ha
  have z8 := ((Fr.refl (g := g) _ [])).fresh e3
  have F9 := ((Fr.refl (g := g) _ [])).alloc (Or.inr ⟨_, Hq1_5, Nat.le_of_ble_eq_true rfl⟩) f6 e3
  refine ev_goto (tgt := 24) dJ18_copyOf_3_10 (by decide) ?_
  refine ev_astore_n dJ18_copyOf_3_24 (by decide) rfl ?_
  dsimp only [List.set]
  refine ev_aload_n dJ18_copyOf_3_25 rfl ?_
  refine ev_iconstZ dJ18_copyOf_3_26 ?_
  refine ev_aload_n dJ18_copyOf_3_27 rfl ?_
  refine ev_iconstZ dJ18_copyOf_3_28 ?_
  refine ev_aload_n dJ18_copyOf_3_29 rfl ?_
  refine ev_alenZ dJ18_copyOf_3_30 ha_7 rfl ?_
  refine ev_iload_n dJ18_copyOf_3_31 rfl ?_
  refine ev_mminN (a := n) (b := m) dJ18_copyOf_3_32 q472 (by omega) (by omega) (by omega) (Nat.le_of_ble_eq_true rfl) ?_
  refine ev_copyqY (sp := 0) (dp := 0) (n := min n m) dJ18_copyOf_3_35 q475 ha_7 Hq1_5 (fun i y _ hi2 hy => (F9.o (hel i y (by omega) hy))) B4 (by omega) (by omega) (by omega) (by omega) (Nat.le_of_ble_eq_true rfl) (fun hp_10 Hq1_11 f12 => ?_)
  have ha_13 := (f12 _ (ne_no ha e3)).trans ha_7
  have F14 := (F9).writeN (Or.inr ⟨_, Hq1_11, Nat.le_of_ble_eq_true rfl⟩) f12 z8
  refine ev_aload_n dJ18_copyOf_3_38 rfl ?_
  refine ev_areturn dJ18_copyOf_3_39 rfl (Or.inr ⟨_, rfl⟩) (Or.inr ⟨_, rfl⟩) ?_
  exact ⟨_, rfl, _, rfl, z8, B4, Hq1_11, F14⟩
end J1S

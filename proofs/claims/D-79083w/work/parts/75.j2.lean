/-! THE COMPONENT: a list that grows (printed by gen) -/
section J2S
variable {g : GB} {M : MI} {d c k : Nat} {h : HM}
/-- the list a: its array is v with room for cap (none of its own as long as it is empty); its elements are l -/
def ALh (g : GB) (h : HM) (a v cap : Nat) (mc : Int) (l : List Nat) : Prop :=
  h a = some (.inr (29, [vz (mc), .ref v, vz (l.length : Nat)])) ∧ gB g ≤ a ∧ (∃ f : Nat → Option Nat, h v = some (.inl (9, (cap, .inr (.inr (.inr (.inr (f))))))) ∧ (∀ i : Nat, i < l.length → f i = l[i]?)) ∧ (∀ y ∈ l, isO h y) ∧ l.length ≤ cap ∧ cap ≤ 2 * l.length + 10 ∧ (v = g.2.2.2.2 48 ∧ cap = 0 ∨ 0 < cap ∧ gB g ≤ v)
theorem ALh.fr {h' : HM} {S : List Nat} {a v cap : Nat} {mc : Int} {l : List Nat} (H : ALh g h a v cap mc l) (f : Fr g h h' S) (ha : a ∉ S) (hv : gB g ≤ v → v ∉ S) : ALh g h' a v cap mc l := by
  obtain ⟨h1, h2, ⟨e, h3, h4⟩, h5, h6, h7, h8⟩ := H
  exact ⟨f.keep h1 ha, h2, ⟨e, f.kp h3 hv, h4⟩, fun y hy => f.o (h5 y hy), h6, h7, h8⟩
set_option maxRecDepth 100000 in
set_option maxHeartbeats 4000000 in
theorem k_copyOf2 {a n m : Nat} {f : Nat → Option Nat} (hG : GKx g) (ha : h a = some (.inl (9, (n, .inr (.inr (.inr (.inr (f)))))))) (hel : ∀ i y : Nat, i < n → f i = some y → isO h y) (hn : n ≤ 10000000 ∧ m ≤ 10000000) : Kc g mJ18_copyOf_2 2 (1) (m) [.ref a, vz (m : Nat)] h (rR (fun r h' => ∃ q : Nat, r = some (.ref q) ∧ h q = none ∧ gB g ≤ q ∧ h' q = some (.inl (9, (m, .inr (.inr (.inr (.inr (cpQ f (fun _ => none) 0 0 (min n m)))))))) ∧ Fr g h h' [])) := by
  refine Kc.of (ls := [some (.ref a), some (vz (m : Nat))]) (by decide +kernel) (Nat.le_of_ble_eq_true rfl) rfl ?_
  refine ev_aload_n dJ18_copyOf_2_0 rfl ?_
  refine ev_iload_n dJ18_copyOf_2_1 rfl ?_
  refine ev_aload_n dJ18_copyOf_2_2 rfl ?_
  refine ev_getCA hG dJ18_copyOf_2_3 q1384 ha (by omega) (Nat.le_of_ble_eq_true rfl) ?_
  refine ev_callSR dJ18_copyOf_2_6 cs_J18_300 ce_J18_copyOf_3 rfl rfl (k_copyOf3 (m := m) hG ha hel (by omega)) (by omega) (by omega) (by omega) (Nat.le_of_ble_eq_true rfl) (fun v1 hp_1 P1 => ?_)
  obtain ⟨q, rfl, e1, B1, H1, fr1⟩ := P1
  have ha_2 := fr1.keep ha (fun q => by cases q)
  have F3 := ((Fr.refl (g := g) _ [])).call fr1 nil_in
  refine ev_areturn dJ18_copyOf_2_9 rfl (Or.inr ⟨_, rfl⟩) (Or.inr ⟨_, rfl⟩) ?_
  exact ⟨_, rfl, _, rfl, e1, B1, H1, F3⟩
set_option maxRecDepth 100000 in
set_option maxHeartbeats 4000000 in
theorem al_grow0a {a v n : Nat} {mc : Int} {f : Nat → Option Nat} (hG : GKx g) (ha : h a = some (.inr (29, [vz (mc), .ref v, vz (n : Nat)]))) (hB : gB g ≤ a) (hv : v = g.2.2.2.2 48) (h48 : h (g.2.2.2.2 48) = some (.inl (9, (0, .inr (.inr (.inr (.inr (f)))))))) (hn : n < 10) : Kc g mJ26_grow_2 1 (1) (10) [.ref a, vz ((n : Nat) + 1)] h (rR (fun r h' => ∃ q : Nat, r = some (.ref q) ∧ h q = none ∧ gB g ≤ q ∧ h' q = some (.inl (9, (10, .inr (.inr (.inr (.inr (fun _ => none))))))) ∧ h' a = some (.inr (29, [vz (mc), .ref q, vz (n : Nat)])) ∧ Fr g h h' [a])) := by
  refine Kc.of (ls := [some (.ref a), some (vz ((n : Nat) + 1)), none, none]) (by decide +kernel) (Nat.le_of_ble_eq_true rfl) rfl ?_
  subst hv
  refine ev_aload_n dJ26_grow_2_0 rfl ?_
  refine ev_getf dJ26_grow_2_1 gf_J26_9_J26 ha rfl ?_
  refine ev_alenZ dJ26_grow_2_4 h48 rfl ?_
  refine ev_istore_n dJ26_grow_2_5 (by decide) rfl ?_
  dsimp only [List.set]
  refine ev_iload_n dJ26_grow_2_6 rfl ?_
  refine ev_if_gtZ (tgt := 20) dJ26_grow_2_7 (by decide) (by omega) (fun c7 => by omega) (fun c7 => ?_)
  refine ev_aload_n dJ26_grow_2_10 rfl ?_
  refine ev_getf dJ26_grow_2_11 gf_J26_9_J26 ha rfl ?_
  refine ev_gets (i := 0) hG dJ26_grow_2_14 rfl q1620 ?_
  refine ev_acmp_eq (rx := (some ((g.2.2.2.2 48)))) (ry := (some ((g.2.2.2.2 48)))) (tgt := 45) dJ26_grow_2_17 (by decide) (fun c17 => ?_) (fun c17 => absurd rfl c17)
  refine ev_aload_n dJ26_grow_2_45 rfl ?_
  refine ev_bipushZ dJ26_grow_2_46 rfl ?_
  refine ev_iload_n dJ26_grow_2_48 rfl ?_
  refine ev_mmaxZ dJ26_grow_2_49 q1775 (by omega) (by omega) (by omega) (Nat.le_of_ble_eq_true rfl) ?_
  refine ev_anewOY (N := 10) (c' := 0) (k' := 0) hG dJ26_grow_2_52 q1776 (by omega) (by omega) (by omega) (by omega) (by omega) (fun q1 hp_2 e3 B4 Hq1_5 f6 => ?_)
  have ha_7 := (f6 _ (ne_no ha e3)).trans ha
  have h48_8 := (f6 _ (ne_no h48 e3)).trans h48
  have z9 := ((Fr.refl (g := g) _ [a])).fresh e3
  have F10 := ((Fr.refl (g := g) _ [a])).alloc (Or.inr ⟨_, Hq1_5, Nat.le_of_ble_eq_true rfl⟩) f6 e3
  refine ev_dup_x1 dJ26_grow_2_55 rfl rfl ?_
  refine ev_putC [vz mc, .ref q1, vz (n : Nat)] dJ26_grow_2_56 gf_J26_9_J26 ha_7 hB (Or.inl rfl) rfl rfl (Nat.le_of_ble_eq_true rfl) rfl (fun hp_11 ha_12 f13 => ?_)
  have h48_14 := (f13 _ (ne_of h48_8 ha_7 (by simp))).trans h48_8
  have Hq1_15 := (f13 _ ((ne_no ha e3)).symm).trans Hq1_5
  have F16 := (F10).write (Or.inl ⟨_, ha_12⟩) f13 hB (by simp)
  refine ev_areturn dJ26_grow_2_59 rfl (Or.inr ⟨_, rfl⟩) (Or.inr ⟨_, rfl⟩) ?_
  exact ⟨_, rfl, _, rfl, z9, B4, Hq1_15, ha_12, F16⟩
set_option maxRecDepth 100000 in
set_option maxHeartbeats 4000000 in
theorem al_growNa {a v n cap : Nat} {mc : Int} {f : Nat → Option Nat} (hG : GKx g) (ha : h a = some (.inr (29, [vz (mc), .ref v, vz (n : Nat)]))) (hB : gB g ≤ a) (hv : h v = some (.inl (9, (cap, .inr (.inr (.inr (.inr (f)))))))) (hel : ∀ i y : Nat, i < cap → f i = some y → isO h y) (hn : n = cap ∧ 0 < cap ∧ cap ≤ 1000000) : Kc g mJ26_grow_2 3 (1) (cap + max 1 (cap / 2)) [.ref a, vz ((n : Nat) + 1)] h (rR (fun r h' => ∃ q : Nat, r = some (.ref q) ∧ h q = none ∧ gB g ≤ q ∧ h' q = some (.inl (9, (cap + max 1 (cap / 2), .inr (.inr (.inr (.inr (cpQ f (fun _ => none) 0 0 (min cap (cap + max 1 (cap / 2)))))))))) ∧ h' a = some (.inr (29, [vz (mc), .ref q, vz (n : Nat)])) ∧ Fr g h h' [a])) := by
  refine Kc.of (ls := [some (.ref a), some (vz ((n : Nat) + 1)), none, none]) (by decide +kernel) (Nat.le_of_ble_eq_true rfl) rfl ?_
  refine ev_aload_n dJ26_grow_2_0 rfl ?_
  refine ev_getf dJ26_grow_2_1 gf_J26_9_J26 ha rfl ?_
  refine ev_alenZ dJ26_grow_2_4 hv rfl ?_
  refine ev_istore_n dJ26_grow_2_5 (by decide) rfl ?_
  dsimp only [List.set]
  refine ev_iload_n dJ26_grow_2_6 rfl ?_
  refine ev_if_gtZ (tgt := 20) dJ26_grow_2_7 (by decide) (by omega) (fun c7 => ?_) (fun c7 => by omega)
  refine ev_iload_n dJ26_grow_2_20 rfl ?_
  refine ev_iload_n dJ26_grow_2_21 rfl ?_
  refine ev_iload_n dJ26_grow_2_22 rfl ?_
  refine ev_isubZ dJ26_grow_2_23 ?_
  refine ev_iload_n dJ26_grow_2_24 rfl ?_
  refine ev_iconstZ dJ26_grow_2_25 ?_
  refine ev_half (u := cap) dJ26_grow_2_26 (by omega) ?_
  refine ev_callSE dJ26_grow_2_27 cs_J26_73 ce_J25_newLength rfl rfl (k_newLen (a := (cap : Int)) (b := ((n : Int) + 1 - cap)) (e := ((cap / 2 : Nat) : Int)) (by omega)) (by omega) (Nat.le_of_ble_eq_true rfl) ?_
  refine ev_to (b := ((cap + max 1 (cap / 2) : Nat) : Int)) (by omega) ?_
  refine ev_istore_n dJ26_grow_2_30 (by decide) rfl ?_
  dsimp only [List.set]
  refine ev_aload_n dJ26_grow_2_31 rfl ?_
  refine ev_aload_n dJ26_grow_2_32 rfl ?_
  refine ev_getf dJ26_grow_2_33 gf_J26_9_J26 ha rfl ?_
  refine ev_iload_n dJ26_grow_2_36 rfl ?_
  refine ev_callSR dJ26_grow_2_37 cs_J26_66 ce_J18_copyOf_2 rfl rfl (k_copyOf2 (m := cap + max 1 (cap / 2)) hG hv (fun i y hi hy => (Fr.refl (g := g) _ [a]).o (hel i y hi hy)) (by omega)) (by omega) (by omega) (by omega) (Nat.le_of_ble_eq_true rfl) (fun v1 hp_1 P1 => ?_)
  obtain ⟨q, rfl, e1, B1, H1, fr1⟩ := P1
  have ha_2 := fr1.keep ha (fun q => by cases q)
  have hv_3 := fr1.keep hv (fun q => by cases q)
  have F4 := ((Fr.refl (g := g) _ [a])).call fr1 nil_in
  refine ev_dup_x1 dJ26_grow_2_40 rfl rfl ?_
  refine ev_putC [vz mc, .ref q, vz (n : Nat)] dJ26_grow_2_41 gf_J26_9_J26 ha_2 hB (Or.inl rfl) rfl rfl (Nat.le_of_ble_eq_true rfl) rfl (fun hp_5 ha_6 f7 => ?_)
  have hv_8 := (f7 _ (ne_of hv_3 ha_2 (by simp))).trans hv_3
  have H1_9 := (f7 _ ((ne_no ha e1)).symm).trans H1
  have F10 := (F4).write (Or.inl ⟨_, ha_6⟩) f7 hB (by simp)
  refine ev_areturn dJ26_grow_2_44 rfl (Or.inr ⟨_, rfl⟩) (Or.inr ⟨_, rfl⟩) ?_
  exact ⟨_, rfl, _, rfl, e1, B1, H1_9, ha_6, F10⟩
set_option maxRecDepth 100000 in
set_option maxHeartbeats 4000000 in
theorem al_grow {a v cap : Nat} {mc : Int} {l : List Nat} (hG : GKx g) (h48 : h (g.2.2.2.2 48) = some (.inl (9, (0, .inr (.inr (.inr (.inr ((fun _ => none))))))))) (H : ALh g h a v cap (mc) (l)) (hc : l.length < 100000) (hfull : l.length = cap) : Kc g mJ26_grow 4 (1) (2 * l.length + 10) [.ref a] h (rR (fun r h' => ∃ (q cap' : Nat) (f' : Nat → Option Nat), r = some (.ref q) ∧ h q = none ∧ gB g ≤ q ∧ h' q = some (.inl (9, (cap', .inr (.inr (.inr (.inr (f'))))))) ∧ (∀ i : Nat, i < l.length → f' i = l[i]?) ∧ h' a = some (.inr (29, [vz (mc), .ref q, vz (l.length : Nat)])) ∧ Fr g h h' [a] ∧ l.length < cap' ∧ cap' ≤ 2 * l.length + 10)) := by
  refine Kc.of (ls := [some (.ref a)]) (by decide +kernel) (Nat.le_of_ble_eq_true rfl) rfl ?_
  obtain ⟨ha, hB, ⟨f, hv, hf⟩, hel, hlc, hcl, hp⟩ := id H
  have hfo : ∀ i y : Nat, i < l.length → f i = some y → isO h y := fun i y hi hy => hel y (by rw [hf i hi] at hy; exact List.mem_of_getElem? hy)
  by_cases hn : l.length = 0
  · have hp : v = g.2.2.2.2 48 ∧ cap = 0 := by omega
    refine ev_aload_n dJ26_grow_0 rfl ?_
    refine ev_aload_n dJ26_grow_1 rfl ?_
    refine ev_getf dJ26_grow_2 gf_J26_48_J26 ha rfl ?_
    refine ev_iconstZ dJ26_grow_5 ?_
    refine ev_iaddZ dJ26_grow_6 ?_
    refine ev_callVR dJ26_grow_7 cv_J26_69_J26 ce_J26_grow_2 ha rfl rfl rfl (al_grow0a (n := l.length) hG ha hB hp.1 h48 (by omega)) (by omega) (by omega) (by omega) (Nat.le_of_ble_eq_true rfl) (fun v1 hp_1 P1 => ?_)
    obtain ⟨q, rfl, e1, B1, Hq1, Ha1, fr1⟩ := P1
    have F2 := ((Fr.refl (g := g) _ [a])).call fr1 (by intro x hx; exact Or.inl hx)
    refine ev_areturn dJ26_grow_10 rfl (Or.inr ⟨_, rfl⟩) (Or.inr ⟨_, rfl⟩) ?_
    exact ⟨_, rfl, _, _, _, rfl, e1, B1, Hq1, fun i hi => by omega, Ha1, F2, by omega, by omega⟩
  · have hB2 : 0 < cap := by omega
    refine ev_aload_n dJ26_grow_0 rfl ?_
    refine ev_aload_n dJ26_grow_1 rfl ?_
    refine ev_getf dJ26_grow_2 gf_J26_48_J26 ha rfl ?_
    refine ev_iconstZ dJ26_grow_5 ?_
    refine ev_iaddZ dJ26_grow_6 ?_
    refine ev_callVR dJ26_grow_7 cv_J26_69_J26 ce_J26_grow_2 ha rfl rfl rfl (al_growNa (n := l.length) hG ha hB hv (fun i y hi hy => hfo i y (by omega) hy) (by omega)) (by omega) (by omega) (by omega) (Nat.le_of_ble_eq_true rfl) (fun v1 hp_1 P1 => ?_)
    obtain ⟨q, rfl, e1, B1, Hq1, Ha1, fr1⟩ := P1
    have F2 := ((Fr.refl (g := g) _ [a])).call fr1 (by intro x hx; exact Or.inl hx)
    refine ev_areturn dJ26_grow_10 rfl (Or.inr ⟨_, rfl⟩) (Or.inr ⟨_, rfl⟩) ?_
    refine ⟨_, rfl, _, _, _, rfl, e1, B1, Hq1, fun i hi => ?_, Ha1, F2, by omega, by omega⟩
    rw [← hf i hi]
    unfold cpQ
    rw [if_pos (by omega), show 0 + (i - 0) = i by omega]
theorem al_app {l : List Nat} {e : Nat} {f : Nat → Option Nat} (hf : ∀ i : Nat, i < l.length → f i = l[i]?) : ∀ i : Nat, i < (l ++ [e]).length → va_up f ((l.length : Nat) : Int).toNat (some e) i = (l ++ [e])[i]? := by
  intro i hi
  rw [Int.toNat_natCast]
  unfold va_up
  by_cases c : i = l.length
  · rw [if_pos c, c, List.getElem?_append_right (Nat.le_refl _), Nat.sub_self]; rfl
  · rw [List.length_append] at hi
    rw [if_neg c, hf i (by simp at hi; omega), List.getElem?_append_left (by simp at hi; omega)]
set_option maxRecDepth 100000 in
set_option maxHeartbeats 4000000 in
theorem al_add2 {a v cap : Nat} {mc : Int} {l : List Nat} (hG : GKx g) (h48 : h (g.2.2.2.2 48) = some (.inl (9, (0, .inr (.inr (.inr (.inr ((fun _ => none))))))))) (H : ALh g h a v cap (mc) (l)) (hc : l.length < 100000) {e : Nat} (he : isO h e) : Kc g mJ26_add_2 5 (1) (2 * l.length + 10) [.ref a, .ref e, .ref v, vz (l.length : Nat)] h (rR (fun r h' => r = none ∧ ∃ v' cap' : Nat, ALh g h' a v' cap' (mc) (l ++ [e]) ∧ (v' = v ∨ h v' = none) ∧ Fr g h h' [a, v])) := by
  refine Kc.of (ls := [some (.ref a), some (.ref e), some (.ref v), some (vz (l.length : Nat))]) (by decide +kernel) (Nat.le_of_ble_eq_true rfl) rfl ?_
  obtain ⟨ha, hB, ⟨f, hv, hf⟩, hel, hlc, hcl, hp⟩ := id H
  by_cases hn : l.length = cap
  · refine ev_iload_n dJ26_add_2_0 rfl ?_
    refine ev_aload_n dJ26_add_2_1 rfl ?_
    refine ev_alenZ dJ26_add_2_2 hv rfl ?_
    refine ev_icmp_neZ (tgt := 11) dJ26_add_2_3 (by decide) (by omega) (by omega) (fun c3 => by omega) (fun c3 => ?_)
    refine ev_aload_n dJ26_add_2_6 rfl ?_
    refine ev_callVR dJ26_add_2_7 cv_J26_129_J26 ce_J26_grow ha rfl rfl rfl (al_grow hG h48 H hc hn) (by omega) (by omega) (by omega) (Nat.le_of_ble_eq_true rfl) (fun v1 hp_1 P1 => ?_)
    obtain ⟨q, cap', f', rfl, e1, B1, Hq1, hf1, Ha1, fr1, c11, c21⟩ := P1
    have hv_2 := fr1.keep hv (by simp only [List.mem_cons, List.not_mem_nil, or_false, not_or]; exact (ne_of hv ha (by simp)))
    have F3 := ((Fr.refl (g := g) _ [a, v])).call fr1 (by intro x hx; exact Or.inl (List.mem_cons.mpr (Or.inl (List.mem_singleton.mp hx))))
    refine ev_astore_n dJ26_add_2_10 (by decide) rfl ?_
    dsimp only [List.set]
    refine ev_aload_n dJ26_add_2_11 rfl ?_
    refine ev_iload_n dJ26_add_2_12 rfl ?_
    refine ev_aload_n dJ26_add_2_13 rfl ?_
    refine ev_aastY dJ26_add_2_14 Hq1 B1 (by omega) (F3.o he) (fun hp_4 Hq1_5 f6 => ?_)
    have Ha1_7 := (f6 _ (ne_no ha e1)).trans Ha1
    have hv_8 := (f6 _ (ne_no hv e1)).trans hv_2
    have F9 := (F3).writeN (Or.inr ⟨_, Hq1_5, Nat.le_of_ble_eq_true rfl⟩) f6 e1
    refine ev_aload_n dJ26_add_2_15 rfl ?_
    refine ev_iload_n dJ26_add_2_16 rfl ?_
    refine ev_iconstZ dJ26_add_2_17 ?_
    refine ev_iaddZ dJ26_add_2_18 ?_
    refine ev_putC [vz mc, .ref q, vz ((l.length : Nat) + 1)] dJ26_add_2_19 gf_J26_48_J26 Ha1_7 hB (Or.inl rfl) rfl rfl (Nat.le_of_ble_eq_true rfl) rfl (fun hp_10 Ha1_11 f12 => ?_)
    have hv_13 := (f12 _ (ne_of hv_8 Ha1_7 (by simp))).trans hv_8
    have Hq1_14 := (f12 _ ((ne_no ha e1)).symm).trans Hq1_5
    have F15 := (F9).write (Or.inl ⟨_, Ha1_11⟩) f12 hB (by simp)
    refine ev_return dJ26_add_2_22 rfl ?_
    have hfx : ∀ i : Nat, i < (l ++ [e]).length → va_up (f') ((l.length : Nat) : Int).toNat (some e) i = (l ++ [e])[i]? := al_app hf1
    have hel2 : ∀ y ∈ l ++ [e], isO hp_10 y := fun y hy => F15.o ((List.mem_append.mp hy).elim (hel y) (fun q => by rw [List.mem_singleton.mp q]; exact he))
    refine ⟨_, rfl, rfl, q, cap', ⟨?_, hB, ⟨_, Hq1_14, hfx⟩, hel2, ?_, ?_, Or.inr ⟨by omega, B1⟩⟩, Or.inr e1, F15⟩
    · rw [List.length_append]; exact Ha1_11
    · rw [List.length_append]; show l.length + 1 ≤ _; omega
    · rw [List.length_append]; show _ ≤ 2 * (l.length + 1) + 10; omega
  · have hBv : gB g ≤ v := by omega
    refine ev_iload_n dJ26_add_2_0 rfl ?_
    refine ev_aload_n dJ26_add_2_1 rfl ?_
    refine ev_alenZ dJ26_add_2_2 hv rfl ?_
    refine ev_icmp_neZ (tgt := 11) dJ26_add_2_3 (by decide) (by omega) (by omega) (fun c3 => ?_) (fun c3 => by omega)
    refine ev_aload_n dJ26_add_2_11 rfl ?_
    refine ev_iload_n dJ26_add_2_12 rfl ?_
    refine ev_aload_n dJ26_add_2_13 rfl ?_
    refine ev_aastY dJ26_add_2_14 hv hBv (by omega) he (fun hp_1 hv_2 f3 => ?_)
    have ha_4 := (f3 _ (ne_of ha hv (by simp))).trans ha
    have F5 := ((Fr.refl (g := g) _ [a, v])).write (Or.inr ⟨_, hv_2, Nat.le_of_ble_eq_true rfl⟩) f3 hBv (by simp)
    refine ev_aload_n dJ26_add_2_15 rfl ?_
    refine ev_iload_n dJ26_add_2_16 rfl ?_
    refine ev_iconstZ dJ26_add_2_17 ?_
    refine ev_iaddZ dJ26_add_2_18 ?_
    refine ev_putC [vz mc, .ref v, vz ((l.length : Nat) + 1)] dJ26_add_2_19 gf_J26_48_J26 ha_4 hB (Or.inl rfl) rfl rfl (Nat.le_of_ble_eq_true rfl) rfl (fun hp_6 ha_7 f8 => ?_)
    have hv_9 := (f8 _ (ne_of hv_2 ha_4 (by simp))).trans hv_2
    have F10 := (F5).write (Or.inl ⟨_, ha_7⟩) f8 hB (by simp)
    refine ev_return dJ26_add_2_22 rfl ?_
    have hfx : ∀ i : Nat, i < (l ++ [e]).length → va_up (f) ((l.length : Nat) : Int).toNat (some e) i = (l ++ [e])[i]? := al_app hf
    have hel2 : ∀ y ∈ l ++ [e], isO hp_6 y := fun y hy => F10.o ((List.mem_append.mp hy).elim (hel y) (fun q => by rw [List.mem_singleton.mp q]; exact he))
    refine ⟨_, rfl, rfl, v, cap, ⟨?_, hB, ⟨_, hv_9, hfx⟩, hel2, ?_, ?_, Or.inr ⟨by omega, hBv⟩⟩, Or.inl rfl, F10⟩
    · rw [List.length_append]; exact ha_7
    · rw [List.length_append]; show l.length + 1 ≤ _; omega
    · rw [List.length_append]; show _ ≤ 2 * (l.length + 1) + 10; omega
theorem ALh.mcSet {h' : HM} {S : List Nat} {a v cap : Nat} {mc mc' : Int} {l : List Nat} (H : ALh g h a v cap mc l) (ha : h' a = some (.inr (29, [vz (mc'), .ref v, vz (l.length : Nat)]))) (hq : ∀ x : Nat, x ≠ a → h' x = h x) (F : Fr g h h' S) : ALh g h' a v cap mc' l := by
  obtain ⟨h1, h2, ⟨e, h3, h4⟩, h5, h6, h7, h8⟩ := H
  exact ⟨ha, h2, ⟨e, (hq v (ne_of h3 h1 (by simp))).trans h3, h4⟩, fun y hy => F.o (h5 y hy), h6, h7, h8⟩
theorem ALh.n48 {a v cap : Nat} {mc : Int} {l : List Nat} (H : ALh g h a v cap mc l) (h48 : h (g.2.2.2.2 48) = some (.inl (9, (0, .inr (.inr (.inr (.inr ((fun _ => none))))))))) : g.2.2.2.2 48 ≠ a := ne_of h48 H.1 (by simp)
set_option maxRecDepth 100000 in
set_option maxHeartbeats 4000000 in
theorem al_add {a v cap : Nat} {mc : Int} {l : List Nat} (hG : GKx g) (h48 : h (g.2.2.2.2 48) = some (.inl (9, (0, .inr (.inr (.inr (.inr ((fun _ => none))))))))) (H : ALh g h a v cap (mc) (l)) (hc : l.length < 100000) {e : Nat} (he : isO h e) : Kc g mJ26_add 6 (1) (2 * l.length + 10) [.ref a, .ref e] h (rR (fun r h' => r = some (vz 1) ∧ ∃ v' cap' : Nat, ALh g h' a v' cap' (mc + 1) (l ++ [e]) ∧ (v' = v ∨ h v' = none) ∧ Fr g h h' [a, v])) := by
  refine Kc.of (ls := [some (.ref a), some (.ref e)]) (by decide +kernel) (Nat.le_of_ble_eq_true rfl) rfl ?_
  have ha := H.1
  have hB := H.2.1
  refine ev_aload_n dJ26_add_0 rfl ?_
  refine ev_dup dJ26_add_1 rfl ?_
  refine ev_getf dJ26_add_2 gf_J26_63_J26 ha rfl ?_
  refine ev_iconstZ dJ26_add_5 ?_
  refine ev_iaddZ dJ26_add_6 ?_
  refine ev_putC [vz (mc + 1), .ref v, vz (l.length : Nat)] dJ26_add_7 gf_J26_63_J26 ha hB (Or.inl rfl) rfl rfl (Nat.le_of_ble_eq_true rfl) rfl (fun hp_1 ha_2 f3 => ?_)
  have h48_4 := (f3 _ (ne_of h48 ha (by simp))).trans h48
  have F5 := ((Fr.refl (g := g) _ [a, v])).write (Or.inl ⟨_, ha_2⟩) f3 hB (by simp)
  have H2 := H.mcSet ha_2 f3 F5
  have FP := F5
  refine ev_aload_n dJ26_add_10 rfl ?_
  refine ev_aload_n dJ26_add_11 rfl ?_
  refine ev_aload_n dJ26_add_12 rfl ?_
  refine ev_getf dJ26_add_13 gf_J26_9_J26 ha_2 rfl ?_
  refine ev_aload_n dJ26_add_16 rfl ?_
  refine ev_getf dJ26_add_17 gf_J26_48_J26 ha_2 rfl ?_
  refine ev_callVR dJ26_add_20 cv_J26_131_J26 ce_J26_add_2 ha_2 rfl rfl rfl (al_add2 hG h48_4 H2 hc (F5.o he)) (by omega) (by omega) (by omega) (Nat.le_of_ble_eq_true rfl) (fun v6 hp_6 P6 => ?_)
  obtain ⟨rfl, v', cap', H1, hv1, fr1⟩ := P6
  have F7 := (F5).call fr1 (by intro x hx; exact Or.inl hx)
  refine ev_iconstZ dJ26_add_23 ?_
  refine ev_zreturn dJ26_add_24 rfl rfl ?_
  exact ⟨_, rfl, rfl, v', cap', H1, hv1.imp_right (fun q => FP.fresh q), F7⟩
end J2S

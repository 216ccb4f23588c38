/-! THE COMPONENT: ArrayList add, its cost by its room (printed by gen) -/
section T3S
variable {g : GB} {M : MI} {d c k : Nat} {h : HM}
/-- the room behind the next element -/
def nxC (cap n : Nat) : Nat := if n = cap then (if cap = 0 then 10 else cap + max 1 (cap / 2)) else cap
def capL : Nat → Nat
  | 0 => 0
  | n + 1 => nxC (capL n) n
/-- what n elements have cost -/
def addK : Nat → Nat
  | 0 => 0
  | n + 1 => addK n + (if n = capL n then nxC (capL n) n else 0)
theorem capL_le : ∀ n : Nat, n ≤ capL n ∧ capL n ≤ 2 * n + 10 ∧ (1 ≤ n → 10 ≤ capL n) := by
  intro n
  induction n with
  | zero => exact ⟨Nat.le_refl _, by decide, by omega⟩
  | succ n ih =>
    obtain ⟨h1, h2, h3⟩ := ih
    show n + 1 ≤ nxC (capL n) n ∧ nxC (capL n) n ≤ 2 * (n + 1) + 10 ∧ (1 ≤ n + 1 → 10 ≤ nxC (capL n) n)
    unfold nxC
    split
    · rename_i e
      split
      · omega
      · omega
    · rename_i e
      refine ⟨by omega, by omega, fun _ => h3 (by
        rcases Nat.eq_zero_or_pos n with q | q
        · subst q; exact absurd rfl e
        · exact q)⟩
theorem addK_le : ∀ n : Nat, addK n ≤ 4 * capL n := by
  intro n
  induction n with
  | zero => exact Nat.le_refl _
  | succ n ih =>
    have h3 := (capL_le n).2.2
    show addK n + (if n = capL n then nxC (capL n) n else 0) ≤ 4 * nxC (capL n) n
    unfold nxC
    split
    · rename_i e
      split
      · omega
      · have := h3 (by omega); omega
    · omega
set_option maxRecDepth 100000 in
set_option maxHeartbeats 4000000 in
theorem al_growB {a v cap : Nat} {mc : Int} {l : List Nat} (hG : GKx g) (h48 : h (g.2.2.2.2 48) = some (.inl (9, (0, .inr (.inr (.inr (.inr ((fun _ => none))))))))) (H : ALh g h a v (cap) (mc) (l)) (hc : l.length < 100000) (hfull : l.length = cap) : Kc g mJ26_grow 4 (1) (nxC cap l.length) [.ref a] h (rR (fun r h' => ∃ (q : Nat) (f' : Nat → Option Nat), r = some (.ref q) ∧ h q = none ∧ gB g ≤ q ∧ h' q = some (.inl (9, ((nxC cap l.length), .inr (.inr (.inr (.inr (f'))))))) ∧ (∀ i : Nat, i < l.length → f' i = l[i]?) ∧ h' a = some (.inr (29, [vz (mc), .ref q, vz (l.length : Nat)])) ∧ Fr g h h' [a] ∧ l.length < nxC cap l.length ∧ nxC cap l.length ≤ 2 * l.length + 10)) := by
  refine Kc.of (ls := [some (.ref a)]) (by decide +kernel) (Nat.le_of_ble_eq_true rfl) rfl ?_
  obtain ⟨ha, hB, ⟨f, hv, hf⟩, hel, hlc, hcl, hp⟩ := id H
  have hfo : ∀ i y : Nat, i < l.length → f i = some y → isO h y := fun i y hi hy => hel y (by rw [hf i hi] at hy; exact List.mem_of_getElem? hy)
  have hnc : nxC cap l.length = if cap = 0 then 10 else cap + max 1 (cap / 2) := if_pos hfull
  by_cases hn : l.length = 0
  · have hp : v = g.2.2.2.2 48 ∧ cap = 0 := by omega
    rw [if_pos hp.2] at hnc
    rw [hnc]
    refine ev_aload_n dJ26_grow_0 rfl ?_
    refine ev_aload_n dJ26_grow_1 rfl ?_
    refine ev_getf dJ26_grow_2 gf_J26_48_J26 ha rfl ?_
    refine ev_iconstZ dJ26_grow_5 ?_
    refine ev_iaddZ dJ26_grow_6 ?_
    refine ev_callVR dJ26_grow_7 cv_J26_69_J26 ce_J26_grow_2 ha rfl rfl rfl (al_grow0a (n := l.length) hG ha hB hp.1 h48 (by omega)) (by omega) (by omega) (by omega) (Nat.le_of_ble_eq_true rfl) (fun v1 hp_1 P1 => ?_)
    obtain ⟨q, rfl, e1, B1, Hq1, Ha1, fr1⟩ := P1
    have F2 := ((Fr.refl (g := g) _ [a])).call fr1 (by intro x hx; exact Or.inl hx)
    refine ev_areturn dJ26_grow_10 rfl (Or.inr ⟨_, rfl⟩) (Or.inr ⟨_, rfl⟩) ?_
    exact ⟨_, rfl, _, _, rfl, e1, B1, Hq1, fun i hi => by omega, Ha1, F2, by omega, by omega⟩
  · have hB2 : 0 < cap := by omega
    rw [if_neg (by omega)] at hnc
    rw [hnc]
    refine ev_aload_n dJ26_grow_0 rfl ?_
    refine ev_aload_n dJ26_grow_1 rfl ?_
    refine ev_getf dJ26_grow_2 gf_J26_48_J26 ha rfl ?_
    refine ev_iconstZ dJ26_grow_5 ?_
    refine ev_iaddZ dJ26_grow_6 ?_
    refine ev_callVR dJ26_grow_7 cv_J26_69_J26 ce_J26_grow_2 ha rfl rfl rfl (al_growNa (n := l.length) hG ha hB hv (fun i y hi hy => hfo i y (by omega) hy) (by omega)) (by omega) (by omega) (by omega) (Nat.le_of_ble_eq_true rfl) (fun v1 hp_1 P1 => ?_)
    obtain ⟨q, rfl, e1, B1, Hq1, Ha1, fr1⟩ := P1
    have F2 := ((Fr.refl (g := g) _ [a])).call fr1 (by intro x hx; exact Or.inl hx)
    refine ev_areturn dJ26_grow_10 rfl (Or.inr ⟨_, rfl⟩) (Or.inr ⟨_, rfl⟩) ?_
    refine ⟨_, rfl, _, _, rfl, e1, B1, Hq1, fun i hi => ?_, Ha1, F2, by omega, by omega⟩
    rw [← hf i hi]
    unfold cpQ
    rw [if_pos (by omega), show 0 + (i - 0) = i by omega]
set_option maxRecDepth 100000 in
set_option maxHeartbeats 4000000 in
theorem al_add2B {a v cap : Nat} {mc : Int} {l : List Nat} (hG : GKx g) (h48 : h (g.2.2.2.2 48) = some (.inl (9, (0, .inr (.inr (.inr (.inr ((fun _ => none))))))))) (H : ALh g h a v (cap) (mc) (l)) (hc : l.length < 100000) {e : Nat} (he : isO h e) (hbud : l.length = cap → 1 ≤ c ∧ nxC cap l.length ≤ k) : Kc g mJ26_add_2 5 (c) (k) [.ref a, .ref e, .ref v, vz (l.length : Nat)] h (rR (fun r h' => r = none ∧ ∃ v' : Nat, ALh g h' a v' (nxC cap l.length) (mc) (l ++ [e]) ∧ (v' = v ∨ h v' = none) ∧ Fr g h h' [a, v])) := by
  refine Kc.of (ls := [some (.ref a), some (.ref e), some (.ref v), some (vz (l.length : Nat))]) (by decide +kernel) (Nat.le_of_ble_eq_true rfl) rfl ?_
  obtain ⟨ha, hB, ⟨f, hv, hf⟩, hel, hlc, hcl, hp⟩ := id H
  by_cases hn : l.length = cap
  · obtain ⟨hc1, hk1⟩ := hbud hn
    refine ev_iload_n dJ26_add_2_0 rfl ?_
    refine ev_aload_n dJ26_add_2_1 rfl ?_
    refine ev_alenZ dJ26_add_2_2 hv rfl ?_
    refine ev_icmp_neZ (tgt := 11) dJ26_add_2_3 (by decide) (by omega) (by omega) (fun c3 => by omega) (fun c3 => ?_)
    refine ev_aload_n dJ26_add_2_6 rfl ?_
    refine ev_callVR dJ26_add_2_7 cv_J26_129_J26 ce_J26_grow ha rfl rfl rfl (al_growB hG h48 H hc hn) (by omega) (by omega) (by omega) (Nat.le_of_ble_eq_true rfl) (fun v1 hp_1 P1 => ?_)
    obtain ⟨q, f', rfl, e1, B1, Hq1, hf1, Ha1, fr1, c11, c21⟩ := P1
    have hv_2 := fr1.keep hv (by simp only [List.mem_cons, List.not_mem_nil, or_false, not_or]; exact (ne_of hv ha (by simp)))
    have F3 := ((Fr.refl (g := g) _ [a, v])).call fr1 (by intro x hx; exact Or.inl (List.mem_cons.mpr (Or.inl (List.mem_singleton.mp hx))))
    refine ev_astore_n dJ26_add_2_10 (by decide) rfl ?_
    dsimp only [List.set]
    refine ev_aload_n dJ26_add_2_11 rfl ?_
    refine ev_iload_n dJ26_add_2_12 rfl ?_
    refine ev_aload_n dJ26_add_2_13 rfl ?_
    refine ev_aastY dJ26_add_2_14 Hq1 B1 (by omega) (F3.o he) (fun hp_4 Hq1_5 f6 => ?_)
    have Ha1_7 := (f6 _ (ne_no ha e1)).trans Ha1
    have hv_8 := (f6 _ (ne_no hv e1)).trans hv_2
    have F9 := (F3).writeN (Or.inr ⟨_, Hq1_5, Nat.le_of_ble_eq_true rfl⟩) f6 e1
    refine ev_aload_n dJ26_add_2_15 rfl ?_
    refine ev_iload_n dJ26_add_2_16 rfl ?_
    refine ev_iconstZ dJ26_add_2_17 ?_
    refine ev_iaddZ dJ26_add_2_18 ?_
    refine ev_putC [vz mc, .ref q, vz ((l.length : Nat) + 1)] dJ26_add_2_19 gf_J26_48_J26 Ha1_7 hB (Or.inl rfl) rfl rfl (Nat.le_of_ble_eq_true rfl) rfl (fun hp_10 Ha1_11 f12 => ?_)
    have hv_13 := (f12 _ (ne_of hv_8 Ha1_7 (by simp))).trans hv_8
    have Hq1_14 := (f12 _ ((ne_no ha e1)).symm).trans Hq1_5
    have F15 := (F9).write (Or.inl ⟨_, Ha1_11⟩) f12 hB (by simp)
    refine ev_return dJ26_add_2_22 rfl ?_
    have hfx : ∀ i : Nat, i < (l ++ [e]).length → va_up (f') ((l.length : Nat) : Int).toNat (some e) i = (l ++ [e])[i]? := al_app hf1
    have hel2 : ∀ y ∈ l ++ [e], isO hp_10 y := fun y hy => F15.o ((List.mem_append.mp hy).elim (hel y) (fun q => by rw [List.mem_singleton.mp q]; exact he))
    refine ⟨_, rfl, rfl, q, ⟨?_, hB, ⟨_, Hq1_14, hfx⟩, hel2, ?_, ?_, Or.inr ⟨by omega, B1⟩⟩, Or.inr e1, F15⟩
    · rw [List.length_append]; exact Ha1_11
    · rw [List.length_append]; show l.length + 1 ≤ _; omega
    · rw [List.length_append]; show _ ≤ 2 * (l.length + 1) + 10; omega
  · have hBv : gB g ≤ v := by omega
    have hnc : nxC cap l.length = cap := if_neg hn
    refine ev_iload_n dJ26_add_2_0 rfl ?_
    refine ev_aload_n dJ26_add_2_1 rfl ?_
    refine ev_alenZ dJ26_add_2_2 hv rfl ?_
    refine ev_icmp_neZ (tgt := 11) dJ26_add_2_3 (by decide) (by omega) (by omega) (fun c3 => ?_) (fun c3 => by omega)
    refine ev_aload_n dJ26_add_2_11 rfl ?_
    refine ev_iload_n dJ26_add_2_12 rfl ?_
    refine ev_aload_n dJ26_add_2_13 rfl ?_
    refine ev_aastY dJ26_add_2_14 hv hBv (by omega) he (fun hp_1 hv_2 f3 => ?_)
    have ha_4 := (f3 _ (ne_of ha hv (by simp))).trans ha
    have F5 := ((Fr.refl (g := g) _ [a, v])).write (Or.inr ⟨_, hv_2, Nat.le_of_ble_eq_true rfl⟩) f3 hBv (by simp)
    refine ev_aload_n dJ26_add_2_15 rfl ?_
    refine ev_iload_n dJ26_add_2_16 rfl ?_
    refine ev_iconstZ dJ26_add_2_17 ?_
    refine ev_iaddZ dJ26_add_2_18 ?_
    refine ev_putC [vz mc, .ref v, vz ((l.length : Nat) + 1)] dJ26_add_2_19 gf_J26_48_J26 ha_4 hB (Or.inl rfl) rfl rfl (Nat.le_of_ble_eq_true rfl) rfl (fun hp_6 ha_7 f8 => ?_)
    have hv_9 := (f8 _ (ne_of hv_2 ha_4 (by simp))).trans hv_2
    have F10 := (F5).write (Or.inl ⟨_, ha_7⟩) f8 hB (by simp)
    refine ev_return dJ26_add_2_22 rfl ?_
    have hfx : ∀ i : Nat, i < (l ++ [e]).length → va_up (f) ((l.length : Nat) : Int).toNat (some e) i = (l ++ [e])[i]? := al_app hf
    have hel2 : ∀ y ∈ l ++ [e], isO hp_6 y := fun y hy => F10.o ((List.mem_append.mp hy).elim (hel y) (fun q => by rw [List.mem_singleton.mp q]; exact he))
    refine ⟨_, rfl, rfl, v, ⟨?_, hB, ⟨_, (by rw [hnc]; exact hv_9), hfx⟩, hel2, ?_, ?_, Or.inr ⟨by omega, hBv⟩⟩, Or.inl rfl, F10⟩
    · rw [List.length_append]; exact ha_7
    · rw [List.length_append]; show l.length + 1 ≤ _; omega
    · rw [List.length_append]; show _ ≤ 2 * (l.length + 1) + 10; omega
set_option maxRecDepth 100000 in
set_option maxHeartbeats 4000000 in
theorem al_addB {a v cap : Nat} {mc : Int} {l : List Nat} (hG : GKx g) (h48 : h (g.2.2.2.2 48) = some (.inl (9, (0, .inr (.inr (.inr (.inr ((fun _ => none))))))))) (H : ALh g h a v (cap) (mc) (l)) (hc : l.length < 100000) {e : Nat} (he : isO h e) (hbud : l.length = cap → 1 ≤ c ∧ nxC cap l.length ≤ k) : Kc g mJ26_add 6 (c) (k) [.ref a, .ref e] h (rR (fun r h' => r = some (vz 1) ∧ ∃ v' : Nat, ALh g h' a v' (nxC cap l.length) (mc + 1) (l ++ [e]) ∧ (v' = v ∨ h v' = none) ∧ Fr g h h' [a, v])) := by
  refine Kc.of (ls := [some (.ref a), some (.ref e)]) (by decide +kernel) (Nat.le_of_ble_eq_true rfl) rfl ?_
  have ha := H.1
  have hB := H.2.1
  refine ev_aload_n dJ26_add_0 rfl ?_
  refine ev_dup dJ26_add_1 rfl ?_
  refine ev_getf dJ26_add_2 gf_J26_63_J26 ha rfl ?_
  refine ev_iconstZ dJ26_add_5 ?_
  refine ev_iaddZ dJ26_add_6 ?_
  refine ev_putC [vz (mc + 1), .ref v, vz (l.length : Nat)] dJ26_add_7 gf_J26_63_J26 ha hB (Or.inl rfl) rfl rfl (Nat.le_of_ble_eq_true rfl) rfl (fun hp_1 ha_2 f3 => ?_)
  have h48_4 := (f3 _ (ne_of h48 ha (by simp))).trans h48
  have F5 := ((Fr.refl (g := g) _ [a, v])).write (Or.inl ⟨_, ha_2⟩) f3 hB (by simp)
  have H2 := H.mcSet ha_2 f3 F5
  have FP := F5
  refine ev_aload_n dJ26_add_10 rfl ?_
  refine ev_aload_n dJ26_add_11 rfl ?_
  refine ev_aload_n dJ26_add_12 rfl ?_
  refine ev_getf dJ26_add_13 gf_J26_9_J26 ha_2 rfl ?_
  refine ev_aload_n dJ26_add_16 rfl ?_
  refine ev_getf dJ26_add_17 gf_J26_48_J26 ha_2 rfl ?_
  refine ev_callVR dJ26_add_20 cv_J26_131_J26 ce_J26_add_2 ha_2 rfl rfl rfl (al_add2B (c := c) (k := k) hG h48_4 H2 hc (F5.o he) hbud) (by omega) (by omega) (by omega) (Nat.le_of_ble_eq_true rfl) (fun v6 hp_6 P6 => ?_)
  obtain ⟨rfl, v', H1, hv1, fr1⟩ := P6
  have F7 := (F5).call fr1 (by intro x hx; exact Or.inl hx)
  refine ev_iconstZ dJ26_add_23 ?_
  refine ev_zreturn dJ26_add_24 rfl rfl ?_
  exact ⟨_, rfl, rfl, v', H1, hv1.imp_right (fun q => FP.fresh q), F7⟩
end T3S

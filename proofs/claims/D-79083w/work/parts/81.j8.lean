/-! THE COMPONENT: ArrayDeque (printed by gen) -/
section J8S
variable {g : GB} {M : MI} {d c k : Nat} {h : HM}
/-- the deque a: its array v of 17, its head, its elements l (at most 15) -/
def ADh (g : GB) (h : HM) (a v hd : Nat) (l : List Nat) : Prop :=
  h a = some (.inr (18, [.ref v, vz ((hd : Nat) : Int), vz (((hd + l.length) % 17 : Nat) : Int)])) ∧ gB g ≤ a ∧ gB g ≤ v ∧ hd < 17 ∧ l.length < 16 ∧ ∃ f : Nat → Option Nat, h v = some (.inl (9, (17, .inr (.inr (.inr (.inr (f))))))) ∧ ∀ i : Nat, i < l.length → f ((hd + i) % 17) = l[i]?
theorem ADh.fr {h' : HM} {S : List Nat} {a v hd : Nat} {l : List Nat} (H : ADh g h a v hd l) (F : Fr g h h' S) (ha : a ∉ S) (hv : v ∉ S) : ADh g h' a v hd l := by
  obtain ⟨h1, h2, h3, h4, h5, f, h6, h7⟩ := H
  exact ⟨F.keep h1 ha, h2, h3, h4, h5, f, F.keep h6 hv, h7⟩
set_option maxRecDepth 100000 in
set_option maxHeartbeats 4000000 in
theorem ad_sub {i j n : Int} (hi : inR (i - j)) (hn : inR n) : Kc g mJ4_sub 0 (0) (0) [vz i, vz j, vz n] h (sR (some (vz (if i - j < 0 then i - j + n else i - j))) h) := by
  refine Kc.of (ls := [some (vz i), some (vz j), some (vz n)]) (by decide +kernel) (Nat.le_of_ble_eq_true rfl) rfl ?_
  refine ev_iload_n dJ4_sub_0 rfl ?_
  refine ev_iload_n dJ4_sub_1 rfl ?_
  refine ev_isubZ dJ4_sub_2 ?_
  refine ev_dup dJ4_sub_3 rfl ?_
  refine ev_istore_n dJ4_sub_4 (by decide) rfl ?_
  dsimp only [List.set]
  refine ev_if_geZ (tgt := 12) dJ4_sub_5 (by decide) (by omega) (fun c5 => ?_) (fun c5 => ?_)
  · refine ev_iload_n dJ4_sub_12 rfl ?_
    refine ev_ireturn dJ4_sub_13 rfl ?_
    exact ⟨by first | rw [if_pos (by omega)] | rw [if_neg (by omega)], rfl⟩
  · refine ev_iload_n dJ4_sub_8 rfl ?_
    refine ev_iload_n dJ4_sub_9 rfl ?_
    refine ev_iaddZ dJ4_sub_10 ?_
    refine ev_istore_n dJ4_sub_11 (by decide) rfl ?_
    dsimp only [List.set]
    refine ev_iload_n dJ4_sub_12 rfl ?_
    refine ev_ireturn dJ4_sub_13 rfl ?_
    exact ⟨by first | rw [if_pos (by omega)] | rw [if_neg (by omega)], rfl⟩
set_option maxRecDepth 100000 in
set_option maxHeartbeats 4000000 in
theorem ad_inc {i n : Nat} (hi : i < n) (hn : n < 1000000) : Kc g mJ4_inc 0 (0) (0) [vz (i : Nat), vz (n : Nat)] h (sR (some (vz (((i + 1) % n : Nat) : Int))) h) := by
  refine Kc.of (ls := [some (vz (i : Nat)), some (vz (n : Nat))]) (by decide +kernel) (Nat.le_of_ble_eq_true rfl) rfl ?_
  refine ev_iincZ dJ4_inc_0 rfl (by decide) rfl ?_
  dsimp only [List.set]
  refine ev_iload_n dJ4_inc_3 rfl ?_
  refine ev_iload_n dJ4_inc_4 rfl ?_
  refine ev_icmp_ltZ (tgt := 10) dJ4_inc_5 (by decide) (by omega) (by omega) (fun c5 => ?_) (fun c5 => ?_)
  · rw [Nat.mod_eq_of_lt (by omega : i + 1 < n)]
    refine ev_iload_n dJ4_inc_10 rfl ?_
    refine ev_ireturn dJ4_inc_11 rfl ?_
    exact ⟨rfl, rfl⟩
  · have e : i + 1 = n := by omega
    rw [e, Nat.mod_self]
    refine ev_iconstZ dJ4_inc_8 ?_
    refine ev_istore_n dJ4_inc_9 (by decide) rfl ?_
    dsimp only [List.set]
    refine ev_iload_n dJ4_inc_10 rfl ?_
    refine ev_ireturn dJ4_inc_11 rfl ?_
    exact ⟨rfl, rfl⟩
set_option maxRecDepth 100000 in
set_option maxHeartbeats 4000000 in
theorem ad_dec {i n : Nat} (hi : i < n) (hn : n < 1000000) : Kc g mJ4_dec 0 (0) (0) [vz (i : Nat), vz (n : Nat)] h (sR (some (vz (((i + (n - 1)) % n : Nat) : Int))) h) := by
  refine Kc.of (ls := [some (vz (i : Nat)), some (vz (n : Nat))]) (by decide +kernel) (Nat.le_of_ble_eq_true rfl) rfl ?_
  refine ev_iincZ dJ4_dec_0 rfl (by decide) rfl ?_
  dsimp only [List.set]
  refine ev_iload_n dJ4_dec_3 rfl ?_
  refine ev_if_geZ (tgt := 11) dJ4_dec_4 (by decide) (by omega) (fun c4 => ?_) (fun c4 => ?_)
  · have e : ((i + (n - 1)) % n : Nat) = i - 1 := by rw [show i + (n - 1) = (i - 1) + n by omega, Nat.add_mod_right, Nat.mod_eq_of_lt (by omega)]
    rw [e]
    refine ev_iload_n dJ4_dec_11 rfl ?_
    refine ev_ireturn dJ4_dec_12 rfl ?_
    exact ⟨congrArg Sum.inl (vz_eq (by omega)), rfl⟩
  · have e : ((i + (n - 1)) % n : Nat) = n - 1 := by rw [show i + (n - 1) = n - 1 by omega, Nat.mod_eq_of_lt (by omega)]
    rw [e]
    refine ev_iload_n dJ4_dec_7 rfl ?_
    refine ev_iconstZ dJ4_dec_8 ?_
    refine ev_isubZ dJ4_dec_9 ?_
    refine ev_istore_n dJ4_dec_10 (by decide) rfl ?_
    dsimp only [List.set]
    refine ev_iload_n dJ4_dec_11 rfl ?_
    refine ev_ireturn dJ4_dec_12 rfl ?_
    exact ⟨congrArg Sum.inl (vz_eq (by omega)), rfl⟩
set_option maxRecDepth 100000 in
set_option maxHeartbeats 4000000 in
theorem ad_at {v i e : Nat} {f : Nat → Option Nat} (hv : h v = some (.inl (9, (17, .inr (.inr (.inr (.inr (f)))))))) (hi : i < 17) (he : f i = some e) : Kc g mJ4_elementAt 0 (0) (0) [.ref v, vz (i : Nat)] h (sR (some (.ref e)) h) := by
  refine Kc.of (ls := [some (.ref v), some (vz (i : Nat))]) (by decide +kernel) (Nat.le_of_ble_eq_true rfl) rfl ?_
  refine ev_aload_n dJ4_elementAt_0 rfl ?_
  refine ev_iload_n dJ4_elementAt_1 rfl ?_
  refine ev_aaldY (v := .ref e) dJ4_elementAt_2 hv rfl rfl (by omega) (by rw [Int.toNat_natCast, he]; rfl) ?_
  refine ev_areturn dJ4_elementAt_3 rfl (Or.inl ⟨_, rfl⟩) (Or.inr ⟨_, rfl⟩) ?_
  exact ⟨rfl, rfl⟩
set_option maxRecDepth 100000 in
set_option maxHeartbeats 4000000 in
theorem k_J0iJ4 {a : Nat} {x y z : Value} (ha : h a = some (.inr (18, [x, y, z]))) : Kc g mJ0_init 1 (0) (0) [.ref a] h (sR none h) := by
  refine Kc.of (ls := [some (.ref a)]) (by decide +kernel) (Nat.le_of_ble_eq_true rfl) rfl ?_
  refine ev_aload_n dJ0_init_0 rfl ?_
  refine ev_objInit dJ0_init_1 q243 q183 q184 (by omega) rfl ?_
  refine ev_return dJ0_init_4 rfl ?_
  exact ⟨rfl, rfl⟩
set_option maxRecDepth 100000 in
set_option maxHeartbeats 4000000 in
theorem ad_init {a : Nat} {x : Value} (hG : GKx g) (ha : h a = some (.inr (18, [x, vz 0, vz 0]))) (hB : gB g ≤ a) : Kc g mJ4_init 2 (1) (17) [.ref a] h (rR (fun r h' => r = none ∧ ∃ v : Nat, h v = none ∧ ADh g h' a v 0 [] ∧ Fr g h h' [a])) := by
  refine Kc.of (ls := [some (.ref a)]) (by decide +kernel) (Nat.le_of_ble_eq_true rfl) rfl ?_
  refine ev_aload_n dJ4_init_0 rfl ?_
  refine ev_callVN dJ4_init_1 ci_J4_42 ce_J0_init ha rfl rfl rfl (k_J0iJ4 ha) (by omega) (Nat.le_of_ble_eq_true rfl) ?_
  refine ev_aload_n dJ4_init_4 rfl ?_
  refine ev_bipushZ dJ4_init_5 rfl ?_
  refine ev_anewOY (N := 17) (c' := 0) (k' := 0) hG dJ4_init_7 q271 (by omega) (by omega) (by omega) (by omega) (by omega) (fun q1 hp_2 e3 B4 Hq1_5 f6 => ?_)
  have ha_7 := (f6 _ (ne_no ha e3)).trans ha
  have z8 := ((Fr.refl (g := g) _ [a])).fresh e3
  have F9 := ((Fr.refl (g := g) _ [a])).alloc (Or.inr ⟨_, Hq1_5, Nat.le_of_ble_eq_true rfl⟩) f6 e3
  refine ev_putC [.ref q1, vz 0, vz 0] dJ4_init_10 gf_J4_3_J4 ha_7 hB (Or.inl rfl) rfl rfl (Nat.le_of_ble_eq_true rfl) rfl (fun hp_10 ha_11 f12 => ?_)
  have Hq1_13 := (f12 _ ((ne_no ha e3)).symm).trans Hq1_5
  have F14 := (F9).write (Or.inl ⟨_, ha_11⟩) f12 hB (by simp)
  refine ev_return dJ4_init_13 rfl ?_
  exact ⟨_, rfl, rfl, q1, z8, ⟨ha_11, hB, B4, by decide, by decide, _, Hq1_13, fun i hi => by simp at hi⟩, F14⟩
set_option maxRecDepth 100000 in
set_option maxHeartbeats 4000000 in
theorem ad_size {a v hd : Nat} {l : List Nat} (H : ADh g h a v hd l) : Kc g mJ4_size 1 (0) (0) [.ref a] h (sR (some (vz (l.length : Nat))) h) := by
  refine Kc.of (ls := [some (.ref a)]) (by decide +kernel) (Nat.le_of_ble_eq_true rfl) rfl ?_
  obtain ⟨ha, hB, hBv, hh, hl, f, hv, hf⟩ := H
  refine ev_aload_n dJ4_size_0 rfl ?_
  refine ev_getf dJ4_size_1 gf_J4_20_J4 ha rfl ?_
  refine ev_aload_n dJ4_size_4 rfl ?_
  refine ev_getf dJ4_size_5 gf_J4_24_J4 ha rfl ?_
  refine ev_aload_n dJ4_size_8 rfl ?_
  refine ev_getf dJ4_size_9 gf_J4_3_J4 ha rfl ?_
  refine ev_alenZ dJ4_size_12 hv rfl ?_
  refine ev_callSE dJ4_size_13 cs_J4_127 ce_J4_sub rfl rfl (ad_sub (i := (((hd + l.length) % 17 : Nat) : Int)) (j := (hd : Nat)) (n := ((17 : Nat) : Int)) (by omega) (by omega)) (by omega) (Nat.le_of_ble_eq_true rfl) ?_
  refine ev_ireturn dJ4_size_16 rfl ?_
  exact ⟨congrArg Sum.inl (vz_eq (by omega)), rfl⟩
set_option maxRecDepth 100000 in
set_option maxHeartbeats 4000000 in
theorem ad_isEmpty {a v hd : Nat} {l : List Nat} (H : ADh g h a v hd l) : Kc g mJ4_isEmpty 0 (0) (0) [.ref a] h (sR (some (vz (if l.length = 0 then 1 else 0))) h) := by
  refine Kc.of (ls := [some (.ref a)]) (by decide +kernel) (Nat.le_of_ble_eq_true rfl) rfl ?_
  obtain ⟨ha, hB, hBv, hh, hl, f, hv, hf⟩ := H
  refine ev_aload_n dJ4_isEmpty_0 rfl ?_
  refine ev_getf dJ4_isEmpty_1 gf_J4_24_J4 ha rfl ?_
  refine ev_aload_n dJ4_isEmpty_4 rfl ?_
  refine ev_getf dJ4_isEmpty_5 gf_J4_20_J4 ha rfl ?_
  refine ev_icmp_neZ (tgt := 15) dJ4_isEmpty_8 (by decide) (by omega) (by omega) (fun c8 => ?_) (fun c8 => ?_)
  · refine ev_iconstZ dJ4_isEmpty_15 ?_
    refine ev_zreturn dJ4_isEmpty_16 rfl rfl ?_
    exact ⟨by first | rw [if_pos (by omega)] | rw [if_neg (by omega)], rfl⟩
  · refine ev_iconstZ dJ4_isEmpty_11 ?_
    refine ev_goto (tgt := 16) dJ4_isEmpty_12 (by decide) ?_
    refine ev_zreturn dJ4_isEmpty_16 rfl rfl ?_
    exact ⟨by first | rw [if_pos (by omega)] | rw [if_neg (by omega)], rfl⟩
set_option maxRecDepth 100000 in
set_option maxHeartbeats 4000000 in
theorem ad_addLast {a v hd : Nat} {l : List Nat} (H : ADh g h a v hd l) {e : Nat} (hG : GKx g) (he : isO h e) (hl9 : l.length < 15) : Kc g mJ4_addLast 1 (0) (0) [.ref a, .ref e] h (rR (fun r h' => r = none ∧ ADh g h' a v hd (l ++ [e]) ∧ Fr g h h' [a, v])) := by
  refine Kc.of (ls := [some (.ref a), some (.ref e), none]) (by decide +kernel) (Nat.le_of_ble_eq_true rfl) rfl ?_
  obtain ⟨ha, hB, hBv, hh, hl, f, hv, hf⟩ := H
  refine ev_aload_n dJ4_addLast_0 rfl ?_
  refine ev_ifnonnull (tgt := 12) dJ4_addLast_1 (by decide) ?_
  refine ev_aload_n dJ4_addLast_12 rfl ?_
  refine ev_getf dJ4_addLast_13 gf_J4_3_J4 ha rfl ?_
  refine ev_astore_n dJ4_addLast_16 (by decide) rfl ?_
  dsimp only [List.set]
  refine ev_aload_n dJ4_addLast_17 rfl ?_
  refine ev_aload_n dJ4_addLast_18 rfl ?_
  refine ev_getf dJ4_addLast_19 gf_J4_20_J4 ha rfl ?_
  refine ev_aload_n dJ4_addLast_22 rfl ?_
  refine ev_aastY dJ4_addLast_23 hv hBv (by omega) he (fun hp_1 hv_2 f3 => ?_)
  have ha_4 := (f3 _ (ne_of ha hv (by simp))).trans ha
  have F5 := ((Fr.refl (g := g) _ [a, v])).write (Or.inr ⟨_, hv_2, Nat.le_of_ble_eq_true rfl⟩) f3 hBv (by simp)
  refine ev_aload_n dJ4_addLast_24 rfl ?_
  refine ev_getf dJ4_addLast_25 gf_J4_24_J4 ha_4 rfl ?_
  refine ev_aload_n dJ4_addLast_28 rfl ?_
  refine ev_aload_n dJ4_addLast_29 rfl ?_
  refine ev_getf dJ4_addLast_30 gf_J4_20_J4 ha_4 rfl ?_
  refine ev_aload_n dJ4_addLast_33 rfl ?_
  refine ev_alenZ dJ4_addLast_34 hv_2 rfl ?_
  refine ev_callSE dJ4_addLast_35 cs_J4_74 ce_J4_inc rfl rfl (ad_inc (i := (hd + l.length) % 17) (n := 17) (by omega) (by omega)) (by omega) (Nat.le_of_ble_eq_true rfl) ?_
  refine ev_dup_x1 dJ4_addLast_38 rfl rfl ?_
  refine ev_putC [.ref v, vz ((hd : Nat) : Int), vz ((((hd + l.length) % 17 + 1) % 17 : Nat) : Int)] dJ4_addLast_39 gf_J4_20_J4 ha_4 hB (Or.inl rfl) rfl rfl (Nat.le_of_ble_eq_true rfl) rfl (fun hp_6 ha_7 f8 => ?_)
  have hv_9 := (f8 _ (ne_of hv_2 ha_4 (by simp))).trans hv_2
  have F10 := (F5).write (Or.inl ⟨_, ha_7⟩) f8 hB (by simp)
  refine ev_icmp_neZ (tgt := 50) dJ4_addLast_42 (by decide) (by omega) (by omega) (fun c42 => ?_) (fun c42 => by omega)
  refine ev_return dJ4_addLast_50 rfl ?_
  refine ⟨_, rfl, rfl, ⟨?_, hB, hBv, hh, by simp; omega, _, hv_9, ?_⟩, F10⟩
  · have r := ha_7; rw [r, show ((hd + l.length) % 17 + 1) % 17 = (hd + (l ++ [e]).length) % 17 by simp; omega]
  · intro i hi
    rw [List.length_append] at hi; simp at hi
    rw [Int.toNat_natCast]; unfold va_up
    by_cases c : i = l.length
    · rw [if_pos (by rw [c]), c, List.getElem?_append_right (Nat.le_refl _), Nat.sub_self]; rfl
    · rw [if_neg (by omega), hf i (by omega), List.getElem?_append_left (by omega)]
set_option maxRecDepth 100000 in
set_option maxHeartbeats 4000000 in
theorem ad_pollFirst {a v hd e : Nat} {l : List Nat} (H : ADh g h a v hd (e :: l)) : Kc g mJ4_pollFirst 1 (0) (0) [.ref a] h (rR (fun r h' => r = some (.ref e) ∧ ADh g h' a v ((hd + 1) % 17) (l) ∧ Fr g h h' [a, v])) := by
  refine Kc.of (ls := [some (.ref a), none, none, none]) (by decide +kernel) (Nat.le_of_ble_eq_true rfl) rfl ?_
  obtain ⟨ha, hB, hBv, hh, hl, f, hv, hf⟩ := H
  have hle : (e :: l).length = l.length + 1 := rfl
  have h0 := hf 0 (by omega)
  rw [show (hd + 0) % 17 = hd by omega] at h0
  replace h0 : f hd = some e := h0
  refine ev_aload_n dJ4_pollFirst_0 rfl ?_
  refine ev_getf dJ4_pollFirst_1 gf_J4_3_J4 ha rfl ?_
  refine ev_dup dJ4_pollFirst_4 rfl ?_
  refine ev_astore_n dJ4_pollFirst_5 (by decide) rfl ?_
  dsimp only [List.set]
  refine ev_aload_n dJ4_pollFirst_6 rfl ?_
  refine ev_getf dJ4_pollFirst_7 gf_J4_24_J4 ha rfl ?_
  refine ev_dup dJ4_pollFirst_10 rfl ?_
  refine ev_istore_n dJ4_pollFirst_11 (by decide) rfl ?_
  dsimp only [List.set]
  refine ev_callSE dJ4_pollFirst_12 cs_J4_103 ce_J4_elementAt rfl rfl (ad_at hv hh h0) (by omega) (Nat.le_of_ble_eq_true rfl) ?_
  refine ev_astore_n dJ4_pollFirst_15 (by decide) rfl ?_
  dsimp only [List.set]
  refine ev_aload_n dJ4_pollFirst_16 rfl ?_
  refine ev_ifnull dJ4_pollFirst_17 ?_
  refine ev_aload_n dJ4_pollFirst_20 rfl ?_
  refine ev_iload_n dJ4_pollFirst_21 rfl ?_
  refine ev_null dJ4_pollFirst_22 ?_
  refine ev_aastNY dJ4_pollFirst_23 hv hBv (by omega) (fun hp_1 hv_2 f3 => ?_)
  have ha_4 := (f3 _ (ne_of ha hv (by simp))).trans ha
  have F5 := ((Fr.refl (g := g) _ [a, v])).write (Or.inr ⟨_, hv_2, Nat.le_of_ble_eq_true rfl⟩) f3 hBv (by simp)
  refine ev_aload_n dJ4_pollFirst_24 rfl ?_
  refine ev_iload_n dJ4_pollFirst_25 rfl ?_
  refine ev_aload_n dJ4_pollFirst_26 rfl ?_
  refine ev_alenZ dJ4_pollFirst_27 hv_2 rfl ?_
  refine ev_callSE dJ4_pollFirst_28 cs_J4_74 ce_J4_inc rfl rfl (ad_inc (i := hd) (n := 17) (by omega) (by omega)) (by omega) (Nat.le_of_ble_eq_true rfl) ?_
  refine ev_putC [.ref v, vz (((hd + 1) % 17 : Nat) : Int), vz (((hd + (e :: l).length) % 17 : Nat) : Int)] dJ4_pollFirst_31 gf_J4_24_J4 ha_4 hB (Or.inl rfl) rfl rfl (Nat.le_of_ble_eq_true rfl) rfl (fun hp_6 ha_7 f8 => ?_)
  have hv_9 := (f8 _ (ne_of hv_2 ha_4 (by simp))).trans hv_2
  have F10 := (F5).write (Or.inl ⟨_, ha_7⟩) f8 hB (by simp)
  refine ev_aload_n dJ4_pollFirst_34 rfl ?_
  refine ev_areturn dJ4_pollFirst_35 rfl (Or.inl ⟨_, rfl⟩) (Or.inr ⟨_, rfl⟩) ?_
  refine ⟨_, rfl, rfl, ⟨?_, hB, hBv, by omega, by omega, _, hv_9, ?_⟩, F10⟩
  · have r := ha_7; rw [r, show ((hd + 1) % 17 + l.length) % 17 = (hd + (e :: l).length) % 17 by omega]
  · intro i hi
    rw [Int.toNat_natCast]; unfold va_up
    rw [if_neg (by omega), show ((hd + 1) % 17 + i) % 17 = (hd + (i + 1)) % 17 by omega, hf (i + 1) (by omega)]; rfl
set_option maxRecDepth 100000 in
set_option maxHeartbeats 4000000 in
theorem ad_removeFirst {a v hd e : Nat} {l : List Nat} (H : ADh g h a v hd (e :: l)) : Kc g mJ4_removeFirst 2 (0) (0) [.ref a] h (rR (fun r h' => r = some (.ref e) ∧ ADh g h' a v ((hd + 1) % 17) (l) ∧ Fr g h h' [a, v])) := by
  refine Kc.of (ls := [some (.ref a), none]) (by decide +kernel) (Nat.le_of_ble_eq_true rfl) rfl ?_
  have ha := H.1
  refine ev_aload_n dJ4_removeFirst_0 rfl ?_
  refine ev_callVR dJ4_removeFirst_1 cv_J4_93_J4 ce_J4_pollFirst ha rfl rfl rfl (ad_pollFirst H) (by omega) (by omega) (by omega) (Nat.le_of_ble_eq_true rfl) (fun v1 hp_1 P1 => ?_)
  obtain ⟨rfl, H1, fr1⟩ := P1
  have F2 := ((Fr.refl (g := g) _ [a, v])).call fr1 (fun x hx => Or.inl hx)
  refine ev_astore_n dJ4_removeFirst_4 (by decide) rfl ?_
  dsimp only [List.set]
  refine ev_aload_n dJ4_removeFirst_5 rfl ?_
  refine ev_ifnonnull (tgt := 17) dJ4_removeFirst_6 (by decide) ?_
  refine ev_aload_n dJ4_removeFirst_17 rfl ?_
  refine ev_areturn dJ4_removeFirst_18 rfl (Or.inl ⟨_, rfl⟩) (Or.inr ⟨_, rfl⟩) ?_
  exact ⟨_, rfl, rfl, H1, F2⟩
set_option maxRecDepth 100000 in
set_option maxHeartbeats 4000000 in
theorem ad_pollLast {a v hd e : Nat} {l : List Nat} (H : ADh g h a v hd (l ++ [e])) : Kc g mJ4_pollLast 1 (0) (0) [.ref a] h (rR (fun r h' => r = some (.ref e) ∧ ADh g h' a v hd (l) ∧ Fr g h h' [a, v])) := by
  refine Kc.of (ls := [some (.ref a), none, none, none]) (by decide +kernel) (Nat.le_of_ble_eq_true rfl) rfl ?_
  obtain ⟨ha, hB, hBv, hh, hl, f, hv, hf⟩ := H
  have hle : (l ++ [e]).length = l.length + 1 := by simp
  have h0 := hf l.length (by omega)
  rw [snoc_at] at h0
  have hix : ((hd + (l ++ [e]).length) % 17 + (17 - 1)) % 17 = (hd + l.length) % 17 := by omega
  refine ev_aload_n dJ4_pollLast_0 rfl ?_
  refine ev_getf dJ4_pollLast_1 gf_J4_3_J4 ha rfl ?_
  refine ev_dup dJ4_pollLast_4 rfl ?_
  refine ev_astore_n dJ4_pollLast_5 (by decide) rfl ?_
  dsimp only [List.set]
  refine ev_aload_n dJ4_pollLast_6 rfl ?_
  refine ev_getf dJ4_pollLast_7 gf_J4_20_J4 ha rfl ?_
  refine ev_aload_n dJ4_pollLast_10 rfl ?_
  refine ev_alenZ dJ4_pollLast_11 hv rfl ?_
  refine ev_callSE dJ4_pollLast_12 cs_J4_68 ce_J4_dec rfl rfl (ad_dec (i := (hd + (l ++ [e]).length) % 17) (n := 17) (by omega) (by omega)) (by omega) (Nat.le_of_ble_eq_true rfl) ?_
  rw [hix]
  refine ev_dup dJ4_pollLast_15 rfl ?_
  refine ev_istore_n dJ4_pollLast_16 (by decide) rfl ?_
  dsimp only [List.set]
  refine ev_callSE dJ4_pollLast_17 cs_J4_103 ce_J4_elementAt rfl rfl (ad_at (i := (hd + l.length) % 17) hv (by omega) h0) (by omega) (Nat.le_of_ble_eq_true rfl) ?_
  refine ev_astore_n dJ4_pollLast_20 (by decide) rfl ?_
  dsimp only [List.set]
  refine ev_aload_n dJ4_pollLast_21 rfl ?_
  refine ev_ifnull dJ4_pollLast_22 ?_
  refine ev_aload_n dJ4_pollLast_25 rfl ?_
  refine ev_aload_n dJ4_pollLast_26 rfl ?_
  refine ev_iload_n dJ4_pollLast_27 rfl ?_
  refine ev_dup_x1 dJ4_pollLast_28 rfl rfl ?_
  refine ev_putC [.ref v, vz ((hd : Nat) : Int), vz (((hd + l.length) % 17 : Nat) : Int)] dJ4_pollLast_29 gf_J4_20_J4 ha hB (Or.inl rfl) rfl rfl (Nat.le_of_ble_eq_true rfl) rfl (fun hp_1 ha_2 f3 => ?_)
  have hv_4 := (f3 _ (ne_of hv ha (by simp))).trans hv
  have F5 := ((Fr.refl (g := g) _ [a, v])).write (Or.inl ⟨_, ha_2⟩) f3 hB (by simp)
  refine ev_null dJ4_pollLast_32 ?_
  refine ev_aastNY dJ4_pollLast_33 hv_4 hBv (by omega) (fun hp_6 hv_7 f8 => ?_)
  have ha_9 := (f8 _ (ne_of ha_2 hv_4 (by simp))).trans ha_2
  have F10 := (F5).write (Or.inr ⟨_, hv_7, Nat.le_of_ble_eq_true rfl⟩) f8 hBv (by simp)
  refine ev_aload_n dJ4_pollLast_34 rfl ?_
  refine ev_areturn dJ4_pollLast_35 rfl (Or.inl ⟨_, rfl⟩) (Or.inr ⟨_, rfl⟩) ?_
  refine ⟨_, rfl, rfl, ⟨ha_9, hB, hBv, hh, by omega, _, hv_7, ?_⟩, F10⟩
  intro i hi
  rw [Int.toNat_natCast]; unfold va_up
  rw [if_neg (by omega), hf i (by omega), List.getElem?_append_left hi]
set_option maxRecDepth 100000 in
set_option maxHeartbeats 4000000 in
theorem ad_removeLast {a v hd e : Nat} {l : List Nat} (H : ADh g h a v hd (l ++ [e])) : Kc g mJ4_removeLast 2 (0) (0) [.ref a] h (rR (fun r h' => r = some (.ref e) ∧ ADh g h' a v hd (l) ∧ Fr g h h' [a, v])) := by
  refine Kc.of (ls := [some (.ref a), none]) (by decide +kernel) (Nat.le_of_ble_eq_true rfl) rfl ?_
  have ha := H.1
  refine ev_aload_n dJ4_removeLast_0 rfl ?_
  refine ev_callVR dJ4_removeLast_1 cv_J4_100_J4 ce_J4_pollLast ha rfl rfl rfl (ad_pollLast H) (by omega) (by omega) (by omega) (Nat.le_of_ble_eq_true rfl) (fun v1 hp_1 P1 => ?_)
  obtain ⟨rfl, H1, fr1⟩ := P1
  have F2 := ((Fr.refl (g := g) _ [a, v])).call fr1 (fun x hx => Or.inl hx)
  refine ev_astore_n dJ4_removeLast_4 (by decide) rfl ?_
  dsimp only [List.set]
  refine ev_aload_n dJ4_removeLast_5 rfl ?_
  refine ev_ifnonnull (tgt := 17) dJ4_removeLast_6 (by decide) ?_
  refine ev_aload_n dJ4_removeLast_17 rfl ?_
  refine ev_areturn dJ4_removeLast_18 rfl (Or.inl ⟨_, rfl⟩) (Or.inr ⟨_, rfl⟩) ?_
  exact ⟨_, rfl, rfl, H1, F2⟩
def clM (tl : Nat) (x : Nat × Nat) : Nat := if x.2 = tl then tl - x.1 else 60 - x.1
set_option maxRecDepth 100000 in
set_option maxHeartbeats 4000000 in
theorem ad_cc {v hd tl : Nat} {f : Nat → Option Nat} (hv : h v = some (.inl (9, (17, .inr (.inr (.inr (.inr (f)))))))) (hBv : gB g ≤ v) (hh : hd < 17 ∧ tl < 17) : Kc g mJ4_circularClear 0 (0) (0) [.ref v, vz ((hd : Nat) : Int), vz ((tl : Nat) : Int)] h (rR (fun r h' => r = none ∧ ∃ f1 : Nat → Option Nat, h' v = some (.inl (9, (17, .inr (.inr (.inr (.inr (f1))))))) ∧ Fr g h h' [v])) := by
  refine Kc.of (ls := [some (.ref v), some (vz ((hd : Nat) : Int)), some (vz ((tl : Nat) : Int)), none]) (by decide +kernel) (Nat.le_of_ble_eq_true rfl) rfl ?_
  refine ev_iload_n dJ4_circularClear_0 rfl ?_
  refine ev_iload_n dJ4_circularClear_1 rfl ?_
  refine ev_icmp_gtZ (tgt := 9) dJ4_circularClear_2 (by decide) (by omega) (by omega) (fun c2 => ?_) (fun c2 => ?_)
  · refine ev_aload_n dJ4_circularClear_9 rfl ?_
    refine ev_alenZ dJ4_circularClear_10 hv rfl ?_
    refine ev_istore_n dJ4_circularClear_11 (by decide) rfl ?_
    dsimp only [List.set]
    refine ev_while (st := []) (clM tl) (fun (x : Nat × Nat) h1 => (x.1 ≤ x.2 ∧ (x.2 = tl ∨ x.2 = 17)) ∧ ∃ f1 : Nat → Option Nat, h1 v = some (.inl (9, (17, .inr (.inr (.inr (.inr (f1))))))) ∧ Fr g h h1 [v]) (fun x => [some (.ref v), some (vz ((x.1 : Nat) : Int)), some (vz ((tl : Nat) : Int)), some (vz ((x.2 : Nat) : Int))]) (hd, 17) ⟨by omega, f, hv, (Fr.refl (g := g) _ [v])⟩ ⟨rfl, rfl, rfl, rfl, trivial⟩ (fun ⟨i, to⟩ h1 ⟨hi, f1, hv1, F0⟩ hK => ?_)
    dsimp only at hi ⊢
    by_cases c1 : i < to
    · refine ev_iload_n dJ4_circularClear_12 rfl ?_
      refine ev_iload_n dJ4_circularClear_13 rfl ?_
      refine ev_icmp_geZ (tgt := 27) dJ4_circularClear_14 (by decide) (by omega) (by omega) (fun c14 => by omega) (fun c14 => ?_)
      refine ev_aload_n dJ4_circularClear_17 rfl ?_
      refine ev_iload_n dJ4_circularClear_18 rfl ?_
      refine ev_null dJ4_circularClear_19 ?_
      refine ev_aastNY dJ4_circularClear_20 hv1 hBv (by omega) (fun hp_1 hv1_2 f3 => ?_)
      have F4 := ((Fr.refl (g := g) _ [v])).write (Or.inr ⟨_, hv1_2, Nat.le_of_ble_eq_true rfl⟩) f3 hBv (by simp)
      refine ev_iincZ dJ4_circularClear_21 rfl (by decide) rfl ?_
      dsimp only [List.set]
      refine ev_goto (tgt := 12) dJ4_circularClear_24 (by decide) ?_
      refine hK (i + 1, to) _ _ (by simp only [clM]; split <;> omega) (by repeat' first | exact rfl | exact trivial | exact vz_eq (by omega) | refine And.intro ?_ ?_) ⟨by omega, _, hv1_2, F0.call F4 (fun z hz => Or.inl hz)⟩
    · by_cases c2 : to = tl
      · refine ev_iload_n dJ4_circularClear_12 rfl ?_
        refine ev_iload_n dJ4_circularClear_13 rfl ?_
        refine ev_icmp_geZ (tgt := 27) dJ4_circularClear_14 (by decide) (by omega) (by omega) (fun c14 => ?_) (fun c14 => by omega)
        refine ev_iload_n dJ4_circularClear_27 rfl ?_
        refine ev_iload_n dJ4_circularClear_28 rfl ?_
        refine ev_icmp_neZ (tgt := 35) dJ4_circularClear_29 (by decide) (by omega) (by omega) (fun c29 => by omega) (fun c29 => ?_)
        refine ev_goto (tgt := 42) dJ4_circularClear_32 (by decide) ?_
        refine ev_return dJ4_circularClear_42 rfl ?_
        exact ⟨_, rfl, rfl, f1, hv1, F0⟩
      · refine ev_iload_n dJ4_circularClear_12 rfl ?_
        refine ev_iload_n dJ4_circularClear_13 rfl ?_
        refine ev_icmp_geZ (tgt := 27) dJ4_circularClear_14 (by decide) (by omega) (by omega) (fun c14 => ?_) (fun c14 => by omega)
        refine ev_iload_n dJ4_circularClear_27 rfl ?_
        refine ev_iload_n dJ4_circularClear_28 rfl ?_
        refine ev_icmp_neZ (tgt := 35) dJ4_circularClear_29 (by decide) (by omega) (by omega) (fun c29 => ?_) (fun c29 => by omega)
        refine ev_iconstZ dJ4_circularClear_35 ?_
        refine ev_istore_n dJ4_circularClear_36 (by decide) rfl ?_
        dsimp only [List.set]
        refine ev_iload_n dJ4_circularClear_37 rfl ?_
        refine ev_istore_n dJ4_circularClear_38 (by decide) rfl ?_
        dsimp only [List.set]
        refine ev_goto (tgt := 12) dJ4_circularClear_39 (by decide) ?_
        refine hK (0, tl) _ _ (by show (if tl = tl then _ else _) < (if to = tl then _ else _); rw [if_pos rfl, if_neg c2]; show tl - 0 < 60 - i; omega) (by repeat' first | exact rfl | exact trivial | exact vz_eq (by omega) | refine And.intro ?_ ?_) ⟨by omega, _, hv1, F0⟩
  · refine ev_iload_n dJ4_circularClear_5 rfl ?_
    refine ev_goto (tgt := 11) dJ4_circularClear_6 (by decide) ?_
    refine ev_istore_n dJ4_circularClear_11 (by decide) rfl ?_
    dsimp only [List.set]
    refine ev_while (st := []) (clM tl) (fun (x : Nat × Nat) h1 => (x.1 ≤ x.2 ∧ (x.2 = tl ∨ x.2 = 17)) ∧ ∃ f1 : Nat → Option Nat, h1 v = some (.inl (9, (17, .inr (.inr (.inr (.inr (f1))))))) ∧ Fr g h h1 [v]) (fun x => [some (.ref v), some (vz ((x.1 : Nat) : Int)), some (vz ((tl : Nat) : Int)), some (vz ((x.2 : Nat) : Int))]) (hd, tl) ⟨by omega, f, hv, (Fr.refl (g := g) _ [v])⟩ ⟨rfl, rfl, rfl, rfl, trivial⟩ (fun ⟨i, to⟩ h1 ⟨hi, f1, hv1, F0⟩ hK => ?_)
    dsimp only at hi ⊢
    by_cases c1 : i < to
    · refine ev_iload_n dJ4_circularClear_12 rfl ?_
      refine ev_iload_n dJ4_circularClear_13 rfl ?_
      refine ev_icmp_geZ (tgt := 27) dJ4_circularClear_14 (by decide) (by omega) (by omega) (fun c14 => by omega) (fun c14 => ?_)
      refine ev_aload_n dJ4_circularClear_17 rfl ?_
      refine ev_iload_n dJ4_circularClear_18 rfl ?_
      refine ev_null dJ4_circularClear_19 ?_
      refine ev_aastNY dJ4_circularClear_20 hv1 hBv (by omega) (fun hp_1 hv1_2 f3 => ?_)
      have F4 := ((Fr.refl (g := g) _ [v])).write (Or.inr ⟨_, hv1_2, Nat.le_of_ble_eq_true rfl⟩) f3 hBv (by simp)
      refine ev_iincZ dJ4_circularClear_21 rfl (by decide) rfl ?_
      dsimp only [List.set]
      refine ev_goto (tgt := 12) dJ4_circularClear_24 (by decide) ?_
      refine hK (i + 1, to) _ _ (by simp only [clM]; split <;> omega) (by repeat' first | exact rfl | exact trivial | exact vz_eq (by omega) | refine And.intro ?_ ?_) ⟨by omega, _, hv1_2, F0.call F4 (fun z hz => Or.inl hz)⟩
    · by_cases c2 : to = tl
      · refine ev_iload_n dJ4_circularClear_12 rfl ?_
        refine ev_iload_n dJ4_circularClear_13 rfl ?_
        refine ev_icmp_geZ (tgt := 27) dJ4_circularClear_14 (by decide) (by omega) (by omega) (fun c14 => ?_) (fun c14 => by omega)
        refine ev_iload_n dJ4_circularClear_27 rfl ?_
        refine ev_iload_n dJ4_circularClear_28 rfl ?_
        refine ev_icmp_neZ (tgt := 35) dJ4_circularClear_29 (by decide) (by omega) (by omega) (fun c29 => by omega) (fun c29 => ?_)
        refine ev_goto (tgt := 42) dJ4_circularClear_32 (by decide) ?_
        refine ev_return dJ4_circularClear_42 rfl ?_
        exact ⟨_, rfl, rfl, f1, hv1, F0⟩
      · refine ev_iload_n dJ4_circularClear_12 rfl ?_
        refine ev_iload_n dJ4_circularClear_13 rfl ?_
        refine ev_icmp_geZ (tgt := 27) dJ4_circularClear_14 (by decide) (by omega) (by omega) (fun c14 => ?_) (fun c14 => by omega)
        refine ev_iload_n dJ4_circularClear_27 rfl ?_
        refine ev_iload_n dJ4_circularClear_28 rfl ?_
        refine ev_icmp_neZ (tgt := 35) dJ4_circularClear_29 (by decide) (by omega) (by omega) (fun c29 => ?_) (fun c29 => by omega)
        refine ev_iconstZ dJ4_circularClear_35 ?_
        refine ev_istore_n dJ4_circularClear_36 (by decide) rfl ?_
        dsimp only [List.set]
        refine ev_iload_n dJ4_circularClear_37 rfl ?_
        refine ev_istore_n dJ4_circularClear_38 (by decide) rfl ?_
        dsimp only [List.set]
        refine ev_goto (tgt := 12) dJ4_circularClear_39 (by decide) ?_
        refine hK (0, tl) _ _ (by show (if tl = tl then _ else _) < (if to = tl then _ else _); rw [if_pos rfl, if_neg c2]; show tl - 0 < 60 - i; omega) (by repeat' first | exact rfl | exact trivial | exact vz_eq (by omega) | refine And.intro ?_ ?_) ⟨by omega, _, hv1, F0⟩
set_option maxRecDepth 100000 in
set_option maxHeartbeats 4000000 in
theorem ad_clear {a v hd : Nat} {l : List Nat} (H : ADh g h a v hd l) : Kc g mJ4_clear 1 (0) (0) [.ref a] h (rR (fun r h' => r = none ∧ ADh g h' a v 0 [] ∧ Fr g h h' [a, v])) := by
  refine Kc.of (ls := [some (.ref a)]) (by decide +kernel) (Nat.le_of_ble_eq_true rfl) rfl ?_
  obtain ⟨ha, hB, hBv, hh, hl, f, hv, hf⟩ := H
  refine ev_aload_n dJ4_clear_0 rfl ?_
  refine ev_getf dJ4_clear_1 gf_J4_3_J4 ha rfl ?_
  refine ev_aload_n dJ4_clear_4 rfl ?_
  refine ev_getf dJ4_clear_5 gf_J4_24_J4 ha rfl ?_
  refine ev_aload_n dJ4_clear_8 rfl ?_
  refine ev_getf dJ4_clear_9 gf_J4_20_J4 ha rfl ?_
  refine ev_callSR dJ4_clear_12 cs_J4_181 ce_J4_circularClear rfl rfl (ad_cc hv hBv (by omega)) (by omega) (by omega) (by omega) (Nat.le_of_ble_eq_true rfl) (fun v1 hp_1 P1 => ?_)
  obtain ⟨rfl, f1, Hv1, fr1⟩ := P1
  have ha_2 := fr1.keep ha (by simp only [List.mem_cons, List.not_mem_nil, or_false, not_or]; exact (ne_of ha hv (by simp)))
  have F3 := ((Fr.refl (g := g) _ [a, v])).call fr1 (fun x hx => Or.inl (List.mem_cons_of_mem _ hx))
  refine ev_aload_n dJ4_clear_15 rfl ?_
  refine ev_aload_n dJ4_clear_16 rfl ?_
  refine ev_iconstZ dJ4_clear_17 ?_
  refine ev_dup_x1 dJ4_clear_18 rfl rfl ?_
  refine ev_putC [.ref v, vz ((hd : Nat) : Int), vz 0] dJ4_clear_19 gf_J4_20_J4 ha_2 hB (Or.inl rfl) rfl rfl (Nat.le_of_ble_eq_true rfl) rfl (fun hp_4 ha_5 f6 => ?_)
  have Hv1_7 := (f6 _ (ne_of Hv1 ha_2 (by simp))).trans Hv1
  have F8 := (F3).write (Or.inl ⟨_, ha_5⟩) f6 hB (by simp)
  refine ev_putC [.ref v, vz 0, vz 0] dJ4_clear_22 gf_J4_24_J4 ha_5 hB (Or.inl rfl) rfl rfl (Nat.le_of_ble_eq_true rfl) rfl (fun hp_9 ha_10 f11 => ?_)
  have Hv1_12 := (f11 _ (ne_of Hv1_7 ha_5 (by simp))).trans Hv1_7
  have F13 := (F8).write (Or.inl ⟨_, ha_10⟩) f11 hB (by simp)
  refine ev_return dJ4_clear_25 rfl ?_
  exact ⟨_, rfl, rfl, ⟨ha_10, hB, hBv, by decide, by decide, f1, Hv1_12, fun i hi => by simp at hi⟩, F13⟩
end J8S

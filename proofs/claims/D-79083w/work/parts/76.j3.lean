/-! THE COMPONENT: new lists, iterators, Integer (printed by gen) -/
section J3S
variable {g : GB} {M : MI} {d c k : Nat} {h : HM}
set_option maxRecDepth 100000 in
set_option maxHeartbeats 4000000 in
theorem k_J0iJ26 {a : Nat} {x y z : Value} (ha : h a = some (.inr (29, [x, y, z]))) : Kc g mJ0_init 1 (0) (0) [.ref a] h (sR none h) := by
  refine Kc.of (ls := [some (.ref a)]) (by decide +kernel) (Nat.le_of_ble_eq_true rfl) rfl ?_
  refine ev_aload_n dJ0_init_0 rfl ?_
  refine ev_objInit dJ0_init_1 q243 q183 q184 (by omega) rfl ?_
  refine ev_return dJ0_init_4 rfl ?_
  exact ⟨rfl, rfl⟩
set_option maxRecDepth 100000 in
set_option maxHeartbeats 4000000 in
theorem k_J1iJ26 {a : Nat} {x y z : Value} (ha : h a = some (.inr (29, [x, y, z]))) (hB : gB g ≤ a) : Kc g mJ1_init 2 (0) (0) [.ref a] h (rR (fun r h' => r = none ∧ h' a = some (.inr (29, [vz 0, y, z])) ∧ Fr g h h' [a])) := by
  refine Kc.of (ls := [some (.ref a)]) (by decide +kernel) (Nat.le_of_ble_eq_true rfl) rfl ?_
  refine ev_aload_n dJ1_init_0 rfl ?_
  refine ev_callVN dJ1_init_1 ci_J1_1 ce_J0_init ha rfl rfl rfl (k_J0iJ26 ha) (by omega) (Nat.le_of_ble_eq_true rfl) ?_
  refine ev_aload_n dJ1_init_4 rfl ?_
  refine ev_iconstZ dJ1_init_5 ?_
  refine ev_putC [vz 0, y, z] dJ1_init_6 gf_J1_7_J26 ha hB (Or.inl rfl) rfl rfl (Nat.le_of_ble_eq_true rfl) rfl (fun hp_1 ha_2 f3 => ?_)
  have F4 := ((Fr.refl (g := g) _ [a])).write (Or.inl ⟨_, ha_2⟩) f3 hB (by simp)
  refine ev_return dJ1_init_9 rfl ?_
  exact ⟨_, rfl, rfl, ha_2, F4⟩
set_option maxRecDepth 100000 in
set_option maxHeartbeats 4000000 in
theorem k_J0iJ3 {a : Nat} {x y z w : Value} (ha : h a = some (.inr (17, [x, y, z, w]))) : Kc g mJ0_init 1 (0) (0) [.ref a] h (sR none h) := by
  refine Kc.of (ls := [some (.ref a)]) (by decide +kernel) (Nat.le_of_ble_eq_true rfl) rfl ?_
  refine ev_aload_n dJ0_init_0 rfl ?_
  refine ev_objInit dJ0_init_1 q243 q183 q184 (by omega) rfl ?_
  refine ev_return dJ0_init_4 rfl ?_
  exact ⟨rfl, rfl⟩
set_option maxRecDepth 100000 in
set_option maxHeartbeats 4000000 in
theorem k_J1iJ3 {a : Nat} {x y z w : Value} (ha : h a = some (.inr (17, [x, y, z, w]))) (hB : gB g ≤ a) : Kc g mJ1_init 2 (0) (0) [.ref a] h (rR (fun r h' => r = none ∧ h' a = some (.inr (17, [vz 0, y, z, w])) ∧ Fr g h h' [a])) := by
  refine Kc.of (ls := [some (.ref a)]) (by decide +kernel) (Nat.le_of_ble_eq_true rfl) rfl ?_
  refine ev_aload_n dJ1_init_0 rfl ?_
  refine ev_callVN dJ1_init_1 ci_J1_1 ce_J0_init ha rfl rfl rfl (k_J0iJ3 ha) (by omega) (Nat.le_of_ble_eq_true rfl) ?_
  refine ev_aload_n dJ1_init_4 rfl ?_
  refine ev_iconstZ dJ1_init_5 ?_
  refine ev_putC [vz 0, y, z, w] dJ1_init_6 gf_J1_7_J3 ha hB (Or.inl rfl) rfl rfl (Nat.le_of_ble_eq_true rfl) rfl (fun hp_1 ha_2 f3 => ?_)
  have F4 := ((Fr.refl (g := g) _ [a])).write (Or.inl ⟨_, ha_2⟩) f3 hB (by simp)
  refine ev_return dJ1_init_9 rfl ?_
  exact ⟨_, rfl, rfl, ha_2, F4⟩
set_option maxRecDepth 100000 in
set_option maxHeartbeats 4000000 in
theorem al_init {a : Nat} {x y : Value} (hG : GKx g) (ha : h a = some (.inr (29, [x, y, vz 0]))) (hB : gB g ≤ a) : Kc g mJ26_init 3 (0) (0) [.ref a] h (rR (fun r h' => r = none ∧ h' a = some (.inr (29, [vz (0), .ref (g.2.2.2.2 48), vz 0])) ∧ Fr g h h' [a])) := by
  refine Kc.of (ls := [some (.ref a)]) (by decide +kernel) (Nat.le_of_ble_eq_true rfl) rfl ?_
  refine ev_aload_n dJ26_init_0 rfl ?_
  refine ev_callVR dJ26_init_1 ci_J26_1 ce_J1_init ha rfl rfl rfl (k_J1iJ26 ha hB) (by omega) (by omega) (by omega) (Nat.le_of_ble_eq_true rfl) (fun v1 hp_1 P1 => ?_)
  obtain ⟨rfl, H1, fr1⟩ := P1
  have F2 := ((Fr.refl (g := g) _ [a])).call fr1 (by intro x hx; exact Or.inl hx)
  refine ev_aload_n dJ26_init_4 rfl ?_
  refine ev_gets (i := 0) hG dJ26_init_5 rfl q1620 ?_
  refine ev_putC [vz 0, .ref (g.2.2.2.2 48), vz 0] dJ26_init_8 gf_J26_9_J26 H1 hB (Or.inl rfl) rfl rfl (Nat.le_of_ble_eq_true rfl) rfl (fun hp_3 H1_4 f5 => ?_)
  have F6 := (F2).write (Or.inl ⟨_, H1_4⟩) f5 hB (by simp)
  refine ev_return dJ26_init_11 rfl ?_
  exact ⟨_, rfl, rfl, H1_4, F6⟩
theorem al_new {a : Nat} (h48 : h (g.2.2.2.2 48) = some (.inl (9, (0, .inr (.inr (.inr (.inr ((fun _ => none))))))))) (ha : h a = some (.inr (29, [vz (0), .ref (g.2.2.2.2 48), vz 0]))) (hB : gB g ≤ a) : ALh g h a (g.2.2.2.2 48) 0 0 [] :=
  ⟨ha, hB, ⟨_, h48, fun i hi => by simp at hi⟩, (fun y hy => by cases hy), Nat.le_refl _, by simp, Or.inl ⟨rfl, rfl⟩⟩
theorem alh_size {a v cap : Nat} {mc : Int} {l : List Nat} (H : ALh g h a v cap (mc) (l)) : Kc g mJ26_size 0 0 0 [.ref a] h (sR (some (vz (l.length : Nat))) h) := al_size H.1
theorem alh_get {a v cap e : Nat} {mc i : Int} {l : List Nat} (H : ALh g h a v cap (mc) (l)) (hi : 0 ≤ i ∧ i < l.length) (hb : l.length < 1000000) (he : l[i.toNat]? = some e) : Kc g mJ26_get 2 0 0 [.ref a, vz i] h (sR (some (.ref e)) h) := by
  obtain ⟨h1, h2, ⟨f, h3, h4⟩, h5, h6, h7, h8⟩ := H
  exact al_get h1 h3 hi ⟨by omega, by omega⟩ (by rw [h4 _ (by omega)]; exact he)
set_option maxRecDepth 100000 in
set_option maxHeartbeats 4000000 in
theorem k_J27i {a : Nat} {x : Value} (ha : h a = some (.inr (30, [x]))) : Kc g mJ27_init 1 (0) (0) [.ref a] h (sR none h) := by
  refine Kc.of (ls := [some (.ref a)]) (by decide +kernel) (Nat.le_of_ble_eq_true rfl) rfl ?_
  refine ev_aload_n dJ27_init_0 rfl ?_
  refine ev_objInit dJ27_init_1 q1753 q183 q184 (by omega) rfl ?_
  refine ev_return dJ27_init_4 rfl ?_
  exact ⟨rfl, rfl⟩
set_option maxRecDepth 100000 in
set_option maxHeartbeats 4000000 in
theorem k_intValue {a : Nat} {x : Int} (ha : h a = some (.inr (30, [vz (x)]))) : Kc g mJ28_intValue 0 (0) (0) [.ref a] h (sR (some (vz x)) h) := by
  refine Kc.of (ls := [some (.ref a)]) (by decide +kernel) (Nat.le_of_ble_eq_true rfl) rfl ?_
  refine ev_aload_n dJ28_intValue_0 rfl ?_
  refine ev_getf dJ28_intValue_1 gf_J28_205_J28 ha rfl ?_
  refine ev_ireturn dJ28_intValue_4 rfl ?_
  exact ⟨rfl, rfl⟩
section
variable {Q : RS → HM → Prop} {pc : Nat} {ls : List (Option Value)} {st : List Value}
theorem ev_aaldI {i : Int} (hG : GKx g) (hd : decode M.2.1 pc = .ok (.aaload, 1)) (h0 : 0 ≤ i ∧ i < 256) (kk : Ev g M d c k Q (pc + 1) ls (.ref (g.2.2.2.2 (64 + i.toNat)) :: st) h) : Ev g M d c k Q pc ls (vz i :: .ref (g.2.2.2.2 52) :: st) h := by
  intro p l e R s m args below meth cd H locs cells slots mc ms lz F hc' hk hmc hms hL hR hz hl
  refine vb_tq F.1 F.2.1 (((hG s F.gk).2.2.2.2.2.2.2.2.1).kept (fun a ha _ => F.low2 a ha)) (F.vaS hR hz hl) (zI_in h0.1 (by omega) (by omega)) ?_ hd (kk p l e R s m args below meth cd H locs cells slots mc ms lz F hc' hk hmc hms hL hR hz hl)
  rw [zI_clamp h0.1 (by omega)]
end
set_option maxRecDepth 100000 in
set_option maxHeartbeats 4000000 in
theorem k_valueOf {i : Int} (hG : GKx g) (hi : -128 ≤ i ∧ i < 128) : Kc g mJ28_valueOf 0 (0) (0) [vz i] h (sR (some (.ref (g.2.2.2.2 (64 + (i + 128).toNat)))) h) := by
  refine Kc.of (ls := [some (vz i)]) (by decide +kernel) (Nat.le_of_ble_eq_true rfl) rfl ?_
  refine ev_iload_n dJ28_valueOf_0 rfl ?_
  refine ev_bipushZ dJ28_valueOf_1 rfl ?_
  refine ev_icmp_ltZ (tgt := 23) dJ28_valueOf_3 (by decide) (by omega) (by omega) (fun c3 => by omega) (fun c3 => ?_)
  refine ev_iload_n dJ28_valueOf_6 rfl ?_
  refine ev_gets (i := 8) hG dJ28_valueOf_7 rfl q1741 ?_
  refine ev_nm (fun y ey => ?_)
  rw [show y = vz 127 from ey]
  refine ev_icmp_gtZ (tgt := 23) dJ28_valueOf_10 (by decide) (by omega) (by omega) (fun c10 => by omega) (fun c10 => ?_)
  refine ev_gets (i := 9) hG dJ28_valueOf_13 rfl q1743 ?_
  refine ev_iload_n dJ28_valueOf_16 rfl ?_
  refine ev_sipushZ dJ28_valueOf_17 rfl ?_
  refine ev_iaddZ dJ28_valueOf_20 ?_
  refine ev_aaldI hG dJ28_valueOf_21 (by omega) ?_
  refine ev_areturn dJ28_valueOf_22 rfl (Or.inl ⟨_, rfl⟩) (Or.inr ⟨_, rfl⟩) ?_
  exact ⟨rfl, rfl⟩
set_option maxRecDepth 100000 in
set_option maxHeartbeats 4000000 in
theorem it_init {q a v : Nat} {n mc : Int} {y z w : Value} (hq : h q = some (.inr (31, [vz 0, y, z, w]))) (hB : gB g ≤ q) (ha : h a = some (.inr (29, [vz (mc), .ref v, vz n]))) : Kc g mJ30_init 1 (0) (0) [.ref q, .ref a] h (rR (fun r h' => r = none ∧ h' q = some (.inr (31, [vz 0, vz (-1), vz mc, .ref a])) ∧ Fr g h h' [q])) := by
  refine Kc.of (ls := [some (.ref q), some (.ref a)]) (by decide +kernel) (Nat.le_of_ble_eq_true rfl) rfl ?_
  refine ev_aload_n dJ30_init_0 rfl ?_
  refine ev_aload_n dJ30_init_1 rfl ?_
  refine ev_putC [vz 0, y, z, .ref a] dJ30_init_2 gf_J30_1_J30 hq hB (Or.inr ⟨rfl, rfl⟩) rfl rfl (Nat.le_of_ble_eq_true rfl) rfl (fun hp_1 hq_2 f3 => ?_)
  have ha_4 := (f3 _ (ne_of ha hq (by simp))).trans ha
  have F5 := ((Fr.refl (g := g) _ [q])).write (Or.inl ⟨_, hq_2⟩) f3 hB (by simp)
  refine ev_aload_n dJ30_init_5 rfl ?_
  refine ev_objInit dJ30_init_6 q692 q183 q184 (by omega) rfl ?_
  refine ev_aload_n dJ30_init_9 rfl ?_
  refine ev_iconstZ dJ30_init_10 ?_
  refine ev_putC [vz 0, vz (-1), z, .ref a] dJ30_init_11 gf_J30_13_J30 hq_2 hB (Or.inl rfl) rfl rfl (Nat.le_of_ble_eq_true rfl) rfl (fun hp_6 hq_7 f8 => ?_)
  have ha_9 := (f8 _ (ne_of ha_4 hq_2 (by simp))).trans ha_4
  have F10 := (F5).write (Or.inl ⟨_, hq_7⟩) f8 hB (by simp)
  refine ev_aload_n dJ30_init_14 rfl ?_
  refine ev_aload_n dJ30_init_15 rfl ?_
  refine ev_getf dJ30_init_16 gf_J30_1_J30 hq_7 rfl ?_
  refine ev_getf dJ30_init_19 gf_J30_17_J26 ha_9 rfl ?_
  refine ev_putC [vz 0, vz (-1), vz mc, .ref a] dJ30_init_22 gf_J30_22_J30 hq_7 hB (Or.inl rfl) rfl rfl (Nat.le_of_ble_eq_true rfl) rfl (fun hp_11 hq_12 f13 => ?_)
  have ha_14 := (f13 _ (ne_of ha_9 hq_7 (by simp))).trans ha_9
  have F15 := (F10).write (Or.inl ⟨_, hq_12⟩) f13 hB (by simp)
  refine ev_return dJ30_init_25 rfl ?_
  exact ⟨_, rfl, rfl, hq_12, F15⟩
set_option maxRecDepth 100000 in
set_option maxHeartbeats 4000000 in
theorem it_cfc {q a v : Nat} {n mc cur last : Int} (hq : h q = some (.inr (31, [vz cur, vz last, vz mc, .ref a]))) (ha : h a = some (.inr (29, [vz (mc), .ref v, vz n]))) (hm : inR mc) : Kc g mJ30_checkForComodification 0 (0) (0) [.ref q] h (sR none h) := by
  refine Kc.of (ls := [some (.ref q)]) (by decide +kernel) (Nat.le_of_ble_eq_true rfl) rfl ?_
  refine ev_aload_n dJ30_checkForComodification_0 rfl ?_
  refine ev_getf dJ30_checkForComodification_1 gf_J30_1_J30 hq rfl ?_
  refine ev_getf dJ30_checkForComodification_4 gf_J30_17_J26 ha rfl ?_
  refine ev_aload_n dJ30_checkForComodification_7 rfl ?_
  refine ev_getf dJ30_checkForComodification_8 gf_J30_22_J30 hq rfl ?_
  refine ev_icmp_eqZ (tgt := 22) dJ30_checkForComodification_11 (by decide) (by omega) (by omega) (fun c11 => ?_) (fun c11 => absurd rfl c11)
  refine ev_return dJ30_checkForComodification_22 rfl ?_
  exact ⟨rfl, rfl⟩
set_option maxRecDepth 100000 in
set_option maxHeartbeats 4000000 in
theorem it_hasNext {q a v i n : Nat} {mc last : Int} (hq : h q = some (.inr (31, [vz (i : Nat), vz last, vz mc, .ref a]))) (ha : h a = some (.inr (29, [vz (mc), .ref v, vz (n : Nat)]))) (hn : i ≤ n ∧ n < 1000000) : Kc g mJ30_hasNext 0 (0) (0) [.ref q] h (sR (some (vz (if i < n then 1 else 0))) h) := by
  refine Kc.of (ls := [some (.ref q)]) (by decide +kernel) (Nat.le_of_ble_eq_true rfl) rfl ?_
  refine ev_aload_n dJ30_hasNext_0 rfl ?_
  refine ev_getf dJ30_hasNext_1 gf_J30_25_J30 hq rfl ?_
  refine ev_aload_n dJ30_hasNext_4 rfl ?_
  refine ev_getf dJ30_hasNext_5 gf_J30_1_J30 hq rfl ?_
  refine ev_getf dJ30_hasNext_8 gf_J30_28_J26 ha rfl ?_
  refine ev_icmp_eqZ (tgt := 18) dJ30_hasNext_11 (by decide) (by omega) (by omega) (fun c11 => ?_) (fun c11 => ?_)
  · refine ev_iconstZ dJ30_hasNext_18 ?_
    refine ev_zreturn dJ30_hasNext_19 rfl rfl ?_
    exact ⟨by first | rw [if_pos (by omega)] | rw [if_neg (by omega)], rfl⟩
  · refine ev_iconstZ dJ30_hasNext_14 ?_
    refine ev_goto (tgt := 19) dJ30_hasNext_15 (by decide) ?_
    refine ev_zreturn dJ30_hasNext_19 rfl rfl ?_
    exact ⟨by first | rw [if_pos (by omega)] | rw [if_neg (by omega)], rfl⟩
set_option maxRecDepth 100000 in
set_option maxHeartbeats 4000000 in
theorem it_next {q a v i cap e : Nat} {mc last : Int} {l : List Nat} (hq : h q = some (.inr (31, [vz (i : Nat), vz last, vz mc, .ref a]))) (hB : gB g ≤ q) (H : ALh g h a v cap (mc) (l)) (hm : inR mc) (hn : l.length < 1000000) (he : l[i]? = some e) : Kc g mJ30_next 1 (0) (0) [.ref q] h (rR (fun r h' => r = some (.ref e) ∧ h' q = some (.inr (31, [vz ((i + 1 : Nat)), vz (i : Nat), vz mc, .ref a])) ∧ Fr g h h' [q])) := by
  refine Kc.of (ls := [some (.ref q), none, none]) (by decide +kernel) (Nat.le_of_ble_eq_true rfl) rfl ?_
  obtain ⟨ha, hBa, ⟨f, hv, hf⟩, hel, hlc, hcl, hp⟩ := id H
  have hi : i < l.length := (List.getElem?_eq_some_iff.mp he).1
  refine ev_aload_n dJ30_next_0 rfl ?_
  refine ev_callVN dJ30_next_1 cv_J30_31_J30 ce_J30_checkForComodification hq rfl rfl rfl (it_cfc hq ha hm) (by omega) (Nat.le_of_ble_eq_true rfl) ?_
  refine ev_aload_n dJ30_next_4 rfl ?_
  refine ev_getf dJ30_next_5 gf_J30_25_J30 hq rfl ?_
  refine ev_istore_n dJ30_next_8 (by decide) rfl ?_
  dsimp only [List.set]
  refine ev_iload_n dJ30_next_9 rfl ?_
  refine ev_aload_n dJ30_next_10 rfl ?_
  refine ev_getf dJ30_next_11 gf_J30_1_J30 hq rfl ?_
  refine ev_getf dJ30_next_14 gf_J30_28_J26 ha rfl ?_
  refine ev_icmp_ltZ (tgt := 28) dJ30_next_17 (by decide) (by omega) (by omega) (fun c17 => ?_) (fun c17 => by omega)
  refine ev_aload_n dJ30_next_28 rfl ?_
  refine ev_getf dJ30_next_29 gf_J30_1_J30 hq rfl ?_
  refine ev_getf dJ30_next_32 gf_J30_37_J26 ha rfl ?_
  refine ev_astore_n dJ30_next_35 (by decide) rfl ?_
  dsimp only [List.set]
  refine ev_iload_n dJ30_next_36 rfl ?_
  refine ev_aload_n dJ30_next_37 rfl ?_
  refine ev_alenZ dJ30_next_38 hv rfl ?_
  refine ev_icmp_ltZ (tgt := 50) dJ30_next_39 (by decide) (by omega) (by omega) (fun c39 => ?_) (fun c39 => by omega)
  refine ev_aload_n dJ30_next_50 rfl ?_
  refine ev_iload_n dJ30_next_51 rfl ?_
  refine ev_iconstZ dJ30_next_52 ?_
  refine ev_iaddZ dJ30_next_53 ?_
  refine ev_putC [vz ((i : Nat) + 1), vz last, vz mc, .ref a] dJ30_next_54 gf_J30_25_J30 hq hB (Or.inl rfl) rfl rfl (Nat.le_of_ble_eq_true rfl) rfl (fun hp_1 hq_2 f3 => ?_)
  have ha_4 := (f3 _ (ne_of ha hq (by simp))).trans ha
  have hv_5 := (f3 _ (ne_of hv hq (by simp))).trans hv
  have F6 := ((Fr.refl (g := g) _ [q])).write (Or.inl ⟨_, hq_2⟩) f3 hB (by simp)
  refine ev_aload_n dJ30_next_57 rfl ?_
  refine ev_aload_n dJ30_next_58 rfl ?_
  refine ev_iload_n dJ30_next_59 rfl ?_
  refine ev_dup_x1 dJ30_next_60 rfl rfl ?_
  refine ev_putC [vz ((i : Nat) + 1), vz (i : Nat), vz mc, .ref a] dJ30_next_61 gf_J30_13_J30 hq_2 hB (Or.inl rfl) rfl rfl (Nat.le_of_ble_eq_true rfl) rfl (fun hp_7 hq_8 f9 => ?_)
  have ha_10 := (f9 _ (ne_of ha_4 hq_2 (by simp))).trans ha_4
  have hv_11 := (f9 _ (ne_of hv_5 hq_2 (by simp))).trans hv_5
  have F12 := (F6).write (Or.inl ⟨_, hq_8⟩) f9 hB (by simp)
  refine ev_aaldY (v := .ref e) dJ30_next_64 hv_11 rfl rfl (by omega) (by rw [Int.toNat_natCast, hf i hi, he]; rfl) ?_
  refine ev_areturn dJ30_next_65 rfl (Or.inl ⟨_, rfl⟩) (Or.inr ⟨_, rfl⟩) ?_
  exact ⟨_, rfl, rfl, hq_8, F12⟩
set_option maxRecDepth 100000 in
set_option maxHeartbeats 4000000 in
theorem al_iter {a v : Nat} {n mc : Int} (ha : h a = some (.inr (29, [vz (mc), .ref v, vz n]))) : Kc g mJ26_iterator 2 (1) (4) [.ref a] h (rR (fun r h' => ∃ q : Nat, r = some (.ref q) ∧ h q = none ∧ gB g ≤ q ∧ h' q = some (.inr (31, [vz 0, vz (-1), vz mc, .ref a])) ∧ Fr g h h' [])) := by
  refine Kc.of (ls := [some (.ref a)]) (by decide +kernel) (Nat.le_of_ble_eq_true rfl) rfl ?_
  refine ev_newC (c' := 0) (k' := 0) [vz 0, vz 0, vz 0, .null] dJ26_iterator_0 cf_J30 q2394 q2395 q170 rfl (by omega) (by omega) (fun q1 hp_2 e3 B4 Hq1_5 f6 => ?_)
  have ha_7 := (f6 _ (ne_no ha e3)).trans ha
  have z8 := ((Fr.refl (g := g) _ [])).fresh e3
  have F9 := ((Fr.refl (g := g) _ [])).alloc (Or.inl ⟨_, Hq1_5⟩) f6 e3
  refine ev_dup dJ26_iterator_3 rfl ?_
  refine ev_aload_n dJ26_iterator_4 rfl ?_
  refine ev_callVR dJ26_iterator_5 ci_J26_269 ce_J30_init Hq1_5 rfl rfl rfl (it_init Hq1_5 B4 ha_7) (by omega) (by omega) (by omega) (Nat.le_of_ble_eq_true rfl) (fun v10 hp_10 P10 => ?_)
  obtain ⟨rfl, H9, fr9⟩ := P10
  have ha_11 := fr9.keep ha_7 (by simp only [List.mem_cons, List.not_mem_nil, or_false, not_or]; exact (ne_no ha e3))
  have F12 := (F9).call fr9 (by intro x hx; rw [List.mem_singleton.mp hx]; exact Or.inr (Or.inl z8))
  refine ev_areturn dJ26_iterator_8 rfl (Or.inl ⟨_, rfl⟩) (Or.inr ⟨_, rfl⟩) ?_
  exact ⟨_, rfl, _, rfl, z8, B4, H9, F12⟩
end J3S

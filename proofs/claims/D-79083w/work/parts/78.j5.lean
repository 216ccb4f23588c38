/-! THE COMPONENT: LinkedList, its iterator (printed by gen) -/
section J5S
variable {g : GB} {M : MI} {d c k : Nat} {h : HM}
set_option maxRecDepth 100000 in
set_option maxHeartbeats 4000000 in
theorem li_cfc {q a : Nat} {n mc i : Int} {lr nx f l : Value} (hq : h q = some (.inr (34, [lr, nx, vz i, vz mc, .ref a]))) (ha : h a = some (.inr (17, [vz mc, vz n, f, l]))) (hm : inR mc) : Kc g mJ34_checkForComodification 0 (0) (0) [.ref q] h (sR none h) := by
  refine Kc.of (ls := [some (.ref q)]) (by decide +kernel) (Nat.le_of_ble_eq_true rfl) rfl ?_
  refine ev_aload_n dJ34_checkForComodification_0 rfl ?_
  refine ev_getf dJ34_checkForComodification_1 gf_J34_1_J34 hq rfl ?_
  refine ev_getf dJ34_checkForComodification_4 gf_J34_13_J3 ha rfl ?_
  refine ev_aload_n dJ34_checkForComodification_7 rfl ?_
  refine ev_getf dJ34_checkForComodification_8 gf_J34_19_J34 hq rfl ?_
  refine ev_icmp_eqZ (tgt := 22) dJ34_checkForComodification_11 (by decide) (by omega) (by omega) (fun c11 => ?_) (fun c11 => absurd rfl c11)
  refine ev_return dJ34_checkForComodification_22 rfl ?_
  exact ⟨rfl, rfl⟩
set_option maxRecDepth 100000 in
set_option maxHeartbeats 4000000 in
theorem li_hasNext {q a : Nat} {n mc i : Int} {lr nx f l : Value} (hq : h q = some (.inr (34, [lr, nx, vz i, vz mc, .ref a]))) (ha : h a = some (.inr (17, [vz mc, vz n, f, l]))) (hi : inR i ∧ inR n) : Kc g mJ34_hasNext 0 (0) (0) [.ref q] h (sR (some (vz (if i < n then 1 else 0))) h) := by
  refine Kc.of (ls := [some (.ref q)]) (by decide +kernel) (Nat.le_of_ble_eq_true rfl) rfl ?_
  refine ev_aload_n dJ34_hasNext_0 rfl ?_
  refine ev_getf dJ34_hasNext_1 gf_J34_33_J34 hq rfl ?_
  refine ev_aload_n dJ34_hasNext_4 rfl ?_
  refine ev_getf dJ34_hasNext_5 gf_J34_1_J34 hq rfl ?_
  refine ev_getf dJ34_hasNext_8 gf_J34_22_J3 ha rfl ?_
  refine ev_icmp_geZ (tgt := 18) dJ34_hasNext_11 (by decide) (by omega) (by omega) (fun c11 => ?_) (fun c11 => ?_)
  · refine ev_iconstZ dJ34_hasNext_18 ?_
    refine ev_zreturn dJ34_hasNext_19 rfl rfl ?_
    exact ⟨by first | rw [if_pos (by omega)] | rw [if_neg (by omega)], rfl⟩
  · refine ev_iconstZ dJ34_hasNext_14 ?_
    refine ev_goto (tgt := 19) dJ34_hasNext_15 (by decide) ?_
    refine ev_zreturn dJ34_hasNext_19 rfl rfl ?_
    exact ⟨by first | rw [if_pos (by omega)] | rw [if_neg (by omega)], rfl⟩
set_option maxRecDepth 100000 in
set_option maxHeartbeats 4000000 in
theorem li_next {q a p x i : Nat} {mc : Int} {lr : Value} {L : List (Nat × Nat)} (H : LLh g h a mc L) (hq : h q = some (.inr (34, [lr, va_rf ((L[i]?).map Prod.fst), vz (i : Nat), vz mc, .ref a]))) (hqB : gB g ≤ q) (hm : inR mc) (hn : L.length < 1000000) (hi : L[i]? = some (p, x)) : Kc g mJ34_next 1 (0) (0) [.ref q] h (rR (fun r h' => r = some (.ref x) ∧ h' q = some (.inr (34, [.ref p, va_rf ((L[i + 1]?).map Prod.fst), vz ((i + 1 : Nat) : Int), vz mc, .ref a])) ∧ Fr g h h' [q])) := by
  refine Kc.of (ls := [some (.ref q)]) (by decide +kernel) (Nat.le_of_ble_eq_true rfl) rfl ?_
  have hil : i < L.length := (List.getElem?_eq_some_iff.mp hi).1
  rw [hi] at hq
  replace hq : h q = some (.inr (34, [lr, .ref p, vz (i : Nat), vz mc, .ref a])) := hq
  obtain ⟨f, ef⟩ : ∃ f, f = va_rf (L.head?.map Prod.fst) := ⟨_, rfl⟩
  obtain ⟨l, el⟩ : ∃ l, l = va_rf (L.getLast?.map Prod.fst) := ⟨_, rfl⟩
  have ha : h a = some (.inr (17, [vz mc, vz (L.length : Nat), f, l])) := by rw [ef, el]; exact H.1
  have hB := H.2.1
  obtain ⟨nx, enx⟩ : ∃ nx, nx = va_rf ((L[i + 1]?).map Prod.fst) := ⟨_, rfl⟩
  obtain ⟨pv, epv⟩ : ∃ pv, pv = va_rf (pvO L i) := ⟨_, rfl⟩
  have hp : h p = some (.inr (27, [.ref x, nx, pv])) := by rw [enx, epv]; exact H.2.2.1 i p x hi
  refine ev_aload_n dJ34_next_0 rfl ?_
  refine ev_callVN dJ34_next_1 cv_J34_36_J34 ce_J34_checkForComodification hq rfl rfl rfl (li_cfc hq ha hm) (by omega) (Nat.le_of_ble_eq_true rfl) ?_
  refine ev_aload_n dJ34_next_4 rfl ?_
  refine ev_callVE dJ34_next_5 cv_J34_39_J34 ce_J34_hasNext hq rfl rfl rfl (li_hasNext hq ha (by omega)) (by omega) (Nat.le_of_ble_eq_true rfl) ?_
  rw [if_pos (by omega : ((i : Nat) : Int) < ((L.length : Nat) : Int))]
  refine ev_if_neZ (tgt := 19) dJ34_next_8 (by decide) (by omega) (fun c8 => ?_) (fun c8 => by omega)
  refine ev_aload_n dJ34_next_19 rfl ?_
  refine ev_aload_n dJ34_next_20 rfl ?_
  refine ev_getf dJ34_next_21 gf_J34_29_J34 hq rfl ?_
  refine ev_putC [.ref p, .ref p, vz (i : Nat), vz mc, .ref a] dJ34_next_24 gf_J34_46_J34 hq hqB (Or.inl rfl) rfl rfl (Nat.le_of_ble_eq_true rfl) rfl (fun hp_1 hq_2 f3 => ?_)
  have ha_4 := (f3 _ (ne_of ha hq (by simp))).trans ha
  have hp_5 := (f3 _ (ne_of hp hq (by simp))).trans hp
  have F6 := ((Fr.refl (g := g) _ [q])).write (Or.inl ⟨_, hq_2⟩) f3 hqB (by simp)
  refine ev_aload_n dJ34_next_27 rfl ?_
  refine ev_aload_n dJ34_next_28 rfl ?_
  refine ev_getf dJ34_next_29 gf_J34_29_J34 hq_2 rfl ?_
  refine ev_getf dJ34_next_32 gf_J34_49_J20 hp_5 rfl ?_
  refine ev_putC [.ref p, nx, vz (i : Nat), vz mc, .ref a] dJ34_next_35 gf_J34_29_J34 hq_2 hqB (Or.inl rfl) (by rw [enx]; cases (L[i + 1]?).map Prod.fst <;> rfl) (by rw [enx]; cases (L[i + 1]?).map Prod.fst <;> rfl) (Nat.le_of_ble_eq_true rfl) rfl (fun hp_7 hq_8 f9 => ?_)
  have ha_10 := (f9 _ (ne_of ha_4 hq_2 (by simp))).trans ha_4
  have hp_11 := (f9 _ (ne_of hp_5 hq_2 (by simp))).trans hp_5
  have F12 := (F6).write (Or.inl ⟨_, hq_8⟩) f9 hqB (by simp)
  refine ev_aload_n dJ34_next_38 rfl ?_
  refine ev_dup dJ34_next_39 rfl ?_
  refine ev_getf dJ34_next_40 gf_J34_33_J34 hq_8 rfl ?_
  refine ev_iconstZ dJ34_next_43 ?_
  refine ev_iaddZ dJ34_next_44 ?_
  refine ev_putC [.ref p, nx, vz ((i : Nat) + 1), vz mc, .ref a] dJ34_next_45 gf_J34_33_J34 hq_8 hqB (Or.inl rfl) rfl rfl (Nat.le_of_ble_eq_true rfl) rfl (fun hp_13 hq_14 f15 => ?_)
  have ha_16 := (f15 _ (ne_of ha_10 hq_8 (by simp))).trans ha_10
  have hp_17 := (f15 _ (ne_of hp_11 hq_8 (by simp))).trans hp_11
  have F18 := (F12).write (Or.inl ⟨_, hq_14⟩) f15 hqB (by simp)
  refine ev_aload_n dJ34_next_48 rfl ?_
  refine ev_getf dJ34_next_49 gf_J34_46_J34 hq_14 rfl ?_
  refine ev_getf dJ34_next_52 gf_J34_52_J20 hp_17 rfl ?_
  refine ev_areturn dJ34_next_55 rfl (Or.inl ⟨_, rfl⟩) (Or.inr ⟨_, rfl⟩) ?_
  have r := hq_14
  rw [enx] at r
  exact ⟨_, rfl, rfl, r, F18⟩
set_option maxRecDepth 100000 in
set_option maxHeartbeats 4000000 in
theorem ll_node0 {a p n : Nat} {mc : Int} {l : Value} (ha : h a = some (.inr (17, [vz mc, vz (n : Nat), .ref p, l]))) (hn : 0 < n ∧ n < 1000000) (h1 : n = 1 → l = .ref p) : Kc g mJ3_node 0 (0) (0) [.ref a, vz 0] h (sR (some (.ref p)) h) := by
  refine Kc.of (ls := [some (.ref a), some (vz 0), none, none]) (by decide +kernel) (Nat.le_of_ble_eq_true rfl) rfl ?_
  refine ev_iload_n dJ3_node_0 rfl ?_
  refine ev_aload_n dJ3_node_1 rfl ?_
  refine ev_getf dJ3_node_2 gf_J3_7_J3 ha rfl ?_
  refine ev_iconstZ dJ3_node_5 ?_
  refine ev_half (u := n) dJ3_node_6 (by omega) ?_
  refine ev_icmp_geZ (tgt := 35) dJ3_node_7 (by decide) (by omega) (by omega) (fun c7 => ?_) (fun c7 => ?_)
  · have h1 := h1 (by omega)
    subst h1
    refine ev_aload_n dJ3_node_35 rfl ?_
    refine ev_getf dJ3_node_36 gf_J3_27_J3 ha rfl ?_
    refine ev_astore_n dJ3_node_39 (by decide) rfl ?_
    dsimp only [List.set]
    refine ev_aload_n dJ3_node_40 rfl ?_
    refine ev_getf dJ3_node_41 gf_J3_7_J3 ha rfl ?_
    refine ev_iconstZ dJ3_node_44 ?_
    refine ev_isubZ dJ3_node_45 ?_
    refine ev_istore_n dJ3_node_46 (by decide) rfl ?_
    dsimp only [List.set]
    refine ev_iload_n dJ3_node_47 rfl ?_
    refine ev_iload_n dJ3_node_48 rfl ?_
    refine ev_icmp_leZ (tgt := 63) dJ3_node_49 (by decide) (by omega) (by omega) (fun c49 => ?_) (fun c49 => by omega)
    refine ev_aload_n dJ3_node_63 rfl ?_
    refine ev_areturn dJ3_node_64 rfl (Or.inl ⟨_, rfl⟩) (Or.inr ⟨_, rfl⟩) ?_
    exact ⟨rfl, rfl⟩
  · refine ev_aload_n dJ3_node_10 rfl ?_
    refine ev_getf dJ3_node_11 gf_J3_18_J3 ha rfl ?_
    refine ev_astore_n dJ3_node_14 (by decide) rfl ?_
    dsimp only [List.set]
    refine ev_iconstZ dJ3_node_15 ?_
    refine ev_istore_n dJ3_node_16 (by decide) rfl ?_
    dsimp only [List.set]
    refine ev_iload_n dJ3_node_17 rfl ?_
    refine ev_iload_n dJ3_node_18 rfl ?_
    refine ev_icmp_geZ (tgt := 33) dJ3_node_19 (by decide) (by omega) (by omega) (fun c19 => ?_) (fun c19 => by omega)
    refine ev_aload_n dJ3_node_33 rfl ?_
    refine ev_areturn dJ3_node_34 rfl (Or.inl ⟨_, rfl⟩) (Or.inr ⟨_, rfl⟩) ?_
    exact ⟨rfl, rfl⟩
set_option maxRecDepth 100000 in
set_option maxHeartbeats 4000000 in
theorem li_init {q a : Nat} {mc : Int} {y1 y2 y3 y4 : Value} {L : List (Nat × Nat)} (H : LLh g h a mc L) (hq : h q = some (.inr (34, [.null, y1, y2, y3, y4]))) (hqB : gB g ≤ q) (hn : L.length < 1000000) : Kc g mJ34_init 1 (0) (0) [.ref q, .ref a, vz 0] h (rR (fun r h' => r = none ∧ h' q = some (.inr (34, [.null, va_rf ((L[0]?).map Prod.fst), vz ((0 : Nat) : Int), vz mc, .ref a])) ∧ Fr g h h' [q])) := by
  refine Kc.of (ls := [some (.ref q), some (.ref a), some (vz 0)]) (by decide +kernel) (Nat.le_of_ble_eq_true rfl) rfl ?_
  have hB := H.2.1
  rcases L with _ | ⟨⟨p, x⟩, t⟩
  · have ha : h a = some (.inr (17, [vz mc, vz 0, .null, .null])) := H.1
    refine ev_aload_n dJ34_init_0 rfl ?_
    refine ev_aload_n dJ34_init_1 rfl ?_
    refine ev_putC [.null, y1, y2, y3, .ref a] dJ34_init_2 gf_J34_1_J34 hq hqB (Or.inr ⟨rfl, rfl⟩) rfl rfl (Nat.le_of_ble_eq_true rfl) rfl (fun hp_1 hq_2 f3 => ?_)
    have ha_4 := (f3 _ (ne_of ha hq (by simp))).trans ha
    have F5 := ((Fr.refl (g := g) _ [q])).write (Or.inl ⟨_, hq_2⟩) f3 hqB (by simp)
    refine ev_aload_n dJ34_init_5 rfl ?_
    refine ev_objInit dJ34_init_6 q740 q183 q184 (by omega) rfl ?_
    refine ev_aload_n dJ34_init_9 rfl ?_
    refine ev_aload_n dJ34_init_10 rfl ?_
    refine ev_getf dJ34_init_11 gf_J34_1_J34 hq_2 rfl ?_
    refine ev_getf dJ34_init_14 gf_J34_13_J3 ha_4 rfl ?_
    refine ev_putC [.null, y1, y2, vz mc, .ref a] dJ34_init_17 gf_J34_19_J34 hq_2 hqB (Or.inl rfl) rfl rfl (Nat.le_of_ble_eq_true rfl) rfl (fun hp_6 hq_7 f8 => ?_)
    have ha_9 := (f8 _ (ne_of ha_4 hq_2 (by simp))).trans ha_4
    have F10 := (F5).write (Or.inl ⟨_, hq_7⟩) f8 hqB (by simp)
    refine ev_aload_n dJ34_init_20 rfl ?_
    refine ev_iload_n dJ34_init_21 rfl ?_
    refine ev_aload_n dJ34_init_22 rfl ?_
    refine ev_getf dJ34_init_23 gf_J34_22_J3 ha_9 rfl ?_
    refine ev_icmp_neZ (tgt := 33) dJ34_init_26 (by decide) (by omega) (by omega) (fun c26 => absurd rfl c26) (fun c26 => ?_)
    refine ev_null dJ34_init_29 ?_
    refine ev_goto (tgt := 38) dJ34_init_30 (by decide) ?_
    refine ev_putC [.null, .null, y2, vz mc, .ref a] dJ34_init_38 gf_J34_29_J34 hq_7 hqB (Or.inl rfl) rfl rfl (Nat.le_of_ble_eq_true rfl) rfl (fun hp_11 hq_12 f13 => ?_)
    have ha_14 := (f13 _ (ne_of ha_9 hq_7 (by simp))).trans ha_9
    have F15 := (F10).write (Or.inl ⟨_, hq_12⟩) f13 hqB (by simp)
    refine ev_aload_n dJ34_init_41 rfl ?_
    refine ev_iload_n dJ34_init_42 rfl ?_
    refine ev_putC [.null, .null, vz 0, vz mc, .ref a] dJ34_init_43 gf_J34_33_J34 hq_12 hqB (Or.inl rfl) rfl rfl (Nat.le_of_ble_eq_true rfl) rfl (fun hp_16 hq_17 f18 => ?_)
    have ha_19 := (f18 _ (ne_of ha_14 hq_12 (by simp))).trans ha_14
    have F20 := (F15).write (Or.inl ⟨_, hq_17⟩) f18 hqB (by simp)
    refine ev_return dJ34_init_46 rfl ?_
    exact ⟨_, rfl, rfl, hq_17, F20⟩
  · obtain ⟨lv, elv⟩ : ∃ lv, lv = va_rf (((p, x) :: t).getLast?.map Prod.fst) := ⟨_, rfl⟩
    obtain ⟨n, en⟩ : ∃ n, n = ((p, x) :: t).length := ⟨_, rfl⟩
    have hn1 : 0 < n ∧ n < 1000000 := ⟨by rw [en]; simp, by rw [en]; exact hn⟩
    have ha : h a = some (.inr (17, [vz mc, vz (n : Nat), .ref p, lv])) := by rw [elv, en]; exact H.1
    have h1 : n = 1 → lv = .ref p := fun e => by rw [en] at e; rw [elv, List.eq_nil_of_length_eq_zero (by simpa using e : t.length = 0)]; rfl
    refine ev_aload_n dJ34_init_0 rfl ?_
    refine ev_aload_n dJ34_init_1 rfl ?_
    refine ev_putC [.null, y1, y2, y3, .ref a] dJ34_init_2 gf_J34_1_J34 hq hqB (Or.inr ⟨rfl, rfl⟩) rfl rfl (Nat.le_of_ble_eq_true rfl) rfl (fun hp_1 hq_2 f3 => ?_)
    have ha_4 := (f3 _ (ne_of ha hq (by simp))).trans ha
    have F5 := ((Fr.refl (g := g) _ [q])).write (Or.inl ⟨_, hq_2⟩) f3 hqB (by simp)
    refine ev_aload_n dJ34_init_5 rfl ?_
    refine ev_objInit dJ34_init_6 q740 q183 q184 (by omega) rfl ?_
    refine ev_aload_n dJ34_init_9 rfl ?_
    refine ev_aload_n dJ34_init_10 rfl ?_
    refine ev_getf dJ34_init_11 gf_J34_1_J34 hq_2 rfl ?_
    refine ev_getf dJ34_init_14 gf_J34_13_J3 ha_4 rfl ?_
    refine ev_putC [.null, y1, y2, vz mc, .ref a] dJ34_init_17 gf_J34_19_J34 hq_2 hqB (Or.inl rfl) rfl rfl (Nat.le_of_ble_eq_true rfl) rfl (fun hp_6 hq_7 f8 => ?_)
    have ha_9 := (f8 _ (ne_of ha_4 hq_2 (by simp))).trans ha_4
    have F10 := (F5).write (Or.inl ⟨_, hq_7⟩) f8 hqB (by simp)
    refine ev_aload_n dJ34_init_20 rfl ?_
    refine ev_iload_n dJ34_init_21 rfl ?_
    refine ev_aload_n dJ34_init_22 rfl ?_
    refine ev_getf dJ34_init_23 gf_J34_22_J3 ha_9 rfl ?_
    refine ev_icmp_neZ (tgt := 33) dJ34_init_26 (by decide) (by omega) (by omega) (fun c26 => ?_) (fun c26 => by omega)
    refine ev_aload_n dJ34_init_33 rfl ?_
    refine ev_iload_n dJ34_init_34 rfl ?_
    refine ev_callVE dJ34_init_35 cv_J34_25_J3 ce_J3_node ha_9 rfl rfl rfl (ll_node0 ha_9 hn1 h1) (by omega) (Nat.le_of_ble_eq_true rfl) ?_
    refine ev_putC [.null, .ref p, y2, vz mc, .ref a] dJ34_init_38 gf_J34_29_J34 hq_7 hqB (Or.inl rfl) rfl rfl (Nat.le_of_ble_eq_true rfl) rfl (fun hp_11 hq_12 f13 => ?_)
    have ha_14 := (f13 _ (ne_of ha_9 hq_7 (by simp))).trans ha_9
    have F15 := (F10).write (Or.inl ⟨_, hq_12⟩) f13 hqB (by simp)
    refine ev_aload_n dJ34_init_41 rfl ?_
    refine ev_iload_n dJ34_init_42 rfl ?_
    refine ev_putC [.null, .ref p, vz 0, vz mc, .ref a] dJ34_init_43 gf_J34_33_J34 hq_12 hqB (Or.inl rfl) rfl rfl (Nat.le_of_ble_eq_true rfl) rfl (fun hp_16 hq_17 f18 => ?_)
    have ha_19 := (f18 _ (ne_of ha_14 hq_12 (by simp))).trans ha_14
    have F20 := (F15).write (Or.inl ⟨_, hq_17⟩) f18 hqB (by simp)
    refine ev_return dJ34_init_46 rfl ?_
    exact ⟨_, rfl, rfl, hq_17, F20⟩
set_option maxRecDepth 100000 in
set_option maxHeartbeats 4000000 in
theorem ll_isPos {a n : Nat} {mc : Int} {f l : Value} (ha : h a = some (.inr (17, [vz mc, vz (n : Nat), f, l]))) (hn : n < 1000000) : Kc g mJ3_isPositionIndex 0 (0) (0) [.ref a, vz 0] h (sR (some (vz 1)) h) := by
  refine Kc.of (ls := [some (.ref a), some (vz 0)]) (by decide +kernel) (Nat.le_of_ble_eq_true rfl) rfl ?_
  refine ev_iload_n dJ3_isPositionIndex_0 rfl ?_
  refine ev_if_ltZ (tgt := 16) dJ3_isPositionIndex_1 (by decide) (by omega) (fun c1 => by omega) (fun c1 => ?_)
  refine ev_iload_n dJ3_isPositionIndex_4 rfl ?_
  refine ev_aload_n dJ3_isPositionIndex_5 rfl ?_
  refine ev_getf dJ3_isPositionIndex_6 gf_J3_7_J3 ha rfl ?_
  refine ev_icmp_gtZ (tgt := 16) dJ3_isPositionIndex_9 (by decide) (by omega) (by omega) (fun c9 => by omega) (fun c9 => ?_)
  refine ev_iconstZ dJ3_isPositionIndex_12 ?_
  refine ev_goto (tgt := 17) dJ3_isPositionIndex_13 (by decide) ?_
  refine ev_zreturn dJ3_isPositionIndex_17 rfl rfl ?_
  exact ⟨rfl, rfl⟩
set_option maxRecDepth 100000 in
set_option maxHeartbeats 4000000 in
theorem ll_checkPos {a n : Nat} {mc : Int} {f l : Value} (ha : h a = some (.inr (17, [vz mc, vz (n : Nat), f, l]))) (hn : n < 1000000) : Kc g mJ3_checkPositionIndex 1 (0) (0) [.ref a, vz 0] h (sR none h) := by
  refine Kc.of (ls := [some (.ref a), some (vz 0)]) (by decide +kernel) (Nat.le_of_ble_eq_true rfl) rfl ?_
  refine ev_aload_n dJ3_checkPositionIndex_0 rfl ?_
  refine ev_iload_n dJ3_checkPositionIndex_1 rfl ?_
  refine ev_callVE dJ3_checkPositionIndex_2 cv_J3_128_J3 ce_J3_isPositionIndex ha rfl rfl rfl (ll_isPos ha hn) (by omega) (Nat.le_of_ble_eq_true rfl) ?_
  refine ev_if_neZ (tgt := 21) dJ3_checkPositionIndex_5 (by decide) (by omega) (fun c5 => ?_) (fun c5 => by omega)
  refine ev_return dJ3_checkPositionIndex_21 rfl ?_
  exact ⟨rfl, rfl⟩
set_option maxRecDepth 100000 in
set_option maxHeartbeats 4000000 in
theorem ll_li0 {a : Nat} {mc : Int} {L : List (Nat × Nat)} (H : LLh g h a mc L) (hn : L.length < 1000000) : Kc g mJ3_listIterator 2 (1) (5) [.ref a, vz 0] h (rR (fun r h' => ∃ q : Nat, r = some (.ref q) ∧ h q = none ∧ gB g ≤ q ∧ h' q = some (.inr (34, [.null, va_rf ((L[0]?).map Prod.fst), vz ((0 : Nat) : Int), vz mc, .ref a])) ∧ Fr g h h' [])) := by
  refine Kc.of (ls := [some (.ref a), some (vz 0)]) (by decide +kernel) (Nat.le_of_ble_eq_true rfl) rfl ?_
  obtain ⟨f, ef⟩ : ∃ f, f = va_rf (L.head?.map Prod.fst) := ⟨_, rfl⟩
  obtain ⟨l, el⟩ : ∃ l, l = va_rf (L.getLast?.map Prod.fst) := ⟨_, rfl⟩
  have ha : h a = some (.inr (17, [vz mc, vz (L.length : Nat), f, l])) := by rw [ef, el]; exact H.1
  refine ev_aload_n dJ3_listIterator_0 rfl ?_
  refine ev_iload_n dJ3_listIterator_1 rfl ?_
  refine ev_callVN dJ3_listIterator_2 cv_J3_76_J3 ce_J3_checkPositionIndex ha rfl rfl rfl (ll_checkPos ha hn) (by omega) (Nat.le_of_ble_eq_true rfl) ?_
  refine ev_newC (c' := 0) (k' := 0) [.null, .null, vz 0, vz 0, .null] dJ3_listIterator_5 cf_J34 q735 q736 q176 rfl (by omega) (by omega) (fun q1 hp_2 e3 B4 Hq1_5 f6 => ?_)
  have ha_7 := (f6 _ (ne_no ha e3)).trans ha
  have z8 := ((Fr.refl (g := g) _ [])).fresh e3
  have F9 := ((Fr.refl (g := g) _ [])).alloc (Or.inl ⟨_, Hq1_5⟩) f6 e3
  refine ev_dup dJ3_listIterator_8 rfl ?_
  refine ev_aload_n dJ3_listIterator_9 rfl ?_
  refine ev_iload_n dJ3_listIterator_10 rfl ?_
  refine ev_callVR dJ3_listIterator_11 ci_J3_152 ce_J34_init Hq1_5 rfl rfl rfl (li_init (H.fr F9 (fun x hx => by cases hx)) Hq1_5 B4 hn) (by omega) (by omega) (by omega) (Nat.le_of_ble_eq_true rfl) (fun v10 hp_10 P10 => ?_)
  obtain ⟨rfl, H1, fr1⟩ := P10
  have ha_11 := fr1.keep ha_7 (by simp only [List.mem_cons, List.not_mem_nil, or_false, not_or]; exact (ne_no ha e3))
  have F12 := (F9).call fr1 (by intro x hx; rw [List.mem_singleton.mp hx]; exact Or.inr (Or.inl z8))
  refine ev_areturn dJ3_listIterator_14 rfl (Or.inl ⟨_, rfl⟩) (Or.inr ⟨_, rfl⟩) ?_
  exact ⟨_, rfl, _, rfl, z8, B4, H1, F12⟩
set_option maxRecDepth 100000 in
set_option maxHeartbeats 4000000 in
theorem ll_li {a : Nat} {mc : Int} {L : List (Nat × Nat)} (H : LLh g h a mc L) (hn : L.length < 1000000) : Kc g mJ1_listIterator 3 (1) (5) [.ref a] h (rR (fun r h' => ∃ q : Nat, r = some (.ref q) ∧ h q = none ∧ gB g ≤ q ∧ h' q = some (.inr (34, [.null, va_rf ((L[0]?).map Prod.fst), vz ((0 : Nat) : Int), vz mc, .ref a])) ∧ Fr g h h' [])) := by
  refine Kc.of (ls := [some (.ref a)]) (by decide +kernel) (Nat.le_of_ble_eq_true rfl) rfl ?_
  obtain ⟨f, ef⟩ : ∃ f, f = va_rf (L.head?.map Prod.fst) := ⟨_, rfl⟩
  obtain ⟨l, el⟩ : ∃ l, l = va_rf (L.getLast?.map Prod.fst) := ⟨_, rfl⟩
  have ha : h a = some (.inr (17, [vz mc, vz (L.length : Nat), f, l])) := by rw [ef, el]; exact H.1
  refine ev_aload_n dJ1_listIterator_0 rfl ?_
  refine ev_iconstZ dJ1_listIterator_1 ?_
  refine ev_callVR dJ1_listIterator_2 cv_J1_47_J3 ce_J3_listIterator ha rfl rfl rfl (ll_li0 H hn) (by omega) (by omega) (by omega) (Nat.le_of_ble_eq_true rfl) (fun v1 hp_1 P1 => ?_)
  obtain ⟨q, rfl, e1, B1, H1, fr1⟩ := P1
  have ha_2 := fr1.keep ha (fun q => by cases q)
  have F3 := ((Fr.refl (g := g) _ [])).call fr1 nil_in
  refine ev_areturn dJ1_listIterator_5 rfl (Or.inl ⟨_, rfl⟩) (Or.inr ⟨_, rfl⟩) ?_
  exact ⟨_, rfl, _, rfl, e1, B1, H1, F3⟩
set_option maxRecDepth 100000 in
set_option maxHeartbeats 4000000 in
theorem ll_iter {a : Nat} {mc : Int} {L : List (Nat × Nat)} (H : LLh g h a mc L) (hn : L.length < 1000000) : Kc g mJ2_iterator 4 (1) (5) [.ref a] h (rR (fun r h' => ∃ q : Nat, r = some (.ref q) ∧ h q = none ∧ gB g ≤ q ∧ h' q = some (.inr (34, [.null, va_rf ((L[0]?).map Prod.fst), vz ((0 : Nat) : Int), vz mc, .ref a])) ∧ Fr g h h' [])) := by
  refine Kc.of (ls := [some (.ref a)]) (by decide +kernel) (Nat.le_of_ble_eq_true rfl) rfl ?_
  obtain ⟨f, ef⟩ : ∃ f, f = va_rf (L.head?.map Prod.fst) := ⟨_, rfl⟩
  obtain ⟨l, el⟩ : ∃ l, l = va_rf (L.getLast?.map Prod.fst) := ⟨_, rfl⟩
  have ha : h a = some (.inr (17, [vz mc, vz (L.length : Nat), f, l])) := by rw [ef, el]; exact H.1
  refine ev_aload_n dJ2_iterator_0 rfl ?_
  refine ev_callVR dJ2_iterator_1 cv_J2_65_J3 ce_J1_listIterator ha rfl rfl rfl (ll_li H hn) (by omega) (by omega) (by omega) (Nat.le_of_ble_eq_true rfl) (fun v1 hp_1 P1 => ?_)
  obtain ⟨q, rfl, e1, B1, H1, fr1⟩ := P1
  have ha_2 := fr1.keep ha (fun q => by cases q)
  have F3 := ((Fr.refl (g := g) _ [])).call fr1 nil_in
  refine ev_areturn dJ2_iterator_4 rfl (Or.inl ⟨_, rfl⟩) (Or.inr ⟨_, rfl⟩) ?_
  exact ⟨_, rfl, _, rfl, e1, B1, H1, F3⟩
end J5S

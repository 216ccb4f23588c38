/-! THE COMPONENT: toString, substring, equals, indexOf (printed by gen) -/
section K1S
variable {g : GB} {M : MI} {d c k : Nat} {h : HM}
set_option maxRecDepth 100000 in
set_option maxHeartbeats 4000000 in
theorem st_init2 {a v cap : Nat} {t : List Nat} (hG : GKx g) (H : SBh g h a v cap t) {q : Nat} {x0 x1 x2 : Value} (hq : h q = some (.inr (20, [x0, vz 0, x1, x2]))) (hqB : gB g ≤ q) : Kc g mJ7_init_2 4 (1) (t.length - 0) [.ref q, .ref a, .null] h (rR (fun r h' => r = none ∧ ∃ w : Nat, h w = none ∧ gB g ≤ w ∧ STh h' q w t ∧ Fr g h h' [q])) := by
  refine Kc.of (ls := [some (.ref q), some (.ref a), some (.null), none, none]) (by decide +kernel) (Nat.le_of_ble_eq_true rfl) rfl ?_
  obtain ⟨A, ha, hB, hv, hBv, hb, hcp⟩ := id H
  refine ev_aload_n dJ7_init_2_0 rfl ?_
  refine ev_objInit dJ7_init_2_1 q590 q183 q184 (by omega) rfl ?_
  refine ev_aload_n dJ7_init_2_4 rfl ?_
  refine ev_callVE dJ7_init_2_5 cv_J7_552_J6 ce_J5_getValue ha rfl rfl rfl (sb_getValue (H.fr (Fr.refl (g := g) _ [q]) (fun c => ne_of ha hq (by simp) (List.mem_singleton.mp c)) (fun c => ne_of hv hq (by simp) (List.mem_singleton.mp c)))) (by omega) (Nat.le_of_ble_eq_true rfl) ?_
  refine ev_astore_n dJ7_init_2_8 (by decide) rfl ?_
  dsimp only [List.set]
  refine ev_aload_n dJ7_init_2_9 rfl ?_
  refine ev_callVE dJ7_init_2_10 cv_J7_549_J6 ce_J6_length ha rfl rfl rfl (sb_length (H.fr (Fr.refl (g := g) _ [q]) (fun c => ne_of ha hq (by simp) (List.mem_singleton.mp c)) (fun c => ne_of hv hq (by simp) (List.mem_singleton.mp c)))) (by omega) (Nat.le_of_ble_eq_true rfl) ?_
  refine ev_istore dJ7_init_2_13 (by decide) rfl ?_
  dsimp only [List.set]
  refine ev_aload_n dJ7_init_2_15 rfl ?_
  refine ev_callVE dJ7_init_2_16 cv_J7_1047_J6 ce_J5_isLatin1 ha rfl rfl rfl (sb_isLatin1 (H.fr (Fr.refl (g := g) _ [q]) (fun c => ne_of ha hq (by simp) (List.mem_singleton.mp c)) (fun c => ne_of hv hq (by simp) (List.mem_singleton.mp c))) hG) (by omega) (Nat.le_of_ble_eq_true rfl) ?_
  refine ev_if_eqZ (tgt := 41) dJ7_init_2_19 (by decide) (by omega) (fun c19 => by omega) (fun c19 => ?_)
  refine ev_aload_n dJ7_init_2_22 rfl ?_
  refine ev_iconstZ dJ7_init_2_23 ?_
  refine ev_putC [x0, vz 0, x1, x2] dJ7_init_2_24 gf_J7_15_J7 hq hqB (Or.inr ⟨rfl, rfl⟩) rfl rfl (Nat.le_of_ble_eq_true rfl) rfl (fun hp_1 hq_2 f3 => ?_)
  have ha_4 := (f3 _ (ne_of ha hq (by simp))).trans ha
  have hv_5 := (f3 _ (ne_of hv hq (by simp))).trans hv
  have F6 := ((Fr.refl (g := g) _ [q])).write (Or.inl ⟨_, hq_2⟩) f3 hqB (by simp)
  have FW0 := F6
  refine ev_aload_n dJ7_init_2_27 rfl ?_
  refine ev_aload_n dJ7_init_2_28 rfl ?_
  refine ev_iconstZ dJ7_init_2_29 ?_
  refine ev_iload dJ7_init_2_30 rfl ?_
  refine ev_callSR dJ7_init_2_32 cs_J7_54 ce_J18_copyOfRange rfl rfl (k_cor (b := 0) (e := t.length) hG hv_5 hb.1 (by have := hb.2.2; omega) hBv) (by omega) (by omega) (by omega) (Nat.le_of_ble_eq_true rfl) (fun v7 hp_7 P7 => ?_)
  obtain ⟨w, A2, rfl, ew, Bw, Hw, hA2, frw⟩ := P7
  have ha_8 := frw.keep ha_4 (fun q => by cases q)
  have hv_9 := frw.keep hv_5 (fun q => by cases q)
  have hq_10 := frw.keep hq_2 (fun q => by cases q)
  have F11 := (F6).call frw nil_in
  refine ev_putC [.ref w, vz 0, x1, x2] dJ7_init_2_35 gf_J7_9_J7 hq_10 hqB (Or.inr ⟨rfl, rfl⟩) rfl rfl (Nat.le_of_ble_eq_true rfl) rfl (fun hp_12 hq_13 f14 => ?_)
  have ha_15 := (f14 _ (ne_of ha_8 hq_10 (by simp))).trans ha_8
  have hv_16 := (f14 _ (ne_of hv_9 hq_10 (by simp))).trans hv_9
  have Hw_17 := (f14 _ (ne_of Hw hq_10 (by simp))).trans Hw
  have F18 := (F11).write (Or.inl ⟨_, hq_13⟩) f14 hqB (by simp)
  refine ev_goto (tgt := 97) dJ7_init_2_38 (by decide) ?_
  refine ev_return dJ7_init_2_97 rfl ?_
  have hn9 : t.length < 1000000 := by have := hb.2.2; omega
  have hbt := bt_sub hb (b := 0) (e := t.length) (by have := hb.2.2; omega) hA2
  rw [List.drop_zero, List.take_length] at hbt
  have hw1 := Hw_17
  rw [Nat.sub_zero] at hw1
  exact ⟨_, rfl, rfl, w, (FW0.fresh ew), Bw, ⟨A2, x1, x2, hq_13, hw1, hbt, hn9⟩, F18⟩
set_option maxRecDepth 100000 in
set_option maxHeartbeats 4000000 in
theorem st_init1 {a v cap : Nat} {t : List Nat} (hG : GKx g) (H : SBh g h a v cap t) {q : Nat} {x0 x1 x2 : Value} (hq : h q = some (.inr (20, [x0, vz 0, x1, x2]))) (hqB : gB g ≤ q) : Kc g mJ7_init 5 (1) (t.length - 0) [.ref q, .ref a] h (rR (fun r h' => r = none ∧ ∃ w : Nat, h w = none ∧ gB g ≤ w ∧ STh h' q w t ∧ Fr g h h' [q])) := by
  refine Kc.of (ls := [some (.ref q), some (.ref a)]) (by decide +kernel) (Nat.le_of_ble_eq_true rfl) rfl ?_
  obtain ⟨A, ha, hB, hv, hBv, hb, hcp⟩ := id H
  refine ev_aload_n dJ7_init_0 rfl ?_
  refine ev_aload_n dJ7_init_1 rfl ?_
  refine ev_null dJ7_init_2 ?_
  refine ev_callVR dJ7_init_3 ci_J7_489 ce_J7_init_2 hq rfl rfl rfl (st_init2 hG H hq hqB) (by omega) (by omega) (by omega) (Nat.le_of_ble_eq_true rfl) (fun v1 hp_1 P1 => ?_)
  obtain ⟨rfl, w, ew, Bw, Hw, frw⟩ := P1
  have F2 := ((Fr.refl (g := g) _ [q])).call frw (fun x hx => Or.inl hx)
  refine ev_return dJ7_init_6 rfl ?_
  exact ⟨_, rfl, rfl, w, ew, Bw, Hw, F2⟩
set_option maxRecDepth 100000 in
set_option maxHeartbeats 4000000 in
theorem sb_toString {a v cap : Nat} {t : List Nat} (hG : GKx g) (H : SBh g h a v cap t) : Kc g mJ6_toString 6 (2) (t.length + 4) [.ref a] h (rR (fun r h' => ∃ q w : Nat, r = some (.ref q) ∧ h q = none ∧ h w = none ∧ gB g ≤ q ∧ gB g ≤ w ∧ STh h' q w (t) ∧ Fr g h h' [])) := by
  refine Kc.of (ls := [some (.ref a)]) (by decide +kernel) (Nat.le_of_ble_eq_true rfl) rfl ?_
  obtain ⟨A, ha, hB, hv, hBv, hb, hcp⟩ := id H
  refine ev_newC (c' := 1) (k' := t.length - 0) [.null, vz 0, vz 0, vz 0] dJ6_toString_0 cf_J7 q582 q583 q127 rfl (by omega) (by omega) (fun q1 hp_2 e3 B4 Hq1_5 f6 => ?_)
  have ha_7 := (f6 _ (ne_no ha e3)).trans ha
  have hv_8 := (f6 _ (ne_no hv e3)).trans hv
  have z9 := ((Fr.refl (g := g) _ [])).fresh e3
  have F10 := ((Fr.refl (g := g) _ [])).alloc (Or.inl ⟨_, Hq1_5⟩) f6 e3
  have FA := F10
  have eq1 := z9
  have Bq1 := B4
  refine ev_dup dJ6_toString_3 rfl ?_
  refine ev_aload_n dJ6_toString_4 rfl ?_
  refine ev_callVR dJ6_toString_5 ci_J6_137 ce_J7_init Hq1_5 rfl rfl rfl (st_init1 hG (H.fr F10 (fun c => by cases c) (fun c => by cases c)) Hq1_5 B4) (by omega) (by omega) (by omega) (Nat.le_of_ble_eq_true rfl) (fun v11 hp_11 P11 => ?_)
  obtain ⟨rfl, w, ew, Bw, Hw, frw⟩ := P11
  have F12 := (F10).call frw (by intro x hx; rw [List.mem_singleton.mp hx]; exact Or.inr (Or.inl z9))
  refine ev_areturn dJ6_toString_8 rfl (Or.inl ⟨_, rfl⟩) (Or.inr ⟨_, rfl⟩) ?_
  exact ⟨_, rfl, q1, w, rfl, eq1, FA.fresh ew, Bq1, Bw, Hw, F12⟩
set_option maxRecDepth 100000 in
set_option maxHeartbeats 4000000 in
theorem st_init3 {q w : Nat} {x0 x1 x2 : Value} (hq : h q = some (.inr (20, [x0, vz 0, x1, x2]))) (hqB : gB g ≤ q) : Kc g mJ7_init_3 1 (0) (0) [.ref q, .ref w, vz 0] h (rR (fun r h' => r = none ∧ h' q = some (.inr (20, [.ref w, vz 0, x1, x2])) ∧ Fr g h h' [q])) := by
  refine Kc.of (ls := [some (.ref q), some (.ref w), some (vz 0)]) (by decide +kernel) (Nat.le_of_ble_eq_true rfl) rfl ?_
  refine ev_aload_n dJ7_init_3_0 rfl ?_
  refine ev_objInit dJ7_init_3_1 q590 q183 q184 (by omega) rfl ?_
  refine ev_aload_n dJ7_init_3_4 rfl ?_
  refine ev_aload_n dJ7_init_3_5 rfl ?_
  refine ev_putC [.ref w, vz 0, x1, x2] dJ7_init_3_6 gf_J7_9_J7 hq hqB (Or.inr ⟨rfl, rfl⟩) rfl rfl (Nat.le_of_ble_eq_true rfl) rfl (fun hp_1 hq_2 f3 => ?_)
  have F4 := ((Fr.refl (g := g) _ [q])).write (Or.inl ⟨_, hq_2⟩) f3 hqB (by simp)
  refine ev_aload_n dJ7_init_3_9 rfl ?_
  refine ev_iload_n dJ7_init_3_10 rfl ?_
  refine ev_putC [.ref w, vz 0, x1, x2] dJ7_init_3_11 gf_J7_15_J7 hq_2 hqB (Or.inr ⟨rfl, rfl⟩) rfl rfl (Nat.le_of_ble_eq_true rfl) rfl (fun hp_5 hq_6 f7 => ?_)
  have F8 := (F4).write (Or.inl ⟨_, hq_6⟩) f7 hqB (by simp)
  refine ev_return dJ7_init_3_14 rfl ?_
  exact ⟨_, rfl, rfl, hq_6, F8⟩
set_option maxRecDepth 100000 in
set_option maxHeartbeats 4000000 in
theorem k_newString {v cap b e : Nat} {t : List Nat} {A : Nat → Int} (hG : GKx g) (hv : h v = some (.inl (2, (cap, .inl (fun j => zI (A j)))))) (hb : btA A cap t) (hn : b < e ∧ e ≤ t.length ∧ cap < 1000000) (hBv : gB g ≤ v) : Kc g mJ23_newString 4 (2) (e - b + 4) [.ref v, vz (b : Nat), vz ((e - b : Nat) : Int)] h (rR (fun r h' => ∃ q w : Nat, r = some (.ref q) ∧ h q = none ∧ h w = none ∧ gB g ≤ q ∧ gB g ≤ w ∧ STh h' q w ((t.take e).drop b) ∧ Fr g h h' [])) := by
  refine Kc.of (ls := [some (.ref v), some (vz (b : Nat)), some (vz ((e - b : Nat) : Int))]) (by decide +kernel) (Nat.le_of_ble_eq_true rfl) rfl ?_
  have hcl := hb.2.2
  refine ev_iload_n dJ23_newString_0 rfl ?_
  refine ev_if_neZ (tgt := 7) dJ23_newString_1 (by decide) (by omega) (fun c1 => ?_) (fun c1 => by omega)
  refine ev_newC (c' := 1) (k' := e - b) [.null, vz 0, vz 0, vz 0] dJ23_newString_7 cf_J7 q1851 q583 q127 rfl (by omega) (by omega) (fun q1 hp_2 e3 B4 Hq1_5 f6 => ?_)
  have hv_7 := (f6 _ (ne_no hv e3)).trans hv
  have z8 := ((Fr.refl (g := g) _ [])).fresh e3
  have F9 := ((Fr.refl (g := g) _ [])).alloc (Or.inl ⟨_, Hq1_5⟩) f6 e3
  have FA := F9
  have eq1 := z8
  have Bq1 := B4
  refine ev_dup dJ23_newString_10 rfl ?_
  refine ev_aload_n dJ23_newString_11 rfl ?_
  refine ev_iload_n dJ23_newString_12 rfl ?_
  refine ev_iload_n dJ23_newString_13 rfl ?_
  refine ev_iload_n dJ23_newString_14 rfl ?_
  refine ev_iaddZ dJ23_newString_15 ?_
  refine ev_to (b := ((e : Nat) : Int)) (by omega) ?_
  refine ev_callSR dJ23_newString_16 cs_J23_232 ce_J18_copyOfRange rfl rfl (k_cor (b := b) (e := e) hG hv_7 hb.1 (by have := hb.2.2; omega) hBv) (by omega) (by omega) (by omega) (Nat.le_of_ble_eq_true rfl) (fun v10 hp_10 P10 => ?_)
  obtain ⟨w, A2, rfl, ew, Bw, Hw, hA2, frw⟩ := P10
  have hv_11 := frw.keep hv_7 (fun q => by cases q)
  have Hq1_12 := frw.keep Hq1_5 (fun q => by cases q)
  have F13 := (F9).call frw nil_in
  refine ev_iconstZ dJ23_newString_19 ?_
  refine ev_callVR dJ23_newString_20 ci_J23_112 ce_J7_init_3 Hq1_12 rfl rfl rfl (st_init3 Hq1_12 Bq1) (by omega) (by omega) (by omega) (Nat.le_of_ble_eq_true rfl) (fun v14 hp_14 P14 => ?_)
  obtain ⟨rfl, Hq9, frq⟩ := P14
  have hv_15 := frq.keep hv_11 (by simp only [List.mem_cons, List.not_mem_nil, or_false, not_or]; exact (ne_no hv e3))
  have Hw_16 := frq.keep Hw (by simp only [List.mem_cons, List.not_mem_nil, or_false, not_or]; exact (ne_of Hw Hq1_12 (by simp)))
  have F17 := (F13).call frq (by intro x hx; rw [List.mem_singleton.mp hx]; exact Or.inr (Or.inl eq1))
  refine ev_areturn dJ23_newString_23 rfl (Or.inl ⟨_, rfl⟩) (Or.inr ⟨_, rfl⟩) ?_
  have hbt := bt_sub hb (b := b) (e := e) (by omega) hA2
  have hl : ((t.take e).drop b).length = e - b := by rw [List.length_drop, List.length_take]; omega
  have hw1 := Hw_16
  rw [← hl] at hw1
  exact ⟨_, rfl, q1, w, rfl, eq1, FA.fresh ew, Bq1, Bw, ⟨A2, _, _, Hq9, hw1, hbt, by have := hb.2.2; omega⟩, F17⟩
set_option maxRecDepth 100000 in
set_option maxHeartbeats 4000000 in
theorem sb_sub5 {a v cap : Nat} {t : List Nat} (hG : GKx g) (H : SBh g h a v cap t) {b e : Nat} (hn : b < e ∧ e ≤ t.length) : Kc g mJ5_substring 5 (2) (e - b + 4) [.ref a, vz (b : Nat), vz (e : Nat)] h (rR (fun r h' => ∃ q w : Nat, r = some (.ref q) ∧ h q = none ∧ h w = none ∧ gB g ≤ q ∧ gB g ≤ w ∧ STh h' q w ((t.take e).drop b) ∧ Fr g h h' [])) := by
  refine Kc.of (ls := [some (.ref a), some (vz (b : Nat)), some (vz (e : Nat))]) (by decide +kernel) (Nat.le_of_ble_eq_true rfl) rfl ?_
  obtain ⟨A, ha, hB, hv, hBv, hb, hcp⟩ := id H
  have hcl := hb.2.2
  refine ev_iload_n dJ5_substring_0 rfl ?_
  refine ev_iload_n dJ5_substring_1 rfl ?_
  refine ev_aload_n dJ5_substring_2 rfl ?_
  refine ev_getf dJ5_substring_3 gf_J5_79_J6 ha rfl ?_
  refine ev_getsF hG dJ5_substring_6 q1881 (fun qf1 => ?_)
  refine ev_callSE dJ5_substring_9 cs_J5_161 ce_J22_checkFromToIndex rfl rfl (k_pFTq (by omega) (by omega)) (by omega) (Nat.le_of_ble_eq_true rfl) ?_
  refine ev_pop dJ5_substring_12 rfl ?_
  refine ev_aload_n dJ5_substring_13 rfl ?_
  refine ev_callVE dJ5_substring_14 cv_J5_83_J6 ce_J5_isLatin1 ha rfl rfl rfl (sb_isLatin1 H hG) (by omega) (Nat.le_of_ble_eq_true rfl) ?_
  refine ev_if_eqZ (tgt := 32) dJ5_substring_17 (by decide) (by omega) (fun c17 => by omega) (fun c17 => ?_)
  refine ev_aload_n dJ5_substring_20 rfl ?_
  refine ev_getf dJ5_substring_21 gf_J5_15_J6 ha rfl ?_
  refine ev_iload_n dJ5_substring_24 rfl ?_
  refine ev_iload_n dJ5_substring_25 rfl ?_
  refine ev_iload_n dJ5_substring_26 rfl ?_
  refine ev_isubZ dJ5_substring_27 ?_
  refine ev_to (b := ((e - b : Nat) : Int)) (by omega) ?_
  refine ev_callSR dJ5_substring_28 cs_J5_304 ce_J23_newString rfl rfl (k_newString (b := b) (e := e) hG hv hb (by omega) hBv) (by omega) (by omega) (by omega) (Nat.le_of_ble_eq_true rfl) (fun v2 hp_2 P2 => ?_)
  obtain ⟨q, w, rfl, eq1, ew1, Bq1, Bw1, Hs, frs⟩ := P2
  have hv_3 := frs.keep hv (fun q => by cases q)
  have F4 := ((Fr.refl (g := g) _ [])).call frs nil_in
  refine ev_areturn dJ5_substring_31 rfl (Or.inl ⟨_, rfl⟩) (Or.inr ⟨_, rfl⟩) ?_
  exact ⟨_, rfl, q, w, rfl, eq1, ew1, Bq1, Bw1, Hs, F4⟩
set_option maxRecDepth 100000 in
set_option maxHeartbeats 4000000 in
theorem sb_substring {a v cap : Nat} {t : List Nat} (hG : GKx g) (H : SBh g h a v cap t) {b e : Nat} (hn : b < e ∧ e ≤ t.length) : Kc g mJ6_substring 6 (2) (e - b + 4) [.ref a, vz (b : Nat), vz (e : Nat)] h (rR (fun r h' => ∃ q w : Nat, r = some (.ref q) ∧ h q = none ∧ h w = none ∧ gB g ≤ q ∧ gB g ≤ w ∧ STh h' q w ((t.take e).drop b) ∧ Fr g h h' [])) := by
  refine Kc.of (ls := [some (.ref a), some (vz (b : Nat)), some (vz (e : Nat))]) (by decide +kernel) (Nat.le_of_ble_eq_true rfl) rfl ?_
  obtain ⟨A, ha, hB, hv, hBv, hb, hcp⟩ := id H
  refine ev_aload_n dJ6_substring_0 rfl ?_
  refine ev_iload_n dJ6_substring_1 rfl ?_
  refine ev_iload_n dJ6_substring_2 rfl ?_
  refine ev_callVR dJ6_substring_3 cu_J6_252 ce_J5_substring ha rfl rfl rfl (sb_sub5 hG H hn) (by omega) (by omega) (by omega) (Nat.le_of_ble_eq_true rfl) (fun v1 hp_1 P1 => ?_)
  obtain ⟨q, w, rfl, eq1, ew1, Bq1, Bw1, Hs, frs⟩ := P1
  have F2 := ((Fr.refl (g := g) _ [])).call frs nil_in
  refine ev_areturn dJ6_substring_6 rfl (Or.inl ⟨_, rfl⟩) (Or.inr ⟨_, rfl⟩) ?_
  exact ⟨_, rfl, q, w, rfl, eq1, ew1, Bq1, Bw1, Hs, F2⟩
set_option maxRecDepth 100000 in
set_option maxHeartbeats 4000000 in
theorem sb_subSeq5 {a v cap : Nat} {t : List Nat} (hG : GKx g) (H : SBh g h a v cap t) {b e : Nat} (hn : b < e ∧ e ≤ t.length) : Kc g mJ5_subSequence 7 (2) (e - b + 4) [.ref a, vz (b : Nat), vz (e : Nat)] h (rR (fun r h' => ∃ q w : Nat, r = some (.ref q) ∧ h q = none ∧ h w = none ∧ gB g ≤ q ∧ gB g ≤ w ∧ STh h' q w ((t.take e).drop b) ∧ Fr g h h' [])) := by
  refine Kc.of (ls := [some (.ref a), some (vz (b : Nat)), some (vz (e : Nat))]) (by decide +kernel) (Nat.le_of_ble_eq_true rfl) rfl ?_
  obtain ⟨A, ha, hB, hv, hBv, hb, hcp⟩ := id H
  refine ev_aload_n dJ5_subSequence_0 rfl ?_
  refine ev_iload_n dJ5_subSequence_1 rfl ?_
  refine ev_iload_n dJ5_subSequence_2 rfl ?_
  refine ev_callVR dJ5_subSequence_3 cv_J5_300_J6 ce_J6_substring ha rfl rfl rfl (sb_substring hG H hn) (by omega) (by omega) (by omega) (Nat.le_of_ble_eq_true rfl) (fun v1 hp_1 P1 => ?_)
  obtain ⟨q, w, rfl, eq1, ew1, Bq1, Bw1, Hs, frs⟩ := P1
  have F2 := ((Fr.refl (g := g) _ [])).call frs nil_in
  refine ev_areturn dJ5_subSequence_6 rfl (Or.inl ⟨_, rfl⟩) (Or.inr ⟨_, rfl⟩) ?_
  exact ⟨_, rfl, q, w, rfl, eq1, ew1, Bq1, Bw1, Hs, F2⟩
set_option maxRecDepth 100000 in
set_option maxHeartbeats 4000000 in
theorem sb_subSeq {a v cap : Nat} {t : List Nat} (hG : GKx g) (H : SBh g h a v cap t) {b e : Nat} (hn : b < e ∧ e ≤ t.length) : Kc g mJ6_subSequence 8 (2) (e - b + 4) [.ref a, vz (b : Nat), vz (e : Nat)] h (rR (fun r h' => ∃ q w : Nat, r = some (.ref q) ∧ h q = none ∧ h w = none ∧ gB g ≤ q ∧ gB g ≤ w ∧ STh h' q w ((t.take e).drop b) ∧ Fr g h h' [])) := by
  refine Kc.of (ls := [some (.ref a), some (vz (b : Nat)), some (vz (e : Nat))]) (by decide +kernel) (Nat.le_of_ble_eq_true rfl) rfl ?_
  obtain ⟨A, ha, hB, hv, hBv, hb, hcp⟩ := id H
  refine ev_aload_n dJ6_subSequence_0 rfl ?_
  refine ev_iload_n dJ6_subSequence_1 rfl ?_
  refine ev_iload_n dJ6_subSequence_2 rfl ?_
  refine ev_callVR dJ6_subSequence_3 cu_J6_256 ce_J5_subSequence ha rfl rfl rfl (sb_subSeq5 hG H hn) (by omega) (by omega) (by omega) (Nat.le_of_ble_eq_true rfl) (fun v1 hp_1 P1 => ?_)
  obtain ⟨q, w, rfl, eq1, ew1, Bq1, Bw1, Hs, frs⟩ := P1
  have F2 := ((Fr.refl (g := g) _ [])).call frs nil_in
  refine ev_areturn dJ6_subSequence_6 rfl (Or.inl ⟨_, rfl⟩) (Or.inr ⟨_, rfl⟩) ?_
  exact ⟨_, rfl, q, w, rfl, eq1, ew1, Bq1, Bw1, Hs, F2⟩
theorem bt_at {A : Nat → Int} {n i : Nat} {t : List Nat} (hb : btA A n t) (hi : i < t.length) : A i = (((t[i]?).getD 0 : Nat) : Int) := by
  rw [hb.2.1 i _ (List.getElem?_eq_getElem hi), List.getElem?_eq_getElem hi]; rfl
theorem bt_ext {A1 A2 : Nat → Int} {t1 t2 : List Nat} (h1 : btA A1 t1.length t1) (h2 : btA A2 t2.length t2) (hl : t1.length = t2.length) (h : ∀ j : Nat, j < t1.length → A1 j = A2 j) : t1 = t2 := by
  apply List.ext_getElem hl
  intro i a b
  have e1 := h1.2.1 i _ (List.getElem?_eq_getElem a)
  have e2 := h2.2.1 i _ (List.getElem?_eq_getElem b)
  have := h i a
  omega
set_option maxRecDepth 100000 in
set_option maxHeartbeats 4000000 in
theorem k_l1eq {v w : Nat} {t1 t2 : List Nat} {A1 A2 : Nat → Int} (hv1 : h v = some (.inl (2, (t1.length, .inl (fun j => zI (A1 j)))))) (hv2 : h w = some (.inl (2, (t2.length, .inl (fun j => zI (A2 j)))))) (hb1 : btA A1 t1.length t1) (hb2 : btA A2 t2.length t2) (hn : t1.length < 1000000 ∧ t2.length < 1000000) : Kc g mJ23_equals 0 (0) (0) [.ref v, .ref w] h (sR (some (vz (if t1 = t2 then 1 else 0))) h) := by
  refine Kc.of (ls := [some (.ref v), some (.ref w), none]) (by decide +kernel) (Nat.le_of_ble_eq_true rfl) rfl ?_
  refine ev_aload_n dJ23_equals_0 rfl ?_
  refine ev_alenZ dJ23_equals_1 hv1 rfl ?_
  refine ev_aload_n dJ23_equals_2 rfl ?_
  refine ev_alenZ dJ23_equals_3 hv2 rfl ?_
  refine ev_icmp_neZ (tgt := 34) dJ23_equals_4 (by decide) (by omega) (by omega) (fun c4 => ?_) (fun c4 => ?_)
  · refine ev_iconstZ dJ23_equals_34 ?_
    refine ev_zreturn dJ23_equals_35 rfl rfl ?_
    refine ⟨congrArg Sum.inl (vz_eq ?_), rfl⟩
    rw [if_neg (fun c => by rw [c] at c4; exact c4 rfl)]
  · have hle : t1.length = t2.length := by omega
    refine ev_iconstZ dJ23_equals_7 ?_
    refine ev_istore_n dJ23_equals_8 (by decide) rfl ?_
    dsimp only [List.set]
    refine ev_for (st := []) t1.length (fun i h1 => h1 = h ∧ ∀ j : Nat, j < i → A1 j = A2 j) (fun i => [some (.ref v), some (.ref w), some (vz (i : Nat))]) 0 (Nat.zero_le _) ⟨rfl, fun j hj => by omega⟩ ⟨rfl, rfl, rfl, trivial⟩ (fun i h1 _ hi ⟨eh, hP⟩ hK => ?_) (fun h1 ⟨eh, hP⟩ => ?_)
    · subst eh
      have q1 := hb1.1 i hi
      have q2 := hb2.1 i (by omega)
      have hw0 : True := trivial
      refine ev_iload_n dJ23_equals_9 rfl ?_
      refine ev_aload_n dJ23_equals_10 rfl ?_
      refine ev_alenZ dJ23_equals_11 hv1 rfl ?_
      refine ev_icmp_geZ (tgt := 32) dJ23_equals_12 (by decide) (by omega) (by omega) (fun c12 => by omega) (fun c12 => ?_)
      refine ev_aload_n dJ23_equals_15 rfl ?_
      refine ev_iload_n dJ23_equals_16 rfl ?_
      refine ev_baldY dJ23_equals_17 hv1 (by omega) ?_
      refine ev_aload_n dJ23_equals_18 rfl ?_
      refine ev_iload_n dJ23_equals_19 rfl ?_
      refine ev_baldY dJ23_equals_20 hv2 (by omega) ?_
      refine ev_icmp_eqZ (tgt := 26) dJ23_equals_21 (by decide) (by simp only [Int.toNat_natCast]; omega) (by simp only [Int.toNat_natCast]; omega) (fun c21 => ?_) (fun c21 => ?_)
      · simp only [Int.toNat_natCast] at c21
        refine ev_iincZ dJ23_equals_26 rfl (by decide) rfl ?_
        dsimp only [List.set]
        refine ev_goto (tgt := 9) dJ23_equals_29 (by decide) ?_
        refine hK _ _ (by repeat' first | exact rfl | exact trivial | exact vz_eq (by omega) | refine And.intro ?_ ?_) ⟨rfl, fun j hj => ?_⟩
        by_cases cj : j = i
        · subst cj; omega
        · exact hP j (by omega)
      · simp only [Int.toNat_natCast] at c21
        refine ev_iconstZ dJ23_equals_24 ?_
        refine ev_zreturn dJ23_equals_25 rfl rfl ?_
        refine ⟨congrArg Sum.inl (vz_eq ?_), rfl⟩
        rw [if_neg (fun c => c21 ((bt_at hb1 hi).trans (by rw [c]; exact (bt_at hb2 (by omega)).symm)))]
    · subst eh
      refine ev_iload_n dJ23_equals_9 rfl ?_
      refine ev_aload_n dJ23_equals_10 rfl ?_
      refine ev_alenZ dJ23_equals_11 hv1 rfl ?_
      refine ev_icmp_geZ (tgt := 32) dJ23_equals_12 (by decide) (by omega) (by omega) (fun c12 => ?_) (fun c12 => by omega)
      refine ev_iconstZ dJ23_equals_32 ?_
      refine ev_zreturn dJ23_equals_33 rfl rfl ?_
      refine ⟨congrArg Sum.inl (vz_eq ?_), rfl⟩
      rw [if_pos (bt_ext hb1 hb2 hle hP)]
end K1S

/-! THE COMPONENT: builders and texts, what they do (printed by gen) -/
section K0S
variable {g : GB} {M : MI} {d c k : Nat} {h : HM}
theorem ne_sb {h : HM} {w v v2 : Nat} {e : MO} (hw : h w = some e) (hwv : w ≠ v) (hvv : v2 = v ∨ h v2 = none) : w ≠ v2 := by
  rcases hvv with c | c
  · rw [c]; exact hwv
  · exact ne_no hw c
theorem sbm {h : HM} {a v v2 : Nat} (hvv : v2 = v ∨ h v2 = none) : ∀ x : Nat, x ∈ [a, v2] → x ∈ [a, v] ∨ h x = none ∨ x < gB g := fun x hx => by
  rcases List.mem_cons.mp hx with r | r
  · exact Or.inl (by rw [r]; exact List.mem_cons_self)
  · rw [List.mem_singleton.mp r]
    rcases hvv with c | c
    · exact Or.inl (by rw [c]; simp)
    · exact Or.inr (Or.inl c)
theorem uz_bt {A : Nat → Int} {cap x : Nat} {t : List Nat} (hb : btA A cap t) (hl : t.length < cap) (hx : x < 128) : btA (uz A ((t.length : Nat) : Int).toNat (x : Int)) cap (t ++ [x]) := by
  rw [Int.toNat_natCast]
  refine ⟨fun j hj => ?_, fun j y hy => ?_, by rw [snoc_len]; omega⟩
  · unfold uz
    by_cases c : j = t.length
    · rw [if_pos c]; omega
    · rw [if_neg c]; exact hb.1 j hj
  · unfold uz
    have hl2 := (List.getElem?_eq_some_iff.mp hy).1
    rw [snoc_len] at hl2
    by_cases c : j = t.length
    · rw [if_pos c]; rw [c, snoc_at] at hy; cases hy; rfl
    · rw [if_neg c]; rw [snoc_lt (by omega)] at hy; exact hb.2.1 j y hy
theorem cp_bt2 {A A2 : Nat → Int} {cap : Nat} {t t2 : List Nat} (hb : btA A cap t) (hb2 : btA A2 t2.length t2) (hl : t.length + t2.length ≤ cap) : btA (cpA A2 A 0 t.length t2.length) cap (t ++ t2) := by
  refine ⟨fun j hj => ?_, fun j y hy => ?_, by rw [List.length_append]; omega⟩
  · unfold cpA
    by_cases c : t.length ≤ j ∧ j < t.length + t2.length
    · rw [if_pos c]; exact hb2.1 _ (by omega)
    · rw [if_neg c]; exact hb.1 j hj
  · have hl2 := (List.getElem?_eq_some_iff.mp hy).1
    rw [List.length_append] at hl2
    unfold cpA
    by_cases c : j < t.length
    · rw [if_neg (by omega)]; rw [List.getElem?_append_left c] at hy; exact hb.2.1 j y hy
    · rw [if_pos (by omega)]; rw [List.getElem?_append_right (by omega)] at hy
      rw [show 0 + (j - t.length) = j - t.length by omega]; exact hb2.2.1 _ y hy
set_option maxRecDepth 100000 in
set_option maxHeartbeats 4000000 in
theorem sb_app3 {a v cap : Nat} {t : List Nat} (hG : GKx g) (H : SBh g h a v cap t) {x : Nat} (hx : x < 128) (hm : t.length + 1 < 400000 ∧ cap < 400000) (hbud : cap < t.length + 1 → 1 ≤ c ∧ ncap cap (t.length + 1) ≤ k) : Kc g mJ5_append_3 4 (c) (k) [.ref a, vz (x : Nat)] h (rR (fun r h' => r = some (.ref a) ∧ ∃ v2 : Nat, SBh g h' a v2 (ncap cap (t.length + 1)) (t ++ [x]) ∧ (v2 = v ∨ h v2 = none) ∧ Fr g h h' [a, v])) := by
  refine Kc.of (ls := [some (.ref a), some (vz (x : Nat))]) (by decide +kernel) (Nat.le_of_ble_eq_true rfl) rfl ?_
  obtain ⟨A, ha, hB, hv, hBv, hb, hcp⟩ := id H
  refine ev_aload_n dJ5_append_3_0 rfl ?_
  refine ev_aload_n dJ5_append_3_1 rfl ?_
  refine ev_getf dJ5_append_3_2 gf_J5_79_J6 ha rfl ?_
  refine ev_iconstZ dJ5_append_3_5 ?_
  refine ev_iaddZ dJ5_append_3_6 ?_
  refine ev_callVR dJ5_append_3_7 cv_J5_100_J6 ce_J5_ensureCapacityInternal ha rfl rfl rfl (sb_ensure (c := c) (k := k) (m := t.length + 1) H (by omega) hbud) (by omega) (by omega) (by omega) (Nat.le_of_ble_eq_true rfl) (fun v1 hp_1 P1 => ?_)
  obtain ⟨rfl, v2, ⟨A3, ha3, -, hv3, hBv3, hb3, hcp3⟩, hvv, frE⟩ := P1
  have hv_2 := frE.keep hv (by simp only [List.mem_cons, List.not_mem_nil, or_false, not_or]; exact (ne_of hv ha (by simp)))
  have F3 := ((Fr.refl (g := g) _ [a, v])).call frE (fun x hx => Or.inl (List.mem_cons.mpr (Or.inl (List.mem_singleton.mp hx))))
  have FE := F3
  have hlc : t.length + 1 ≤ ncap cap (t.length + 1) := by unfold ncap; split <;> omega
  have HE : SBh g hp_1 a v2 (ncap cap (t.length + 1)) t := ⟨A3, ha3, hB, hv3, hBv3, hb3, hcp3⟩
  refine ev_aload_n dJ5_append_3_10 rfl ?_
  refine ev_callVE dJ5_append_3_11 cv_J5_83_J6 ce_J5_isLatin1 ha3 rfl rfl rfl (sb_isLatin1 HE hG) (by omega) (Nat.le_of_ble_eq_true rfl) ?_
  refine ev_if_eqZ (tgt := 45) dJ5_append_3_14 (by decide) (by omega) (fun c14 => by omega) (fun c14 => ?_)
  refine ev_iload_n dJ5_append_3_17 rfl ?_
  refine ev_callSE dJ5_append_3_18 cs_J5_191 ce_J23_canEncode rfl rfl (k_canEnc (by omega)) (by omega) (Nat.le_of_ble_eq_true rfl) ?_
  refine ev_if_eqZ (tgt := 45) dJ5_append_3_21 (by decide) (by omega) (fun c21 => by omega) (fun c21 => ?_)
  refine ev_aload_n dJ5_append_3_24 rfl ?_
  refine ev_getf dJ5_append_3_25 gf_J5_15_J6 ha3 rfl ?_
  refine ev_aload_n dJ5_append_3_28 rfl ?_
  refine ev_dup dJ5_append_3_29 rfl ?_
  refine ev_getf dJ5_append_3_30 gf_J5_79_J6 ha3 rfl ?_
  refine ev_dup_x1 dJ5_append_3_33 rfl rfl ?_
  refine ev_iconstZ dJ5_append_3_34 ?_
  refine ev_iaddZ dJ5_append_3_35 ?_
  refine ev_putC [.ref v2, vz 0, vz 0, vz ((t.length : Nat) + 1)] dJ5_append_3_36 gf_J5_79_J6 ha3 hB (Or.inl rfl) rfl rfl (Nat.le_of_ble_eq_true rfl) rfl (fun hp_4 ha3_5 f6 => ?_)
  have hv3_7 := (f6 _ (ne_of hv3 ha3 (by simp))).trans hv3
  have F8 := ((Fr.refl (g := g) _ [a, v2])).write (Or.inl ⟨_, ha3_5⟩) f6 hB (by simp)
  refine ev_iload_n dJ5_append_3_39 rfl ?_
  refine ev_i2bZ dJ5_append_3_40 (by omega) ?_
  refine ev_bastY dJ5_append_3_41 hv3_7 hBv3 (by omega) (by omega) (fun hp_9 hv3_10 f11 => ?_)
  have ha3_12 := (f11 _ (ne_of ha3_5 hv3_7 (by simp))).trans ha3_5
  have F13 := (F8).write (Or.inr ⟨_, hv3_10, Nat.le_of_ble_eq_true rfl⟩) f11 hBv3 (by simp)
  refine ev_goto (tgt := 75) dJ5_append_3_42 (by decide) ?_
  refine ev_aload_n dJ5_append_3_75 rfl ?_
  refine ev_areturn dJ5_append_3_76 rfl (Or.inl ⟨_, rfl⟩) (Or.inr ⟨_, rfl⟩) ?_
  exact ⟨_, rfl, rfl, v2, ⟨_, by have r := ha3_12; rw [r, snoc_len]; rfl, hB, hv3_10, hBv3, uz_bt hb3 (by omega) hx, hcp3⟩, hvv, FE.call F13 (sbm hvv)⟩
set_option maxRecDepth 100000 in
set_option maxHeartbeats 4000000 in
theorem sb_appc {a v cap : Nat} {t : List Nat} (hG : GKx g) (H : SBh g h a v cap t) {x : Nat} (hx : x < 128) (hm : t.length + 1 < 400000 ∧ cap < 400000) (hbud : cap < t.length + 1 → 1 ≤ c ∧ ncap cap (t.length + 1) ≤ k) : Kc g mJ6_append_3 5 (c) (k) [.ref a, vz (x : Nat)] h (rR (fun r h' => r = some (.ref a) ∧ ∃ v2 : Nat, SBh g h' a v2 (ncap cap (t.length + 1)) (t ++ [x]) ∧ (v2 = v ∨ h v2 = none) ∧ Fr g h h' [a, v])) := by
  refine Kc.of (ls := [some (.ref a), some (vz (x : Nat))]) (by decide +kernel) (Nat.le_of_ble_eq_true rfl) rfl ?_
  obtain ⟨A, ha, hB, hv, hBv, hb, hcp⟩ := id H
  refine ev_aload_n dJ6_append_3_0 rfl ?_
  refine ev_iload_n dJ6_append_3_1 rfl ?_
  refine ev_callVR dJ6_append_3_2 cu_J6_50 ce_J5_append_3 ha rfl rfl rfl (sb_app3 (c := c) (k := k) hG H hx hm hbud) (by omega) (by omega) (by omega) (Nat.le_of_ble_eq_true rfl) (fun v1 hp_1 P1 => ?_)
  obtain ⟨rfl, v2, H1, hvv, fr1⟩ := P1
  have F2 := ((Fr.refl (g := g) _ [a, v])).call fr1 (fun x hx => Or.inl hx)
  refine ev_pop dJ6_append_3_5 rfl ?_
  refine ev_aload_n dJ6_append_3_6 rfl ?_
  refine ev_areturn dJ6_append_3_7 rfl (Or.inl ⟨_, rfl⟩) (Or.inr ⟨_, rfl⟩) ?_
  exact ⟨_, rfl, rfl, v2, H1, hvv, F2⟩
set_option maxRecDepth 100000 in
set_option maxHeartbeats 4000000 in
theorem st_getBytes {s w v cap n : Nat} {t2 : List Nat} {A : Nat → Int} (hG : GKx g) (K : STh h s w t2) (hv : h v = some (.inl (2, (cap, .inl (fun j => zI (A j)))))) (hBv : gB g ≤ v) (hwv : w ≠ v) (hn : n + t2.length ≤ cap ∧ cap < 1000000) : Kc g mJ7_getBytes 2 (0) (0) [.ref s, .ref v, vz (n : Nat), vz 0] h (rR (fun r h' => r = none ∧ ∃ A2 : Nat → Int, btA A2 t2.length t2 ∧ h' v = some (.inl (2, (cap, .inl (fun j => zI (cpA A2 A 0 n t2.length j))))) ∧ Fr g h h' [v])) := by
  refine Kc.of (ls := [some (.ref s), some (.ref v), some (vz (n : Nat)), some (vz 0)]) (by decide +kernel) (Nat.le_of_ble_eq_true rfl) rfl ?_
  obtain ⟨A2, x2, y2, hsa, hsv, hsb, hsn⟩ := id K
  refine ev_aload_n dJ7_getBytes_0 rfl ?_
  refine ev_callVE dJ7_getBytes_1 cv_J7_335_J7 ce_J7_coder hsa rfl rfl rfl (st_coder K hG) (by omega) (Nat.le_of_ble_eq_true rfl) ?_
  refine ev_iload_n dJ7_getBytes_4 rfl ?_
  refine ev_icmp_neZ (tgt := 28) dJ7_getBytes_5 (by decide) (by omega) (by omega) (fun c5 => absurd rfl c5) (fun c5 => ?_)
  refine ev_aload_n dJ7_getBytes_8 rfl ?_
  refine ev_getf dJ7_getBytes_9 gf_J7_9_J7 hsa rfl ?_
  refine ev_iconstZ dJ7_getBytes_12 ?_
  refine ev_aload_n dJ7_getBytes_13 rfl ?_
  refine ev_iload_n dJ7_getBytes_14 rfl ?_
  refine ev_iload_n dJ7_getBytes_15 rfl ?_
  refine ev_ishl0 dJ7_getBytes_16 ?_
  refine ev_aload_n dJ7_getBytes_17 rfl ?_
  refine ev_getf dJ7_getBytes_18 gf_J7_9_J7 hsa rfl ?_
  refine ev_alenZ dJ7_getBytes_21 hsv rfl ?_
  refine ev_copyiY (sp := 0) (dp := n) (n := t2.length) dJ7_getBytes_22 q550 hsv hv (Or.inr ⟨rfl, fun i hi => by have := hsb.1 i hi; omega⟩) hBv (by omega) (by omega) (by omega) (by omega) (Nat.le_of_ble_eq_true rfl) (fun hp_1 hv_2 f3 => ?_)
  have hsa_4 := (f3 _ (ne_of hsa hv (by simp))).trans hsa
  have hsv_5 := (f3 _ hwv).trans hsv
  have F6 := ((Fr.refl (g := g) _ [v])).write (Or.inr ⟨_, hv_2, Nat.le_of_ble_eq_true rfl⟩) f3 hBv (by simp)
  refine ev_goto (tgt := 43) dJ7_getBytes_25 (by decide) ?_
  refine ev_return dJ7_getBytes_43 rfl ?_
  exact ⟨_, rfl, rfl, A2, hsb, hv_2, F6⟩
set_option maxRecDepth 100000 in
set_option maxHeartbeats 4000000 in
theorem sb_infl {a v cap : Nat} {t : List Nat} (hG : GKx g) (H : SBh g h a v cap t) {s w : Nat} {t2 : List Nat} (K : STh h s w t2) : Kc g mJ5_inflateIfNeededFor 2 (0) (0) [.ref a, .ref s] h (sR none h) := by
  refine Kc.of (ls := [some (.ref a), some (.ref s)]) (by decide +kernel) (Nat.le_of_ble_eq_true rfl) rfl ?_
  obtain ⟨A, ha, hB, hv, hBv, hb, hcp⟩ := id H
  obtain ⟨A2, x2, y2, hsa, hsv, hsb, hsn⟩ := id K
  refine ev_gets (i := 4) hG dJ5_inflateIfNeededFor_0 rfl q292 ?_
  refine ev_nm (fun y ey => ?_)
  rw [show y = vz 1 from ey]
  refine ev_if_eqZ (tgt := 21) dJ5_inflateIfNeededFor_3 (by decide) (by omega) (fun c3 => by omega) (fun c3 => ?_)
  refine ev_aload_n dJ5_inflateIfNeededFor_6 rfl ?_
  refine ev_getf dJ5_inflateIfNeededFor_7 gf_J5_22_J6 ha rfl ?_
  refine ev_aload_n dJ5_inflateIfNeededFor_10 rfl ?_
  refine ev_callVE dJ5_inflateIfNeededFor_11 cv_J5_40_J7 ce_J7_coder hsa rfl rfl rfl (st_coder K hG) (by omega) (Nat.le_of_ble_eq_true rfl) ?_
  refine ev_icmp_eqZ (tgt := 21) dJ5_inflateIfNeededFor_14 (by decide) (by omega) (by omega) (fun c14 => ?_) (fun c14 => absurd rfl c14)
  refine ev_return dJ5_inflateIfNeededFor_21 rfl ?_
  exact ⟨rfl, rfl⟩
set_option maxRecDepth 100000 in
set_option maxHeartbeats 4000000 in
theorem sb_put {a v cap : Nat} {t : List Nat} (hG : GKx g) (H : SBh g h a v cap t) {s w : Nat} {t2 : List Nat} (K : STh h s w t2) (hwv : w ≠ v) (hn : t.length + t2.length ≤ cap) : Kc g mJ5_putStringAt 3 (0) (0) [.ref a, vz (t.length : Nat), .ref s] h (rR (fun r h' => r = none ∧ ∃ A4 : Nat → Int, btA A4 cap (t ++ t2) ∧ h' a = some (.inr (19, [.ref v, vz 0, vz 0, vz (t.length : Nat)])) ∧ h' v = some (.inl (2, (cap, .inl (fun j => zI (A4 j))))) ∧ Fr g h h' [v])) := by
  refine Kc.of (ls := [some (.ref a), some (vz (t.length : Nat)), some (.ref s)]) (by decide +kernel) (Nat.le_of_ble_eq_true rfl) rfl ?_
  obtain ⟨A, ha, hB, hv, hBv, hb, hcp⟩ := id H
  obtain ⟨A2, x2, y2, hsa, hsv, hsb, hsn⟩ := id K
  refine ev_aload_n dJ5_putStringAt_0 rfl ?_
  refine ev_aload_n dJ5_putStringAt_1 rfl ?_
  refine ev_callVN dJ5_putStringAt_2 cv_J5_397_J6 ce_J5_inflateIfNeededFor ha rfl rfl rfl (sb_infl hG H K) (by omega) (Nat.le_of_ble_eq_true rfl) ?_
  refine ev_aload_n dJ5_putStringAt_5 rfl ?_
  refine ev_aload_n dJ5_putStringAt_6 rfl ?_
  refine ev_getf dJ5_putStringAt_7 gf_J5_15_J6 ha rfl ?_
  refine ev_iload_n dJ5_putStringAt_10 rfl ?_
  refine ev_aload_n dJ5_putStringAt_11 rfl ?_
  refine ev_getf dJ5_putStringAt_12 gf_J5_22_J6 ha rfl ?_
  refine ev_callVR dJ5_putStringAt_15 cv_J5_399_J7 ce_J7_getBytes hsa rfl rfl rfl (st_getBytes hG K hv hBv hwv ⟨hn, hcp⟩) (by omega) (by omega) (by omega) (Nat.le_of_ble_eq_true rfl) (fun v1 hp_1 P1 => ?_)
  obtain ⟨rfl, A5, hA5, hv5, fr5⟩ := P1
  have ha_2 := fr5.keep ha (by simp only [List.mem_cons, List.not_mem_nil, or_false, not_or]; exact (ne_of ha hv (by simp)))
  have hsa_3 := fr5.keep hsa (by simp only [List.mem_cons, List.not_mem_nil, or_false, not_or]; exact (ne_of hsa hv (by simp)))
  have F4 := ((Fr.refl (g := g) _ [v])).call fr5 (fun x hx => Or.inl hx)
  refine ev_return dJ5_putStringAt_18 rfl ?_
  exact ⟨_, rfl, rfl, _, cp_bt2 hb hA5 hn, ha_2, hv5, F4⟩
set_option maxRecDepth 100000 in
set_option maxHeartbeats 4000000 in
theorem sb_app1 {a v cap : Nat} {t : List Nat} (hG : GKx g) (H : SBh g h a v cap t) {s w : Nat} {t2 : List Nat} (K : STh h s w t2) (hwv : w ≠ v) (hm : t.length + t2.length < 400000 ∧ cap < 400000) (hbud : cap < t.length + t2.length → 1 ≤ c ∧ ncap cap (t.length + t2.length) ≤ k) : Kc g mJ5_append 4 (c) (k) [.ref a, .ref s] h (rR (fun r h' => r = some (.ref a) ∧ ∃ v2 : Nat, SBh g h' a v2 (ncap cap (t.length + t2.length)) (t ++ t2) ∧ (v2 = v ∨ h v2 = none) ∧ Fr g h h' [a, v])) := by
  refine Kc.of (ls := [some (.ref a), some (.ref s), none]) (by decide +kernel) (Nat.le_of_ble_eq_true rfl) rfl ?_
  obtain ⟨A, ha, hB, hv, hBv, hb, hcp⟩ := id H
  obtain ⟨A2, x2, y2, hsa, hsv, hsb, hsn⟩ := id K
  have hsa_ne : s ≠ a := ne_of hsa ha (by simp)
  have hw_ne : w ≠ a := ne_of hsv ha (by simp)
  refine ev_aload_n dJ5_append_0 rfl ?_
  refine ev_ifnonnull (tgt := 9) dJ5_append_1 (by decide) ?_
  refine ev_aload_n dJ5_append_9 rfl ?_
  refine ev_callVE dJ5_append_10 cv_J5_32_J7 ce_J7_length hsa rfl rfl rfl (st_length K hG) (by omega) (Nat.le_of_ble_eq_true rfl) ?_
  refine ev_istore_n dJ5_append_13 (by decide) rfl ?_
  dsimp only [List.set]
  refine ev_aload_n dJ5_append_14 rfl ?_
  refine ev_aload_n dJ5_append_15 rfl ?_
  refine ev_getf dJ5_append_16 gf_J5_79_J6 ha rfl ?_
  refine ev_iload_n dJ5_append_19 rfl ?_
  refine ev_iaddZ dJ5_append_20 ?_
  refine ev_callVR dJ5_append_21 cv_J5_100_J6 ce_J5_ensureCapacityInternal ha rfl rfl rfl (sb_ensure (c := c) (k := k) (m := t.length + t2.length) H (by omega) hbud) (by omega) (by omega) (by omega) (Nat.le_of_ble_eq_true rfl) (fun v1 hp_1 P1 => ?_)
  obtain ⟨rfl, v2, ⟨A3, ha3, -, hv3, hBv3, hb3, hcp3⟩, hvv, frE⟩ := P1
  have hv_2 := frE.keep hv (by simp only [List.mem_cons, List.not_mem_nil, or_false, not_or]; exact (ne_of hv ha (by simp)))
  have hsa_3 := frE.keep hsa (by simp only [List.mem_cons, List.not_mem_nil, or_false, not_or]; exact (ne_of hsa ha (by simp)))
  have hsv_4 := frE.keep hsv (by simp only [List.mem_cons, List.not_mem_nil, or_false, not_or]; exact (ne_of hsv ha (by simp)))
  have F5 := ((Fr.refl (g := g) _ [a, v])).call frE (fun x hx => Or.inl (List.mem_cons.mpr (Or.inl (List.mem_singleton.mp hx))))
  have FE := F5
  have hlc : t.length + t2.length ≤ ncap cap (t.length + t2.length) := by unfold ncap; split <;> omega
  have HE : SBh g hp_1 a v2 (ncap cap (t.length + t2.length)) t := ⟨A3, ha3, hB, hv3, hBv3, hb3, hcp3⟩
  have hwv2 : w ≠ v2 := ne_sb hsv hwv hvv
  have KE : STh hp_1 s w t2 := K.fr frE (fun _ c => hsa_ne (List.mem_singleton.mp c)) (fun _ c => hw_ne (List.mem_singleton.mp c))
  refine ev_aload_n dJ5_append_24 rfl ?_
  refine ev_aload_n dJ5_append_25 rfl ?_
  refine ev_getf dJ5_append_26 gf_J5_79_J6 ha3 rfl ?_
  refine ev_aload_n dJ5_append_29 rfl ?_
  refine ev_callVR dJ5_append_30 cv_J5_208_J6 ce_J5_putStringAt ha3 rfl rfl rfl (sb_put hG HE KE hwv2 (by omega)) (by omega) (by omega) (by omega) (Nat.le_of_ble_eq_true rfl) (fun v6 hp_6 P6 => ?_)
  obtain ⟨rfl, A4, hA4, ha4, hv4, fr4⟩ := P6
  have hsa_7 := fr4.keep hsa_3 (by simp only [List.mem_cons, List.not_mem_nil, or_false, not_or]; exact (ne_of hsa_3 hv3 (by simp)))
  have F8 := ((Fr.refl (g := g) _ [a, v2])).call fr4 (fun x hx => Or.inl (List.mem_cons_of_mem _ hx))
  refine ev_aload_n dJ5_append_33 rfl ?_
  refine ev_dup dJ5_append_34 rfl ?_
  refine ev_getf dJ5_append_35 gf_J5_79_J6 ha4 rfl ?_
  refine ev_iload_n dJ5_append_38 rfl ?_
  refine ev_iaddZ dJ5_append_39 ?_
  refine ev_putC [.ref v2, vz 0, vz 0, vz ((t.length : Nat) + (t2.length : Nat))] dJ5_append_40 gf_J5_79_J6 ha4 hB (Or.inl rfl) rfl rfl (Nat.le_of_ble_eq_true rfl) rfl (fun hp_9 ha4_10 f11 => ?_)
  have hsa_12 := (f11 _ (ne_of hsa_7 ha4 (by simp))).trans hsa_7
  have hv4_13 := (f11 _ (ne_of hv4 ha4 (by simp))).trans hv4
  have F14 := (F8).write (Or.inl ⟨_, ha4_10⟩) f11 hB (by simp)
  refine ev_aload_n dJ5_append_43 rfl ?_
  refine ev_areturn dJ5_append_44 rfl (Or.inl ⟨_, rfl⟩) (Or.inr ⟨_, rfl⟩) ?_
  exact ⟨_, rfl, rfl, v2, ⟨_, by have r := ha4_10; rw [r, List.length_append]; rfl, hB, hv4_13, hBv3, hA4, hcp3⟩, hvv, FE.call F14 (sbm hvv)⟩
set_option maxRecDepth 100000 in
set_option maxHeartbeats 4000000 in
theorem sb_apps {a v cap : Nat} {t : List Nat} (hG : GKx g) (H : SBh g h a v cap t) {s w : Nat} {t2 : List Nat} (K : STh h s w t2) (hwv : w ≠ v) (hm : t.length + t2.length < 400000 ∧ cap < 400000) (hbud : cap < t.length + t2.length → 1 ≤ c ∧ ncap cap (t.length + t2.length) ≤ k) : Kc g mJ6_append 5 (c) (k) [.ref a, .ref s] h (rR (fun r h' => r = some (.ref a) ∧ ∃ v2 : Nat, SBh g h' a v2 (ncap cap (t.length + t2.length)) (t ++ t2) ∧ (v2 = v ∨ h v2 = none) ∧ Fr g h h' [a, v])) := by
  refine Kc.of (ls := [some (.ref a), some (.ref s)]) (by decide +kernel) (Nat.le_of_ble_eq_true rfl) rfl ?_
  obtain ⟨A, ha, hB, hv, hBv, hb, hcp⟩ := id H
  refine ev_aload_n dJ6_append_0 rfl ?_
  refine ev_aload_n dJ6_append_1 rfl ?_
  refine ev_callVR dJ6_append_2 cu_J6_29 ce_J5_append ha rfl rfl rfl (sb_app1 (c := c) (k := k) hG H K hwv hm hbud) (by omega) (by omega) (by omega) (Nat.le_of_ble_eq_true rfl) (fun v1 hp_1 P1 => ?_)
  obtain ⟨rfl, v2, H1, hvv, fr1⟩ := P1
  have F2 := ((Fr.refl (g := g) _ [a, v])).call fr1 (fun x hx => Or.inl hx)
  refine ev_pop dJ6_append_5 rfl ?_
  refine ev_aload_n dJ6_append_6 rfl ?_
  refine ev_areturn dJ6_append_7 rfl (Or.inl ⟨_, rfl⟩) (Or.inr ⟨_, rfl⟩) ?_
  exact ⟨_, rfl, rfl, v2, H1, hvv, F2⟩
set_option maxRecDepth 100000 in
set_option maxHeartbeats 4000000 in
theorem k_strSize {x : Nat} (hx : x < 10) : Kc g mJ28_stringSize 0 (0) (0) [vz (x : Nat)] h (sR (some (vz 1)) h) := by
  refine Kc.of (ls := [some (vz (x : Nat)), none, none, none]) (by decide +kernel) (Nat.le_of_ble_eq_true rfl) rfl ?_
  refine ev_iconstZ dJ28_stringSize_0 ?_
  refine ev_istore_n dJ28_stringSize_1 (by decide) rfl ?_
  dsimp only [List.set]
  refine ev_iload_n dJ28_stringSize_2 rfl ?_
  refine ev_if_ltZ (tgt := 11) dJ28_stringSize_3 (by decide) (by omega) (fun c3 => by omega) (fun c3 => ?_)
  refine ev_iconstZ dJ28_stringSize_6 ?_
  refine ev_istore_n dJ28_stringSize_7 (by decide) rfl ?_
  dsimp only [List.set]
  refine ev_iload_n dJ28_stringSize_8 rfl ?_
  refine ev_inegZ dJ28_stringSize_9 ?_
  refine ev_istore_n dJ28_stringSize_10 (by decide) rfl ?_
  dsimp only [List.set]
  refine ev_bipushZ dJ28_stringSize_11 rfl ?_
  refine ev_istore_n dJ28_stringSize_13 (by decide) rfl ?_
  dsimp only [List.set]
  refine ev_iconstZ dJ28_stringSize_14 ?_
  refine ev_istore_n dJ28_stringSize_15 (by decide) rfl ?_
  dsimp only [List.set]
  refine ev_iload_n dJ28_stringSize_16 rfl ?_
  refine ev_bipushZ dJ28_stringSize_17 rfl ?_
  refine ev_icmp_geZ (tgt := 42) dJ28_stringSize_19 (by decide) (by omega) (by omega) (fun c19 => by omega) (fun c19 => ?_)
  refine ev_iload_n dJ28_stringSize_22 rfl ?_
  refine ev_iload_n dJ28_stringSize_23 rfl ?_
  refine ev_icmp_leZ (tgt := 31) dJ28_stringSize_24 (by decide) (by omega) (by omega) (fun c24 => by omega) (fun c24 => ?_)
  refine ev_iload_n dJ28_stringSize_27 rfl ?_
  refine ev_iload_n dJ28_stringSize_28 rfl ?_
  refine ev_iaddZ dJ28_stringSize_29 ?_
  refine ev_ireturn dJ28_stringSize_30 rfl ?_
  exact ⟨rfl, rfl⟩
set_option maxRecDepth 100000 in
set_option maxHeartbeats 4000000 in
theorem k_getChars {v cap n x : Nat} {A : Nat → Int} (hG : GKx g) (hD : h (g.2.2.2.2 50) = some (.inl (2, (100, .inl (fun j => zI ((fun j => 48 + ((j % 10 : Nat) : Int)) j)))))) (hv : h v = some (.inl (2, (cap, .inl (fun j => zI (A j)))))) (hBv : gB g ≤ v) (hdv : g.2.2.2.2 50 ≠ v) (hx : x < 10) (hn : n < cap ∧ cap < 1000000) : Kc g mJ28_getChars 0 (0) (0) [vz (x : Nat), vz ((n + 1 : Nat) : Int), .ref v] h (rR (fun r h' => r = some (vz (n : Nat)) ∧ h' v = some (.inl (2, (cap, .inl (fun j => zI (uz A n ((48 + x : Nat) : Int) j))))) ∧ Fr g h h' [v])) := by
  refine Kc.of (ls := [some (vz (x : Nat)), some (vz ((n + 1 : Nat) : Int)), some (.ref v), none, none, none, none]) (by decide +kernel) (Nat.le_of_ble_eq_true rfl) rfl ?_
  refine ev_iload_n dJ28_getChars_0 rfl ?_
  refine ev_istore dJ28_getChars_1 (by decide) rfl ?_
  dsimp only [List.set]
  refine ev_iload_n dJ28_getChars_3 rfl ?_
  refine ev_if_geZ (tgt := 11) dJ28_getChars_4 (by decide) (by omega) (fun c4 => ?_) (fun c4 => by omega)
  refine ev_iconstZ dJ28_getChars_11 ?_
  refine ev_istore dJ28_getChars_12 (by decide) rfl ?_
  dsimp only [List.set]
  refine ev_iload dJ28_getChars_14 rfl ?_
  refine ev_if_neZ (tgt := 22) dJ28_getChars_16 (by decide) (by omega) (fun c16 => by omega) (fun c16 => ?_)
  refine ev_iload_n dJ28_getChars_19 rfl ?_
  refine ev_inegZ dJ28_getChars_20 ?_
  refine ev_istore_n dJ28_getChars_21 (by decide) rfl ?_
  dsimp only [List.set]
  refine ev_iload_n dJ28_getChars_22 rfl ?_
  refine ev_bipushZ dJ28_getChars_23 rfl ?_
  refine ev_icmp_gtZ (tgt := 72) dJ28_getChars_25 (by decide) (by omega) (by omega) (fun c25 => ?_) (fun c25 => by omega)
  refine ev_aload_n dJ28_getChars_72 rfl ?_
  refine ev_iincZ dJ28_getChars_73 rfl (by decide) rfl ?_
  dsimp only [List.set]
  refine ev_iload dJ28_getChars_76 rfl ?_
  refine ev_gets (i := 2) hG dJ28_getChars_78 rfl q565 ?_
  refine ev_iload_n dJ28_getChars_81 rfl ?_
  refine ev_inegZ dJ28_getChars_82 ?_
  refine ev_baldY dJ28_getChars_83 hD (by omega) ?_
  refine ev_to (b := ((48 + x : Nat) : Int)) (by rw [show (-(-((x : Nat) : Int))).toNat = x by omega]; show (48 : Int) + ((x % 10 : Nat) : Int) = _; omega) ?_
  refine ev_bastY dJ28_getChars_84 hv hBv (by omega) (by omega) (fun hp_1 hv_2 f3 => ?_)
  have hD_4 := (f3 _ (hdv.symm).symm).trans hD
  have F5 := ((Fr.refl (g := g) _ [v])).write (Or.inr ⟨_, hv_2, Nat.le_of_ble_eq_true rfl⟩) f3 hBv (by simp)
  refine ev_iload_n dJ28_getChars_85 rfl ?_
  refine ev_bipushZ dJ28_getChars_86 rfl ?_
  refine ev_icmp_geZ (tgt := 104) dJ28_getChars_88 (by decide) (by omega) (by omega) (fun c88 => ?_) (fun c88 => by omega)
  refine ev_iload dJ28_getChars_104 rfl ?_
  refine ev_if_eqZ (tgt := 118) dJ28_getChars_106 (by decide) (by omega) (fun c106 => ?_) (fun c106 => by omega)
  refine ev_iload dJ28_getChars_118 rfl ?_
  refine ev_ireturn dJ28_getChars_120 rfl ?_
  have r := hv_2
  rw [show (((n + 1 : Nat) : Int) + -1).toNat = n by omega] at r
  exact ⟨_, rfl, vz_eq (by omega), r, F5⟩
set_option maxRecDepth 100000 in
set_option maxHeartbeats 4000000 in
theorem sb_app2 {a v cap : Nat} {t : List Nat} (hG : GKx g) (H : SBh g h a v cap t) (hD : h (g.2.2.2.2 50) = some (.inl (2, (100, .inl (fun j => zI ((fun j => 48 + ((j % 10 : Nat) : Int)) j)))))) {x : Nat} (hx : x < 10) (hdv : g.2.2.2.2 50 ≠ v) (hm : t.length + 1 < 400000 ∧ cap < 400000) (hbud : cap < t.length + 1 → 1 ≤ c ∧ ncap cap (t.length + 1) ≤ k) : Kc g mJ5_append_2 4 (c) (k) [.ref a, vz (x : Nat)] h (rR (fun r h' => r = some (.ref a) ∧ ∃ v2 : Nat, SBh g h' a v2 (ncap cap (t.length + 1)) (t ++ [48 + x]) ∧ (v2 = v ∨ h v2 = none) ∧ Fr g h h' [a, v])) := by
  refine Kc.of (ls := [some (.ref a), some (vz (x : Nat)), none, none]) (by decide +kernel) (Nat.le_of_ble_eq_true rfl) rfl ?_
  obtain ⟨A, ha, hB, hv, hBv, hb, hcp⟩ := id H
  refine ev_aload_n dJ5_append_2_0 rfl ?_
  refine ev_getf dJ5_append_2_1 gf_J5_79_J6 ha rfl ?_
  refine ev_istore_n dJ5_append_2_4 (by decide) rfl ?_
  dsimp only [List.set]
  refine ev_iload_n dJ5_append_2_5 rfl ?_
  refine ev_iload_n dJ5_append_2_6 rfl ?_
  refine ev_callSE dJ5_append_2_7 cs_J5_245 ce_J28_stringSize rfl rfl (k_strSize hx) (by omega) (Nat.le_of_ble_eq_true rfl) ?_
  refine ev_iaddZ dJ5_append_2_10 ?_
  refine ev_istore_n dJ5_append_2_11 (by decide) rfl ?_
  dsimp only [List.set]
  refine ev_aload_n dJ5_append_2_12 rfl ?_
  refine ev_iload_n dJ5_append_2_13 rfl ?_
  refine ev_callVR dJ5_append_2_14 cv_J5_100_J6 ce_J5_ensureCapacityInternal ha rfl rfl rfl (sb_ensure (c := c) (k := k) (m := t.length + 1) H (by omega) hbud) (by omega) (by omega) (by omega) (Nat.le_of_ble_eq_true rfl) (fun v1 hp_1 P1 => ?_)
  obtain ⟨rfl, v2, ⟨A3, ha3, -, hv3, hBv3, hb3, hcp3⟩, hvv, frE⟩ := P1
  have hv_2 := frE.keep hv (by simp only [List.mem_cons, List.not_mem_nil, or_false, not_or]; exact (ne_of hv ha (by simp)))
  have F3 := ((Fr.refl (g := g) _ [a, v])).call frE (fun x hx => Or.inl (List.mem_cons.mpr (Or.inl (List.mem_singleton.mp hx))))
  have FE := F3
  have hlc : t.length + 1 ≤ ncap cap (t.length + 1) := by unfold ncap; split <;> omega
  have HE : SBh g hp_1 a v2 (ncap cap (t.length + 1)) t := ⟨A3, ha3, hB, hv3, hBv3, hb3, hcp3⟩
  have hdv2 : g.2.2.2.2 50 ≠ v2 := ne_sb hD hdv hvv
  have hD2 : hp_1 (g.2.2.2.2 50) = some (.inl (2, (100, .inl (fun j => zI ((fun j => 48 + ((j % 10 : Nat) : Int)) j))))) := frE.keep hD (fun c => ne_of hD ha (by simp) (List.mem_singleton.mp c))
  refine ev_aload_n dJ5_append_2_17 rfl ?_
  refine ev_callVE dJ5_append_2_18 cv_J5_83_J6 ce_J5_isLatin1 ha3 rfl rfl rfl (sb_isLatin1 HE hG) (by omega) (Nat.le_of_ble_eq_true rfl) ?_
  refine ev_if_eqZ (tgt := 37) dJ5_append_2_21 (by decide) (by omega) (fun c21 => by omega) (fun c21 => ?_)
  refine ev_iload_n dJ5_append_2_24 rfl ?_
  refine ev_iload_n dJ5_append_2_25 rfl ?_
  refine ev_aload_n dJ5_append_2_26 rfl ?_
  refine ev_getf dJ5_append_2_27 gf_J5_15_J6 ha3 rfl ?_
  refine ev_callSR dJ5_append_2_30 cs_J5_248 ce_J28_getChars rfl rfl (k_getChars (n := t.length) hG hD2 hv3 hBv3 hdv2 hx (by omega)) (by omega) (by omega) (by omega) (Nat.le_of_ble_eq_true rfl) (fun v4 hp_4 P4 => ?_)
  obtain ⟨rfl, hv4, fr4⟩ := P4
  have ha3_5 := fr4.keep ha3 (by simp only [List.mem_cons, List.not_mem_nil, or_false, not_or]; exact (ne_of ha3 hv3 (by simp)))
  have F6 := ((Fr.refl (g := g) _ [a, v2])).call fr4 (fun x hx => Or.inl (List.mem_cons_of_mem _ hx))
  refine ev_pop dJ5_append_2_33 rfl ?_
  refine ev_goto (tgt := 48) dJ5_append_2_34 (by decide) ?_
  refine ev_aload_n dJ5_append_2_48 rfl ?_
  refine ev_iload_n dJ5_append_2_49 rfl ?_
  refine ev_putC [.ref v2, vz 0, vz 0, vz ((t.length : Nat) + 1)] dJ5_append_2_50 gf_J5_79_J6 ha3_5 hB (Or.inl rfl) rfl rfl (Nat.le_of_ble_eq_true rfl) rfl (fun hp_7 ha3_8 f9 => ?_)
  have hv4_10 := (f9 _ (ne_of hv4 ha3_5 (by simp))).trans hv4
  have F11 := (F6).write (Or.inl ⟨_, ha3_8⟩) f9 hB (by simp)
  refine ev_aload_n dJ5_append_2_53 rfl ?_
  refine ev_areturn dJ5_append_2_54 rfl (Or.inl ⟨_, rfl⟩) (Or.inr ⟨_, rfl⟩) ?_
  have hbt := uz_bt hb3 (by omega) (by omega : 48 + x < 128)
  rw [Int.toNat_natCast] at hbt
  exact ⟨_, rfl, rfl, v2, ⟨_, by have r := ha3_8; rw [r, snoc_len]; rfl, hB, hv4_10, hBv3, hbt, hcp3⟩, hvv, FE.call F11 (sbm hvv)⟩
set_option maxRecDepth 100000 in
set_option maxHeartbeats 4000000 in
theorem sb_appi {a v cap : Nat} {t : List Nat} (hG : GKx g) (H : SBh g h a v cap t) (hD : h (g.2.2.2.2 50) = some (.inl (2, (100, .inl (fun j => zI ((fun j => 48 + ((j % 10 : Nat) : Int)) j)))))) {x : Nat} (hx : x < 10) (hdv : g.2.2.2.2 50 ≠ v) (hm : t.length + 1 < 400000 ∧ cap < 400000) (hbud : cap < t.length + 1 → 1 ≤ c ∧ ncap cap (t.length + 1) ≤ k) : Kc g mJ6_append_2 5 (c) (k) [.ref a, vz (x : Nat)] h (rR (fun r h' => r = some (.ref a) ∧ ∃ v2 : Nat, SBh g h' a v2 (ncap cap (t.length + 1)) (t ++ [48 + x]) ∧ (v2 = v ∨ h v2 = none) ∧ Fr g h h' [a, v])) := by
  refine Kc.of (ls := [some (.ref a), some (vz (x : Nat))]) (by decide +kernel) (Nat.le_of_ble_eq_true rfl) rfl ?_
  obtain ⟨A, ha, hB, hv, hBv, hb, hcp⟩ := id H
  refine ev_aload_n dJ6_append_2_0 rfl ?_
  refine ev_iload_n dJ6_append_2_1 rfl ?_
  refine ev_callVR dJ6_append_2_2 cu_J6_53 ce_J5_append_2 ha rfl rfl rfl (sb_app2 (c := c) (k := k) hG H hD hx hdv hm hbud) (by omega) (by omega) (by omega) (Nat.le_of_ble_eq_true rfl) (fun v1 hp_1 P1 => ?_)
  obtain ⟨rfl, v2, H1, hvv, fr1⟩ := P1
  have F2 := ((Fr.refl (g := g) _ [a, v])).call fr1 (fun x hx => Or.inl hx)
  refine ev_pop dJ6_append_2_5 rfl ?_
  refine ev_aload_n dJ6_append_2_6 rfl ?_
  refine ev_areturn dJ6_append_2_7 rfl (Or.inl ⟨_, rfl⟩) (Or.inr ⟨_, rfl⟩) ?_
  exact ⟨_, rfl, rfl, v2, H1, hvv, F2⟩
set_option maxRecDepth 100000 in
set_option maxHeartbeats 4000000 in
theorem k_checkLen {a b : Int} (hi : a ≤ b ∧ inR a ∧ inR b) : Kc g mJ18_checkLength 0 (0) (0) [vz a, vz b] h (sR none h) := by
  refine Kc.of (ls := [some (vz a), some (vz b)]) (by decide +kernel) (Nat.le_of_ble_eq_true rfl) rfl ?_
  refine ev_iload_n dJ18_checkLength_0 rfl ?_
  refine ev_iload_n dJ18_checkLength_1 rfl ?_
  refine ev_icmp_geZ (tgt := 37) dJ18_checkLength_2 (by decide) (by omega) (by omega) (fun c2 => ?_) (fun c2 => by omega)
  refine ev_return dJ18_checkLength_37 rfl ?_
  exact ⟨rfl, rfl⟩
set_option maxRecDepth 100000 in
set_option maxHeartbeats 4000000 in
theorem k_corB {v cap b e : Nat} {A : Nat → Int} (hG : GKx g) (hv : h v = some (.inl (2, (cap, .inl (fun j => zI (A j)))))) (hb : ∀ j : Nat, j < cap → 0 ≤ A j ∧ A j < 128) (hn : b ≤ e ∧ e ≤ cap ∧ cap < 1000000) : Kc g mJ18_copyOfRangeByte 2 (1) (e - b) [.ref v, vz (b : Nat), vz (e : Nat)] h (rR (fun r h' => ∃ (q : Nat) (A2 : Nat → Int), r = some (.ref q) ∧ h q = none ∧ gB g ≤ q ∧ h' q = some (.inl (2, ((e - b), .inl (fun j => zI (A2 j))))) ∧ (∀ j : Nat, j < e - b → A2 j = A (b + j)) ∧ Fr g h h' [])) := by
  refine Kc.of (ls := [some (.ref v), some (vz (b : Nat)), some (vz (e : Nat)), none, none]) (by decide +kernel) (Nat.le_of_ble_eq_true rfl) rfl ?_
  refine ev_iload_n dJ18_copyOfRangeByte_0 rfl ?_
  refine ev_iload_n dJ18_copyOfRangeByte_1 rfl ?_
  refine ev_callSN dJ18_copyOfRangeByte_2 cs_J18_343 ce_J18_checkLength rfl rfl (k_checkLen (by omega)) (by omega) (Nat.le_of_ble_eq_true rfl) ?_
  refine ev_iload_n dJ18_copyOfRangeByte_5 rfl ?_
  refine ev_iload_n dJ18_copyOfRangeByte_6 rfl ?_
  refine ev_isubZ dJ18_copyOfRangeByte_7 ?_
  refine ev_to (b := ((e - b : Nat) : Int)) (by omega) ?_
  refine ev_istore_n dJ18_copyOfRangeByte_8 (by decide) rfl ?_
  dsimp only [List.set]
  refine ev_iload_n dJ18_copyOfRangeByte_9 rfl ?_
  refine ev_newA_byte (N := (e - b)) (c' := 0) (k' := 0) dJ18_copyOfRangeByte_10 (by omega) (by omega) (by omega) (by omega) (by omega) (fun q1 hp_2 e3 B4 Hq1_5 f6 => ?_)
  have hv_7 := (f6 _ (ne_no hv e3)).trans hv
  have z8 := ((Fr.refl (g := g) _ [])).fresh e3
  have F9 := ((Fr.refl (g := g) _ [])).alloc (Or.inr ⟨_, Hq1_5, Nat.le_of_ble_eq_true rfl⟩) f6 e3
  refine ev_astore dJ18_copyOfRangeByte_12 (by decide) rfl ?_
  dsimp only [List.set]
  refine ev_aload_n dJ18_copyOfRangeByte_14 rfl ?_
  refine ev_iload_n dJ18_copyOfRangeByte_15 rfl ?_
  refine ev_aload dJ18_copyOfRangeByte_16 rfl ?_
  refine ev_iconstZ dJ18_copyOfRangeByte_18 ?_
  refine ev_aload_n dJ18_copyOfRangeByte_19 rfl ?_
  refine ev_alenZ dJ18_copyOfRangeByte_20 hv_7 rfl ?_
  refine ev_iload_n dJ18_copyOfRangeByte_21 rfl ?_
  refine ev_isubZ dJ18_copyOfRangeByte_22 ?_
  refine ev_to (b := ((cap - b : Nat) : Int)) (by omega) ?_
  refine ev_iload_n dJ18_copyOfRangeByte_23 rfl ?_
  refine ev_mminN (a := (cap - b)) (b := (e - b)) dJ18_copyOfRangeByte_24 q472 (by omega) (by omega) (by omega) (Nat.le_of_ble_eq_true rfl) ?_
  refine ev_copyiY (sp := b) (dp := 0) (n := (min (cap - b) (e - b))) dJ18_copyOfRangeByte_27 q475 hv_7 Hq1_5 (Or.inr ⟨rfl, fun i hi => by have := hb i (by omega); omega⟩) B4 (by omega) (by omega) (by omega) (by omega) (Nat.le_of_ble_eq_true rfl) (fun hp_10 Hq1_11 f12 => ?_)
  have hv_13 := (f12 _ (ne_no hv e3)).trans hv_7
  have F14 := (F9).writeN (Or.inr ⟨_, Hq1_11, Nat.le_of_ble_eq_true rfl⟩) f12 z8
  refine ev_aload dJ18_copyOfRangeByte_30 rfl ?_
  refine ev_areturn dJ18_copyOfRangeByte_32 rfl (Or.inr ⟨_, rfl⟩) (Or.inr ⟨_, rfl⟩) ?_
  refine ⟨_, rfl, q1, _, rfl, z8, B4, Hq1_11, fun j hj => ?_, F14⟩
  unfold cpA
  rw [if_pos (by omega), show b + (j - 0) = b + j by omega]
set_option maxRecDepth 100000 in
set_option maxHeartbeats 4000000 in
theorem k_cor {v cap b e : Nat} {A : Nat → Int} (hG : GKx g) (hv : h v = some (.inl (2, (cap, .inl (fun j => zI (A j)))))) (hb : ∀ j : Nat, j < cap → 0 ≤ A j ∧ A j < 128) (hn : b ≤ e ∧ e ≤ cap ∧ cap < 1000000) (hB9 : gB g ≤ v) : Kc g mJ18_copyOfRange 3 (1) (e - b) [.ref v, vz (b : Nat), vz (e : Nat)] h (rR (fun r h' => ∃ (q : Nat) (A2 : Nat → Int), r = some (.ref q) ∧ h q = none ∧ gB g ≤ q ∧ h' q = some (.inl (2, ((e - b), .inl (fun j => zI (A2 j))))) ∧ (∀ j : Nat, j < e - b → A2 j = A (b + j)) ∧ Fr g h h' [])) := by
  refine Kc.of (ls := [some (.ref v), some (vz (b : Nat)), some (vz (e : Nat))]) (by decide +kernel) (Nat.le_of_ble_eq_true rfl) rfl ?_
  refine ev_iload_n dJ18_copyOfRange_0 rfl ?_
  refine ev_if_neZ (tgt := 10) dJ18_copyOfRange_1 (by decide) (by omega) (fun c1 => ?_) (fun c1 => ?_)
  · refine ev_aload_n dJ18_copyOfRange_10 rfl ?_
    refine ev_iload_n dJ18_copyOfRange_11 rfl ?_
    refine ev_iload_n dJ18_copyOfRange_12 rfl ?_
    refine ev_callSR dJ18_copyOfRange_13 cs_J18_339 ce_J18_copyOfRangeByte rfl rfl (k_corB hG hv hb hn) (by omega) (by omega) (by omega) (Nat.le_of_ble_eq_true rfl) (fun v1 hp_1 P1 => ?_)
    obtain ⟨q, A2, rfl, e1, B1, Hq, hA2, fr1⟩ := P1
    have hv_2 := fr1.keep hv (fun q => by cases q)
    have F3 := ((Fr.refl (g := g) _ [])).call fr1 nil_in
    refine ev_areturn dJ18_copyOfRange_16 rfl (Or.inr ⟨_, rfl⟩) (Or.inr ⟨_, rfl⟩) ?_
    exact ⟨_, rfl, q, A2, rfl, e1, B1, Hq, hA2, F3⟩
  · refine ev_iload_n dJ18_copyOfRange_4 rfl ?_
    refine ev_aload_n dJ18_copyOfRange_5 rfl ?_
    refine ev_alenZ dJ18_copyOfRange_6 hv rfl ?_
    refine ev_icmp_eqZ (tgt := 17) dJ18_copyOfRange_7 (by decide) (by omega) (by omega) (fun c7 => ?_) (fun c7 => ?_)
    · refine ev_aload_n dJ18_copyOfRange_17 rfl ?_
      refine ev_cloneB (c' := 0) (k' := 0) hG dJ18_copyOfRange_18 q465 hv hB9 (fun j hj => by have := hb j hj; omega) (by omega) (by omega) (by omega) (Nat.le_of_ble_eq_true rfl) (fun qc hpc ec Bc hqc frc => ?_)
      have Fqc := ((Fr.refl (g := g) _ [])).alloc (Or.inr ⟨_, hqc, Nat.le_of_ble_eq_true rfl⟩) frc ec
      refine ev_castA dJ18_copyOfRange_21 q471 hqc rfl (by decide) ?_
      refine ev_areturn dJ18_copyOfRange_24 rfl (Or.inr ⟨_, rfl⟩) (Or.inr ⟨_, rfl⟩) ?_
      refine ⟨_, rfl, qc, A, rfl, ec, Bc, ?_, fun j hj => by rw [show b + j = j by omega], Fqc⟩
      rw [show e - b = cap by omega]; exact hqc
    · refine ev_aload_n dJ18_copyOfRange_10 rfl ?_
      refine ev_iload_n dJ18_copyOfRange_11 rfl ?_
      refine ev_iload_n dJ18_copyOfRange_12 rfl ?_
      refine ev_callSR dJ18_copyOfRange_13 cs_J18_339 ce_J18_copyOfRangeByte rfl rfl (k_corB hG hv hb hn) (by omega) (by omega) (by omega) (Nat.le_of_ble_eq_true rfl) (fun v4 hp_4 P4 => ?_)
      obtain ⟨q, A2, rfl, e1, B1, Hq, hA2, fr1⟩ := P4
      have hv_5 := fr1.keep hv (fun q => by cases q)
      have F6 := ((Fr.refl (g := g) _ [])).call fr1 nil_in
      refine ev_areturn dJ18_copyOfRange_16 rfl (Or.inr ⟨_, rfl⟩) (Or.inr ⟨_, rfl⟩) ?_
      exact ⟨_, rfl, q, A2, rfl, e1, B1, Hq, hA2, F6⟩
theorem bt_sub {A A2 : Nat → Int} {cap b e : Nat} {t : List Nat} (hb : btA A cap t) (he : b ≤ e ∧ e ≤ t.length) (h2 : ∀ j : Nat, j < e - b → A2 j = A (b + j)) : btA A2 ((t.take e).drop b).length ((t.take e).drop b) := by
  have hl : ((t.take e).drop b).length = e - b := by rw [List.length_drop, List.length_take]; omega
  refine ⟨fun j hj => ?_, fun j x hx => ?_, Nat.le_refl _⟩
  · rw [hl] at hj; rw [h2 j hj]; exact hb.1 _ (by have := hb.2.2; omega)
  · have hj := (List.getElem?_eq_some_iff.mp hx).1
    rw [hl] at hj
    rw [h2 j hj]
    rw [List.getElem?_drop, List.getElem?_take_of_lt (by omega)] at hx
    exact hb.2.1 _ x hx
end K0S

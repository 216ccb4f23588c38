/-! THE COMPONENT: Several.of, Several.with (printed by gen) -/
section S7S
variable {g : GB} {M : MI} {d c k : Nat} {h : HM}
set_option maxRecDepth 100000 in
set_option maxHeartbeats 4000000 in
theorem k_of16 {pl v cap : Nat} {mc : Int} {b : Bool} {rs : List Nat} {f : Nat → Option Nat} (hG : GKx g) (hb : h pl = some (.inr (29, [vz mc, .ref v, vz ((rs.length : Nat) : Int)]))) (hv : h v = some (.inl (9, (cap, .inr (.inr (.inr (.inr (f)))))))) (hf : ∀ i : Nat, i < rs.length → f i = rs[i]?) (hcap : rs.length ≤ cap ∧ cap ≤ 10000000) (hl : rs.length < 1000000) (h1l : 1 ≤ rs.length) (hcls : ∀ q ∈ rs, ∃ κ fs, h q = some (.inr (nCi κ, fs))) : Kc g mX16_of 5 (1) (2) [vz (bI b), .ref pl] h (rR (fun v' h' => ∃ r : Nat, v' = some (.ref r) ∧ ((rs = [r] ∧ h' = h) ∨ (rs.length ≠ 1 ∧ h r = none ∧ gB g ≤ r ∧ h' r = some (.inr (12, [vz (bI b), .ref pl])))) ∧ Fr g h h' [])) := by
  refine Kc.of (ls := [some (vz (bI b)), some (.ref pl)]) (by decide +kernel) (Nat.le_of_ble_eq_true rfl) rfl ?_
  refine ev_aload_n dX16_of_0 rfl ?_
  refine ev_callVE dX16_of_1 cv_X16_19_J26 ce_J26_size hb rfl rfl rfl (al_size hb) (by omega) (Nat.le_of_ble_eq_true rfl) ?_
  refine ev_iconstZ dX16_of_4 ?_
  refine ev_icmp_neZ (tgt := 19) dX16_of_5 (by decide) (by omega) (by omega) (fun c5 => ?_) (fun c5 => ?_)
  · refine ev_newC (c' := 0) (k' := 0) [vz 0, .null] dX16_of_19 cf_X16 q1313 q1955 q166 rfl (by omega) (by omega) (fun q1 hp_2 e3 B4 Hq1_5 f6 => ?_)
    have hb_7 := (f6 _ (ne_no hb e3)).trans hb
    have hv_8 := (f6 _ (ne_no hv e3)).trans hv
    have z9 := ((Fr.refl (g := g) _ [])).fresh e3
    have F10 := ((Fr.refl (g := g) _ [])).alloc (Or.inl ⟨_, Hq1_5⟩) f6 e3
    refine ev_dup dX16_of_22 rfl ?_
    refine ev_iload_n dX16_of_23 rfl ?_
    refine ev_aload_n dX16_of_24 rfl ?_
    refine ev_callVR dX16_of_25 ci_X16_29 ce_X16_init Hq1_5 rfl rfl rfl (k_i16 Hq1_5 B4) (by omega) (by omega) (by omega) (Nat.le_of_ble_eq_true rfl) (fun v11 hp_11 P11 => ?_)
    obtain ⟨rfl, hn11, fr11⟩ := P11
    have hb_12 := fr11.keep hb_7 (by simp only [List.mem_cons, List.not_mem_nil, or_false, not_or]; exact (ne_no hb e3))
    have hv_13 := fr11.keep hv_8 (by simp only [List.mem_cons, List.not_mem_nil, or_false, not_or]; exact (ne_no hv e3))
    have F14 := (F10).call fr11 (fun x hx => Or.inr (Or.inl (by rw [List.mem_singleton.mp hx]; exact z9)))
    refine ev_areturn dX16_of_28 rfl (Or.inl ⟨_, rfl⟩) (Or.inr ⟨_, rfl⟩) ?_
    exact ⟨_, rfl, _, rfl, Or.inr ⟨by omega, z9, B4, hn11⟩, F14⟩
  · have e1 : rs.length = 1 := by omega
    obtain ⟨q, hq⟩ : ∃ q, rs[0]? = some q := ⟨_, List.getElem?_eq_getElem (by omega)⟩
    obtain ⟨κ, hk⟩ := hcls q (List.mem_of_getElem? hq)
    have hrs : rs = [q] := by
      obtain ⟨y, hy⟩ := List.length_eq_one_iff.mp e1
      rw [hy] at hq; cases hq; exact hy
    refine ev_aload_n dX16_of_8 rfl ?_
    refine ev_iconstZ dX16_of_9 ?_
    refine ev_callVE dX16_of_10 cv_X16_25_J26 ce_J26_get hb rfl rfl rfl (al_get hb hv (by omega) (by omega) (by rw [Int.toNat_zero, hf 0 (by omega)]; exact hq)) (by omega) (Nat.le_of_ble_eq_true rfl) ?_
    refine ev_castN dX16_of_13 q908 hk ?_
    refine ev_goto (tgt := 28) dX16_of_16 (by decide) ?_
    refine ev_areturn dX16_of_28 rfl (Or.inl ⟨_, rfl⟩) (Or.inr ⟨_, rfl⟩) ?_
    exact ⟨_, rfl, q, rfl, Or.inl ⟨hrs, rfl⟩, Fr.refl _ _⟩
set_option maxRecDepth 100000 in
set_option maxHeartbeats 4000000 in
theorem k_with16 {a last pl v cap : Nat} {z mc : Int} {rs : List Nat} {f : Nat → Option Nat} {I : HM} (hG : GKx g) (hSI : Sub I h) (hKC : KC g h) (ha : h a = some (.inr (12, [vz z, .ref pl]))) (hb : h pl = some (.inr (29, [vz mc, .ref v, vz ((rs.length : Nat) : Int)]))) (hv : h v = some (.inl (9, (cap, .inr (.inr (.inr (.inr (f)))))))) (hf : ∀ i : Nat, i < rs.length → f i = rs[i]?) (hcap : rs.length ≤ cap ∧ cap ≤ 10000000) (hel : ∀ y ∈ rs, isO h y) (hlast : isO h last) (hl : rs.length < 100000) (h1l : 1 ≤ rs.length) : Kc g mX16_with 7 (4) (3 * rs.length + 15) [.ref a, .ref last] h (rR (fun v h' => ∃ (r : Nat) (J : HM), v = some (.ref r) ∧ Gw I h J h' ∧ (SevAt J r false (rs ++ [last])) ∧ Fr g h h' [])) := by
  refine Kc.of (ls := [some (.ref a), some (.ref last), none, none]) (by decide +kernel) (Nat.le_of_ble_eq_true rfl) rfl ?_
  refine ev_newC (c' := 3) (k' := 3 * rs.length + 12) [vz 0, .null, vz 0] dX16_with_0 cf_J26 q2263 q376 q152 rfl (by omega) (by omega) (fun q1 hp_2 e3 B4 Hq1_5 f6 => ?_)
  have ha_7 := (f6 _ (ne_no ha e3)).trans ha
  have hb_8 := (f6 _ (ne_no hb e3)).trans hb
  have hv_9 := (f6 _ (ne_no hv e3)).trans hv
  have z10 := ((Fr.refl (g := g) _ [])).fresh e3
  have F11 := ((Fr.refl (g := g) _ [])).alloc (Or.inl ⟨_, Hq1_5⟩) f6 e3
  refine ev_dup dX16_with_3 rfl ?_
  refine ev_aload_n dX16_with_4 rfl ?_
  refine ev_getf dX16_with_5 gf_X16_15_X16 ha_7 rfl ?_
  refine ev_callVR dX16_with_8 ci_X16_92 ce_J26_init_2 Hq1_5 rfl rfl rfl (al_copy hG Hq1_5 B4 (ne_no hb z10).symm hb_8 hv_9 hf (fun y hy => (F11).o (hel y hy)) hcap h1l) (by omega) (by omega) (by omega) (Nat.le_of_ble_eq_true rfl) (fun v12 hp_12 P12 => ?_)
  obtain ⟨rfl, x2, AL2, zx2, fr12⟩ := P12
  have F2 := (F11).call fr12 (fun x hx => Or.inr (Or.inl (by rw [List.mem_singleton.mp hx]; exact z10)))
  have zx := (F11).fresh zx2
  refine ev_astore_n dX16_with_11 (by decide) rfl ?_
  dsimp only [List.set]
  refine ev_aload_n dX16_with_12 rfl ?_
  refine ev_aload_n dX16_with_13 rfl ?_
  refine ev_callVR dX16_with_14 cv_X16_72_J26 ce_J26_add AL2.1 rfl rfl rfl (al_add hG (hKC.fr F2).1.1 AL2 (by omega) (F2.o hlast)) (by omega) (by omega) (by omega) (Nat.le_of_ble_eq_true rfl) (fun v9 h3 P9 => ?_)
  obtain ⟨rfl, v3, cap3, AL3, hv3, fr3⟩ := P9
  have F3 := F2.call fr3 (fun x hx => Or.inr (Or.inl ((List.mem_cons.mp hx).elim (fun e => by rw [e]; exact z10) (fun e => by rw [List.mem_singleton.mp e]; exact zx))))
  have zv3 : h v3 = none := by
    rcases hv3 with e | e
    · rw [e]; exact zx
    · exact F2.fresh e
  obtain ⟨k1, k2, ⟨f3, k3, k4⟩, k5, k6, k7, k8⟩ := id AL3
  refine ev_istore_n dX16_with_17 (by decide) rfl ?_
  dsimp only [List.set]
  refine ev_newC (c' := 0) (k' := 0) [vz 0, .null] dX16_with_18 cf_X16 q1313 q1955 q166 rfl (by omega) (by omega) (fun q14 hp_15 e16 B17 Hq14_18 f19 => ?_)
  have k1_20 := (f19 _ (ne_no k1 e16)).trans k1
  have k3_21 := (f19 _ (ne_no k3 e16)).trans k3
  have z22 := (F3).fresh e16
  have F23 := (F3).alloc (Or.inl ⟨_, Hq14_18⟩) f19 e16
  refine ev_dup dX16_with_21 rfl ?_
  refine ev_iconstZ dX16_with_22 ?_
  refine ev_aload_n dX16_with_23 rfl ?_
  refine ev_callVR dX16_with_24 ci_X16_29 ce_X16_init Hq14_18 rfl rfl rfl (k_i16 (b := false) Hq14_18 B17) (by omega) (by omega) (by omega) (Nat.le_of_ble_eq_true rfl) (fun v24 hp_24 P24 => ?_)
  obtain ⟨rfl, hn24, fr24⟩ := P24
  have k1_25 := fr24.keep k1_20 (by simp only [List.mem_cons, List.not_mem_nil, or_false, not_or]; exact (ne_no k1 e16))
  have k3_26 := fr24.keep k3_21 (by simp only [List.mem_cons, List.not_mem_nil, or_false, not_or]; exact (ne_no k3 e16))
  have F27 := (F23).call fr24 (fun x hx => Or.inr (Or.inl (by rw [List.mem_singleton.mp hx]; exact z22)))
  refine ev_areturn dX16_with_27 rfl (Or.inl ⟨_, rfl⟩) (Or.inr ⟨_, rfl⟩) ?_
  have G0 := (Gw.refl hSI).fr0 F27
  have G1 := G0.add hSI k1_25 z10
  have sA := G0.subadd k1_25
  have G2 := G1.add hSI k3_26 zv3 (AL3.cap (by rw [List.length_append]; show rs.length + 1 < _; omega))
  have sB := G1.subadd k3_26
  have G3 := G2.add hSI hn24 z22
  have sC := G2.subadd hn24
  exact ⟨_, rfl, q14, _, rfl, G3, ⟨q1, v3, cap3, _, f3, hs_same _ _ _, sC _ _ (sB _ _ (hs_same _ _ _)), sC _ _ (hs_same _ _ _), k4, k6⟩, F27⟩
end S7S

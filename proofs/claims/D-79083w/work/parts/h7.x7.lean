/-! THE COMPONENT: the class, carryOut (printed by gen) -/
section X7S
variable {g : GB} {M : MI} {d c k : Nat} {h : HM}
section
variable {N : Nat} {B : Nat → Prop} {I h : HM} {own : Nat → Nat} {o : Nat} {p : Dp} {us : List Dp} {cl ud uv uh ib iv ic os ow : Nat} {sdv scv lev : Value} {cs : List Cm} {σ : Sp}
theorem CmC.cls {cm : Nat} {C : Cm} (K : CmC g I cm C) : ∃ fs, I cm = some (.inr (3, fs)) := by
  rcases K with ⟨-, -, nu, N, e, -⟩ | ⟨-, nu, p, e, -⟩ | ⟨-, -, -, nu, N, e, -⟩
  · exact ⟨_, e⟩
  · exact ⟨_, e⟩
  · exact ⟨_, e⟩
theorem DnC.cls {a st fo : Nat} {D : Dn} (K : DnC g I h a st fo D) : ∃ fs, h a = some (.inr (1, fs)) := by
  obtain ⟨A, Bf, pv, sv, ⟨e, -⟩, -⟩ := K
  exact ⟨_, e⟩
theorem WXr.ne2 (K : WXr g N B I h own o p us cl ud uv uh ib iv ic os ow sdv scv lev cs σ) : (∀ x ∈ [ud, uv], own x = 3 ∧ I x = none ∧ h x ≠ none) ∧ o ∉ [ud, uv] := by
  obtain ⟨a, -, -, -, ⟨e1, e2, -⟩, -⟩ := K
  have key : ∀ x ∈ [ud, uv], own x = 3 ∧ I x = none ∧ h x ≠ none := fun x hx => by
    simp only [List.mem_cons, List.not_mem_nil, or_false] at hx
    rcases hx with rfl | rfl
    · exact ⟨e2.1, e2.2.2.1, e1.nz.1⟩
    · exact ⟨e2.2.1, e2.2.2.2, e1.nz.2⟩
  exact ⟨key, fun e => by have := (key o e).1; rw [a.2.1] at this; cases this⟩
set_option maxRecDepth 100000 in
set_option maxHeartbeats 4000000 in
theorem cy23 (hG : GKx g) (HO : h o = some (.inr (0, [.ref p.2.1, .ref cl, .ref ud, sdv, scv, .ref ib, .ref os, lev, vz σ.2.2.2.2.2.1, vz σ.2.2.2.2.1]))) (WR : WXr g N B I h own o p us cl ud uv uh ib iv ic os ow sdv scv lev cs σ) {cm : Nat} {C : Cm} (hC : CmC g I cm C) (hok : cmOk C) (hl7 : us.length ≤ 7) (hd : 500 ≤ d) (hc : 20 ≤ c) (hk : cmK C + 53 ≤ k) (z : Option Value) : Ev g mX1_carryOut d c k (rR (fun v h' => v = some (vz (cmV C σ.1)) ∧ WX g (N + 1) B h' o (cmD C σ.1, σ.2.1 ++ [σ.1], σ.2.2) ∧ Sub I h' ∧ ∃ S, Fr g h h' S ∧ ∀ x ∈ S, ¬ B x)) 23 [some (.ref o), some (.ref cm), z] [] h := by
  obtain ⟨a9, ⟨b1, b2, b3⟩, KDW, ⟨d1, d2⟩, ⟨e1, e2, e3, e4, e5, e6⟩, ⟨n1, n2⟩, s9, i9, u9, r9⟩ := id WR
  obtain ⟨mc0, L, kL, hL0, hL1, hL2, d3⟩ := id d1
  have hp10 := n2 p List.mem_cons_self
  obtain ⟨hS2, hoS⟩ := WR.ne2
  obtain ⟨fs1, hc1⟩ := KDW.1.cls
  refine ev_aload_n dX1_carryOut_23 rfl ?_
  refine ev_getf dX1_carryOut_24 gf_X1_51_X1 HO rfl ?_
  refine ev_aload_n dX1_carryOut_27 rfl ?_
  refine ev_getf dX1_carryOut_28 gf_X1_37_X1 HO rfl ?_
  refine ev_callVR dX1_carryOut_31 cv_X1_79_X2 ce_X2_copy hc1 rfl rfl rfl (k_copyX2 KDW.1 hG) (by omega) (by omega) (by omega) (Nat.le_of_ble_eq_true rfl) (fun v1 h2 P1 => ?_)
  obtain ⟨q, st2, fo2, rfl, KD, F1, hqB, hz⟩ := P1
  have eA := e1.fr F1 (fun q => by cases q) (fun q => by cases q)
  have iq : isO h2 q := by obtain ⟨fs, e⟩ := KD.cls; exact Or.inl ⟨_, e⟩
  refine ev_callVR dX1_carryOut_34 cv_X1_83_J4 ce_J4_addLast eA.1 rfl rfl rfl (ad_addLast eA hG iq (by rw [List.length_map]; omega)) (by omega) (by omega) (by omega) (Nat.le_of_ble_eq_true rfl) (fun v2 h3 P2 => ?_)
  obtain ⟨rfl, hA, F2⟩ := P2
  have HO3 := F2.keep (F1.keep HO (fun q => by cases q)) hoS
  have kL3 := (kL.fr F1 (fun x hx => by cases hx)).fr F2 (fun x hx => ⟨fun e => by have := (hL0 cl List.mem_cons_self).1; rw [← e, (hS2 x hx).1] at this; omega, fun e => by have := (hL0 x (List.mem_cons_of_mem _ e)).1; rw [(hS2 x hx).1] at this; cases this⟩)
  refine ev_aload_n dX1_carryOut_37 rfl ?_
  refine ev_getf dX1_carryOut_38 gf_X1_44_X1 HO3 rfl ?_
  refine ev_aload_n dX1_carryOut_41 rfl ?_
  refine ev_callVR dX1_carryOut_42 cv_X1_87_J3 ce_J3_addLast kL3.1 rfl rfl rfl (ll_addLast kL3) (by omega) (by omega) (by omega) (Nat.le_of_ble_eq_true rfl) (fun v3 h4 P3 => ?_)
  obtain ⟨rfl, q2, hq2, hq2B, hLL, F3⟩ := P3
  have HO4 := F3.keep HO3 (fun e => by have := (hL0 o e).1; rw [a9.2.1] at this; cases this)
  have hI4 : Sub I h4 := ((b1.fr0 F1).fr F2 (fun x hx => Or.inl (hS2 x hx).2.1)).fr F3 (fun x hx => Or.inl (hL0 x hx).2)
  have KD4 := ((KDW.1.fr F1 (fun x hx => by cases hx)).fr F2 (fun x hx e => by have := (KDW.2 x e).1; rw [(hS2 x hx).1] at this; omega)).fr F3 (fun x hx e => by have := (KDW.2 x e).1; rw [(hL0 x hx).1] at this; omega)
  obtain ⟨fsc, hcm⟩ := hC.cls
  have hcm4 := hI4 _ _ hcm
  refine ev_aload_n dX1_carryOut_45 rfl ?_
  refine ev_aload_n dX1_carryOut_46 rfl ?_
  refine ev_getf dX1_carryOut_47 gf_X1_37_X1 HO4 rfl ?_
  refine ev_callVR dX1_carryOut_50 cv_X1_88_X4 ce_X4_carryOut hcm4 rfl rfl rfl (k_carry hG hI4 KD4 (fun x hx => (KDW.2 x hx).2) hC hok (Nat.le_refl 497) (Nat.le_refl 12) (Nat.le_refl _)) (by omega) (by omega) (by omega) (Nat.le_of_ble_eq_true rfl) (fun v4 h5 P4 => ?_)
  obtain ⟨J, rfl, G4, KD5, F4⟩ := P4
  refine ev_ireturn dX1_carryOut_53 rfl ?_
  obtain ⟨⟨own', WR'⟩, S9, F9, hB9, ho9⟩ := WXr.push HO WR hl7 kL hL0 hL1 hL2 F1 KD hz F2 hA F3 hq2 hLL G4 KD5 F4 hC hok
  exact ⟨_, rfl, rfl, ⟨J, own', p, _, cl, ud, uv, uh, ib, iv, ic, os, ow, sdv, scv, lev, _, F9.keep HO ho9, WR'⟩, G4.1.trans G4.2.1, S9, F9, hB9⟩
set_option maxRecDepth 100000 in
set_option maxHeartbeats 4000000 in
theorem k_carryX1 (hG : GKx g) (HO : h o = some (.inr (0, [.ref p.2.1, .ref cl, .ref ud, sdv, scv, .ref ib, .ref os, lev, vz σ.2.2.2.2.2.1, vz σ.2.2.2.2.1]))) (WR : WXr g N B I h own o p us cl ud uv uh ib iv ic os ow sdv scv lev cs σ) {cm : Nat} {C : Cm} (hC : CmC g I cm C) (hok : cmOk C) (hd : 500 ≤ d) (hc : 20 ≤ c) (hk : cmK C + 53 ≤ k) : Kc g mX1_carryOut d c k [.ref o, .ref cm] h (rR (fun v h' => v = some (vz (cmV C σ.1)) ∧ WX g (N + 1) B h' o (keepSp σ (cmD C σ.1)) ∧ Sub I h' ∧ ∃ S, Fr g h h' S ∧ ∀ x ∈ S, ¬ B x)) := by
  refine Kc.of (ls := [some (.ref o), some (.ref cm), none]) (by decide +kernel) (Nat.le_of_ble_eq_true rfl) rfl ?_
  obtain ⟨a9, ⟨b1, b2, b3⟩, KDW, ⟨d1, d2⟩, ⟨e1, e2, e3, e4, e5, e6⟩, ⟨n1, n2⟩, s9, i9, u9, r9⟩ := id WR
  obtain ⟨mc0, L, kL, hL0, hL1, hL2, d3⟩ := id d1
  have hp10 := n2 p List.mem_cons_self
  obtain ⟨hS2, hoS⟩ := WR.ne2
  by_cases c8 : us.length = 8
  · obtain ⟨u0, us', hu⟩ : ∃ u0 us', us = u0 :: us' := by
      cases us with
      | nil => simp at c8
      | cons u t => exact ⟨u, t, rfl⟩
    obtain ⟨D0, hDs⟩ : ∃ D0, σ.2.1 = D0 :: σ.2.1.tail := by
      cases q : σ.2.1 with
      | nil => rw [q, List.length_nil] at e3; omega
      | cons D0 t => exact ⟨D0, rfl⟩
    have eB : ADh g h ud uv uh (u0.2.1 :: us'.map (fun q => q.2.1)) := by rw [hu] at e1; exact e1
    refine ev_aload_n dX1_carryOut_0 rfl ?_
    refine ev_getf dX1_carryOut_1 gf_X1_51_X1 HO rfl ?_
    refine ev_callVE dX1_carryOut_4 cv_X1_71_J4 ce_J4_size e1.1 rfl rfl rfl (ad_size e1) (by omega) (Nat.le_of_ble_eq_true rfl) ?_
    refine ev_bipushZ dX1_carryOut_7 rfl ?_
    refine ev_icmp_neZ (tgt := 23) dX1_carryOut_9 (by decide) (by first | omega | (rw [List.length_map]; omega)) (by first | omega | (rw [List.length_map]; omega)) (fun c9 => by rw [List.length_map] at c9; omega) (fun c9 => ?_)
    refine ev_aload_n dX1_carryOut_12 rfl ?_
    refine ev_getf dX1_carryOut_13 gf_X1_51_X1 HO rfl ?_
    refine ev_callVR dX1_carryOut_16 cv_X1_75_J4 ce_J4_removeFirst eB.1 rfl rfl rfl (ad_removeFirst eB) (by omega) (by omega) (by omega) (Nat.le_of_ble_eq_true rfl) (fun v1 h2 P1 => ?_)
    obtain ⟨rfl, hA, F2⟩ := P1
    obtain ⟨fs0, hc0⟩ := (e6 0 u0 D0 (by rw [hu]; rfl) (by rw [hDs]; rfl)).1.1.cls
    have hc3 := F2.keep hc0 (fun e => by have h1 := (hS2 _ e).1; have h2 := ((e6 0 u0 D0 (by rw [hu]; rfl) (by rw [hDs]; rfl)).1.2 u0.2.1 (by simp [dnS])).1; have h3 := n2 u0 (by rw [hu]; exact List.mem_cons_of_mem _ List.mem_cons_self); omega)
    have HO2 := F2.keep HO hoS
    refine ev_castY dX1_carryOut_19 q185 hc3 rfl (Or.inl rfl) ?_
    refine ev_astore_n dX1_carryOut_22 (by decide) rfl ?_
    dsimp only [List.set]
    have WR2 := WR.drop hu F2 hA
    have h9 := cy23 (σ := (σ.1, σ.2.1.tail, σ.2.2)) hG HO2 WR2 hC hok (by rw [hu, List.length_cons] at c8; omega) hd hc hk (some (.ref u0.2.1))
    refine h9.mono (fun r h' q => ?_)
    obtain ⟨v, rfl, x2, x3, x4, S9, F9, hB9⟩ := q
    refine ⟨v, rfl, x2, ?_, x4, S9 ++ [ud, uv], (F2.more (fun x hx => Or.inl (List.mem_append_right _ hx))).call F9 (fun x hx => Or.inl (List.mem_append_left _ hx)), fun x hx e => ?_⟩
    · unfold keepSp; rw [if_pos (by omega)]; exact x3
    · rcases List.mem_append.mp hx with q | q
      · exact hB9 x q e
      · have := (b3 x e).1; have h2 := (hS2 x q).1; omega
  · refine ev_aload_n dX1_carryOut_0 rfl ?_
    refine ev_getf dX1_carryOut_1 gf_X1_51_X1 HO rfl ?_
    refine ev_callVE dX1_carryOut_4 cv_X1_71_J4 ce_J4_size e1.1 rfl rfl rfl (ad_size e1) (by omega) (Nat.le_of_ble_eq_true rfl) ?_
    refine ev_bipushZ dX1_carryOut_7 rfl ?_
    refine ev_icmp_neZ (tgt := 23) dX1_carryOut_9 (by decide) (by first | omega | (rw [List.length_map]; omega)) (by first | omega | (rw [List.length_map]; omega)) (fun c9 => ?_) (fun c9 => by rw [List.length_map] at c9; omega)
    have h9 := cy23 hG HO WR hC hok (by omega) hd hc hk none
    refine h9.mono (fun r h' q => ?_)
    obtain ⟨v, rfl, x2, x3, x4⟩ := q
    refine ⟨v, rfl, x2, ?_, x4⟩
    unfold keepSp; rw [if_neg (by omega)]; exact x3
end
end X7S

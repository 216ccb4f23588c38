/-! THE COMPONENT: commands (printed by gen) -/
section U1S
variable {g : GB} {M : MI} {d c k : Nat} {h : HM}
/-- a command: its kind (0 a place, 1 a piece, 2 a place in a formation), its numbers, its piece -/
abbrev Cm : Type := Nat × (Nat × Nat × Int) × List Nd
def CmC (g : GB) (I : HM) (cm : Nat) (C : Cm) : Prop :=
  (C.1 = 0 ∧ C.2.1.2.1 < 8 ∧ ∃ (nu : Nat) (N : Nat → Int), I cm = some (.inr (3, [.ref (g.2.2.2.2 (53 + 0)), .null, .ref nu])) ∧ I nu = some (.inl (0, (2, .inl (fun j => zI (N j))))) ∧ N 0 = ((C.2.1.2.1 : Nat) : Int) ∧ N 1 = C.2.1.2.2) ∨
  (C.1 = 1 ∧ ∃ nu p : Nat, I cm = some (.inr (3, [.ref (g.2.2.2.2 (53 + 1)), .ref p, .ref nu])) ∧ NodeAt I 81 p C.2.2) ∨
  (C.1 = 2 ∧ C.2.1.1 < 4 ∧ C.2.1.2.1 < 8 ∧ ∃ (nu : Nat) (N : Nat → Int), I cm = some (.inr (3, [.ref (g.2.2.2.2 (53 + 2)), .null, .ref nu])) ∧ I nu = some (.inl (0, (3, .inl (fun j => zI (N j))))) ∧ N 0 = ((C.2.1.1 : Nat) : Int) ∧ N 1 = ((C.2.1.2.1 : Nat) : Int) ∧ N 2 = C.2.1.2.2)
theorem CmC.sub {I J : HM} {cm : Nat} {C : Cm} (K : CmC g I cm C) (hS : Sub I J) : CmC g J cm C := by
  rcases K with ⟨h1, h2, nu, N, h3, h4, h5⟩ | ⟨h1, nu, p, h3, h4⟩ | ⟨h1, h2, h2b, nu, N, h3, h4, h5⟩
  · exact Or.inl ⟨h1, h2, nu, N, hS _ _ h3, hS _ _ h4, h5⟩
  · exact Or.inr (Or.inl ⟨h1, nu, p, hS _ _ h3, h4.sub hS⟩)
  · exact Or.inr (Or.inr ⟨h1, h2, h2b, nu, N, hS _ _ h3, hS _ _ h4, h5⟩)
/-- what a command does -/
def cmD (C : Cm) (D : Dn) : Dn := if C.1 = 0 then (D.1, setAt D.2.1 (C.2.1.2.1 : Nat) C.2.1.2.2, D.2.2) else if C.1 = 1 then wPiece D C.2.2 else (D.1, D.2.1, (fun f => if f = C.2.1.1 then setAt (D.2.2.1 f) (C.2.1.2.1 : Nat) C.2.1.2.2 else D.2.2.1 f), D.2.2.2)
/-- what it answers -/
def cmV (C : Cm) (D : Dn) : Int := if C.1 = 0 then D.2.1 C.2.1.2.1 else if C.1 = 1 then -1 else D.2.2.1 C.2.1.1 C.2.1.2.1
set_option maxRecDepth 100000 in
set_option maxHeartbeats 4000000 in
theorem k_co0 {I : HM} {a st fo cm : Nat} {C : Cm} {D : Dn} (hG : GKx g) (hSI : Sub I h) (H : DnC g I h a st fo D) (hna : ∀ x ∈ dnS a st fo, I x = none) (hj0 : C.1 = 0) (hx8 : C.2.1.2.1 < 8) {nu : Nat} {N : Nat → Int} (gcm : I cm = some (.inr (3, [.ref (g.2.2.2.2 (53 + 0)), .null, .ref nu]))) (gnu : I nu = some (.inl (0, (2, .inl (fun j => zI (N j)))))) (hN0 : N 0 = ((C.2.1.2.1 : Nat) : Int)) (hN1 : N 1 = C.2.1.2.2) (hd : 1 ≤ d) : Kc g mX4_carryOut d (c) (k) [.ref cm, .ref a] h (rR (fun v h' => ∃ J : HM, v = some (vz (cmV C D)) ∧ Gw I h J h' ∧ DnC g J h' a st fo (cmD C D) ∧ Fr g h h' (dnS a st fo))) := by
  refine Kc.of (ls := [some (.ref cm), some (.ref a), none]) (by decide +kernel) (Nat.le_of_ble_eq_true rfl) rfl ?_
  obtain ⟨A, B, pv, sv, K, hA, hB9, hV⟩ := id H
  obtain ⟨k1, k2, k3, k4, k5, k6, k7, k8⟩ := id K
  have hcm := hSI _ _ gcm
  have hnu := hSI _ _ gnu
  refine ev_iconstZ dX4_carryOut_0 ?_
  refine ev_istore_n dX4_carryOut_1 (by decide) rfl ?_
  dsimp only [List.set]
  refine ev_aload_n dX4_carryOut_2 rfl ?_
  refine ev_getf dX4_carryOut_3 gf_X4_9_X4 hcm rfl ?_
  refine ev_callOrd (len := 3) (j := 0) hG (by omega) dX4_carryOut_6 cv_X4_23 rfl (k_ordinal hG (by omega)) (by omega) (Nat.le_of_ble_eq_true rfl) ?_
  refine ev_lookup (x := zI ((0 : Nat) : Int)) (off := 27) (tgt := 36) dX4_carryOut_9 (by decide +kernel) (by decide +kernel) (by decide) ?_
  refine ev_aload_n dX4_carryOut_36 rfl ?_
  refine ev_getf dX4_carryOut_37 gf_X4_29_X2 k1 rfl ?_
  refine ev_aload_n dX4_carryOut_40 rfl ?_
  refine ev_getf dX4_carryOut_41 gf_X4_19_X4 hcm rfl ?_
  refine ev_iconstZ dX4_carryOut_44 ?_
  refine ev_ialdY dX4_carryOut_45 hnu (by omega) ?_
  rw [show (0 : Int).toNat = 0 from rfl, hN0]
  refine ev_ialdY dX4_carryOut_46 k2 (by omega) ?_
  rw [Int.toNat_natCast, hA _ hx8]
  refine ev_istore_n dX4_carryOut_47 (by decide) rfl ?_
  dsimp only [List.set]
  refine ev_aload_n dX4_carryOut_48 rfl ?_
  refine ev_getf dX4_carryOut_49 gf_X4_29_X2 k1 rfl ?_
  refine ev_aload_n dX4_carryOut_52 rfl ?_
  refine ev_getf dX4_carryOut_53 gf_X4_19_X4 hcm rfl ?_
  refine ev_iconstZ dX4_carryOut_56 ?_
  refine ev_ialdY dX4_carryOut_57 hnu (by omega) ?_
  rw [show (0 : Int).toNat = 0 from rfl, hN0]
  refine ev_aload_n dX4_carryOut_58 rfl ?_
  refine ev_getf dX4_carryOut_59 gf_X4_19_X4 hcm rfl ?_
  refine ev_iconstZ dX4_carryOut_62 ?_
  refine ev_ialdY dX4_carryOut_63 hnu (by omega) ?_
  rw [show (1 : Int).toNat = 1 from rfl, hN1]
  refine ev_iastY dX4_carryOut_64 k2 k6 (by omega) trivial (fun hp_1 k2_2 f3 => ?_)
  have k1_4 := (f3 _ (ne_of k1 k2 (by simp))).trans k1
  have k3_5 := (f3 _ (ne_of k3 k2 (by simp))).trans k3
  have hcm_6 := (f3 _ (ne_of hcm k2 (by simp))).trans hcm
  have hnu_7 := (f3 _ (fun e => by have := hna st (by simp [dnS]); rw [← e, gnu] at this; cases this)).trans hnu
  have F8 := ((Fr.refl (g := g) _ (dnS a st fo))).write (Or.inr ⟨_, k2_2, Nat.le_of_ble_eq_true rfl⟩) f3 k6 (by simp [dnS])
  refine ev_goto (tgt := 122) dX4_carryOut_65 (by decide) ?_
  refine ev_iload_n dX4_carryOut_122 rfl ?_
  refine ev_ireturn dX4_carryOut_123 rfl ?_
  have KS := K.start k2_2 f3
  have ed : cmD C D = (D.1, setAt D.2.1 (C.2.1.2.1 : Nat) C.2.1.2.2, D.2.2) := by unfold cmD; rw [if_pos hj0]
  have KD9 : DnC g I hp_1 a st fo (cmD C D) := by
    rw [ed]
    refine ⟨_, B, pv, sv, KS, fun e he => ?_, hB9, hV⟩
    show uz A _ _ e = setAt D.2.1 _ _ e
    unfold uz setAt; rw [Int.toNat_natCast]
    by_cases q : e = C.2.1.2.1
    · rw [if_pos q, if_pos (by omega)]
    · rw [if_neg q, if_neg (by omega)]; exact hA e he
  exact ⟨_, rfl, I, by unfold cmV; rw [if_pos hj0], ⟨Sub.refl I, hSI.fr F8 (fun x hx => Or.inl (hna x hx)), fun _ q => Or.inl q⟩, KD9, F8⟩
set_option maxRecDepth 100000 in
set_option maxHeartbeats 4000000 in
theorem k_co2 {I : HM} {a st fo cm : Nat} {C : Cm} {D : Dn} (hG : GKx g) (hSI : Sub I h) (H : DnC g I h a st fo D) (hna : ∀ x ∈ dnS a st fo, I x = none) (hj2 : C.1 = 2) (hf4 : C.2.1.1 < 4) (hx8 : C.2.1.2.1 < 8) {nu : Nat} {N : Nat → Int} (gcm : I cm = some (.inr (3, [.ref (g.2.2.2.2 (53 + 2)), .null, .ref nu]))) (gnu : I nu = some (.inl (0, (3, .inl (fun j => zI (N j)))))) (hN0 : N 0 = ((C.2.1.1 : Nat) : Int)) (hN1 : N 1 = ((C.2.1.2.1 : Nat) : Int)) (hN2 : N 2 = C.2.1.2.2) (hd : 1 ≤ d) : Kc g mX4_carryOut d (c) (k) [.ref cm, .ref a] h (rR (fun v h' => ∃ J : HM, v = some (vz (cmV C D)) ∧ Gw I h J h' ∧ DnC g J h' a st fo (cmD C D) ∧ Fr g h h' (dnS a st fo))) := by
  refine Kc.of (ls := [some (.ref cm), some (.ref a), none]) (by decide +kernel) (Nat.le_of_ble_eq_true rfl) rfl ?_
  obtain ⟨A, B, pv, sv, K, hA, hB9, hV⟩ := id H
  obtain ⟨k1, k2, k3, k4, k5, k6, k7, k8⟩ := id K
  have hcm := hSI _ _ gcm
  have hnu := hSI _ _ gnu
  have rw1 := k4 _ hf4
  have rwB : gB g ≤ fo + 1 + C.2.1.1 := by omega
  refine ev_iconstZ dX4_carryOut_0 ?_
  refine ev_istore_n dX4_carryOut_1 (by decide) rfl ?_
  dsimp only [List.set]
  refine ev_aload_n dX4_carryOut_2 rfl ?_
  refine ev_getf dX4_carryOut_3 gf_X4_9_X4 hcm rfl ?_
  refine ev_callOrd (len := 3) (j := 2) hG (by omega) dX4_carryOut_6 cv_X4_23 rfl (k_ordinal hG (by omega)) (by omega) (Nat.le_of_ble_eq_true rfl) ?_
  refine ev_lookup (x := zI ((2 : Nat) : Int)) (off := 59) (tgt := 68) dX4_carryOut_9 (by decide +kernel) (by decide +kernel) (by decide) ?_
  refine ev_aload_n dX4_carryOut_68 rfl ?_
  refine ev_getf dX4_carryOut_69 gf_X4_34_X2 k1 rfl ?_
  refine ev_aload_n dX4_carryOut_72 rfl ?_
  refine ev_getf dX4_carryOut_73 gf_X4_19_X4 hcm rfl ?_
  refine ev_iconstZ dX4_carryOut_76 ?_
  refine ev_ialdY dX4_carryOut_77 hnu (by omega) ?_
  rw [show (0 : Int).toNat = 0 from rfl, hN0]
  refine ev_aaldY (v := .ref (fo + 1 + C.2.1.1)) dX4_carryOut_78 k3 rfl rfl (by omega) (by rw [Int.toNat_natCast, if_pos hf4]; rfl) ?_
  refine ev_aload_n dX4_carryOut_79 rfl ?_
  refine ev_getf dX4_carryOut_80 gf_X4_19_X4 hcm rfl ?_
  refine ev_iconstZ dX4_carryOut_83 ?_
  refine ev_ialdY dX4_carryOut_84 hnu (by omega) ?_
  rw [show (1 : Int).toNat = 1 from rfl, hN1]
  refine ev_ialdY dX4_carryOut_85 rw1 (by omega) ?_
  rw [Int.toNat_natCast, hB9 _ _ hf4 hx8]
  refine ev_istore_n dX4_carryOut_86 (by decide) rfl ?_
  dsimp only [List.set]
  refine ev_aload_n dX4_carryOut_87 rfl ?_
  refine ev_getf dX4_carryOut_88 gf_X4_34_X2 k1 rfl ?_
  refine ev_aload_n dX4_carryOut_91 rfl ?_
  refine ev_getf dX4_carryOut_92 gf_X4_19_X4 hcm rfl ?_
  refine ev_iconstZ dX4_carryOut_95 ?_
  refine ev_ialdY dX4_carryOut_96 hnu (by omega) ?_
  rw [show (0 : Int).toNat = 0 from rfl, hN0]
  refine ev_aaldY (v := .ref (fo + 1 + C.2.1.1)) dX4_carryOut_97 k3 rfl rfl (by omega) (by rw [Int.toNat_natCast, if_pos hf4]; rfl) ?_
  refine ev_aload_n dX4_carryOut_98 rfl ?_
  refine ev_getf dX4_carryOut_99 gf_X4_19_X4 hcm rfl ?_
  refine ev_iconstZ dX4_carryOut_102 ?_
  refine ev_ialdY dX4_carryOut_103 hnu (by omega) ?_
  rw [show (1 : Int).toNat = 1 from rfl, hN1]
  refine ev_aload_n dX4_carryOut_104 rfl ?_
  refine ev_getf dX4_carryOut_105 gf_X4_19_X4 hcm rfl ?_
  refine ev_iconstZ dX4_carryOut_108 ?_
  refine ev_ialdY dX4_carryOut_109 hnu (by omega) ?_
  rw [show (2 : Int).toNat = 2 from rfl, hN2]
  refine ev_iastY dX4_carryOut_110 rw1 rwB (by omega) trivial (fun hp_1 rw1_2 f3 => ?_)
  have k1_4 := (f3 _ (ne_of k1 rw1 (by simp))).trans k1
  have k2_5 := (f3 _ (k8 _ hf4)).trans k2
  have k3_6 := (f3 _ (ne_of k3 rw1 (by simp))).trans k3
  have hcm_7 := (f3 _ (ne_of hcm rw1 (by simp))).trans hcm
  have hnu_8 := (f3 _ (fun e => by have := hna _ (mem_dnF hf4); rw [← e, gnu] at this; cases this)).trans hnu
  have F9 := ((Fr.refl (g := g) _ (dnS a st fo))).write (Or.inr ⟨_, rw1_2, Nat.le_of_ble_eq_true rfl⟩) f3 rwB (mem_dnF hf4)
  refine ev_goto (tgt := 122) dX4_carryOut_111 (by decide) ?_
  refine ev_iload_n dX4_carryOut_122 rfl ?_
  refine ev_ireturn dX4_carryOut_123 rfl ?_
  have KS := K.rowG hf4 rw1_2 f3
  have n0 : ¬ C.1 = 0 := by omega
  have n1 : ¬ C.1 = 1 := by omega
  have ed : cmD C D = (D.1, D.2.1, (fun f => if f = C.2.1.1 then setAt (D.2.2.1 f) (C.2.1.2.1 : Nat) C.2.1.2.2 else D.2.2.1 f), D.2.2.2) := by unfold cmD; rw [if_neg n0, if_neg n1]
  have KD9 : DnC g I hp_1 a st fo (cmD C D) := by
    rw [ed]
    refine ⟨A, _, pv, sv, KS, hA, fun f e hf he => ?_, hV⟩
    show (if f = C.2.1.1 then _ else B f) e = (if f = C.2.1.1 then setAt (D.2.2.1 f) _ _ else D.2.2.1 f) e
    by_cases qf : f = C.2.1.1
    · subst qf; rw [if_pos rfl, if_pos rfl]; unfold uz setAt; rw [Int.toNat_natCast]
      by_cases q : e = C.2.1.2.1
      · rw [if_pos q, if_pos (by omega)]
      · rw [if_neg q, if_neg (by omega)]; exact hB9 _ e hf he
    · rw [if_neg qf, if_neg qf]; exact hB9 f e hf he
  exact ⟨_, rfl, I, by unfold cmV; rw [if_neg n0, if_neg n1], ⟨Sub.refl I, hSI.fr F9 (fun x hx => Or.inl (hna x hx)), fun _ q => Or.inl q⟩, KD9, F9⟩
set_option maxRecDepth 100000 in
set_option maxHeartbeats 4000000 in
theorem k_co1 {I : HM} {a st fo cm : Nat} {C : Cm} {D : Dn} (hG : GKx g) (hSI : Sub I h) (H : DnC g I h a st fo D) (hna : ∀ x ∈ dnS a st fo, I x = none) (hj1 : C.1 = 1) {nu p : Nat} (gcm : I cm = some (.inr (3, [.ref (g.2.2.2.2 (53 + 1)), .ref p, .ref nu]))) (hN : NodeAt I 81 p C.2.2) (hl : C.2.2.length < 1000000) (hok : ∀ nd ∈ C.2.2, ndOk2 nd) (hsem : sem C.2.2 = .ok (mean C.2.2)) (hd : 497 ≤ d) (hc : 12 ≤ c) (hk : 9 * (mean C.2.2).1.1 + 17 ≤ k) : Kc g mX4_carryOut d (c) (k) [.ref cm, .ref a] h (rR (fun v h' => ∃ J : HM, v = some (vz (cmV C D)) ∧ Gw I h J h' ∧ DnC g J h' a st fo (cmD C D) ∧ Fr g h h' (dnS a st fo))) := by
  refine Kc.of (ls := [some (.ref cm), some (.ref a), none]) (by decide +kernel) (Nat.le_of_ble_eq_true rfl) rfl ?_
  obtain ⟨A, B, pv, sv, K, hA, hB9, hV⟩ := id H
  obtain ⟨k1, k2, k3, k4, k5, k6, k7, k8⟩ := id K
  have hcm := hSI _ _ gcm
  refine ev_iconstZ dX4_carryOut_0 ?_
  refine ev_istore_n dX4_carryOut_1 (by decide) rfl ?_
  dsimp only [List.set]
  refine ev_aload_n dX4_carryOut_2 rfl ?_
  refine ev_getf dX4_carryOut_3 gf_X4_9_X4 hcm rfl ?_
  refine ev_callOrd (len := 3) (j := 1) hG (by omega) dX4_carryOut_6 cv_X4_23 rfl (k_ordinal hG (by omega)) (by omega) (Nat.le_of_ble_eq_true rfl) ?_
  refine ev_lookup (x := zI ((1 : Nat) : Int)) (off := 105) (tgt := 114) dX4_carryOut_9 (by decide +kernel) (by decide +kernel) (by decide) ?_
  refine ev_aload_n dX4_carryOut_114 rfl ?_
  refine ev_aload_n dX4_carryOut_115 rfl ?_
  refine ev_getf dX4_carryOut_116 gf_X4_15_X4 hcm rfl ?_
  refine ev_callVR dX4_carryOut_119 cv_X4_38_X2 ce_X2_set k1 rfl rfl rfl (k_setX2 hG hSI H (hna a (by simp [dnS])) hN hl hok hsem) (by omega) (by omega) (by omega) (Nat.le_of_ble_eq_true rfl) (fun v9 h2 P9 => ?_)
  obtain ⟨J, rfl, GJ, DJ, FJ⟩ := P9
  refine ev_iload_n dX4_carryOut_122 rfl ?_
  refine ev_ireturn dX4_carryOut_123 rfl ?_
  have n0 : ¬ C.1 = 0 := by omega
  refine ⟨_, rfl, J, by unfold cmV; rw [if_neg n0, if_pos hj1], GJ, by unfold cmD; rw [if_neg n0, if_pos hj1]; exact DJ, FJ.more (fun x hx => Or.inl (by rw [List.mem_singleton.mp hx]; simp [dnS]))⟩
end U1S

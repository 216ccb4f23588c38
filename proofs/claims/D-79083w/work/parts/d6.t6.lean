/-! THE COMPONENT: the inspector moves on (printed by gen) -/
section T6S
variable {g : GB} {M : MI} {d c k : Nat} {h : HM}
/-- where somebody is at the count k, from the place at the count before -/
def mvR (D : Dn) (P : Pt) (R : Nat → Int) (k e : Nat) : Int := if k = 0 then r0 D e else R e + alo (P.2.1 e (k - 1) : Nat)
def mvC (D : Dn) (P : Pt) (C : Nat → Int) (k e : Nat) : Int := if k = 0 then c0 D e else C e + acr (P.2.1 e (k - 1) : Nat)
def InM (D : Dn) (P : Pt) (k i : Nat) (R C R2 C2 RB2 CB2 : Nat → Int) : Prop := ∀ e : Nat, e < 8 → (e < i → R2 e = mvR D P R k e ∧ C2 e = mvC D P C k e ∧ RB2 e = R e ∧ CB2 e = C e) ∧ (i ≤ e → R2 e = R e ∧ C2 e = C e)
set_option maxRecDepth 100000 in
set_option maxHeartbeats 4000000 in
theorem k_move {o pl ro co rb cb a : Nat} {R C RB CB : Nat → Int} (K : InA h o pl ro co rb cb a R C RB CB) {h0 I : HM} {st fo k0 : Nat} {D : Dn} {l : List Nd} {P : Pt} (hP : InP g h0 o pl ro co rb cb) (hSI : Sub I h) (hIX : ∀ x : Nat, x ∈ [ro, co, rb, cb] → I x = none ∨ x < gB g) (H : DnC g I h a st fo D) (hdn : ∀ x ∈ [ro, co, rb, cb], x ∉ dnS a st fo) (hp9 : D.2.2.2 = some l) (hP9 : P = mean l) (hco : 2 ≤ D.1.1 ∧ D.1.1 ≤ 9) (hst : ∀ e : Nat, e < 8 → -1 ≤ D.2.1 e ∧ D.2.1 e < 100) (hk : k0 ≤ P.1.1 ∧ P.1.1 ≤ 99) (hn4 : ∀ e k, P.2.1 e k ≤ 4) : Kc g mX19_move 1 (0) (0) [.ref o, vz ((k0 : Nat) : Int)] h (rR (fun v h' => v = none ∧ ∃ R2 C2 RB2 CB2 : Nat → Int, InA h' o pl ro co rb cb a R2 C2 RB2 CB2 ∧ (∀ e : Nat, e < 8 → R2 e = mvR D P R k0 e ∧ C2 e = mvC D P C k0 e ∧ RB2 e = R e ∧ CB2 e = C e) ∧ Fr g h h' [ro, co, rb, cb])) := by
  refine Kc.of (ls := [some (.ref o), some (vz ((k0 : Nat) : Int)), none]) (by decide +kernel) (Nat.le_of_ble_eq_true rfl) rfl ?_
  obtain ⟨⟨n1, n2, n3, n4, n5, n6⟩, ⟨b1, b2, b3, b4⟩, -⟩ := id hP
  obtain ⟨A, B, pv, sv, KD0, hA, hB9, hV⟩ := id H
  rw [hp9] at hV
  obtain ⟨p, sc, ss, cu, ru, rfl, rfl, hN9, SA, SB, ⟨z1, z2, z3, z4, z5, z6, z7⟩, hSA, hSB⟩ := hV
  rw [← hP9] at z1 z3 z4 hSA hSB
  have t0 : ∀ x ∈ [ro, co, rb, cb], st ≠ x := fun x hx e => hdn x hx (by rw [← e]; simp [dnS])
  have t1 := t0 ro (by simp)
  have t2 := t0 co (by simp)
  have t3 := t0 rb (by simp)
  have t4 := t0 cb (by simp)
  refine ev_iconstZ dX19_move_0 ?_
  refine ev_istore_n dX19_move_1 (by decide) rfl ?_
  dsimp only [List.set]
  refine ev_for (st := []) 8 (fun i h1 => ∃ R2 C2 RB2 CB2 : Nat → Int, InA h1 o pl ro co rb cb a R2 C2 RB2 CB2 ∧ InM D P k0 i R C R2 C2 RB2 CB2 ∧ Fr g h h1 [ro, co, rb, cb]) (fun i => [some (.ref o), some (vz ((k0 : Nat) : Int)), some (vz ((i : Nat) : Int))]) 0 (Nat.zero_le _) ⟨R, C, RB, CB, K, fun e he => ⟨fun q => by omega, fun _ => ⟨rfl, rfl⟩⟩, Fr.refl _ _⟩ ⟨rfl, rfl, rfl, trivial⟩ (fun i h1 _ hi hP1 hN => ?_) (fun h1 hP1 => ?_)
  · obtain ⟨R2, C2, RB2, CB2, K2, M2, F2⟩ := hP1
    obtain ⟨i1, i2, i3, i4, i5⟩ := id K2
    have KD := KD0.fr F2 hdn
    have hI1 := hSI.fr F2 hIX
    obtain ⟨m1, m2, m3, m4, m5, m6, m7, m8⟩ := id KD
    have s1 := hI1 _ _ z1
    have s2 := hI1 _ _ z2
    have sr := hI1 _ _ (z3 i hi)
    have hst9 := hst i hi
    have hu4 := hn4 i (k0 - 1)
    by_cases hk0 : k0 = 0
    · refine ev_iload_n dX19_move_2 rfl ?_
      refine ev_bipushZ dX19_move_3 rfl ?_
      refine ev_icmp_geZ (tgt := 150) dX19_move_5 (by decide) (by omega) (by omega) (fun c5 => by omega) (fun c5 => ?_)
      refine ev_aload_n dX19_move_8 rfl ?_
      refine ev_getf dX19_move_9 gf_X19_29_X19 i1 rfl ?_
      refine ev_iload_n dX19_move_12 rfl ?_
      refine ev_aload_n dX19_move_13 rfl ?_
      refine ev_getf dX19_move_14 gf_X19_22_X19 i1 rfl ?_
      refine ev_iload_n dX19_move_17 rfl ?_
      refine ev_ialdY dX19_move_18 i2 (by omega) ?_
      rw [Int.toNat_natCast]
      refine ev_iastY dX19_move_19 i4 b3 (by omega) trivial (fun hp_1 i4_2 f3 => ?_)
      have i1_4 := (f3 _ (ne_of i1 i4 (by simp))).trans i1
      have i2_5 := (f3 _ n2).trans i2
      have i3_6 := (f3 _ n4).trans i3
      have i5_7 := (f3 _ (n6).symm).trans i5
      have m1_8 := (f3 _ (ne_of m1 i4 (by simp))).trans m1
      have m2_9 := (f3 _ t3).trans m2
      have s1_10 := (f3 _ (ne_of s1 i4 (by simp))).trans s1
      have s2_11 := (f3 _ (ne_of s2 i4 (by simp))).trans s2
      have sr_12 := (f3 _ (ne_of sr i4 (by simp))).trans sr
      have F13 := (F2).write (Or.inr ⟨_, i4_2, Nat.le_of_ble_eq_true rfl⟩) f3 b3 (by simp)
      refine ev_aload_n dX19_move_20 rfl ?_
      refine ev_getf dX19_move_21 gf_X19_32_X19 i1_4 rfl ?_
      refine ev_iload_n dX19_move_24 rfl ?_
      refine ev_aload_n dX19_move_25 rfl ?_
      refine ev_getf dX19_move_26 gf_X19_26_X19 i1_4 rfl ?_
      refine ev_iload_n dX19_move_29 rfl ?_
      refine ev_ialdY dX19_move_30 i3_6 (by omega) ?_
      rw [Int.toNat_natCast]
      refine ev_iastY dX19_move_31 i5_7 b4 (by omega) trivial (fun hp_14 i5_15 f16 => ?_)
      have i1_17 := (f16 _ (ne_of i1_4 i5_7 (by simp))).trans i1_4
      have i2_18 := (f16 _ n3).trans i2_5
      have i3_19 := (f16 _ n5).trans i3_6
      have i4_20 := (f16 _ n6).trans i4_2
      have m1_21 := (f16 _ (ne_of m1_8 i5_7 (by simp))).trans m1_8
      have m2_22 := (f16 _ t4).trans m2_9
      have s1_23 := (f16 _ (ne_of s1_10 i5_7 (by simp))).trans s1_10
      have s2_24 := (f16 _ (ne_of s2_11 i5_7 (by simp))).trans s2_11
      have sr_25 := (f16 _ (ne_of sr_12 i5_7 (by simp))).trans sr_12
      have F26 := (F13).write (Or.inr ⟨_, i5_15, Nat.le_of_ble_eq_true rfl⟩) f16 b4 (by simp)
      refine ev_aload_n dX19_move_32 rfl ?_
      refine ev_getf dX19_move_33 gf_X19_22_X19 i1_17 rfl ?_
      refine ev_iload_n dX19_move_36 rfl ?_
      refine ev_iload_n dX19_move_37 rfl ?_
      refine ev_if_neZ (tgt := 61) dX19_move_38 (by decide) (by omega) (fun c38 => by omega) (fun c38 => ?_)
      refine ev_aload_n dX19_move_41 rfl ?_
      refine ev_getf dX19_move_42 gf_X19_3_X19 i1_17 rfl ?_
      refine ev_getf dX19_move_45 gf_X19_70_X2 m1_21 rfl ?_
      refine ev_iload_n dX19_move_48 rfl ?_
      refine ev_ialdY dX19_move_49 m2_22 (by omega) ?_
      rw [Int.toNat_natCast, hA i hi]
      refine ev_aload_n dX19_move_50 rfl ?_
      refine ev_getf dX19_move_51 gf_X19_3_X19 i1_17 rfl ?_
      refine ev_getf dX19_move_54 gf_X19_49_X2 m1_21 rfl ?_
      refine ev_idivM (x := 0) dX19_move_57 hco.1 hco.2 hst9 ?_
      refine ev_goto (tgt := 87) dX19_move_58 (by decide) ?_
      refine ev_iastY dX19_move_87 i2_18 b1 (by omega) trivial (fun hp_27 i2_28 f29 => ?_)
      have i1_30 := (f29 _ (ne_of i1_17 i2_18 (by simp))).trans i1_17
      have i3_31 := (f29 _ (n1).symm).trans i3_19
      have i4_32 := (f29 _ (n2).symm).trans i4_20
      have i5_33 := (f29 _ (n3).symm).trans i5_15
      have m1_34 := (f29 _ (ne_of m1_21 i2_18 (by simp))).trans m1_21
      have m2_35 := (f29 _ t1).trans m2_22
      have s1_36 := (f29 _ (ne_of s1_23 i2_18 (by simp))).trans s1_23
      have s2_37 := (f29 _ (ne_of s2_24 i2_18 (by simp))).trans s2_24
      have sr_38 := (f29 _ (ne_of sr_25 i2_18 (by simp))).trans sr_25
      have F39 := (F26).write (Or.inr ⟨_, i2_28, Nat.le_of_ble_eq_true rfl⟩) f29 b1 (by simp)
      refine ev_aload_n dX19_move_88 rfl ?_
      refine ev_getf dX19_move_89 gf_X19_26_X19 i1_30 rfl ?_
      refine ev_iload_n dX19_move_92 rfl ?_
      refine ev_iload_n dX19_move_93 rfl ?_
      refine ev_if_neZ (tgt := 117) dX19_move_94 (by decide) (by omega) (fun c94 => by omega) (fun c94 => ?_)
      refine ev_aload_n dX19_move_97 rfl ?_
      refine ev_getf dX19_move_98 gf_X19_3_X19 i1_30 rfl ?_
      refine ev_getf dX19_move_101 gf_X19_70_X2 m1_34 rfl ?_
      refine ev_iload_n dX19_move_104 rfl ?_
      refine ev_ialdY dX19_move_105 m2_35 (by omega) ?_
      rw [Int.toNat_natCast, hA i hi]
      refine ev_aload_n dX19_move_106 rfl ?_
      refine ev_getf dX19_move_107 gf_X19_3_X19 i1_30 rfl ?_
      refine ev_getf dX19_move_110 gf_X19_49_X2 m1_34 rfl ?_
      refine ev_iremM (x := 0) dX19_move_113 hco.1 hco.2 hst9 ?_
      refine ev_goto (tgt := 143) dX19_move_114 (by decide) ?_
      refine ev_iastY dX19_move_143 i3_31 b2 (by omega) trivial (fun hp_40 i3_41 f42 => ?_)
      have i1_43 := (f42 _ (ne_of i1_30 i3_31 (by simp))).trans i1_30
      have i2_44 := (f42 _ n1).trans i2_28
      have i4_45 := (f42 _ (n4).symm).trans i4_32
      have i5_46 := (f42 _ (n5).symm).trans i5_33
      have m1_47 := (f42 _ (ne_of m1_34 i3_31 (by simp))).trans m1_34
      have m2_48 := (f42 _ t2).trans m2_35
      have s1_49 := (f42 _ (ne_of s1_36 i3_31 (by simp))).trans s1_36
      have s2_50 := (f42 _ (ne_of s2_37 i3_31 (by simp))).trans s2_37
      have sr_51 := (f42 _ (ne_of sr_38 i3_31 (by simp))).trans sr_38
      have F52 := (F39).write (Or.inr ⟨_, i3_41, Nat.le_of_ble_eq_true rfl⟩) f42 b2 (by simp)
      refine ev_iincZ dX19_move_144 rfl (by decide) rfl ?_
      dsimp only [List.set]
      refine ev_goto (tgt := 2) dX19_move_147 (by decide) ?_
      have KZ : InA hp_40 o pl ro co rb cb a _ _ _ _ := ⟨i1_43, i2_44, i3_41, i4_45, i5_46⟩
      refine hN _ _ (by repeat' first | exact rfl | exact trivial | exact vz_eq (by omega) | refine And.intro ?_ ?_) ⟨_, _, _, _, KZ, fun e he => ⟨fun hei => ?_, fun hie => ?_⟩, F52⟩
      · unfold uz
        simp only [Int.toNat_natCast]
        by_cases q9 : e = i
        · subst q9
          obtain ⟨m5, m6⟩ := (M2 e he).2 (Nat.le_refl _)
          simp only [if_pos rfl]
          unfold mvR mvC; rw [if_pos hk0, if_pos hk0]; exact ⟨rfl, rfl, m5, m6⟩
        · rw [if_neg q9, if_neg q9, if_neg q9, if_neg q9]; exact (M2 e he).1 (by omega)
      · unfold uz
        simp only [Int.toNat_natCast]
        rw [if_neg (by omega), if_neg (by omega)]; exact (M2 e he).2 (by omega)
    · refine ev_iload_n dX19_move_2 rfl ?_
      refine ev_bipushZ dX19_move_3 rfl ?_
      refine ev_icmp_geZ (tgt := 150) dX19_move_5 (by decide) (by omega) (by omega) (fun c5 => by omega) (fun c5 => ?_)
      refine ev_aload_n dX19_move_8 rfl ?_
      refine ev_getf dX19_move_9 gf_X19_29_X19 i1 rfl ?_
      refine ev_iload_n dX19_move_12 rfl ?_
      refine ev_aload_n dX19_move_13 rfl ?_
      refine ev_getf dX19_move_14 gf_X19_22_X19 i1 rfl ?_
      refine ev_iload_n dX19_move_17 rfl ?_
      refine ev_ialdY dX19_move_18 i2 (by omega) ?_
      rw [Int.toNat_natCast]
      refine ev_iastY dX19_move_19 i4 b3 (by omega) trivial (fun hp_1 i4_2 f3 => ?_)
      have i1_4 := (f3 _ (ne_of i1 i4 (by simp))).trans i1
      have i2_5 := (f3 _ n2).trans i2
      have i3_6 := (f3 _ n4).trans i3
      have i5_7 := (f3 _ (n6).symm).trans i5
      have m1_8 := (f3 _ (ne_of m1 i4 (by simp))).trans m1
      have m2_9 := (f3 _ t3).trans m2
      have s1_10 := (f3 _ (ne_of s1 i4 (by simp))).trans s1
      have s2_11 := (f3 _ (ne_of s2 i4 (by simp))).trans s2
      have sr_12 := (f3 _ (ne_of sr i4 (by simp))).trans sr
      have F13 := (F2).write (Or.inr ⟨_, i4_2, Nat.le_of_ble_eq_true rfl⟩) f3 b3 (by simp)
      refine ev_aload_n dX19_move_20 rfl ?_
      refine ev_getf dX19_move_21 gf_X19_32_X19 i1_4 rfl ?_
      refine ev_iload_n dX19_move_24 rfl ?_
      refine ev_aload_n dX19_move_25 rfl ?_
      refine ev_getf dX19_move_26 gf_X19_26_X19 i1_4 rfl ?_
      refine ev_iload_n dX19_move_29 rfl ?_
      refine ev_ialdY dX19_move_30 i3_6 (by omega) ?_
      rw [Int.toNat_natCast]
      refine ev_iastY dX19_move_31 i5_7 b4 (by omega) trivial (fun hp_14 i5_15 f16 => ?_)
      have i1_17 := (f16 _ (ne_of i1_4 i5_7 (by simp))).trans i1_4
      have i2_18 := (f16 _ n3).trans i2_5
      have i3_19 := (f16 _ n5).trans i3_6
      have i4_20 := (f16 _ n6).trans i4_2
      have m1_21 := (f16 _ (ne_of m1_8 i5_7 (by simp))).trans m1_8
      have m2_22 := (f16 _ t4).trans m2_9
      have s1_23 := (f16 _ (ne_of s1_10 i5_7 (by simp))).trans s1_10
      have s2_24 := (f16 _ (ne_of s2_11 i5_7 (by simp))).trans s2_11
      have sr_25 := (f16 _ (ne_of sr_12 i5_7 (by simp))).trans sr_12
      have F26 := (F13).write (Or.inr ⟨_, i5_15, Nat.le_of_ble_eq_true rfl⟩) f16 b4 (by simp)
      refine ev_aload_n dX19_move_32 rfl ?_
      refine ev_getf dX19_move_33 gf_X19_22_X19 i1_17 rfl ?_
      refine ev_iload_n dX19_move_36 rfl ?_
      refine ev_iload_n dX19_move_37 rfl ?_
      refine ev_if_neZ (tgt := 61) dX19_move_38 (by decide) (by omega) (fun c38 => ?_) (fun c38 => by omega)
      refine ev_aload_n dX19_move_61 rfl ?_
      refine ev_getf dX19_move_62 gf_X19_22_X19 i1_17 rfl ?_
      refine ev_iload_n dX19_move_65 rfl ?_
      refine ev_ialdY dX19_move_66 i2_18 (by omega) ?_
      rw [Int.toNat_natCast]
      refine ev_aload_n dX19_move_67 rfl ?_
      refine ev_getf dX19_move_68 gf_X19_3_X19 i1_17 rfl ?_
      refine ev_getf dX19_move_71 gf_X19_73_X2 m1_21 rfl ?_
      refine ev_getf dX19_move_74 gf_X19_77_X5 s1_23 rfl ?_
      refine ev_iload_n dX19_move_77 rfl ?_
      refine ev_aaldY (v := .ref (ss + 1 + i)) dX19_move_78 s2_24 rfl rfl (by omega) (by rw [Int.toNat_natCast, if_pos hi]; rfl) ?_
      refine ev_iload_n dX19_move_79 rfl ?_
      refine ev_iconstZ dX19_move_80 ?_
      refine ev_isubZ dX19_move_81 ?_
      refine ev_caldY dX19_move_82 sr_25 (by omega) ?_
      rw [show (((k0 : Nat) : Int) - 1).toNat = k0 - 1 by omega, hSA i (k0 - 1) hi (by omega)]
      refine ev_callSE dX19_move_83 cs_X19_83 ce_X1_rowsOf rfl rfl (k_rowsOf (d := 0) hu4) (by omega) (Nat.le_of_ble_eq_true rfl) ?_
      refine ev_iaddZ dX19_move_86 ?_
      refine ev_iastY dX19_move_87 i2_18 b1 (by omega) trivial (fun hp_27 i2_28 f29 => ?_)
      have i1_30 := (f29 _ (ne_of i1_17 i2_18 (by simp))).trans i1_17
      have i3_31 := (f29 _ (n1).symm).trans i3_19
      have i4_32 := (f29 _ (n2).symm).trans i4_20
      have i5_33 := (f29 _ (n3).symm).trans i5_15
      have m1_34 := (f29 _ (ne_of m1_21 i2_18 (by simp))).trans m1_21
      have m2_35 := (f29 _ t1).trans m2_22
      have s1_36 := (f29 _ (ne_of s1_23 i2_18 (by simp))).trans s1_23
      have s2_37 := (f29 _ (ne_of s2_24 i2_18 (by simp))).trans s2_24
      have sr_38 := (f29 _ (ne_of sr_25 i2_18 (by simp))).trans sr_25
      have F39 := (F26).write (Or.inr ⟨_, i2_28, Nat.le_of_ble_eq_true rfl⟩) f29 b1 (by simp)
      refine ev_aload_n dX19_move_88 rfl ?_
      refine ev_getf dX19_move_89 gf_X19_26_X19 i1_30 rfl ?_
      refine ev_iload_n dX19_move_92 rfl ?_
      refine ev_iload_n dX19_move_93 rfl ?_
      refine ev_if_neZ (tgt := 117) dX19_move_94 (by decide) (by omega) (fun c94 => ?_) (fun c94 => by omega)
      refine ev_aload_n dX19_move_117 rfl ?_
      refine ev_getf dX19_move_118 gf_X19_26_X19 i1_30 rfl ?_
      refine ev_iload_n dX19_move_121 rfl ?_
      refine ev_ialdY dX19_move_122 i3_31 (by omega) ?_
      rw [Int.toNat_natCast]
      refine ev_aload_n dX19_move_123 rfl ?_
      refine ev_getf dX19_move_124 gf_X19_3_X19 i1_30 rfl ?_
      refine ev_getf dX19_move_127 gf_X19_73_X2 m1_34 rfl ?_
      refine ev_getf dX19_move_130 gf_X19_77_X5 s1_36 rfl ?_
      refine ev_iload_n dX19_move_133 rfl ?_
      refine ev_aaldY (v := .ref (ss + 1 + i)) dX19_move_134 s2_37 rfl rfl (by omega) (by rw [Int.toNat_natCast, if_pos hi]; rfl) ?_
      refine ev_iload_n dX19_move_135 rfl ?_
      refine ev_iconstZ dX19_move_136 ?_
      refine ev_isubZ dX19_move_137 ?_
      refine ev_caldY dX19_move_138 sr_38 (by omega) ?_
      rw [show (((k0 : Nat) : Int) - 1).toNat = k0 - 1 by omega, hSA i (k0 - 1) hi (by omega)]
      refine ev_callSE dX19_move_139 cs_X19_87 ce_X1_columnsOf rfl rfl (k_columnsOf (d := 0) hu4) (by omega) (Nat.le_of_ble_eq_true rfl) ?_
      refine ev_iaddZ dX19_move_142 ?_
      refine ev_iastY dX19_move_143 i3_31 b2 (by omega) trivial (fun hp_40 i3_41 f42 => ?_)
      have i1_43 := (f42 _ (ne_of i1_30 i3_31 (by simp))).trans i1_30
      have i2_44 := (f42 _ n1).trans i2_28
      have i4_45 := (f42 _ (n4).symm).trans i4_32
      have i5_46 := (f42 _ (n5).symm).trans i5_33
      have m1_47 := (f42 _ (ne_of m1_34 i3_31 (by simp))).trans m1_34
      have m2_48 := (f42 _ t2).trans m2_35
      have s1_49 := (f42 _ (ne_of s1_36 i3_31 (by simp))).trans s1_36
      have s2_50 := (f42 _ (ne_of s2_37 i3_31 (by simp))).trans s2_37
      have sr_51 := (f42 _ (ne_of sr_38 i3_31 (by simp))).trans sr_38
      have F52 := (F39).write (Or.inr ⟨_, i3_41, Nat.le_of_ble_eq_true rfl⟩) f42 b2 (by simp)
      refine ev_iincZ dX19_move_144 rfl (by decide) rfl ?_
      dsimp only [List.set]
      refine ev_goto (tgt := 2) dX19_move_147 (by decide) ?_
      have KZ : InA hp_40 o pl ro co rb cb a _ _ _ _ := ⟨i1_43, i2_44, i3_41, i4_45, i5_46⟩
      refine hN _ _ (by repeat' first | exact rfl | exact trivial | exact vz_eq (by omega) | refine And.intro ?_ ?_) ⟨_, _, _, _, KZ, fun e he => ⟨fun hei => ?_, fun hie => ?_⟩, F52⟩
      · unfold uz
        simp only [Int.toNat_natCast]
        by_cases q9 : e = i
        · subst q9
          obtain ⟨m5, m6⟩ := (M2 e he).2 (Nat.le_refl _)
          simp only [if_pos rfl]
          unfold mvR mvC; rw [if_neg hk0, if_neg hk0, m5, m6]; exact ⟨rfl, rfl, rfl, rfl⟩
        · rw [if_neg q9, if_neg q9, if_neg q9, if_neg q9]; exact (M2 e he).1 (by omega)
      · unfold uz
        simp only [Int.toNat_natCast]
        rw [if_neg (by omega), if_neg (by omega)]; exact (M2 e he).2 (by omega)
  · obtain ⟨R2, C2, RB2, CB2, K2, M2, F2⟩ := hP1
    refine ev_iload_n dX19_move_2 rfl ?_
    refine ev_bipushZ dX19_move_3 rfl ?_
    refine ev_icmp_geZ (tgt := 150) dX19_move_5 (by decide) (by omega) (by omega) (fun c5 => ?_) (fun c5 => by omega)
    refine ev_return dX19_move_150 rfl ?_
    exact ⟨_, rfl, rfl, R2, C2, RB2, CB2, K2, fun e he => (M2 e he).1 he, F2⟩
end T6S

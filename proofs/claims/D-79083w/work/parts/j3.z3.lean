/-! THE COMPONENT: the class, a new object (printed by gen) -/
section Z3S
variable {g : GB} {M : MI} {d c k : Nat} {h : HM}
def sp0 : Sp := (dn0 5 5, [], none, ([], []), (0, -1, -1))
theorem ne_fr {h1 : HM} {x y : Nat} (hx : h1 x ≠ none) (hy : h1 y = none) : x ≠ y := fun e => by rw [e] at hx; exact hx hy
set_option maxRecDepth 100000 in
set_option maxHeartbeats 4000000 in
theorem kx_init {N : Nat} {B : Nat → Prop} {o : Nat} (hG : GKx g) (K0 : KC g h) (HO1 : h o = some (.inr (0, [.null, .null, .null, .null, .null, .null, .null, .null, vz 0, vz 0]))) (hB : gB g ≤ o) (hBB : ∀ x, B x → h x ≠ none) (hoB : ¬ B o) (hd : 10 ≤ d) (hc : 40 ≤ c) (hk : 400 ≤ k) : Kc g mX1_init d c k [.ref o] h (rR (fun v h' => v = none ∧ WX g N B h' o sp0 ∧ Fr g h h' [o])) := by
  refine Kc.of (ls := [some (.ref o)]) (by decide +kernel) (Nat.le_of_ble_eq_true rfl) rfl ?_
  have h0 : h o ≠ none := by rw [HO1]; exact fun q => by cases q
  let I0 : HM := fun _ => none
  refine ev_aload_n dX1_init_0 rfl ?_
  refine ev_objInit dX1_init_1 q182 q183 q184 (by omega) rfl ?_
  refine ev_aload_n dX1_init_4 rfl ?_
  refine ev_newC (c' := 30) (k' := 380) [vz 0, vz 0, .null, .null, .null, .null] dX1_init_5 cf_X2 q185 q186 q119 rfl (by omega) (by omega) (fun qt1_1 hp_t1_2 et1_3 Bt1_4 Hqt1_1_t1_5 ft1_6 => ?_)
  have z_1 := et1_3
  have FA1 := (Fr.refl (g := g) _ [o]).alloc (Or.inl ⟨_, Hqt1_1_t1_5⟩) ft1_6 et1_3
  have HOn1 : hp_t1_2 o ≠ none := by rw [(ft1_6 o (fun e => by rw [← e, HO1] at et1_3; cases et1_3)), HO1]; exact fun q => by cases q
  have HO1_t1_7 := (ft1_6 _ (ne_no HO1 et1_3)).trans HO1
  have zt1_8 := ((Fr.refl (g := g) _ [o])).fresh et1_3
  have Ft1_9 := ((Fr.refl (g := g) _ [o])).alloc (Or.inl ⟨_, Hqt1_1_t1_5⟩) ft1_6 et1_3
  refine ev_dup dX1_init_8 rfl ?_
  refine ev_iconstZ dX1_init_9 ?_
  refine ev_iconstZ dX1_init_10 ?_
  refine ev_callVR dX1_init_11 ci_X1_34 ce_X2_init Hqt1_1_t1_5 rfl rfl rfl (k_initX2 (co := 5) (ro := 5) hG Hqt1_1_t1_5 Bt1_4) (by omega) (by omega) (by omega) (Nat.le_of_ble_eq_true rfl) (fun vt1_10 g1 Pt1_10 => ?_)
  obtain ⟨rfl, st2, fo2, KDa, I1, hst2, hfo2⟩ := Pt1_10
  have hoq1 : o ≠ qt1_1 := (ne_no HO1 et1_3)
  have HOi1 := I1.keep HO1_t1_7 (fun e => hoq1 (List.mem_singleton.mp e))
  have FI1 := (Ft1_9).call I1 (fun x hx => Or.inr (Or.inl (by rw [List.mem_singleton.mp hx]; exact zt1_8)))
  refine ev_putC [.ref qt1_1, .null, .null, .null, .null, .null, .null, .null, vz 0, vz 0] dX1_init_14 gf_X1_37_X1 HOi1 hB (Or.inl rfl) rfl rfl (Nat.le_of_ble_eq_true rfl) rfl (fun hp_t1_11 HOi1_t1_12 ft1_13 => ?_)
  have Ft1_14 := (FI1).write (Or.inl ⟨_, HOi1_t1_12⟩) ft1_13 hB (by simp)
  have HO2 := HOi1_t1_12
  have Fo1 := (Fr.refl (g := g) g1 [o]).write (Or.inl ⟨_, HO2⟩) ft1_13 hB (by simp)
  have FT1 := Ft1_14
  have hz1 : ∀ x ∈ dnS qt1_1 st2 fo2, h x = none := dnS_none zt1_8 (FA1.fresh hst2) (fun j hj => FA1.fresh (hfo2 j hj))
  have hoD : o ∉ dnS qt1_1 st2 fo2 := fun e => h0 (hz1 o e)
  have KD1 := (KDa I0).fr Fo1 (fun x hx e => hoD (by rw [← List.mem_singleton.mp hx]; exact e))
  refine ev_aload_n dX1_init_17 rfl ?_
  refine ev_newC (c' := 20) (k' := 300) [vz 0, vz 0, .null, .null] dX1_init_18 cf_J3 q229 q230 q123 rfl (by omega) (by omega) (fun qt2_1 hp_t2_2 et2_3 Bt2_4 Hqt2_1_t2_5 ft2_6 => ?_)
  have z_2 := et2_3
  have FA2 := (Fr.refl (g := g) _ [o]).alloc (Or.inl ⟨_, Hqt2_1_t2_5⟩) ft2_6 et2_3
  have HOn2 : hp_t2_2 o ≠ none := by rw [(ft2_6 o (fun e => by rw [← e, HO2] at et2_3; cases et2_3)), HO2]; exact fun q => by cases q
  have HO2_t2_7 := (ft2_6 _ (ne_no HO2 et2_3)).trans HO2
  have zt2_8 := ((Fr.refl (g := g) _ [o])).fresh et2_3
  have Ft2_9 := ((Fr.refl (g := g) _ [o])).alloc (Or.inl ⟨_, Hqt2_1_t2_5⟩) ft2_6 et2_3
  refine ev_dup dX1_init_21 rfl ?_
  refine ev_callVR dX1_init_22 ci_X1_43 ce_J3_init Hqt2_1_t2_5 rfl rfl rfl (ll_init Hqt2_1_t2_5 Bt2_4) (by omega) (by omega) (by omega) (Nat.le_of_ble_eq_true rfl) (fun vt2_10 g2 Pt2_10 => ?_)
  obtain ⟨rfl, HL2, I2⟩ := Pt2_10
  have hoq2 : o ≠ qt2_1 := (ne_no HO2 et2_3)
  have HOi2 := I2.keep HO2_t2_7 (fun e => hoq2 (List.mem_singleton.mp e))
  have FI2 := (Ft2_9).call I2 (fun x hx => Or.inr (Or.inl (by rw [List.mem_singleton.mp hx]; exact zt2_8)))
  refine ev_putC [.ref qt1_1, .ref qt2_1, .null, .null, .null, .null, .null, .null, vz 0, vz 0] dX1_init_25 gf_X1_44_X1 HOi2 hB (Or.inl rfl) rfl rfl (Nat.le_of_ble_eq_true rfl) rfl (fun hp_t2_11 HOi2_t2_12 ft2_13 => ?_)
  have Ft2_14 := (FI2).write (Or.inl ⟨_, HOi2_t2_12⟩) ft2_13 hB (by simp)
  have HO3 := HOi2_t2_12
  have Fo2 := (Fr.refl (g := g) g2 [o]).write (Or.inl ⟨_, HO3⟩) ft2_13 hB (by simp)
  have FT2 := Ft2_14
  have hL2 := HL2.fr Fo2 (fun x hx => ⟨fun e => hoq2 (by rw [← e]; exact (List.mem_singleton.mp hx).symm), fun e => by cases e⟩)
  have KD2 := KD1.fr FT2 (fun x hx e => hoD (by rw [← List.mem_singleton.mp hx]; exact e))
  have nL : qt2_1 ∉ dnS qt1_1 st2 fo2 := fun e => KD1.nz e zt2_8
  refine ev_aload_n dX1_init_28 rfl ?_
  refine ev_newC (c' := 15) (k' := 250) [.null, vz 0, vz 0] dX1_init_29 cf_J4 q265 q266 q124 rfl (by omega) (by omega) (fun qt3_1 hp_t3_2 et3_3 Bt3_4 Hqt3_1_t3_5 ft3_6 => ?_)
  have z_3 := et3_3
  have FA3 := (Fr.refl (g := g) _ [o]).alloc (Or.inl ⟨_, Hqt3_1_t3_5⟩) ft3_6 et3_3
  have HOn3 : hp_t3_2 o ≠ none := by rw [(ft3_6 o (fun e => by rw [← e, HO3] at et3_3; cases et3_3)), HO3]; exact fun q => by cases q
  have HO3_t3_7 := (ft3_6 _ (ne_no HO3 et3_3)).trans HO3
  have zt3_8 := ((Fr.refl (g := g) _ [o])).fresh et3_3
  have Ft3_9 := ((Fr.refl (g := g) _ [o])).alloc (Or.inl ⟨_, Hqt3_1_t3_5⟩) ft3_6 et3_3
  refine ev_dup dX1_init_32 rfl ?_
  refine ev_callVR dX1_init_33 ci_X1_50 ce_J4_init Hqt3_1_t3_5 rfl rfl rfl (ad_init hG Hqt3_1_t3_5 Bt3_4) (by omega) (by omega) (by omega) (Nat.le_of_ble_eq_true rfl) (fun vt3_10 g3 Pt3_10 => ?_)
  obtain ⟨rfl, vA, hvA, HA3, I3⟩ := Pt3_10
  have hoq3 : o ≠ qt3_1 := (ne_no HO3 et3_3)
  have HOi3 := I3.keep HO3_t3_7 (fun e => hoq3 (List.mem_singleton.mp e))
  have FI3 := (Ft3_9).call I3 (fun x hx => Or.inr (Or.inl (by rw [List.mem_singleton.mp hx]; exact zt3_8)))
  refine ev_putC [.ref qt1_1, .ref qt2_1, .ref qt3_1, .null, .null, .null, .null, .null, vz 0, vz 0] dX1_init_36 gf_X1_51_X1 HOi3 hB (Or.inr ⟨rfl, rfl⟩) rfl rfl (Nat.le_of_ble_eq_true rfl) rfl (fun hp_t3_11 HOi3_t3_12 ft3_13 => ?_)
  have Ft3_14 := (FI3).write (Or.inl ⟨_, HOi3_t3_12⟩) ft3_13 hB (by simp)
  have HO4 := HOi3_t3_12
  have Fo3 := (Fr.refl (g := g) g3 [o]).write (Or.inl ⟨_, HO4⟩) ft3_13 hB (by simp)
  have FT3 := Ft3_14
  have hA3 := HA3.fr Fo3 (fun e => hoq3 (List.mem_singleton.mp e).symm) (fun e => HOn3 (by rw [← List.mem_singleton.mp e]; exact hvA))
  have KD3 := KD2.fr FT3 (fun x hx e => hoD (by rw [← List.mem_singleton.mp hx]; exact e))
  have hL3 := hL2.fr FT3 (fun x hx => ⟨fun e => hoq2 (by rw [← e]; exact (List.mem_singleton.mp hx).symm), fun e => by cases e⟩)
  have hvA0 := FA3.fresh hvA
  have nA : qt3_1 ∉ dnS qt1_1 st2 fo2 := fun e => KD2.nz e zt3_8
  have nAv : vA ∉ dnS qt1_1 st2 fo2 := fun e => KD2.nz e hvA0
  have nAL : qt3_1 ≠ qt2_1 := fun e => hL2.nz List.mem_cons_self (by rw [← e]; exact zt3_8)
  have nAvL : vA ≠ qt2_1 := fun e => hL2.nz List.mem_cons_self (by rw [← e]; exact hvA0)
  have oA : o ≠ vA := fun e => by rw [← e, HO3] at hvA0; cases hvA0
  refine ev_aload_n dX1_init_39 rfl ?_
  refine ev_newC (c' := 10) (k' := 200) [.null, vz 0, vz 0, vz 0] dX1_init_40 cf_J6 q283 q284 q126 rfl (by omega) (by omega) (fun qt4_1 hp_t4_2 et4_3 Bt4_4 Hqt4_1_t4_5 ft4_6 => ?_)
  have z_4 := et4_3
  have FA4 := (Fr.refl (g := g) _ [o]).alloc (Or.inl ⟨_, Hqt4_1_t4_5⟩) ft4_6 et4_3
  have HOn4 : hp_t4_2 o ≠ none := by rw [(ft4_6 o (fun e => by rw [← e, HO4] at et4_3; cases et4_3)), HO4]; exact fun q => by cases q
  have HO4_t4_7 := (ft4_6 _ (ne_no HO4 et4_3)).trans HO4
  have zt4_8 := ((Fr.refl (g := g) _ [o])).fresh et4_3
  have Ft4_9 := ((Fr.refl (g := g) _ [o])).alloc (Or.inl ⟨_, Hqt4_1_t4_5⟩) ft4_6 et4_3
  refine ev_dup dX1_init_43 rfl ?_
  refine ev_callVR dX1_init_44 ci_X1_57 ce_J6_init Hqt4_1_t4_5 rfl rfl rfl (sb_init hG Hqt4_1_t4_5 Bt4_4) (by omega) (by omega) (by omega) (Nat.le_of_ble_eq_true rfl) (fun vt4_10 g4 Pt4_10 => ?_)
  obtain ⟨rfl, vB, hvB, HB4, I4⟩ := Pt4_10
  have hoq4 : o ≠ qt4_1 := (ne_no HO4 et4_3)
  have HOi4 := I4.keep HO4_t4_7 (fun e => hoq4 (List.mem_singleton.mp e))
  have FI4 := (Ft4_9).call I4 (fun x hx => Or.inr (Or.inl (by rw [List.mem_singleton.mp hx]; exact zt4_8)))
  refine ev_putC [.ref qt1_1, .ref qt2_1, .ref qt3_1, .null, .null, .ref qt4_1, .null, .null, vz 0, vz 0] dX1_init_47 gf_X1_58_X1 HOi4 hB (Or.inl rfl) rfl rfl (Nat.le_of_ble_eq_true rfl) rfl (fun hp_t4_11 HOi4_t4_12 ft4_13 => ?_)
  have Ft4_14 := (FI4).write (Or.inl ⟨_, HOi4_t4_12⟩) ft4_13 hB (by simp)
  have HO5 := HOi4_t4_12
  have Fo4 := (Fr.refl (g := g) g4 [o]).write (Or.inl ⟨_, HO5⟩) ft4_13 hB (by simp)
  have FT4 := Ft4_14
  have hB4 := HB4.fr Fo4 (fun e => hoq4 (List.mem_singleton.mp e).symm) (fun e => HOn4 (by rw [← List.mem_singleton.mp e]; exact hvB))
  have KD4 := KD3.fr FT4 (fun x hx e => hoD (by rw [← List.mem_singleton.mp hx]; exact e))
  have hL4 := hL3.fr FT4 (fun x hx => ⟨fun e => hoq2 (by rw [← e]; exact (List.mem_singleton.mp hx).symm), fun e => by cases e⟩)
  have hA4 := hA3.fr FT4 (fun e => hoq3 (List.mem_singleton.mp e).symm) (fun e => oA (List.mem_singleton.mp e).symm)
  have hvB0 := FA4.fresh hvB
  have nB : qt4_1 ∉ dnS qt1_1 st2 fo2 := fun e => KD3.nz e zt4_8
  have nBv : vB ∉ dnS qt1_1 st2 fo2 := fun e => KD3.nz e hvB0
  have nBL : qt4_1 ≠ qt2_1 := fun e => hL3.nz List.mem_cons_self (by rw [← e]; exact zt4_8)
  have nBvL : vB ≠ qt2_1 := fun e => hL3.nz List.mem_cons_self (by rw [← e]; exact hvB0)
  have nBA : qt4_1 ≠ qt3_1 := fun e => hA3.nz.1 (by rw [← e]; exact zt4_8)
  have nBAv : qt4_1 ≠ vA := fun e => hA3.nz.2 (by rw [← e]; exact zt4_8)
  have nBvA : vB ≠ qt3_1 := fun e => hA3.nz.1 (by rw [← e]; exact hvB0)
  have nBvAv : vB ≠ vA := fun e => hA3.nz.2 (by rw [← e]; exact hvB0)
  refine ev_aload_n dX1_init_50 rfl ?_
  refine ev_ldcS (i := 9) hG dX1_init_51 rfl ?_
  refine ev_putC [.ref qt1_1, .ref qt2_1, .ref qt3_1, .null, .null, .ref qt4_1, .ref (g.2.2.2.2 9), .null, vz 0, vz 0] dX1_init_53 gf_X1_64_X1 HO5 hB (Or.inl rfl) rfl rfl (Nat.le_of_ble_eq_true rfl) rfl (fun hp_t5_1 HO5_t5_2 ft5_3 => ?_)
  have Ft5_4 := ((Fr.refl (g := g) _ [o])).write (Or.inl ⟨_, HO5_t5_2⟩) ft5_3 hB (by simp)
  refine ev_aload_n dX1_init_56 rfl ?_
  refine ev_iconstZ dX1_init_57 ?_
  refine ev_putC [.ref qt1_1, .ref qt2_1, .ref qt3_1, .null, .null, .ref qt4_1, .ref (g.2.2.2.2 9), .null, vz (-1), vz 0] dX1_init_58 gf_X1_68_X1 HO5_t5_2 hB (Or.inl rfl) rfl rfl (Nat.le_of_ble_eq_true rfl) rfl (fun hp_t5_5 HO5_t5_6 ft5_7 => ?_)
  have Ft5_8 := (Ft5_4).write (Or.inl ⟨_, HO5_t5_6⟩) ft5_7 hB (by simp)
  refine ev_return dX1_init_61 rfl ?_
  have F5 := Ft5_8
  have HO6 := HO5_t5_6
  have KD5 := KD4.fr F5 (fun x hx e => hoD (by rw [← List.mem_singleton.mp hx]; exact e))
  have hL5 := hL4.fr F5 (fun x hx => ⟨fun e => hoq2 (by rw [← e]; exact (List.mem_singleton.mp hx).symm), fun e => by cases e⟩)
  have hA5 := hA4.fr F5 (fun e => hoq3 (List.mem_singleton.mp e).symm) (fun e => oA (List.mem_singleton.mp e).symm)
  have oB : o ≠ vB := fun e => by rw [← e, HO4] at hvB0; cases hvB0
  have hB5 := hB4.fr F5 (fun e => hoq4 (List.mem_singleton.mp e).symm) (fun e => oB (List.mem_singleton.mp e).symm)
  have FT := (((FT1.call FT2 (fun x hx => Or.inl hx)).call FT3 (fun x hx => Or.inl hx)).call FT4 (fun x hx => Or.inl hx)).call F5 (fun x hx => Or.inl hx)
  have b2 : h qt2_1 = none := FT1.fresh z_2
  have b3 : h qt3_1 = none := (FT1.call FT2 (fun x hx => Or.inl hx)).fresh z_3
  have b3v : h vA = none := (FT1.call FT2 (fun x hx => Or.inl hx)).fresh hvA0
  have b4 : h qt4_1 = none := ((FT1.call FT2 (fun x hx => Or.inl hx)).call FT3 (fun x hx => Or.inl hx)).fresh z_4
  have b4v : h vB = none := ((FT1.call FT2 (fun x hx => Or.inl hx)).call FT3 (fun x hx => Or.inl hx)).fresh hvB0
  let own : Nat → Nat := fun x => if x = o then 1 else if x = qt2_1 then 2 else if x = qt3_1 ∨ x = vA then 3 else if x = qt4_1 ∨ x = vB then 6 else if x ∈ dnS qt1_1 st2 fo2 then 10 else 0
  have w1 : own o = 1 := if_pos rfl
  have w2 : own qt2_1 = 2 := by show (if qt2_1 = o then 1 else _) = 2; rw [if_neg (Ne.symm hoq2), if_pos rfl]
  have w3 : own qt3_1 = 3 := by show (if qt3_1 = o then 1 else _) = 3; rw [if_neg (Ne.symm hoq3), if_neg nAL, if_pos (Or.inl rfl)]
  have w3v : own vA = 3 := by show (if vA = o then 1 else _) = 3; rw [if_neg (Ne.symm oA), if_neg nAvL, if_pos (Or.inr rfl)]
  have w4 : own qt4_1 = 6 := by show (if qt4_1 = o then 1 else _) = 6; rw [if_neg (Ne.symm hoq4), if_neg nBL, if_neg (fun e => e.elim nBA nBAv), if_pos (Or.inl rfl)]
  have w4v : own vB = 6 := by show (if vB = o then 1 else _) = 6; rw [if_neg (Ne.symm oB), if_neg nBvL, if_neg (fun e => e.elim nBvA nBvAv), if_pos (Or.inr rfl)]
  have w5 : ∀ x ∈ dnS qt1_1 st2 fo2, own x = 10 := fun x hx => by
    show (if x = o then 1 else _) = 10
    rw [if_neg (fun e => hoD (by rw [← e]; exact hx)), if_neg (fun e => nL (by rw [← e]; exact hx)), if_neg (fun e => e.elim (fun e => nA (by rw [← e]; exact hx)) (fun e => nAv (by rw [← e]; exact hx))), if_neg (fun e => e.elim (fun e => nB (by rw [← e]; exact hx)) (fun e => nBv (by rw [← e]; exact hx))), if_pos hx]
  have w0 : ∀ x, B x → own x = 0 := fun x hx => by
    have hx0 := hBB x hx
    show (if x = o then 1 else _) = 0
    rw [if_neg (fun e => hoB (by rw [← e]; exact hx)), if_neg (fun e => hx0 (by rw [e]; exact b2)), if_neg (fun e => e.elim (fun e => hx0 (by rw [e]; exact b3)) (fun e => hx0 (by rw [e]; exact b3v))), if_neg (fun e => e.elim (fun e => hx0 (by rw [e]; exact b4)) (fun e => hx0 (by rw [e]; exact b4v))), if_neg (fun e => hx0 (hz1 x e))]
  have KC5 := K0.fr FT
  have hs9 : STh hp_t5_5 (g.2.2.2.2 9) (g.2.2.2.2 (24 + 9)) [] ∧ g.2.2.2.2 9 < gB g ∧ g.2.2.2.2 (24 + 9) < gB g := KC5.2.2.1 9 _ rfl
  obtain ⟨hs91, hs92, hs93⟩ := id hs9
  have WR : WXr g N B I0 hp_t5_5 own o (10, qt1_1, st2, fo2) [] qt2_1 qt3_1 vA 0 qt4_1 vB 16 (g.2.2.2.2 9) (g.2.2.2.2 (24 + 9)) .null .null .null [] sp0 := by
    refine ⟨⟨hB, w1, rfl⟩, ⟨(fun x y e => by cases e), (fun x cap f e => by cases e), fun x hx => ⟨w0 x hx, FT.1 x (hBB x hx), rfl⟩⟩, ⟨KD5, fun x hx => ⟨w5 x hx, rfl⟩⟩, ⟨⟨_, [], hL5, fun x hx => ?_, rfl, (fun i q x C g1 g2 => by simp at g1), rfl⟩, Nat.zero_le _⟩, ⟨hA5, ⟨w3, w3v, rfl, rfl⟩, rfl, Nat.zero_le _, Nat.zero_le _, (fun j q9 D9 g1 g2 => by simp at g1)⟩, ⟨by simp, fun q hq => by rw [List.mem_singleton.mp hq]; exact Nat.le_refl 10⟩, ⟨rfl, Or.inl rfl⟩, ⟨hB5, ⟨w4, w4v, rfl, rfl⟩, Nat.zero_le _, (fun u hu => by cases hu), by omega⟩, ⟨hs9.1, (fun e => absurd e (by omega)), (fun e => absurd e (by omega))⟩, Or.inl ⟨rfl, rfl⟩⟩
    rcases List.mem_cons.mp hx with e | e
    · rw [e]; exact ⟨w2, rfl⟩
    · cases e
  exact ⟨_, rfl, rfl, ⟨I0, own, (10, qt1_1, st2, fo2), [], qt2_1, qt3_1, vA, 0, qt4_1, vB, 16, _, _, .null, .null, .null, [], HO6, WR⟩, FT⟩
end Z3S

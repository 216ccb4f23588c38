/-! THE COMPONENT: the class, place, setFormation (printed by gen) -/
section X8S
variable {g : GB} {M : MI} {d c k : Nat} {h : HM}
section
variable {N : Nat} {B : Nat → Prop} {I J h h' : HM} {own : Nat → Nat} {o : Nat} {p : Dp} {us : List Dp} {cl ud uv uh ib iv ic os ow : Nat} {sdv scv lev : Value} {cs : List Cm} {σ : Sp}
/-- I grows -/
theorem WXr.gw (K : WXr g N B I h own o p us cl ud uv uh ib iv ic os ow sdv scv lev cs σ) (HO : h o ≠ none) (G : Gw I h J h') (F : Fr g h h' []) : WXr g N B J h' own o p us cl ud uv uh ib iv ic os ow sdv scv lev cs σ := by
  obtain ⟨a, ⟨b1, b2, b3⟩, c, ⟨d1, d2⟩, e, n, s, i, u, r⟩ := K
  have key : ∀ (m : Nat), ∀ x ∈ ([] : List Nat), own x ≠ m := fun m x hx => by cases hx
  exact ⟨⟨a.1, a.2.1, G.nn HO a.2.2⟩, ⟨G.2.1, G.cap b2, fun x hx => ⟨(b3 x hx).1, F.1 x (b3 x hx).2.1, G.nn (b3 x hx).2.1 (b3 x hx).2.2⟩⟩, c.mv G F (key _) ownK.refl, ⟨d1.mv G F (key 2) ownK.refl, d2⟩, e.mv G F (fun x hx => by cases hx) ownK.refl, n, s.mv G F (fun x hx => by cases hx) ownK.refl, i.mv G F (key 6) ownK.refl, u.mv G F (fun x hx => by cases hx), r.mv G.1⟩
theorem onSt_iff {M p : Int} (hM : 0 ≤ M) : (p = -1 ∨ (0 ≤ p ∧ p ≤ M - 1)) ↔ (-1 ≤ p ∧ p ≤ M - 1) := by omega
theorem B_app {B : Nat → Prop} {S T : List Nat} (h1 : ∀ x ∈ S, ¬ B x) (h2 : ∀ x ∈ T, ¬ B x) : ∀ x ∈ S ++ T, ¬ B x := fun x hx => (List.mem_append.mp hx).elim (h1 x) (h2 x)
theorem cm_ok {C : Cm} (h : C.1 ≠ 1) : cmOk C := fun q => absurd q h
end
variable {N : Nat} {B : Nat → Prop} {o : Nat} {σ : Sp}
set_option maxRecDepth 100000 in
set_option maxHeartbeats 4000000 in
theorem kx_place (hG : GKx g) (K0 : KC g h) (W : WX g N B h o σ) (hO : spOk σ) {x y : Int} (hr1 : inR x) (hr2 : inR y) (hd : 510 ≤ d) (hc : 30 ≤ c) (hk : 100 ≤ k) : Kc g mX1_place d c k [.ref o, vz x, vz y] h (XQ g (N + 1) B h o (fun m : Int => if m = 1 then "java/lang/IndexOutOfBoundsException" else "java/lang/IllegalArgumentException") (opPlace σ x y)) := by
  refine Kc.of (ls := [some (.ref o), some (vz x), some (vz y)]) (by decide +kernel) (Nat.le_of_ble_eq_true rfl) rfl ?_
  obtain ⟨I, own, ⟨pid, a, st, fo⟩, us, cl, ud, uv, uh, ib, iv, ic, os, ow, sdv, scv, lev, cs, HO, WR⟩ := id W
  have HO : h o = some (.inr (0, [.ref a, .ref cl, .ref ud, sdv, scv, .ref ib, .ref os, lev, vz σ.2.2.2.2.2.1, vz σ.2.2.2.2.1])) := HO
  obtain ⟨⟨hBo, ho1, hIo⟩, ⟨hSI, hCI, hBB⟩, KD, KCs, KU, KN, KS, KI, KOu, KE⟩ := id WR
  have H : DnC g I h a st fo σ.1 := KD.1
  have dO := hO.1
  obtain ⟨A, Bf, pv, sv, KDA, hA, hB9, hV⟩ := id H
  obtain ⟨k1, k2, k3, k4, k5, k6, k7, k8⟩ := id KDA
  replace W := W.le (Nat.le_succ N)
  have WR0 := WR
  have HO0 := HO
  have hSI0 := hSI
  have hd99 : σ.1.1.1 ≤ 9 ∧ σ.1.1.2 ≤ 9 := ⟨dO.2.1, dO.2.2.2.1⟩
  have hM : (0 : Int) ≤ ((σ.1.1.1 : Nat) : Int) * ((σ.1.1.2 : Nat) : Int) := Int.mul_nonneg (by omega) (by omega)
  have hM9 : ((σ.1.1.1 : Nat) : Int) * ((σ.1.1.2 : Nat) : Int) ≤ 9 * 9 := Int.mul_le_mul (by omega) (by omega) (by omega) (by omega)
  unfold opPlace
  by_cases c9 : 0 ≤ x ∧ x ≤ 7
  · by_cases c8 : y = -1 ∨ (0 ≤ y ∧ y ≤ ((σ.1.1.1 : Nat) : Int) * ((σ.1.1.2 : Nat) : Int) - 1)
    · rw [if_pos ⟨c9, c8⟩]
      have hst9 : ∀ e : Nat, e < 8 → inR (σ.1.2.1 e) := fun e he => by have := st_lt dO he; omega
      cases ht : takB σ.1.2.1 x y 8 with
      | true =>
        rw [if_pos rfl]
        refine ev_iload_n dX1_place_0 rfl ?_
        refine ev_callSN dX1_place_1 cs_X1_140 ce_X1_checkDancer rfl rfl (k_checkDancerT (d := 0) hr1 c9) (by omega) (Nat.le_of_ble_eq_true rfl) ?_
        refine ev_aload_n dX1_place_4 rfl ?_
        refine ev_iload_n dX1_place_5 rfl ?_
        refine ev_callVN dX1_place_6 cv_X1_144_X1 ce_X1_checkPlace HO rfl rfl rfl (k_checkPlaceT (d := 0) H HO hd99 hr2 ((onSt_iff hM).mp c8)) (by omega) (Nat.le_of_ble_eq_true rfl) ?_
        refine ev_iload_n dX1_place_9 rfl ?_
        refine ev_iload_n dX1_place_10 rfl ?_
        refine ev_aload_n dX1_place_11 rfl ?_
        refine ev_getf dX1_place_12 gf_X1_37_X1 HO rfl ?_
        refine ev_getf dX1_place_15 gf_X1_147_X2 k1 rfl ?_
        refine ev_callSE dX1_place_18 cs_X1_151 ce_X1_isTaken rfl rfl (k_isTakenX1 (d := 0) k2 hA hst9 ⟨hr1, hr2⟩) (by omega) (Nat.le_of_ble_eq_true rfl) ?_
        refine ev_if_neB (tgt := 28) dX1_place_21 (by decide) (fun c21 => ?_) (fun c21 => by rw [ht] at c21; cases c21)
        refine ev_iconstZ dX1_place_28 ?_
        refine ev_callS dX1_place_29 cs_X1_133 ce_X1_checkArgument rfl rfl (k_checkArgumentF (b := false) hG rfl) (by omega) (by omega) (by omega) (Nat.le_of_ble_eq_true rfl) (fun v h2 q => ?_) (fun E q h2 r => ?_)
        · obtain ⟨q9, e9, -⟩ := q; cases e9
        · obtain ⟨q9, e9, rfl⟩ := r
          cases e9
          exact evx_out rfl (XQ.no (by decide) rfl W (Fr.refl _ []) nil_B)
      | false =>
        rw [if_neg (by decide)]
        obtain ⟨e, rfl⟩ := toB x c9.1
        refine ev_iload_n dX1_place_0 rfl ?_
        refine ev_callSN dX1_place_1 cs_X1_140 ce_X1_checkDancer rfl rfl (k_checkDancerT (d := 0) hr1 c9) (by omega) (Nat.le_of_ble_eq_true rfl) ?_
        refine ev_aload_n dX1_place_4 rfl ?_
        refine ev_iload_n dX1_place_5 rfl ?_
        refine ev_callVN dX1_place_6 cv_X1_144_X1 ce_X1_checkPlace HO rfl rfl rfl (k_checkPlaceT (d := 0) H HO hd99 hr2 ((onSt_iff hM).mp c8)) (by omega) (Nat.le_of_ble_eq_true rfl) ?_
        refine ev_iload_n dX1_place_9 rfl ?_
        refine ev_iload_n dX1_place_10 rfl ?_
        refine ev_aload_n dX1_place_11 rfl ?_
        refine ev_getf dX1_place_12 gf_X1_37_X1 HO rfl ?_
        refine ev_getf dX1_place_15 gf_X1_147_X2 k1 rfl ?_
        refine ev_callSE dX1_place_18 cs_X1_151 ce_X1_isTaken rfl rfl (k_isTakenX1 (d := 0) k2 hA hst9 ⟨hr1, hr2⟩) (by omega) (Nat.le_of_ble_eq_true rfl) ?_
        refine ev_if_neB (tgt := 28) dX1_place_21 (by decide) (fun c21 => by rw [ht] at c21; cases c21) (fun c21 => ?_)
        refine ev_iconstZ dX1_place_24 ?_
        refine ev_goto (tgt := 29) dX1_place_25 (by decide) ?_
        refine ev_callSN dX1_place_29 cs_X1_133 ce_X1_checkArgument rfl rfl (k_checkArgumentT (d := 0) (b := true) rfl) (by omega) (Nat.le_of_ble_eq_true rfl) ?_
        refine ev_aload_n dX1_place_32 rfl ?_
        refine ev_newC (c' := 29) (k' := 96) [.null, .null, .null] dX1_place_33 cf_X4 q1088 q1475 q136 rfl (by omega) (by omega) (fun q1 hp_2 e3 B4 Hq1_5 f6 => ?_)
        have HO_7 := (f6 _ (ne_no HO e3)).trans HO
        have k1_8 := (f6 _ (ne_no k1 e3)).trans k1
        have k2_9 := (f6 _ (ne_no k2 e3)).trans k2
        have z10 := ((Fr.refl (g := g) _ [])).fresh e3
        have F11 := ((Fr.refl (g := g) _ [])).alloc (Or.inl ⟨_, Hq1_5⟩) f6 e3
        refine ev_dup dX1_place_36 rfl ?_
        refine ev_gets (i := 5) hG dX1_place_37 rfl q1476 ?_
        refine ev_null dX1_place_40 ?_
        refine ev_iconstZ dX1_place_41 ?_
        refine ev_newA_int (N := 2) (c' := 28) (k' := 90) dX1_place_42 (by omega) (by omega) (by omega) (by omega) (by omega) (fun q12 hp_13 e14 B15 Hq12_16 f17 => ?_)
        have HO_18 := (f17 _ (ne_no HO_7 e14)).trans HO_7
        have k1_19 := (f17 _ (ne_no k1_8 e14)).trans k1_8
        have k2_20 := (f17 _ (ne_no k2_9 e14)).trans k2_9
        have Hq1_21 := (f17 _ (ne_no Hq1_5 e14)).trans Hq1_5
        have z22 := (F11).fresh e14
        have F23 := (F11).alloc (Or.inr ⟨_, Hq12_16, Nat.le_of_ble_eq_true rfl⟩) f17 e14
        refine ev_dup dX1_place_44 rfl ?_
        refine ev_iconstZ dX1_place_45 ?_
        refine ev_iload_n dX1_place_46 rfl ?_
        refine ev_iastY dX1_place_47 Hq12_16 B15 (by omega) trivial (fun hp_24 Hq12_25 f26 => ?_)
        have HO_27 := (f26 _ (ne_no HO_7 e14)).trans HO_18
        have k1_28 := (f26 _ (ne_no k1_8 e14)).trans k1_19
        have k2_29 := (f26 _ (ne_no k2_9 e14)).trans k2_20
        have Hq1_30 := (f26 _ (ne_no Hq1_5 e14)).trans Hq1_21
        have F31 := (F23).writeN (Or.inr ⟨_, Hq12_25, Nat.le_of_ble_eq_true rfl⟩) f26 z22
        refine ev_dup dX1_place_48 rfl ?_
        refine ev_iconstZ dX1_place_49 ?_
        refine ev_iload_n dX1_place_50 rfl ?_
        refine ev_iastY dX1_place_51 Hq12_25 B15 (by omega) trivial (fun hp_32 Hq12_33 f34 => ?_)
        have HO_35 := (f34 _ (ne_no HO_7 e14)).trans HO_27
        have k1_36 := (f34 _ (ne_no k1_8 e14)).trans k1_28
        have k2_37 := (f34 _ (ne_no k2_9 e14)).trans k2_29
        have Hq1_38 := (f34 _ (ne_no Hq1_5 e14)).trans Hq1_30
        have F39 := (F31).writeN (Or.inr ⟨_, Hq12_33, Nat.le_of_ble_eq_true rfl⟩) f34 z22
        refine ev_callVR dX1_place_52 ci_X1_100 ce_X4_init Hq1_38 rfl rfl rfl (k_initX4n Hq1_38 B4) (by omega) (by omega) (by omega) (Nat.le_of_ble_eq_true rfl) (fun v40 hk P40 => ?_)
        obtain ⟨rfl, H40, F40⟩ := P40
        have HO_41 := F40.keep HO_35 (by simp only [List.mem_cons, List.not_mem_nil, or_false, not_or]; exact (ne_no HO e3))
        have k1_42 := F40.keep k1_36 (by simp only [List.mem_cons, List.not_mem_nil, or_false, not_or]; exact (ne_no k1 e3))
        have k2_43 := F40.keep k2_37 (by simp only [List.mem_cons, List.not_mem_nil, or_false, not_or]; exact (ne_no k2 e3))
        have Hq12_44 := F40.keep Hq12_33 (by simp only [List.mem_cons, List.not_mem_nil, or_false, not_or]; exact ((ne_no Hq1_5 e14)).symm)
        have F45 := (F39).call F40 (fun x hx => Or.inr (Or.inl (by rw [List.mem_singleton.mp hx]; exact z10)))
        obtain ⟨J1, G1, s1, j1, -⟩ := Gw.ex ((Gw.refl hSI0).fr0 F45) hSI0 H40 z10
        obtain ⟨J2, G2, s2, j2, -⟩ := G1.ex hSI0 Hq12_44 z22
        have WR2 := WXr.gw WR0 (by rw [HO0]; exact fun q => by cases q) G2 F45
        have hCm : CmC g J2 q1 (((0, (0, e, y), []) : Cm)) := Or.inl ⟨rfl, by show e < 8; omega, q12, _, s2 _ _ j1, j2, rfl, rfl⟩
        have HOk := HO_41
        have Fk := F45
        refine ev_callVR dX1_place_55 cv_X1_103_X1 ce_X1_carryOut HOk rfl rfl rfl (k_carryX1 hG HOk WR2 hCm (cm_ok (by intro q; cases q)) (Nat.le_refl 500) (Nat.le_refl 20) (Nat.le_refl _)) (by omega) (by omega) (by show cmK _ + 53 ≤ _; first | omega | (unfold cmK; simp; done) | (unfold cmK; simp; omega)) (Nat.le_of_ble_eq_true rfl) (fun v46 h9 P46 => ?_)
        obtain ⟨rfl, W9, hS9, S9, F9, hB9⟩ := P46
        refine ev_ireturn dX1_place_58 rfl ?_
        rw [Int.toNat_natCast]
        exact XQ.ok W9 (Fk.more (S' := S9) (fun x hx => by cases hx) |>.call F9 (fun x hx => Or.inl hx)) hB9
    · rw [if_neg (fun q => c8 q.2)]
      refine ev_iload_n dX1_place_0 rfl ?_
      refine ev_callSN dX1_place_1 cs_X1_140 ce_X1_checkDancer rfl rfl (k_checkDancerT (d := 0) hr1 c9) (by omega) (Nat.le_of_ble_eq_true rfl) ?_
      refine ev_aload_n dX1_place_4 rfl ?_
      refine ev_iload_n dX1_place_5 rfl ?_
      refine ev_callV dX1_place_6 cv_X1_144_X1 ce_X1_checkPlace HO rfl rfl rfl (k_checkPlaceF H HO hd99 hG hr2 (fun q => c8 ((onSt_iff hM).mpr q))) (by omega) (by omega) (by omega) (Nat.le_of_ble_eq_true rfl) (fun v h2 q => ?_) (fun E q h2 r => ?_)
      · obtain ⟨q9, e9, -⟩ := q; cases e9
      · obtain ⟨q9, e9, rfl⟩ := r
        cases e9
        exact evx_out rfl (XQ.no (by decide) rfl W (Fr.refl _ []) nil_B)
  · rw [if_neg (fun q => c9 q.1)]
    refine ev_iload_n dX1_place_0 rfl ?_
    refine ev_callS dX1_place_1 cs_X1_140 ce_X1_checkDancer rfl rfl (k_checkDancerF hG hr1 c9) (by omega) (by omega) (by omega) (Nat.le_of_ble_eq_true rfl) (fun v h2 q => ?_) (fun E q h2 r => ?_)
    · obtain ⟨q9, e9, -⟩ := q; cases e9
    · obtain ⟨q9, e9, rfl⟩ := r
      cases e9
      exact evx_out rfl (XQ.no (by decide) rfl W (Fr.refl _ []) nil_B)
set_option maxRecDepth 100000 in
set_option maxHeartbeats 4000000 in
theorem kx_setFormation (hG : GKx g) (K0 : KC g h) (W : WX g N B h o σ) (hO : spOk σ) {f x y : Int} (hr0 : inR f) (hr1 : inR x) (hr2 : inR y) (hd : 510 ≤ d) (hc : 30 ≤ c) (hk : 100 ≤ k) : Kc g mX1_setFormation d c k [.ref o, vz f, vz x, vz y] h (XQ g (N + 1) B h o (fun m : Int => if m = 1 then "java/lang/IndexOutOfBoundsException" else "java/lang/IllegalArgumentException") (opForm σ f x y)) := by
  refine Kc.of (ls := [some (.ref o), some (vz f), some (vz x), some (vz y)]) (by decide +kernel) (Nat.le_of_ble_eq_true rfl) rfl ?_
  obtain ⟨I, own, ⟨pid, a, st, fo⟩, us, cl, ud, uv, uh, ib, iv, ic, os, ow, sdv, scv, lev, cs, HO, WR⟩ := id W
  have HO : h o = some (.inr (0, [.ref a, .ref cl, .ref ud, sdv, scv, .ref ib, .ref os, lev, vz σ.2.2.2.2.2.1, vz σ.2.2.2.2.1])) := HO
  obtain ⟨⟨hBo, ho1, hIo⟩, ⟨hSI, hCI, hBB⟩, KD, KCs, KU, KN, KS, KI, KOu, KE⟩ := id WR
  have H : DnC g I h a st fo σ.1 := KD.1
  have dO := hO.1
  obtain ⟨A, Bf, pv, sv, KDA, hA, hB9, hV⟩ := id H
  obtain ⟨k1, k2, k3, k4, k5, k6, k7, k8⟩ := id KDA
  replace W := W.le (Nat.le_succ N)
  have WR0 := WR
  have HO0 := HO
  have hSI0 := hSI
  have hd99 : σ.1.1.1 ≤ 9 ∧ σ.1.1.2 ≤ 9 := ⟨dO.2.1, dO.2.2.2.1⟩
  have hM : (0 : Int) ≤ ((σ.1.1.1 : Nat) : Int) * ((σ.1.1.2 : Nat) : Int) := Int.mul_nonneg (by omega) (by omega)
  have hM9 : ((σ.1.1.1 : Nat) : Int) * ((σ.1.1.2 : Nat) : Int) ≤ 9 * 9 := Int.mul_le_mul (by omega) (by omega) (by omega) (by omega)
  unfold opForm
  by_cases c7 : 0 ≤ f ∧ f ≤ 3
  · by_cases c9 : 0 ≤ x ∧ x ≤ 7
    · by_cases c8 : y = -1 ∨ (0 ≤ y ∧ y ≤ ((σ.1.1.1 : Nat) : Int) * ((σ.1.1.2 : Nat) : Int) - 1)
      · rw [if_pos ⟨c7, c9, c8⟩]
        obtain ⟨f, rfl⟩ := toB f c7.1
        have hf : f < 4 := by omega
        have hfo9 : ∀ e : Nat, e < 8 → inR (σ.1.2.2.1 f e) := fun e he => by have := fo_lt dO hf he; omega
        rw [Int.toNat_natCast]
        cases ht : takB (σ.1.2.2.1 f) x y 8 with
        | true =>
          rw [if_pos rfl]
          refine ev_iload_n dX1_setFormation_0 rfl ?_
          refine ev_callSN dX1_setFormation_1 cs_X1_341 ce_X1_checkFormation rfl rfl (k_checkFormationT (d := 0) hr0 c7) (by omega) (Nat.le_of_ble_eq_true rfl) ?_
          refine ev_iload_n dX1_setFormation_4 rfl ?_
          refine ev_callSN dX1_setFormation_5 cs_X1_140 ce_X1_checkDancer rfl rfl (k_checkDancerT (d := 0) hr1 c9) (by omega) (Nat.le_of_ble_eq_true rfl) ?_
          refine ev_aload_n dX1_setFormation_8 rfl ?_
          refine ev_iload_n dX1_setFormation_9 rfl ?_
          refine ev_callVN dX1_setFormation_10 cv_X1_144_X1 ce_X1_checkPlace HO rfl rfl rfl (k_checkPlaceT (d := 0) H HO hd99 hr2 ((onSt_iff hM).mp c8)) (by omega) (Nat.le_of_ble_eq_true rfl) ?_
          refine ev_iload_n dX1_setFormation_13 rfl ?_
          refine ev_iload_n dX1_setFormation_14 rfl ?_
          refine ev_aload_n dX1_setFormation_15 rfl ?_
          refine ev_getf dX1_setFormation_16 gf_X1_37_X1 HO rfl ?_
          refine ev_getf dX1_setFormation_19 gf_X1_344_X2 k1 rfl ?_
          refine ev_iload_n dX1_setFormation_22 rfl ?_
          refine ev_aaldY (v := .ref (fo + 1 + f)) dX1_setFormation_23 k3 rfl rfl (by omega) (by rw [Int.toNat_natCast, if_pos hf]; rfl) ?_
          refine ev_callSE dX1_setFormation_24 cs_X1_151 ce_X1_isTaken rfl rfl (k_isTakenX1 (d := 0) (k4 f hf) (hB9 f · hf) hfo9 ⟨hr1, hr2⟩) (by omega) (Nat.le_of_ble_eq_true rfl) ?_
          refine ev_if_neB (tgt := 34) dX1_setFormation_27 (by decide) (fun c27 => ?_) (fun c27 => by rw [ht] at c27; cases c27)
          refine ev_iconstZ dX1_setFormation_34 ?_
          refine ev_callS dX1_setFormation_35 cs_X1_133 ce_X1_checkArgument rfl rfl (k_checkArgumentF (b := false) hG rfl) (by omega) (by omega) (by omega) (Nat.le_of_ble_eq_true rfl) (fun v h2 q => ?_) (fun E q h2 r => ?_)
          · obtain ⟨q9, e9, -⟩ := q; cases e9
          · obtain ⟨q9, e9, rfl⟩ := r
            cases e9
            exact evx_out rfl (XQ.no (by decide) rfl W (Fr.refl _ []) nil_B)
        | false =>
          rw [if_neg (by decide)]
          obtain ⟨e, rfl⟩ := toB x c9.1
          refine ev_iload_n dX1_setFormation_0 rfl ?_
          refine ev_callSN dX1_setFormation_1 cs_X1_341 ce_X1_checkFormation rfl rfl (k_checkFormationT (d := 0) hr0 c7) (by omega) (Nat.le_of_ble_eq_true rfl) ?_
          refine ev_iload_n dX1_setFormation_4 rfl ?_
          refine ev_callSN dX1_setFormation_5 cs_X1_140 ce_X1_checkDancer rfl rfl (k_checkDancerT (d := 0) hr1 c9) (by omega) (Nat.le_of_ble_eq_true rfl) ?_
          refine ev_aload_n dX1_setFormation_8 rfl ?_
          refine ev_iload_n dX1_setFormation_9 rfl ?_
          refine ev_callVN dX1_setFormation_10 cv_X1_144_X1 ce_X1_checkPlace HO rfl rfl rfl (k_checkPlaceT (d := 0) H HO hd99 hr2 ((onSt_iff hM).mp c8)) (by omega) (Nat.le_of_ble_eq_true rfl) ?_
          refine ev_iload_n dX1_setFormation_13 rfl ?_
          refine ev_iload_n dX1_setFormation_14 rfl ?_
          refine ev_aload_n dX1_setFormation_15 rfl ?_
          refine ev_getf dX1_setFormation_16 gf_X1_37_X1 HO rfl ?_
          refine ev_getf dX1_setFormation_19 gf_X1_344_X2 k1 rfl ?_
          refine ev_iload_n dX1_setFormation_22 rfl ?_
          refine ev_aaldY (v := .ref (fo + 1 + f)) dX1_setFormation_23 k3 rfl rfl (by omega) (by rw [Int.toNat_natCast, if_pos hf]; rfl) ?_
          refine ev_callSE dX1_setFormation_24 cs_X1_151 ce_X1_isTaken rfl rfl (k_isTakenX1 (d := 0) (k4 f hf) (hB9 f · hf) hfo9 ⟨hr1, hr2⟩) (by omega) (Nat.le_of_ble_eq_true rfl) ?_
          refine ev_if_neB (tgt := 34) dX1_setFormation_27 (by decide) (fun c27 => by rw [ht] at c27; cases c27) (fun c27 => ?_)
          refine ev_iconstZ dX1_setFormation_30 ?_
          refine ev_goto (tgt := 35) dX1_setFormation_31 (by decide) ?_
          refine ev_callSN dX1_setFormation_35 cs_X1_133 ce_X1_checkArgument rfl rfl (k_checkArgumentT (d := 0) (b := true) rfl) (by omega) (Nat.le_of_ble_eq_true rfl) ?_
          refine ev_aload_n dX1_setFormation_38 rfl ?_
          refine ev_newC (c' := 29) (k' := 96) [.null, .null, .null] dX1_setFormation_39 cf_X4 q1088 q1475 q136 rfl (by omega) (by omega) (fun q1 hp_2 e3 B4 Hq1_5 f6 => ?_)
          have HO_7 := (f6 _ (ne_no HO e3)).trans HO
          have k1_8 := (f6 _ (ne_no k1 e3)).trans k1
          have k3_9 := (f6 _ (ne_no k3 e3)).trans k3
          have z10 := ((Fr.refl (g := g) _ [])).fresh e3
          have F11 := ((Fr.refl (g := g) _ [])).alloc (Or.inl ⟨_, Hq1_5⟩) f6 e3
          refine ev_dup dX1_setFormation_42 rfl ?_
          refine ev_gets (i := 7) hG dX1_setFormation_43 rfl q2516 ?_
          refine ev_null dX1_setFormation_46 ?_
          refine ev_iconstZ dX1_setFormation_47 ?_
          refine ev_newA_int (N := 3) (c' := 28) (k' := 90) dX1_setFormation_48 (by omega) (by omega) (by omega) (by omega) (by omega) (fun q12 hp_13 e14 B15 Hq12_16 f17 => ?_)
          have HO_18 := (f17 _ (ne_no HO_7 e14)).trans HO_7
          have k1_19 := (f17 _ (ne_no k1_8 e14)).trans k1_8
          have k3_20 := (f17 _ (ne_no k3_9 e14)).trans k3_9
          have Hq1_21 := (f17 _ (ne_no Hq1_5 e14)).trans Hq1_5
          have z22 := (F11).fresh e14
          have F23 := (F11).alloc (Or.inr ⟨_, Hq12_16, Nat.le_of_ble_eq_true rfl⟩) f17 e14
          refine ev_dup dX1_setFormation_50 rfl ?_
          refine ev_iconstZ dX1_setFormation_51 ?_
          refine ev_iload_n dX1_setFormation_52 rfl ?_
          refine ev_iastY dX1_setFormation_53 Hq12_16 B15 (by omega) trivial (fun hp_24 Hq12_25 f26 => ?_)
          have HO_27 := (f26 _ (ne_no HO_7 e14)).trans HO_18
          have k1_28 := (f26 _ (ne_no k1_8 e14)).trans k1_19
          have k3_29 := (f26 _ (ne_no k3_9 e14)).trans k3_20
          have Hq1_30 := (f26 _ (ne_no Hq1_5 e14)).trans Hq1_21
          have F31 := (F23).writeN (Or.inr ⟨_, Hq12_25, Nat.le_of_ble_eq_true rfl⟩) f26 z22
          refine ev_dup dX1_setFormation_54 rfl ?_
          refine ev_iconstZ dX1_setFormation_55 ?_
          refine ev_iload_n dX1_setFormation_56 rfl ?_
          refine ev_iastY dX1_setFormation_57 Hq12_25 B15 (by omega) trivial (fun hp_32 Hq12_33 f34 => ?_)
          have HO_35 := (f34 _ (ne_no HO_7 e14)).trans HO_27
          have k1_36 := (f34 _ (ne_no k1_8 e14)).trans k1_28
          have k3_37 := (f34 _ (ne_no k3_9 e14)).trans k3_29
          have Hq1_38 := (f34 _ (ne_no Hq1_5 e14)).trans Hq1_30
          have F39 := (F31).writeN (Or.inr ⟨_, Hq12_33, Nat.le_of_ble_eq_true rfl⟩) f34 z22
          refine ev_dup dX1_setFormation_58 rfl ?_
          refine ev_iconstZ dX1_setFormation_59 ?_
          refine ev_iload_n dX1_setFormation_60 rfl ?_
          refine ev_iastY dX1_setFormation_61 Hq12_33 B15 (by omega) trivial (fun hp_40 Hq12_41 f42 => ?_)
          have HO_43 := (f42 _ (ne_no HO_7 e14)).trans HO_35
          have k1_44 := (f42 _ (ne_no k1_8 e14)).trans k1_36
          have k3_45 := (f42 _ (ne_no k3_9 e14)).trans k3_37
          have Hq1_46 := (f42 _ (ne_no Hq1_5 e14)).trans Hq1_38
          have F47 := (F39).writeN (Or.inr ⟨_, Hq12_41, Nat.le_of_ble_eq_true rfl⟩) f42 z22
          refine ev_callVR dX1_setFormation_62 ci_X1_100 ce_X4_init Hq1_46 rfl rfl rfl (k_initX4n Hq1_46 B4) (by omega) (by omega) (by omega) (Nat.le_of_ble_eq_true rfl) (fun v48 hk P48 => ?_)
          obtain ⟨rfl, H48, F48⟩ := P48
          have HO_49 := F48.keep HO_43 (by simp only [List.mem_cons, List.not_mem_nil, or_false, not_or]; exact (ne_no HO e3))
          have k1_50 := F48.keep k1_44 (by simp only [List.mem_cons, List.not_mem_nil, or_false, not_or]; exact (ne_no k1 e3))
          have k3_51 := F48.keep k3_45 (by simp only [List.mem_cons, List.not_mem_nil, or_false, not_or]; exact (ne_no k3 e3))
          have Hq12_52 := F48.keep Hq12_41 (by simp only [List.mem_cons, List.not_mem_nil, or_false, not_or]; exact ((ne_no Hq1_5 e14)).symm)
          have F53 := (F47).call F48 (fun x hx => Or.inr (Or.inl (by rw [List.mem_singleton.mp hx]; exact z10)))
          obtain ⟨J1, G1, s1, j1, -⟩ := Gw.ex ((Gw.refl hSI0).fr0 F53) hSI0 H48 z10
          obtain ⟨J2, G2, s2, j2, -⟩ := G1.ex hSI0 Hq12_52 z22
          have WR2 := WXr.gw WR0 (by rw [HO0]; exact fun q => by cases q) G2 F53
          have hCm : CmC g J2 q1 (((2, (f, e, y), []) : Cm)) := Or.inr (Or.inr ⟨rfl, by show f < 4; omega, by show e < 8; omega, q12, _, s2 _ _ j1, j2, rfl, rfl, rfl⟩)
          have HOk := HO_49
          have Fk := F53
          refine ev_callVR dX1_setFormation_65 cv_X1_103_X1 ce_X1_carryOut HOk rfl rfl rfl (k_carryX1 hG HOk WR2 hCm (cm_ok (by intro q; cases q)) (Nat.le_refl 500) (Nat.le_refl 20) (Nat.le_refl _)) (by omega) (by omega) (by show cmK _ + 53 ≤ _; first | omega | (unfold cmK; simp; done) | (unfold cmK; simp; omega)) (Nat.le_of_ble_eq_true rfl) (fun v54 h9 P54 => ?_)
          obtain ⟨rfl, W9, hS9, S9, F9, hB9⟩ := P54
          refine ev_ireturn dX1_setFormation_68 rfl ?_
          rw [Int.toNat_natCast]
          exact XQ.ok W9 (Fk.more (S' := S9) (fun x hx => by cases hx) |>.call F9 (fun x hx => Or.inl hx)) hB9
      · rw [if_neg (fun q => c8 q.2.2)]
        refine ev_iload_n dX1_setFormation_0 rfl ?_
        refine ev_callSN dX1_setFormation_1 cs_X1_341 ce_X1_checkFormation rfl rfl (k_checkFormationT (d := 0) hr0 c7) (by omega) (Nat.le_of_ble_eq_true rfl) ?_
        refine ev_iload_n dX1_setFormation_4 rfl ?_
        refine ev_callSN dX1_setFormation_5 cs_X1_140 ce_X1_checkDancer rfl rfl (k_checkDancerT (d := 0) hr1 c9) (by omega) (Nat.le_of_ble_eq_true rfl) ?_
        refine ev_aload_n dX1_setFormation_8 rfl ?_
        refine ev_iload_n dX1_setFormation_9 rfl ?_
        refine ev_callV dX1_setFormation_10 cv_X1_144_X1 ce_X1_checkPlace HO rfl rfl rfl (k_checkPlaceF H HO hd99 hG hr2 (fun q => c8 ((onSt_iff hM).mpr q))) (by omega) (by omega) (by omega) (Nat.le_of_ble_eq_true rfl) (fun v h2 q => ?_) (fun E q h2 r => ?_)
        · obtain ⟨q9, e9, -⟩ := q; cases e9
        · obtain ⟨q9, e9, rfl⟩ := r
          cases e9
          exact evx_out rfl (XQ.no (by decide) rfl W (Fr.refl _ []) nil_B)
    · rw [if_neg (fun q => c9 q.2.1)]
      refine ev_iload_n dX1_setFormation_0 rfl ?_
      refine ev_callSN dX1_setFormation_1 cs_X1_341 ce_X1_checkFormation rfl rfl (k_checkFormationT (d := 0) hr0 c7) (by omega) (Nat.le_of_ble_eq_true rfl) ?_
      refine ev_iload_n dX1_setFormation_4 rfl ?_
      refine ev_callS dX1_setFormation_5 cs_X1_140 ce_X1_checkDancer rfl rfl (k_checkDancerF hG hr1 c9) (by omega) (by omega) (by omega) (Nat.le_of_ble_eq_true rfl) (fun v h2 q => ?_) (fun E q h2 r => ?_)
      · obtain ⟨q9, e9, -⟩ := q; cases e9
      · obtain ⟨q9, e9, rfl⟩ := r
        cases e9
        exact evx_out rfl (XQ.no (by decide) rfl W (Fr.refl _ []) nil_B)
  · rw [if_neg (fun q => c7 q.1)]
    refine ev_iload_n dX1_setFormation_0 rfl ?_
    refine ev_callS dX1_setFormation_1 cs_X1_341 ce_X1_checkFormation rfl rfl (k_checkFormationF hG hr0 c7) (by omega) (by omega) (by omega) (Nat.le_of_ble_eq_true rfl) (fun v h2 q => ?_) (fun E q h2 r => ?_)
    · obtain ⟨q9, e9, -⟩ := q; cases e9
    · obtain ⟨q9, e9, rfl⟩ := r
      cases e9
      exact evx_out rfl (XQ.no (by decide) rfl W (Fr.refl _ []) nil_B)
end X8S

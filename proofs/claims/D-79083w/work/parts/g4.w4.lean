/-! THE COMPONENT: the planner, isStep, follow, find, keep (printed by gen) -/
section W4S
variable {g : GB} {M : MI} {d c k : Nat} {h : HM}
variable {I h0 J : HM} {o pa pl a st fo : Nat} {D : Dn} {L : PL}
set_option maxRecDepth 100000 in
set_option maxHeartbeats 4000000 in
theorem k_isStep20 (K : PnC h o pa pl a L) (H : DnC g I h a st fo D) (hfb : ∀ (e : Nat) (f : Nat → Nat) (k : Nat), e < 8 → L e = some f → k ≤ 20 → f k < 1000) (hco : 2 ≤ D.1.1 ∧ D.1.1 ≤ 9) (hro : 2 ≤ D.1.2 ∧ D.1.2 ≤ 9) {rq gl last : Nat} {X : Nat → Nat → Int} (KR : RcH g h rq (last + 1) (D.1.1 * D.1.2) X) (hX : (∀ j x : Nat, j < last + 1 → x < (D.1.1 * D.1.2) → X j x = bI (ldP D.1.1 D.1.2 L gl last (last - j) x))) (hl20 : last ≤ 20) {x s k0 : Nat} (hs : s ≤ 4) (hx : x < (D.1.1 * D.1.2)) (hk : k0 < last) : Kc g mX20_isStep 2 0 0 [.ref o, vz ((x : Nat) : Int), vz ((sgN s : Nat) : Int), vz ((k0 + 1 : Nat) : Int), .ref rq] h (sR (some (vz (bI (okP_ D.1.1 D.1.2 L gl last k0 x s)))) h) := by
  refine Kc.of (ls := [some (.ref o), some (vz ((x : Nat) : Int)), some (vz ((sgN s : Nat) : Int)), some (vz ((k0 + 1 : Nat) : Int)), some (.ref rq), none]) (by decide +kernel) (Nat.le_of_ble_eq_true rfl) rfl ?_
  obtain ⟨K1, -⟩ := id K
  obtain ⟨r1, r2, r3⟩ := id KR
  replace r3 := r3 (k0 + 1) (by omega)
  have hNN : D.1.1 * D.1.2 ≤ 9 * 9 := Nat.mul_le_mul hco.2 hro.2
  cases hy : nbP D.1.1 D.1.2 x s with
  | none =>
    have hnI : nbI D.1.1 D.1.2 x s = -1 := by unfold nbI; rw [hy]
    have hcv : okP_ D.1.1 D.1.2 L gl last k0 x s = false := by unfold okP_; rw [hy]
    refine ev_aload_n dX20_isStep_0 rfl ?_
    refine ev_iload_n dX20_isStep_1 rfl ?_
    refine ev_iload_n dX20_isStep_2 rfl ?_
    refine ev_callVE dX20_isStep_3 cv_X20_81_X20 ce_X20_neighbor K1 rfl rfl rfl (k_nb20 (p := x) (s := s) K1 H hco hro hs (by omega)) (by omega) (Nat.le_of_ble_eq_true rfl) ?_
    rw [hnI]
    refine ev_istore dX20_isStep_6 (by decide) rfl ?_
    dsimp only [List.set]
    refine ev_iload dX20_isStep_8 rfl ?_
    refine ev_iconstZ dX20_isStep_10 ?_
    refine ev_icmp_eqZ (tgt := 39) dX20_isStep_11 (by decide) (by omega) (by omega) (fun c11 => ?_) (fun c11 => by omega)
    refine ev_iconstZ dX20_isStep_39 ?_
    refine ev_zreturn dX20_isStep_40 rfl rfl ?_
    exact ⟨by rw [hcv]; rfl, rfl⟩
  | some y =>
    have hnI : nbI D.1.1 D.1.2 x s = ((y : Nat) : Int) := by unfold nbI; rw [hy]
    have hyl := nbP_lt (by omega) hy
    have hcu : okP_ D.1.1 D.1.2 L gl last k0 x s = (ldP D.1.1 D.1.2 L gl last (last - (k0 + 1)) y && goP L k0 x y) := by unfold okP_; rw [hy]
    cases hld : ldP D.1.1 D.1.2 L gl last (last - (k0 + 1)) y with
    | false =>
      have hcv : okP_ D.1.1 D.1.2 L gl last k0 x s = false := by rw [hcu, hld]; rfl
      refine ev_aload_n dX20_isStep_0 rfl ?_
      refine ev_iload_n dX20_isStep_1 rfl ?_
      refine ev_iload_n dX20_isStep_2 rfl ?_
      refine ev_callVE dX20_isStep_3 cv_X20_81_X20 ce_X20_neighbor K1 rfl rfl rfl (k_nb20 (p := x) (s := s) K1 H hco hro hs (by omega)) (by omega) (Nat.le_of_ble_eq_true rfl) ?_
      rw [hnI]
      refine ev_istore dX20_isStep_6 (by decide) rfl ?_
      dsimp only [List.set]
      refine ev_iload dX20_isStep_8 rfl ?_
      refine ev_iconstZ dX20_isStep_10 ?_
      refine ev_icmp_eqZ (tgt := 39) dX20_isStep_11 (by decide) (by omega) (by omega) (fun c11 => by omega) (fun c11 => ?_)
      refine ev_aload dX20_isStep_14 rfl ?_
      refine ev_iload_n dX20_isStep_16 rfl ?_
      refine ev_aaldY (v := .ref (rq + 1 + (k0 + 1))) dX20_isStep_17 r1 rfl rfl (by omega) (by rw [Int.toNat_natCast, if_pos (by omega)]; rfl) ?_
      refine ev_iload dX20_isStep_18 rfl ?_
      refine ev_zaldY dX20_isStep_20 r3 (by omega) ?_
      rw [Int.toNat_natCast, hX (k0 + 1) y (by omega) hyl]
      refine ev_if_eqB (tgt := 39) dX20_isStep_21 (by decide) (fun c21 => ?_) (fun c21 => by rw [hld] at c21; cases c21)
      refine ev_iconstZ dX20_isStep_39 ?_
      refine ev_zreturn dX20_isStep_40 rfl rfl ?_
      exact ⟨by rw [hcv]; rfl, rfl⟩
    | true =>
      cases hgo : goP L k0 x y with
      | false =>
        have hcv : okP_ D.1.1 D.1.2 L gl last k0 x s = false := by rw [hcu, hld, hgo]; rfl
        refine ev_aload_n dX20_isStep_0 rfl ?_
        refine ev_iload_n dX20_isStep_1 rfl ?_
        refine ev_iload_n dX20_isStep_2 rfl ?_
        refine ev_callVE dX20_isStep_3 cv_X20_81_X20 ce_X20_neighbor K1 rfl rfl rfl (k_nb20 (p := x) (s := s) K1 H hco hro hs (by omega)) (by omega) (Nat.le_of_ble_eq_true rfl) ?_
        rw [hnI]
        refine ev_istore dX20_isStep_6 (by decide) rfl ?_
        dsimp only [List.set]
        refine ev_iload dX20_isStep_8 rfl ?_
        refine ev_iconstZ dX20_isStep_10 ?_
        refine ev_icmp_eqZ (tgt := 39) dX20_isStep_11 (by decide) (by omega) (by omega) (fun c11 => by omega) (fun c11 => ?_)
        refine ev_aload dX20_isStep_14 rfl ?_
        refine ev_iload_n dX20_isStep_16 rfl ?_
        refine ev_aaldY (v := .ref (rq + 1 + (k0 + 1))) dX20_isStep_17 r1 rfl rfl (by omega) (by rw [Int.toNat_natCast, if_pos (by omega)]; rfl) ?_
        refine ev_iload dX20_isStep_18 rfl ?_
        refine ev_zaldY dX20_isStep_20 r3 (by omega) ?_
        rw [Int.toNat_natCast, hX (k0 + 1) y (by omega) hyl]
        refine ev_if_eqB (tgt := 39) dX20_isStep_21 (by decide) (fun c21 => by rw [hld] at c21; cases c21) (fun c21 => ?_)
        refine ev_aload_n dX20_isStep_24 rfl ?_
        refine ev_iload_n dX20_isStep_25 rfl ?_
        refine ev_iload dX20_isStep_26 rfl ?_
        refine ev_iload_n dX20_isStep_28 rfl ?_
        refine ev_callVE dX20_isStep_29 cv_X20_61_X20 ce_X20_canGo K1 rfl rfl rfl (k_canGo (d := 0) (p := ((x : Nat) : Int)) (x := ((y : Nat) : Int)) (k0 := k0) K (by omega) (by omega) (by omega) hfb) (by omega) (Nat.le_of_ble_eq_true rfl) ?_
        rw [gnI_go]
        refine ev_if_eqB (tgt := 39) dX20_isStep_32 (by decide) (fun c32 => ?_) (fun c32 => by rw [hgo] at c32; cases c32)
        refine ev_iconstZ dX20_isStep_39 ?_
        refine ev_zreturn dX20_isStep_40 rfl rfl ?_
        exact ⟨by rw [hcv]; rfl, rfl⟩
      | true =>
        have hcv : okP_ D.1.1 D.1.2 L gl last k0 x s = true := by rw [hcu, hld, hgo]; rfl
        refine ev_aload_n dX20_isStep_0 rfl ?_
        refine ev_iload_n dX20_isStep_1 rfl ?_
        refine ev_iload_n dX20_isStep_2 rfl ?_
        refine ev_callVE dX20_isStep_3 cv_X20_81_X20 ce_X20_neighbor K1 rfl rfl rfl (k_nb20 (p := x) (s := s) K1 H hco hro hs (by omega)) (by omega) (Nat.le_of_ble_eq_true rfl) ?_
        rw [hnI]
        refine ev_istore dX20_isStep_6 (by decide) rfl ?_
        dsimp only [List.set]
        refine ev_iload dX20_isStep_8 rfl ?_
        refine ev_iconstZ dX20_isStep_10 ?_
        refine ev_icmp_eqZ (tgt := 39) dX20_isStep_11 (by decide) (by omega) (by omega) (fun c11 => by omega) (fun c11 => ?_)
        refine ev_aload dX20_isStep_14 rfl ?_
        refine ev_iload_n dX20_isStep_16 rfl ?_
        refine ev_aaldY (v := .ref (rq + 1 + (k0 + 1))) dX20_isStep_17 r1 rfl rfl (by omega) (by rw [Int.toNat_natCast, if_pos (by omega)]; rfl) ?_
        refine ev_iload dX20_isStep_18 rfl ?_
        refine ev_zaldY dX20_isStep_20 r3 (by omega) ?_
        rw [Int.toNat_natCast, hX (k0 + 1) y (by omega) hyl]
        refine ev_if_eqB (tgt := 39) dX20_isStep_21 (by decide) (fun c21 => by rw [hld] at c21; cases c21) (fun c21 => ?_)
        refine ev_aload_n dX20_isStep_24 rfl ?_
        refine ev_iload_n dX20_isStep_25 rfl ?_
        refine ev_iload dX20_isStep_26 rfl ?_
        refine ev_iload_n dX20_isStep_28 rfl ?_
        refine ev_callVE dX20_isStep_29 cv_X20_61_X20 ce_X20_canGo K1 rfl rfl rfl (k_canGo (d := 0) (p := ((x : Nat) : Int)) (x := ((y : Nat) : Int)) (k0 := k0) K (by omega) (by omega) (by omega) hfb) (by omega) (Nat.le_of_ble_eq_true rfl) ?_
        rw [gnI_go]
        refine ev_if_eqB (tgt := 39) dX20_isStep_32 (by decide) (fun c32 => by rw [hgo] at c32; cases c32) (fun c32 => ?_)
        refine ev_iconstZ dX20_isStep_35 ?_
        refine ev_goto (tgt := 40) dX20_isStep_36 (by decide) ?_
        refine ev_zreturn dX20_isStep_40 rfl rfl ?_
        exact ⟨by rw [hcv]; rfl, rfl⟩
theorem sgN_128 (x : Nat) : sgN x < 128 := by unfold sgN; (repeat' split) <;> omega
set_option maxRecDepth 100000 in
set_option maxHeartbeats 4000000 in
theorem k_follow20 (hG : GKx g) (K0 : KC g h0) (K : PnC h0 o pa pl a L) (H : DnC g I h0 a st fo D) (hfb : ∀ (e : Nat) (f : Nat → Nat) (k : Nat), e < 8 → L e = some f → k ≤ 20 → f k < 1000) (hco : 2 ≤ D.1.1 ∧ D.1.1 ≤ 9) (hro : 2 ≤ D.1.2 ∧ D.1.2 ≤ 9) {rq gl last s0 : Nat} {X : Nat → Nat → Int} (KR : RcH g h0 rq (last + 1) (D.1.1 * D.1.2) X) (hX : (∀ j x : Nat, j < last + 1 → x < (D.1.1 * D.1.2) → X j x = bI (ldP D.1.1 D.1.2 L gl last (last - j) x))) (hl20 : last ≤ 20) (hs0 : s0 < (D.1.1 * D.1.2)) (hld : ldP D.1.1 D.1.2 L gl last last s0 = true) (hd : 8 ≤ d) (hc : 26 ≤ c) (hk : 800 ≤ k) : Kc g mX20_follow d (c) (k) [.ref o, vz ((s0 : Nat) : Int), .ref rq] h0 (rR (fun v h' => ∃ q w : Nat, v = some (.ref q) ∧ STh h' q w ((ssP D.1.1 D.1.2 L s0 gl last).map sgN) ∧ Fr g h0 h' [] ∧ h0 q = none ∧ h0 w = none)) := by
  refine Kc.of (ls := [some (.ref o), some (vz ((s0 : Nat) : Int)), some (.ref rq), none, none, none, none]) (by decide +kernel) (Nat.le_of_ble_eq_true rfl) rfl ?_
  refine ev_newC (c' := c - 1) (k' := k - 4) [.null, vz 0, vz 0, vz 0] dX20_follow_0 cf_J6 q2614 q284 q126 rfl (by omega) (by omega) (fun qm1 hp_m2 em3 Bm4 Hqm1_m5 fm6 => ?_)
  have zm7 := ((Fr.refl (g := g) _ [])).fresh em3
  have Fm8 := ((Fr.refl (g := g) _ [])).alloc (Or.inl ⟨_, Hqm1_m5⟩) fm6 em3
  refine ev_dup dX20_follow_3 rfl ?_
  refine ev_callVR dX20_follow_4 ci_X20_103 ce_J6_init Hqm1_m5 rfl rfl rfl (sb_init hG Hqm1_m5 Bm4) (by omega) (by omega) (by omega) (Nat.le_of_ble_eq_true rfl) (fun v9 h2 P9 => ?_)
  obtain ⟨rfl, bv, zv, HB, F2⟩ := P9
  have FX : Fr g h0 h2 [] := (Fm8).call F2 (fun x hx => Or.inr (Or.inl (by rw [List.mem_singleton.mp hx]; exact zm7)))
  have zbq : h0 qm1 = none := zm7
  have zbv : h0 bv = none := (Fm8).fresh zv
  refine ev_astore_n dX20_follow_7 (by decide) rfl ?_
  dsimp only [List.set]
  refine ev_iload_n dX20_follow_8 rfl ?_
  refine ev_istore dX20_follow_9 (by decide) rfl ?_
  dsimp only [List.set]
  refine ev_iconstZ dX20_follow_11 ?_
  refine ev_istore dX20_follow_12 (by decide) rfl ?_
  dsimp only [List.set]
  obtain ⟨bq, hbq⟩ : ∃ x, x = qm1 := ⟨_, rfl⟩
  rw [← hbq] at zbq HB ⊢
  refine ev_forB (st := []) last (fun i => last - i + 2) (fun i => 34 * (last - i) + 40) (fun i h1 => ∃ (bv cap : Nat), SBh g h1 bq bv cap (((ssP D.1.1 D.1.2 L s0 gl last).take i).map sgN) ∧ (cap = 16 ∨ cap = 34) ∧ h0 bv = none ∧ Fr g h0 h1 []) (fun i => [some (.ref o), some (vz ((s0 : Nat) : Int)), some (.ref rq), some (.ref bq), some (vz (((wkP D.1.1 D.1.2 L s0 gl last i) : Nat) : Int)), some (vz (((i) + 1 : Nat) : Int)), none]) 0 (Nat.zero_le _) ⟨bv, 16, HB, Or.inl rfl, zbv, FX⟩ (by omega) (by omega) (by repeat' first | exact rfl | exact trivial | exact vz_eq (by omega) | refine And.intro ?_ ?_) (fun i h1 _ hi hP1 hN => ?_) (fun h1 hP1 => ?_)
  · obtain ⟨bv, cap, HB, hcp, zbv, F1⟩ := hP1
    have KP := K.fr0 F1
    have HD := H.fr F1 (fun x hx => by cases hx)
    obtain ⟨K1, -⟩ := id KP
    have KR2 : RcH g h1 rq (last + 1) (D.1.1 * D.1.2) X := ⟨F1.keep KR.1 (fun q => by cases q), KR.2.1, fun k hk => F1.keep (KR.2.2 k hk) (fun q => by cases q)⟩
    obtain ⟨r1, r2, r3⟩ := id KR2
    have hST : STh h1 (g.2.2.2.2 19) (g.2.2.2.2 43) (strB "nesw.") := ((K0.fr F1).2.2.1 19 _ rfl).1
    obtain ⟨sA, sx, sy, hs1, -⟩ := id hST
    obtain ⟨AB, hb1, -⟩ := id HB
    have hl5 : (strB "nesw.").length = 5 := by decide
    have hNN : D.1.1 * D.1.2 ≤ 9 * 9 := Nat.mul_le_mul hco.2 hro.2
    obtain ⟨w1, hwl, -⟩ := wk_ok (by omega) hs0 hld i (by omega)
    obtain ⟨-, hwl2, w3⟩ := wk_ok (C := D.1.1) (R := D.1.2) (L := L) (st := s0) (gl := gl) (last := last) (by omega) hs0 hld (i + 1) (by omega)
    obtain ⟨hcq, hok, hlow, hnb⟩ := w3 i rfl
    have hyes : okP_ D.1.1 D.1.2 L gl last i (wkP D.1.1 D.1.2 L s0 gl last i) (stO (cqP D.1.1 D.1.2 L gl last i (wkP D.1.1 D.1.2 L s0 gl last i))) = true := hok
    have hnI : nbI D.1.1 D.1.2 (wkP D.1.1 D.1.2 L s0 gl last i) (stO (cqP D.1.1 D.1.2 L gl last i (wkP D.1.1 D.1.2 L s0 gl last i))) = (((wkP D.1.1 D.1.2 L s0 gl last (i + 1)) : Nat) : Int) := by unfold nbI; rw [show nbP D.1.1 D.1.2 (wkP D.1.1 D.1.2 L s0 gl last i) (stO (cqP D.1.1 D.1.2 L gl last i (wkP D.1.1 D.1.2 L s0 gl last i))) = some (wkP D.1.1 D.1.2 L s0 gl last (i + 1)) from hnb]
    refine ev_iload dX20_follow_14 rfl ?_
    refine ev_aload_n dX20_follow_16 rfl ?_
    refine ev_alenZ dX20_follow_17 r1 rfl ?_
    refine ev_icmp_geZ (tgt := 82) dX20_follow_18 (by decide) (by omega) (by omega) (fun c18 => by omega) (fun c18 => ?_)
    refine ev_iconstZ dX20_follow_21 ?_
    refine ev_istore dX20_follow_22 (by decide) rfl ?_
    dsimp only [List.set]
    refine ev_for (st := []) (cqP D.1.1 D.1.2 L gl last i (wkP D.1.1 D.1.2 L s0 gl last i)) (fun s h2 => h2 = h1) (fun s => [some (.ref o), some (vz ((s0 : Nat) : Int)), some (.ref rq), some (.ref bq), some (vz (((wkP D.1.1 D.1.2 L s0 gl last i) : Nat) : Int)), some (vz (((i) + 1 : Nat) : Int)), some (vz ((s : Nat) : Int))]) 0 (Nat.zero_le _) rfl (by repeat' first | exact rfl | exact trivial | exact vz_eq (by omega) | refine And.intro ?_ ?_) (fun s h2 _ hs e2 hK2 => ?_) (fun h2 e2 => ?_)
    · subst e2
      have hno : okP_ D.1.1 D.1.2 L gl last i (wkP D.1.1 D.1.2 L s0 gl last i) (stO s) = false := hlow s hs
      refine ev_aload_n dX20_follow_24 rfl ?_
      refine ev_iload dX20_follow_25 rfl ?_
      refine ev_ldcS (i := 19) hG dX20_follow_27 rfl ?_
      refine ev_iload dX20_follow_29 rfl ?_
      refine ev_callVE dX20_follow_31 cv_X20_77_J7 ce_J7_charAt hs1 rfl rfl rfl (st_charAt hST hG (by omega) (by rw [Int.toNat_natCast]; exact nesw_get ⟨s, by omega⟩)) (by omega) (Nat.le_of_ble_eq_true rfl) ?_
      refine ev_iload dX20_follow_34 rfl ?_
      refine ev_aload_n dX20_follow_36 rfl ?_
      refine ev_callVE dX20_follow_37 cv_X20_104_X20 ce_X20_isStep K1 rfl rfl rfl (k_isStep20 (x := (wkP D.1.1 D.1.2 L s0 gl last i)) (s := stO s) (k0 := i) KP HD hfb hco hro KR2 hX hl20 stO_4 hwl hi) (by omega) (Nat.le_of_ble_eq_true rfl) ?_
      refine ev_if_neB (tgt := 49) dX20_follow_40 (by decide) (fun c40 => by rw [hno] at c40; cases c40) (fun c40 => ?_)
      refine ev_iincZ dX20_follow_43 rfl (by decide) rfl ?_
      dsimp only [List.set]
      refine ev_goto (tgt := 24) dX20_follow_46 (by decide) ?_
      exact hK2 _ _ (by repeat' first | exact rfl | exact trivial | exact vz_eq (by omega) | refine And.intro ?_ ?_) rfl
    · subst e2
      refine ev_aload_n dX20_follow_24 rfl ?_
      refine ev_iload dX20_follow_25 rfl ?_
      refine ev_ldcS (i := 19) hG dX20_follow_27 rfl ?_
      refine ev_iload dX20_follow_29 rfl ?_
      refine ev_callVE dX20_follow_31 cv_X20_77_J7 ce_J7_charAt hs1 rfl rfl rfl (st_charAt hST hG (by omega) (by rw [Int.toNat_natCast]; exact nesw_get ⟨(cqP D.1.1 D.1.2 L gl last i (wkP D.1.1 D.1.2 L s0 gl last i)), by omega⟩)) (by omega) (Nat.le_of_ble_eq_true rfl) ?_
      refine ev_iload dX20_follow_34 rfl ?_
      refine ev_aload_n dX20_follow_36 rfl ?_
      refine ev_callVE dX20_follow_37 cv_X20_104_X20 ce_X20_isStep K1 rfl rfl rfl (k_isStep20 (x := (wkP D.1.1 D.1.2 L s0 gl last i)) (s := stO (cqP D.1.1 D.1.2 L gl last i (wkP D.1.1 D.1.2 L s0 gl last i))) (k0 := i) KP HD hfb hco hro KR2 hX hl20 stO_4 hwl hi) (by omega) (Nat.le_of_ble_eq_true rfl) ?_
      refine ev_if_neB (tgt := 49) dX20_follow_40 (by decide) (fun c40 => ?_) (fun c40 => by rw [hyes] at c40; cases c40)
      refine ev_aload_n dX20_follow_49 rfl ?_
      refine ev_ldcS (i := 19) hG dX20_follow_50 rfl ?_
      refine ev_iload dX20_follow_52 rfl ?_
      refine ev_callVE dX20_follow_54 cv_X20_77_J7 ce_J7_charAt hs1 rfl rfl rfl (st_charAt hST hG (by omega) (by rw [Int.toNat_natCast]; exact nesw_get ⟨(cqP D.1.1 D.1.2 L gl last i (wkP D.1.1 D.1.2 L s0 gl last i)), by omega⟩)) (by omega) (Nat.le_of_ble_eq_true rfl) ?_
      have htl : (((ssP D.1.1 D.1.2 L s0 gl last).take i).map sgN).length = i := by rw [List.length_map, List.length_take, ssP_len]; omega
      have hnc : ncap cap ((((ssP D.1.1 D.1.2 L s0 gl last).take i).map sgN).length + 1) = 16 ∨ ncap cap ((((ssP D.1.1 D.1.2 L s0 gl last).take i).map sgN).length + 1) = 34 := by
        rw [htl]
        unfold ncap
        rcases hcp with e | e
        · rw [e]; split
          · exact Or.inl rfl
          · right; omega
        · rw [e]; split
          · exact Or.inr rfl
          · omega
      refine ev_callVR dX20_follow_57 cv_X20_108_J6 ce_J6_append_3 hb1 rfl rfl rfl (sb_appc (c := 1) (k := 34) (x := sgN (stO (cqP D.1.1 D.1.2 L gl last i (wkP D.1.1 D.1.2 L s0 gl last i)))) hG HB (sgN_128 _) (by omega) (fun _ => by omega)) (by omega) (by omega) (by omega) (Nat.le_of_ble_eq_true rfl) (fun v9 h3 P9 => ?_)
      obtain ⟨rfl, bv2, HB2, hv2, F3⟩ := P9
      have F4 := F1.call F3 (fun x hx => Or.inr (Or.inl ((List.mem_cons.mp hx).elim (fun e => by rw [e]; exact zbq) (fun e => by rw [List.mem_singleton.mp e]; exact zbv))))
      have zb2 : h0 bv2 = none := by
        rcases hv2 with e | e
        · rw [e]; exact zbv
        · exact F1.fresh e
      clear KP HD K1 KR2 r1 r2 r3 hST hs1 hb1
      have KP := K.fr0 F4
      have HD := H.fr F4 (fun x hx => by cases hx)
      obtain ⟨K1, -⟩ := id KP
      have KR2 : RcH g h3 rq (last + 1) (D.1.1 * D.1.2) X := ⟨F4.keep KR.1 (fun q => by cases q), KR.2.1, fun k hk => F4.keep (KR.2.2 k hk) (fun q => by cases q)⟩
      obtain ⟨r1, r2, r3⟩ := id KR2
      have hST : STh h3 (g.2.2.2.2 19) (g.2.2.2.2 43) (strB "nesw.") := ((K0.fr F4).2.2.1 19 _ rfl).1
      obtain ⟨sA, sx, sy, hs1, -⟩ := id hST
      refine ev_pop dX20_follow_60 rfl ?_
      refine ev_aload_n dX20_follow_61 rfl ?_
      refine ev_iload dX20_follow_62 rfl ?_
      refine ev_ldcS (i := 19) hG dX20_follow_64 rfl ?_
      refine ev_iload dX20_follow_66 rfl ?_
      refine ev_callVE dX20_follow_68 cv_X20_77_J7 ce_J7_charAt hs1 rfl rfl rfl (st_charAt hST hG (by omega) (by rw [Int.toNat_natCast]; exact nesw_get ⟨(cqP D.1.1 D.1.2 L gl last i (wkP D.1.1 D.1.2 L s0 gl last i)), by omega⟩)) (by omega) (Nat.le_of_ble_eq_true rfl) ?_
      refine ev_callVE dX20_follow_71 cv_X20_81_X20 ce_X20_neighbor K1 rfl rfl rfl (k_nb20 (p := (wkP D.1.1 D.1.2 L s0 gl last i)) (s := stO (cqP D.1.1 D.1.2 L gl last i (wkP D.1.1 D.1.2 L s0 gl last i))) K1 HD hco hro stO_4 (by omega)) (by omega) (Nat.le_of_ble_eq_true rfl) ?_
      rw [hnI]
      refine ev_istore dX20_follow_74 (by decide) rfl ?_
      dsimp only [List.set]
      refine ev_iincZ dX20_follow_76 rfl (by decide) rfl ?_
      dsimp only [List.set]
      refine ev_goto (tgt := 14) dX20_follow_79 (by decide) ?_
      exact hN _ _ _ _ (by omega) (by omega) (by repeat' first | exact rfl | exact trivial | exact vz_eq (by omega) | refine And.intro ?_ ?_) ⟨bv2, _, (by rw [take_snoc (ssP_get hi), List.map_append]; exact HB2), hnc, zb2, F4⟩
  · obtain ⟨bv, cap, HB, hcp, zbv, F1⟩ := hP1
    have KP := K.fr0 F1
    have HD := H.fr F1 (fun x hx => by cases hx)
    obtain ⟨K1, -⟩ := id KP
    have KR2 : RcH g h1 rq (last + 1) (D.1.1 * D.1.2) X := ⟨F1.keep KR.1 (fun q => by cases q), KR.2.1, fun k hk => F1.keep (KR.2.2 k hk) (fun q => by cases q)⟩
    obtain ⟨r1, r2, r3⟩ := id KR2
    have hST : STh h1 (g.2.2.2.2 19) (g.2.2.2.2 43) (strB "nesw.") := ((K0.fr F1).2.2.1 19 _ rfl).1
    obtain ⟨sA, sx, sy, hs1, -⟩ := id hST
    obtain ⟨AB, hb1, -⟩ := id HB
    have hl5 : (strB "nesw.").length = 5 := by decide
    have hNN : D.1.1 * D.1.2 ≤ 9 * 9 := Nat.mul_le_mul hco.2 hro.2
    refine ev_iload dX20_follow_14 rfl ?_
    refine ev_aload_n dX20_follow_16 rfl ?_
    refine ev_alenZ dX20_follow_17 r1 rfl ?_
    refine ev_icmp_geZ (tgt := 82) dX20_follow_18 (by decide) (by omega) (by omega) (fun c18 => ?_) (fun c18 => by omega)
    refine ev_aload_n dX20_follow_82 rfl ?_
    refine ev_callVR dX20_follow_83 cv_X20_112_J6 ce_J6_toString hb1 rfl rfl rfl (sb_toString hG HB) (by omega) (by omega) (by rw [List.length_map, List.length_take, ssP_len]; omega) (Nat.le_of_ble_eq_true rfl) (fun v9 h3 P9 => ?_)
    obtain ⟨q9, w9, rfl, z1, z2, b1, b2, HT9, F9⟩ := P9
    refine ev_areturn dX20_follow_86 rfl (Or.inl ⟨_, rfl⟩) (Or.inr ⟨_, rfl⟩) ?_
    exact ⟨_, rfl, q9, w9, rfl, (by rw [← List.take_of_length_le (Nat.le_of_eq (ssP_len D.1.1 D.1.2 L s0 gl last))]; exact HT9), F1.call F9 nil_in, F1.fresh z1, F1.fresh z2⟩
end W4S

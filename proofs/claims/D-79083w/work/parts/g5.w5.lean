/-! THE COMPONENT: the planner, find, keep (printed by gen) -/
section W5S
variable {g : GB} {M : MI} {d c k : Nat} {h : HM}
variable {I h0 J : HM} {o pa pl a st fo : Nat} {D : Dn} {L : PL}
/-- the component's way to find the last count -/
theorem en_C {C R s0 gl k : Nat} {L : PL} (h0 : frP L 0 s0 = true) (hk : k ≤ 20) : (rcP C R L s0 k gl && syN L gl k (20 - k)) = (rcP C R L s0 k gl && syP L gl k) := by
  cases hr : rcP C R L s0 k gl with
  | false => rfl
  | true =>
    rw [Bool.true_and, Bool.true_and]
    have hk0 : frP L k gl = true := by
      cases k with
      | zero => rw [of_decide_eq_true hr]; exact h0
      | succ k =>
        obtain ⟨p, s, -, -, -, -, g5⟩ := rcP_iff.mp hr
        unfold goP at g5
        exact (Bool.and_eq_true_iff.mp g5).1
    have key : syN L gl k (20 - k) = true ↔ syP L gl k = true := by
      rw [syN_iff, syP_iff]
      constructor
      · intro a j h1 h2
        by_cases q : j = k
        · rw [q]; exact hk0
        · exact a j (by omega) (by omega)
      · intro a j h1 h2; exact a j (by omega) (by omega)
    cases h3 : syN L gl k (20 - k) with
    | true => exact (key.mp h3).symm
    | false =>
      cases h4 : syP L gl k with
      | false => rfl
      | true => rw [key.mpr h4] at h3; cases h3
set_option maxRecDepth 100000 in
set_option maxHeartbeats 4000000 in
theorem k_find20 (hG : GKx g) (K0 : KC g h0) (hSI : Sub I h0) (K : PnC h0 o pa pl a L) (H : DnC g I h0 a st fo D) (hfb : ∀ (e : Nat) (f : Nat → Nat) (k : Nat), e < 8 → L e = some f → k ≤ 20 → f k < 1000) (hco : 2 ≤ D.1.1 ∧ D.1.1 ≤ 9) (hro : 2 ≤ D.1.2 ∧ D.1.2 ≤ 9) {s0 gl : Nat} (hs0 : s0 < (D.1.1 * D.1.2)) (hgl : gl < (D.1.1 * D.1.2)) (hfr0 : frP L 0 s0 = true) (hd : 10 ≤ d) (hc : 70 ≤ c) (hk : 4244 ≤ k) : Kc g mX20_find d (c) (k) [.ref o, vz ((s0 : Nat) : Int), vz ((gl : Nat) : Int)] h0 (rR (fun v h' => ((enP D.1.1 D.1.2 L s0 gl = none ∧ v = some .null) ∨ ∃ last q w : Nat, enP D.1.1 D.1.2 L s0 gl = some last ∧ v = some (.ref q) ∧ STh h' q w ((ssP D.1.1 D.1.2 L s0 gl last).map sgN) ∧ h0 q = none ∧ h0 w = none) ∧ Fr g h0 h' [])) := by
  refine Kc.of (ls := [some (.ref o), some (vz ((s0 : Nat) : Int)), some (vz ((gl : Nat) : Int)), none, none]) (by decide +kernel) (Nat.le_of_ble_eq_true rfl) rfl ?_
  obtain ⟨K1, -⟩ := id K
  refine ev_aload_n dX20_find_0 rfl ?_
  refine ev_iload_n dX20_find_1 rfl ?_
  refine ev_callVR dX20_find_2 cv_X20_85_X20 ce_X20_reachable K1 rfl rfl rfl (k_reach20 (c := 22) (k := 1722) (d := d - 1) hG K0 hSI K H hfb hco hro (s0 := s0) hs0 (by omega) (by omega) (by omega)) (by omega) (by omega) (by omega) (Nat.le_of_ble_eq_true rfl) (fun v9 h1 P9 => ?_)
  obtain ⟨rq, X, rfl, KR, hX, F1, -, -⟩ := P9
  clear K1
  have KP := K.fr0 F1
  obtain ⟨K1, -⟩ := id KP
  have HD := H.fr F1 (fun x hx => by cases hx)
  obtain ⟨r1, r2, r3⟩ := id KR
  have hNN : D.1.1 * D.1.2 ≤ 9 * 9 := Nat.mul_le_mul hco.2 hro.2
  refine ev_astore_n dX20_find_5 (by decide) rfl ?_
  dsimp only [List.set]
  refine ev_iconstZ dX20_find_6 ?_
  refine ev_istore dX20_find_7 (by decide) rfl ?_
  dsimp only [List.set]
  cases hen : enP D.1.1 D.1.2 L s0 gl with
  | none =>
    refine ev_for (st := []) 21 (fun k1 h2 => h2 = h1) (fun k1 => [some (.ref o), some (vz ((s0 : Nat) : Int)), some (vz ((gl : Nat) : Int)), some (.ref rq), some (vz ((k1 : Nat) : Int))]) 0 (Nat.zero_le _) rfl (by repeat' first | exact rfl | exact trivial | exact vz_eq (by omega) | refine And.intro ?_ ?_) (fun k1 h2 _ hk1 e2 hK => ?_) (fun h2 e2 => ?_)
    · subst e2
      have hf := find_none hen k1 hk1
      have hec := en_C (C := D.1.1) (R := D.1.2) (gl := gl) hfr0 (show k1 ≤ 20 by omega)
      rw [hf] at hec
      have r3k := r3 k1 (by omega)
      cases hrc : rcP D.1.1 D.1.2 L s0 k1 gl with
      | false =>
        refine ev_iload dX20_find_9 rfl ?_
        refine ev_bipushZ dX20_find_11 rfl ?_
        refine ev_icmp_gtZ (tgt := 41) dX20_find_13 (by decide) (by omega) (by omega) (fun c13 => by omega) (fun c13 => ?_)
        refine ev_aload_n dX20_find_16 rfl ?_
        refine ev_iload dX20_find_17 rfl ?_
        refine ev_aaldY (v := .ref (rq + 1 + k1)) dX20_find_19 r1 rfl rfl (by omega) (by rw [Int.toNat_natCast, if_pos (by omega)]; rfl) ?_
        refine ev_iload_n dX20_find_20 rfl ?_
        refine ev_zaldY dX20_find_21 r3k (by omega) ?_
        rw [Int.toNat_natCast, hX k1 gl (by omega) hgl]
        refine ev_if_eqB (tgt := 35) dX20_find_22 (by decide) (fun c22 => ?_) (fun c22 => by rw [hrc] at c22; cases c22)
        refine ev_iincZ dX20_find_35 rfl (by decide) rfl ?_
        dsimp only [List.set]
        refine ev_goto (tgt := 9) dX20_find_38 (by decide) ?_
        exact hK _ _ (by repeat' first | exact rfl | exact trivial | exact vz_eq (by omega) | refine And.intro ?_ ?_) rfl
      | true =>
        have hsy : syN L gl k1 (20 - k1) = false := by rw [hrc, Bool.true_and] at hec; exact hec
        refine ev_iload dX20_find_9 rfl ?_
        refine ev_bipushZ dX20_find_11 rfl ?_
        refine ev_icmp_gtZ (tgt := 41) dX20_find_13 (by decide) (by omega) (by omega) (fun c13 => by omega) (fun c13 => ?_)
        refine ev_aload_n dX20_find_16 rfl ?_
        refine ev_iload dX20_find_17 rfl ?_
        refine ev_aaldY (v := .ref (rq + 1 + k1)) dX20_find_19 r1 rfl rfl (by omega) (by rw [Int.toNat_natCast, if_pos (by omega)]; rfl) ?_
        refine ev_iload_n dX20_find_20 rfl ?_
        refine ev_zaldY dX20_find_21 r3k (by omega) ?_
        rw [Int.toNat_natCast, hX k1 gl (by omega) hgl]
        refine ev_if_eqB (tgt := 35) dX20_find_22 (by decide) (fun c22 => by rw [hrc] at c22; cases c22) (fun c22 => ?_)
        refine ev_aload_n dX20_find_25 rfl ?_
        refine ev_iload_n dX20_find_26 rfl ?_
        refine ev_iload dX20_find_27 rfl ?_
        refine ev_callVE dX20_find_29 cv_X20_89_X20 ce_X20_canStay K1 rfl rfl rfl (k_canStay20 (d := 0) KP (x := gl) (k0 := k1) (by omega) (by omega) hfb) (by omega) (Nat.le_of_ble_eq_true rfl) ?_
        refine ev_if_neB (tgt := 41) dX20_find_32 (by decide) (fun c32 => by rw [hsy] at c32; cases c32) (fun c32 => ?_)
        refine ev_iincZ dX20_find_35 rfl (by decide) rfl ?_
        dsimp only [List.set]
        refine ev_goto (tgt := 9) dX20_find_38 (by decide) ?_
        exact hK _ _ (by repeat' first | exact rfl | exact trivial | exact vz_eq (by omega) | refine And.intro ?_ ?_) rfl
    · subst e2
      refine ev_iload dX20_find_9 rfl ?_
      refine ev_bipushZ dX20_find_11 rfl ?_
      refine ev_icmp_gtZ (tgt := 41) dX20_find_13 (by decide) (by omega) (by omega) (fun c13 => ?_) (fun c13 => by omega)
      refine ev_iload dX20_find_41 rfl ?_
      refine ev_bipushZ dX20_find_43 rfl ?_
      refine ev_icmp_leZ (tgt := 52) dX20_find_45 (by decide) (by omega) (by omega) (fun c45 => by omega) (fun c45 => ?_)
      refine ev_null dX20_find_48 ?_
      refine ev_goto (tgt := 64) dX20_find_49 (by decide) ?_
      refine ev_areturn dX20_find_64 rfl (Or.inl ⟨_, rfl⟩) (Or.inl rfl) ?_
      exact ⟨_, rfl, Or.inl ⟨rfl, rfl⟩, F1⟩
  | some last =>
    obtain ⟨hl21, hft, hlow⟩ := find_some hen
    refine ev_for (st := []) last (fun k1 h2 => h2 = h1) (fun k1 => [some (.ref o), some (vz ((s0 : Nat) : Int)), some (vz ((gl : Nat) : Int)), some (.ref rq), some (vz ((k1 : Nat) : Int))]) 0 (Nat.zero_le _) rfl (by repeat' first | exact rfl | exact trivial | exact vz_eq (by omega) | refine And.intro ?_ ?_) (fun k1 h2 _ hk1 e2 hK => ?_) (fun h2 e2 => ?_)
    · subst e2
      have hf := hlow k1 hk1
      have hec := en_C (C := D.1.1) (R := D.1.2) (gl := gl) hfr0 (show k1 ≤ 20 by omega)
      rw [hf] at hec
      have r3k := r3 k1 (by omega)
      cases hrc : rcP D.1.1 D.1.2 L s0 k1 gl with
      | false =>
        refine ev_iload dX20_find_9 rfl ?_
        refine ev_bipushZ dX20_find_11 rfl ?_
        refine ev_icmp_gtZ (tgt := 41) dX20_find_13 (by decide) (by omega) (by omega) (fun c13 => by omega) (fun c13 => ?_)
        refine ev_aload_n dX20_find_16 rfl ?_
        refine ev_iload dX20_find_17 rfl ?_
        refine ev_aaldY (v := .ref (rq + 1 + k1)) dX20_find_19 r1 rfl rfl (by omega) (by rw [Int.toNat_natCast, if_pos (by omega)]; rfl) ?_
        refine ev_iload_n dX20_find_20 rfl ?_
        refine ev_zaldY dX20_find_21 r3k (by omega) ?_
        rw [Int.toNat_natCast, hX k1 gl (by omega) hgl]
        refine ev_if_eqB (tgt := 35) dX20_find_22 (by decide) (fun c22 => ?_) (fun c22 => by rw [hrc] at c22; cases c22)
        refine ev_iincZ dX20_find_35 rfl (by decide) rfl ?_
        dsimp only [List.set]
        refine ev_goto (tgt := 9) dX20_find_38 (by decide) ?_
        exact hK _ _ (by repeat' first | exact rfl | exact trivial | exact vz_eq (by omega) | refine And.intro ?_ ?_) rfl
      | true =>
        have hsy : syN L gl k1 (20 - k1) = false := by rw [hrc, Bool.true_and] at hec; exact hec
        refine ev_iload dX20_find_9 rfl ?_
        refine ev_bipushZ dX20_find_11 rfl ?_
        refine ev_icmp_gtZ (tgt := 41) dX20_find_13 (by decide) (by omega) (by omega) (fun c13 => by omega) (fun c13 => ?_)
        refine ev_aload_n dX20_find_16 rfl ?_
        refine ev_iload dX20_find_17 rfl ?_
        refine ev_aaldY (v := .ref (rq + 1 + k1)) dX20_find_19 r1 rfl rfl (by omega) (by rw [Int.toNat_natCast, if_pos (by omega)]; rfl) ?_
        refine ev_iload_n dX20_find_20 rfl ?_
        refine ev_zaldY dX20_find_21 r3k (by omega) ?_
        rw [Int.toNat_natCast, hX k1 gl (by omega) hgl]
        refine ev_if_eqB (tgt := 35) dX20_find_22 (by decide) (fun c22 => by rw [hrc] at c22; cases c22) (fun c22 => ?_)
        refine ev_aload_n dX20_find_25 rfl ?_
        refine ev_iload_n dX20_find_26 rfl ?_
        refine ev_iload dX20_find_27 rfl ?_
        refine ev_callVE dX20_find_29 cv_X20_89_X20 ce_X20_canStay K1 rfl rfl rfl (k_canStay20 (d := 0) KP (x := gl) (k0 := k1) (by omega) (by omega) hfb) (by omega) (Nat.le_of_ble_eq_true rfl) ?_
        refine ev_if_neB (tgt := 41) dX20_find_32 (by decide) (fun c32 => by rw [hsy] at c32; cases c32) (fun c32 => ?_)
        refine ev_iincZ dX20_find_35 rfl (by decide) rfl ?_
        dsimp only [List.set]
        refine ev_goto (tgt := 9) dX20_find_38 (by decide) ?_
        exact hK _ _ (by repeat' first | exact rfl | exact trivial | exact vz_eq (by omega) | refine And.intro ?_ ?_) rfl
    · subst e2
      have hec := en_C (C := D.1.1) (R := D.1.2) (gl := gl) hfr0 (show last ≤ 20 by omega)
      rw [show (rcP D.1.1 D.1.2 L s0 last gl && syP L gl last) = true from hft] at hec
      obtain ⟨hrc, hsy⟩ := Bool.and_eq_true_iff.mp hec
      have r3k := r3 last (by omega)
      refine ev_iload dX20_find_9 rfl ?_
      refine ev_bipushZ dX20_find_11 rfl ?_
      refine ev_icmp_gtZ (tgt := 41) dX20_find_13 (by decide) (by omega) (by omega) (fun c13 => by omega) (fun c13 => ?_)
      refine ev_aload_n dX20_find_16 rfl ?_
      refine ev_iload dX20_find_17 rfl ?_
      refine ev_aaldY (v := .ref (rq + 1 + last)) dX20_find_19 r1 rfl rfl (by omega) (by rw [Int.toNat_natCast, if_pos (by omega)]; rfl) ?_
      refine ev_iload_n dX20_find_20 rfl ?_
      refine ev_zaldY dX20_find_21 r3k (by omega) ?_
      rw [Int.toNat_natCast, hX last gl (by omega) hgl]
      refine ev_if_eqB (tgt := 35) dX20_find_22 (by decide) (fun c22 => by rw [hrc] at c22; cases c22) (fun c22 => ?_)
      refine ev_aload_n dX20_find_25 rfl ?_
      refine ev_iload_n dX20_find_26 rfl ?_
      refine ev_iload dX20_find_27 rfl ?_
      refine ev_callVE dX20_find_29 cv_X20_89_X20 ce_X20_canStay K1 rfl rfl rfl (k_canStay20 (d := 0) KP (x := gl) (k0 := last) (by omega) (by omega) hfb) (by omega) (Nat.le_of_ble_eq_true rfl) ?_
      refine ev_if_neB (tgt := 41) dX20_find_32 (by decide) (fun c32 => ?_) (fun c32 => by rw [hsy] at c32; cases c32)
      have hld := ld_back (C := D.1.1) (R := D.1.2) (L := L) (st := s0) (gl := gl) (last := last) last gl (Nat.le_refl _) hrc (by rw [Nat.sub_self]; exact decide_eq_true rfl)
      refine ev_iload dX20_find_41 rfl ?_
      refine ev_bipushZ dX20_find_43 rfl ?_
      refine ev_icmp_leZ (tgt := 52) dX20_find_45 (by decide) (by omega) (by omega) (fun c45 => ?_) (fun c45 => by omega)
      refine ev_aload_n dX20_find_52 rfl ?_
      refine ev_iload_n dX20_find_53 rfl ?_
      refine ev_aload_n dX20_find_54 rfl ?_
      refine ev_iload_n dX20_find_55 rfl ?_
      refine ev_iload dX20_find_56 rfl ?_
      refine ev_callVR dX20_find_58 cv_X20_93_X20 ce_X20_leadTo K1 rfl rfl rfl (k_lead20 (c := 22) (k := 1722) (d := d - 1) hG (K0.fr F1) (hSI.fr0 F1) KP HD hfb hco hro (gl := gl) (last := last) hgl (by omega) (by omega) (by omega) (by omega)) (by omega) (by omega) (by omega) (Nat.le_of_ble_eq_true rfl) (fun v9 h2 P9 => ?_)
      obtain ⟨rl, X2, rfl, KR2, hX2, F2, -, -⟩ := P9
      have F12 := F1.call F2 nil_in
      have KP2 := K.fr0 F12
      obtain ⟨K12, -⟩ := id KP2
      have HD2 := H.fr F12 (fun x hx => by cases hx)
      refine ev_callVR dX20_find_61 cv_X20_97_X20 ce_X20_follow K12 rfl rfl rfl (k_follow20 (c := 26) (k := 800) (d := d - 1) hG (K0.fr F12) KP2 HD2 hfb hco hro KR2 hX2 (by omega) hs0 hld (by omega) (by omega) (by omega)) (by omega) (by omega) (by omega) (Nat.le_of_ble_eq_true rfl) (fun v9 h3 P9 => ?_)
      obtain ⟨q9, w9, rfl, HT9, F3, z1, z2⟩ := P9
      refine ev_areturn dX20_find_64 rfl (Or.inl ⟨_, rfl⟩) (Or.inr ⟨_, rfl⟩) ?_
      exact ⟨_, rfl, Or.inr ⟨last, q9, w9, rfl, rfl, HT9, F12.fresh z1, F12.fresh z2⟩, F12.call F3 nil_in⟩
set_option maxRecDepth 100000 in
set_option maxHeartbeats 4000000 in
theorem k_keep20 (hG : GKx g) (K : PnC h0 o pa pl a L) (H : DnC g I h0 a st fo D) (hpa : gB g ≤ pa) (hco : 2 ≤ D.1.1 ∧ D.1.1 ≤ 9) (hro : 2 ≤ D.1.2 ∧ D.1.2 ≤ 9) {e sq sw : Nat} {tx : List Nat} {W : Nat → Nat} (he : e < 8) (HT : STh h0 sq sw tx) (hW : ∀ k, k ≤ 20 → W k < 1000) (htl : tx.length ≤ 20) (hstep : ∀ i, i < tx.length → ∃ s : Nat, s ≤ 4 ∧ tx[i]? = some (sgN s) ∧ nbP D.1.1 D.1.2 (W i) s = some (W (i + 1))) (hstay : ∀ i, tx.length ≤ i → i < 20 → W (i + 1) = W i) (hd : 6 ≤ d) (hc : 1 ≤ c) (hk : 21 ≤ k) : Kc g mX20_keep d (c) (k) [.ref o, vz ((e : Nat) : Int), vz ((W 0 : Nat) : Int), .ref sq] h0 (rR (fun v h' => v = none ∧ PnC h' o pa pl a (fun x => if x = e then some W else L x) ∧ Fr g h0 h' [pa])) := by
  refine Kc.of (ls := [some (.ref o), some (vz ((e : Nat) : Int)), some (vz ((W 0 : Nat) : Int)), some (.ref sq), none, none]) (by decide +kernel) (Nat.le_of_ble_eq_true rfl) rfl ?_
  obtain ⟨K1, -⟩ := id K
  obtain ⟨sA, sx, sy, hs1, -⟩ := id HT
  refine ev_bipushZ dX20_keep_0 rfl ?_
  refine ev_newA_int (N := 21) (c' := 0) (k' := 0) dX20_keep_2 (by omega) (by omega) (by omega) (by omega) (by omega) (fun qm1 hp_m2 em3 Bm4 Hqm1_m5 fm6 => ?_)
  have K1_m7 := (fm6 _ (ne_no K1 em3)).trans K1
  have hs1_m8 := (fm6 _ (ne_no hs1 em3)).trans hs1
  have zm9 := ((Fr.refl (g := g) _ [])).fresh em3
  have Fm10 := ((Fr.refl (g := g) _ [])).alloc (Or.inr ⟨_, Hqm1_m5, Nat.le_of_ble_eq_true rfl⟩) fm6 em3
  refine ev_astore dX20_keep_4 (by decide) rfl ?_
  dsimp only [List.set]
  refine ev_aload dX20_keep_6 rfl ?_
  refine ev_iconstZ dX20_keep_8 ?_
  refine ev_iload_n dX20_keep_9 rfl ?_
  refine ev_iastY dX20_keep_10 Hqm1_m5 Bm4 (by omega) trivial (fun hp_m11 Hqm1_m12 fm13 => ?_)
  have K1_m14 := (fm13 _ (ne_no K1 em3)).trans K1_m7
  have hs1_m15 := (fm13 _ (ne_no hs1 em3)).trans hs1_m8
  have Fm16 := (Fm10).writeN (Or.inr ⟨_, Hqm1_m12, Nat.le_of_ble_eq_true rfl⟩) fm13 zm9
  refine ev_iconstZ dX20_keep_11 ?_
  refine ev_istore dX20_keep_12 (by decide) rfl ?_
  dsimp only [List.set]
  have hA0 := Hqm1_m12
  have b1 := Bm4
  have zq1 := zm9
  have F0 := Fm16
  obtain ⟨q1, hq1⟩ : ∃ x, x = qm1 := ⟨_, rfl⟩
  rw [← hq1] at hA0 b1 zq1 ⊢
  clear K1 hs1
  refine ev_for (st := []) 20 (fun i h1 => ∃ A : Nat → Int, h1 q1 = some (.inl (0, (21, .inl (fun j => zI (A j))))) ∧ (∀ j : Nat, j ≤ i → A j = ((W j : Nat) : Int)) ∧ Fr g h0 h1 []) (fun i => [some (.ref o), some (vz ((e : Nat) : Int)), some (vz ((W 0 : Nat) : Int)), some (.ref sq), some (.ref q1), some (vz (((i) + 1 : Nat) : Int))]) 0 (Nat.zero_le _) ⟨_, hA0, fun j hj => by rw [Nat.le_zero.mp hj]; rfl, F0⟩ (by repeat' first | exact rfl | exact trivial | exact vz_eq (by omega) | refine And.intro ?_ ?_) (fun i h1 _ hi hP1 hK => ?_) (fun h1 hP1 => ?_)
  · obtain ⟨A, hA, hA2, F1⟩ := hP1
    have KP := K.fr0 F1
    have HD := H.fr F1 (fun x hx => by cases hx)
    have HT1 := HT.fr F1 (fun _ q => by cases q) (fun _ q => by cases q)
    obtain ⟨K1, -⟩ := id KP
    obtain ⟨sA, sx, sy, hs1, hs2, hs3, hs4'⟩ := id HT1
    have hwi := hW i (by omega)
    by_cases hsh : i < tx.length
    · obtain ⟨s, hs4, htx, hnb⟩ := hstep i hsh
      have hnI : nbI D.1.1 D.1.2 (W i) s = ((W (i + 1) : Nat) : Int) := by unfold nbI; rw [hnb]
      refine ev_iload dX20_keep_14 rfl ?_
      refine ev_bipushZ dX20_keep_16 rfl ?_
      refine ev_icmp_gtZ (tgt := 70) dX20_keep_18 (by decide) (by omega) (by omega) (fun c18 => by omega) (fun c18 => ?_)
      refine ev_aload dX20_keep_21 rfl ?_
      refine ev_iload dX20_keep_23 rfl ?_
      refine ev_iload dX20_keep_25 rfl ?_
      refine ev_aload_n dX20_keep_27 rfl ?_
      refine ev_callVE dX20_keep_28 cv_X20_73_J7 ce_J7_length hs1 rfl rfl rfl (st_length HT1 hG) (by omega) (Nat.le_of_ble_eq_true rfl) ?_
      refine ev_icmp_gtZ (tgt := 56) dX20_keep_31 (by decide) (by omega) (by omega) (fun c31 => by omega) (fun c31 => ?_)
      refine ev_aload_n dX20_keep_34 rfl ?_
      refine ev_aload dX20_keep_35 rfl ?_
      refine ev_iload dX20_keep_37 rfl ?_
      refine ev_iconstZ dX20_keep_39 ?_
      refine ev_isubZ dX20_keep_40 ?_
      refine ev_to (b := ((i : Nat) : Int)) (by omega) ?_
      refine ev_ialdY dX20_keep_41 hA (by omega) ?_
      rw [Int.toNat_natCast, hA2 i (Nat.le_refl _)]
      refine ev_aload_n dX20_keep_42 rfl ?_
      refine ev_iload dX20_keep_43 rfl ?_
      refine ev_iconstZ dX20_keep_45 ?_
      refine ev_isubZ dX20_keep_46 ?_
      refine ev_callVE dX20_keep_47 cv_X20_77_J7 ce_J7_charAt hs1 rfl rfl rfl (st_charAt HT1 hG (by omega) (by rw [show (((i + 1 : Nat) : Int) - 1).toNat = i by omega]; exact htx)) (by omega) (Nat.le_of_ble_eq_true rfl) ?_
      refine ev_callVE dX20_keep_50 cv_X20_81_X20 ce_X20_neighbor K1 rfl rfl rfl (k_nb20 (p := W i) (s := s) K1 HD hco hro hs4 (by omega)) (by omega) (Nat.le_of_ble_eq_true rfl) ?_
      rw [hnI]
      refine ev_goto (tgt := 63) dX20_keep_53 (by decide) ?_
      refine ev_iastY dX20_keep_63 hA b1 (by omega) trivial (fun hp_1 hA_2 f3 => ?_)
      have K1_4 := (f3 _ (ne_of K1 hA (by simp))).trans K1
      have hs1_5 := (f3 _ (ne_of hs1 hA (by simp))).trans hs1
      have F6 := (F1).writeN (Or.inr ⟨_, hA_2, Nat.le_of_ble_eq_true rfl⟩) f3 zq1
      refine ev_iincZ dX20_keep_64 rfl (by decide) rfl ?_
      dsimp only [List.set]
      refine ev_goto (tgt := 14) dX20_keep_67 (by decide) ?_
      refine hK _ _ (by repeat' first | exact rfl | exact trivial | exact vz_eq (by omega) | refine And.intro ?_ ?_) ⟨_, hA_2, fun j hj => ?_, F6⟩
      unfold uz
      rw [Int.toNat_natCast]
      by_cases e1 : j = i + 1
      · rw [if_pos e1, e1]
      · rw [if_neg e1]; exact hA2 j (by omega)
    · have hst := hstay i (by omega) hi
      refine ev_iload dX20_keep_14 rfl ?_
      refine ev_bipushZ dX20_keep_16 rfl ?_
      refine ev_icmp_gtZ (tgt := 70) dX20_keep_18 (by decide) (by omega) (by omega) (fun c18 => by omega) (fun c18 => ?_)
      refine ev_aload dX20_keep_21 rfl ?_
      refine ev_iload dX20_keep_23 rfl ?_
      refine ev_iload dX20_keep_25 rfl ?_
      refine ev_aload_n dX20_keep_27 rfl ?_
      refine ev_callVE dX20_keep_28 cv_X20_73_J7 ce_J7_length hs1 rfl rfl rfl (st_length HT1 hG) (by omega) (Nat.le_of_ble_eq_true rfl) ?_
      refine ev_icmp_gtZ (tgt := 56) dX20_keep_31 (by decide) (by omega) (by omega) (fun c31 => ?_) (fun c31 => by omega)
      refine ev_aload dX20_keep_56 rfl ?_
      refine ev_iload dX20_keep_58 rfl ?_
      refine ev_iconstZ dX20_keep_60 ?_
      refine ev_isubZ dX20_keep_61 ?_
      refine ev_to (b := ((i : Nat) : Int)) (by omega) ?_
      refine ev_ialdY dX20_keep_62 hA (by omega) ?_
      rw [Int.toNat_natCast, hA2 i (Nat.le_refl _), ← hst]
      refine ev_iastY dX20_keep_63 hA b1 (by omega) trivial (fun hp_1 hA_2 f3 => ?_)
      have K1_4 := (f3 _ (ne_of K1 hA (by simp))).trans K1
      have hs1_5 := (f3 _ (ne_of hs1 hA (by simp))).trans hs1
      have F6 := (F1).writeN (Or.inr ⟨_, hA_2, Nat.le_of_ble_eq_true rfl⟩) f3 zq1
      refine ev_iincZ dX20_keep_64 rfl (by decide) rfl ?_
      dsimp only [List.set]
      refine ev_goto (tgt := 14) dX20_keep_67 (by decide) ?_
      refine hK _ _ (by repeat' first | exact rfl | exact trivial | exact vz_eq (by omega) | refine And.intro ?_ ?_) ⟨_, hA_2, fun j hj => ?_, F6⟩
      unfold uz
      rw [Int.toNat_natCast]
      by_cases e1 : j = i + 1
      · rw [if_pos e1, e1]
      · rw [if_neg e1]; exact hA2 j (by omega)
  · obtain ⟨A, hA, hA2, F1⟩ := hP1
    have KP := K.fr0 F1
    have HD := H.fr F1 (fun x hx => by cases hx)
    have HT1 := HT.fr F1 (fun _ q => by cases q) (fun _ q => by cases q)
    obtain ⟨K1, pf, K2, K3⟩ := id KP
    obtain ⟨sA, sx, sy, hs1, hs2, hs3, hs4'⟩ := id HT1
    refine ev_iload dX20_keep_14 rfl ?_
    refine ev_bipushZ dX20_keep_16 rfl ?_
    refine ev_icmp_gtZ (tgt := 70) dX20_keep_18 (by decide) (by omega) (by omega) (fun c18 => ?_) (fun c18 => by omega)
    refine ev_aload_n dX20_keep_70 rfl ?_
    refine ev_getf dX20_keep_71 gf_X20_17_X20 K1 rfl ?_
    refine ev_iload_n dX20_keep_74 rfl ?_
    refine ev_aload dX20_keep_75 rfl ?_
    refine ev_aast dX20_keep_77 K2 rfl rfl hpa (zI_in (by omega) (by omega) (by omega)) (any_I (ty := .int) hA rfl) ?_
    rw [zI_clamp (by omega) (by omega)]
    have K2' := hs_same h1 pa (.inl (6, (8, .inr (.inr (.inr (.inr (va_up pf ((e : Nat) : Int).toNat (some q1)))))))) 
    generalize hh2 : hs h1 pa (.inl (6, (8, .inr (.inr (.inr (.inr (va_up pf ((e : Nat) : Int).toNat (some q1)))))))) = h2 at K2' ⊢
    have hq2 : ∀ x, x ≠ pa → h2 x = h1 x := fun x hx => by rw [← hh2]; exact hs_ne hx
    have hoq := ne_of K1 K2 (by simp)
    have hqp : q1 ≠ pa := ne_of hA K2 (by simp)
    refine ev_return dX20_keep_78 rfl ?_
    refine ⟨_, rfl, rfl, ⟨(hq2 _ hoq).trans K1, _, K2', fun e' he' => ?_⟩, (F1.more (S' := [pa]) (fun x hx => by cases hx)).call ((Fr.refl (g := g) h1 [pa]).write (Or.inr ⟨_, K2', Nat.le_of_ble_eq_true rfl⟩) hq2 hpa (List.mem_singleton_self _)) (fun x hx => Or.inl hx)⟩
    rw [Int.toNat_natCast]
    by_cases e1 : e' = e
    · subst e1
      dsimp only
      rw [if_pos rfl]
      exact ⟨q1, A, by unfold va_up; rw [if_pos rfl], (hq2 _ hqp).trans hA, hA2⟩
    · dsimp only
      rw [if_neg e1]
      have hc := K3 e' he'
      cases hL : L e' with
      | none => rw [hL] at hc; show va_up pf e (some q1) e' = none; unfold va_up; rw [if_neg e1]; exact hc
      | some f =>
        rw [hL] at hc
        obtain ⟨q, A2, c1, c2, c3⟩ := hc
        exact ⟨q, A2, by unfold va_up; rw [if_neg e1]; exact c1, (hq2 _ (ne_of c2 K2 (by simp))).trans c2, c3⟩
end W5S

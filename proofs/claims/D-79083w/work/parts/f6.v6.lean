/-! THE COMPONENT: the parser, unit, repeated (printed by gen) -/
section V6S
variable {g : GB} {M : MI} {d c k : Nat} {h : HM}
variable {I h0 J : HM} {ps tb tv cap ne m : Nat} {t : List Nat}
theorem phrP_bad {k v p : Nat} (h : hrV t p = 109 ∨ hrV t p = 114) : phrP t k v p = .error p := phrP_noD (by unfold isD; exact decide_eq_false (by omega))
set_option maxRecDepth 100000 in
set_option maxHeartbeats 4000000 in
theorem k_unit (hG : GKx g) (K0 : KC g h) (hB : gB g ≤ ps) (hu9 : ∀ u ∈ t, u < 128) (hl : t.length ≤ 100) (hSI : Sub I h) (hIp : I ps = none) {f p : Nat} (HP : ParC h ps tb p ne) (HT : SBh g h tb tv cap t) (hp : p ≤ t.length) (hne : ne ≤ 10) (hf : 4 * (t.length - p) ≤ f) (IH : ∀ ne' p', PCon g t f 3 ne' p') (hd : 5 * (10 - ne) + 20 ≤ d) (hc : 20 * endP (prs t (f + 1) 0 ne p) + 10 ≤ c + 20 * p) (hk : 1000 * endP (prs t (f + 1) 0 ne p) + 100 ≤ k + 1000 * p) : Kc g mX6_unit d c k [.ref ps] h (PrQ g I h ps tb ne 0 (prs t (f + 1) 0 ne p)) := by
  refine Kc.of (ls := [some (.ref ps), none]) (by decide +kernel) (Nat.le_of_ble_eq_true rfl) rfl ?_
  have L0 : PsS g I h ps tb tv cap ne t I p h := ⟨HP, HT, Gw.refl hSI, Fr.refl _ _, hIp⟩
  have hge := prs_ge (t := t) (f + 1) 0 ne p (by omega) hp (by omega)
  rw [prs_0] at hc hk hge ⊢
  have hn40 : nx t p 40 40 = decide (hrV t p = 40) := nx_eq
  by_cases h33 : hrV t p = 33
  · rw [if_pos h33] at hc hk hge ⊢
    have hlt := hrV_in h33 (by decide)
    have hc : 20 * (p + 1) + 10 ≤ c + 20 * p := hc
    have hk : 1000 * (p + 1) + 100 ≤ k + 1000 * p := hk
    refine ev_aload_n dX6_unit_0 rfl ?_
    refine ev_bipushZ dX6_unit_1 rfl ?_
    refine ev_callVR dX6_unit_3 cv_X6_60_X6 ce_X6_takes L0.1 rfl rfl rfl (k_takesT (lo := 33) hG L0 hu9 hl (by omega) (by omega) hB h33) (by omega) (by omega) (by omega) (Nat.le_of_ble_eq_true rfl) (fun vL1 hL1 PL1 => ?_)
    obtain ⟨rfl, L1⟩ := PL1
    have lpL1 := L1.1
    refine ev_if_eqZ (tgt := 17) dX6_unit_6 (by decide) (by omega) (fun c6 => by omega) (fun c6 => ?_)
    refine ev_newC (c' := 0) (k' := 0) [] dX6_unit_9 cf_X12 q1721 q1722 q158 rfl (by omega) (by omega) (fun q1 hp_2 e3 B4 Hq1_5 f6 => ?_)
    have lpL1_7 := (f6 _ (ne_no lpL1 e3)).trans lpL1
    have z8 := ((Fr.refl (g := g) hL1 [])).fresh e3
    have F9 := ((Fr.refl (g := g) hL1 [])).alloc (Or.inl ⟨_, Hq1_5⟩) f6 e3
    refine ev_dup dX6_unit_12 rfl ?_
    refine ev_callVN dX6_unit_13 ci_X6_92 ce_X12_init Hq1_5 rfl rfl rfl (k_i12 Hq1_5) (by omega) (Nat.le_of_ble_eq_true rfl) ?_
    refine ev_areturn dX6_unit_16 rfl (Or.inl ⟨_, rfl⟩) (Or.inr ⟨_, rfl⟩) ?_
    have F2 := F9
    have G2 := L1.2.2.1.fr0 F2
    have zq : h q1 = none := L1.2.2.2.1.fresh z8
    refine ⟨q1, 1, _, rfl, G2.add hSI Hq1_5 zq, ?_, F2.keep L1.1 (fun q => by cases q), L1.2.2.2.1.call F2 nil_in⟩
    show NodeAt _ 1 _ (tidy [(2, 0, 0, [], [])])
    rw [tidy_t (by decide)]
    exact ⟨_, [], [], rfl, rfl, ⟨fun _ => rfl, fun _ => by decide⟩, rfl, ⟨fun q => absurd q (by decide), fun _ => ⟨rfl, hs_same _ _ _⟩, fun q => absurd q (by decide), fun q => absurd q (by decide), fun q => absurd q (by decide), fun q => absurd q (by decide)⟩, fun i q c h1 h2 => by simp at h1⟩
  rw [if_neg h33] at hc hk hge ⊢
  by_cases h99 : hrV t p = 99
  · rw [if_pos h99] at hc hk hge ⊢
    have hlt := hrV_in h99 (by decide)
    have hn : nx t (p + 1) 49 57 = decide ((49 : Int) ≤ hrV t (p + 1) ∧ hrV t (p + 1) ≤ 57) := nx_hrV
    by_cases h1 : 49 ≤ hrV t (p + 1) ∧ hrV t (p + 1) ≤ 57
    · rw [decide_eq_true h1] at hn
      rw [if_pos h1] at hc hk hge ⊢
      have hlt2 := hrV_ge (c := t) (p := p + 1) (by omega)
      refine ev_aload_n dX6_unit_0 rfl ?_
      refine ev_bipushZ dX6_unit_1 rfl ?_
      refine ev_callVR dX6_unit_3 cv_X6_60_X6 ce_X6_takes L0.1 rfl rfl rfl (k_takesF (lo := 33) hG L0 hu9 hl (by omega) (by omega) hB h33) (by omega) (by omega) (by omega) (Nat.le_of_ble_eq_true rfl) (fun vL1 hL1 PL1 => ?_)
      obtain ⟨rfl, L1⟩ := PL1
      have lpL1 := L1.1
      refine ev_if_eqZ (tgt := 17) dX6_unit_6 (by decide) (by omega) (fun c6 => ?_) (fun c6 => by omega)
      refine ev_aload_n dX6_unit_17 rfl ?_
      refine ev_bipushZ dX6_unit_18 rfl ?_
      refine ev_callVR dX6_unit_20 cv_X6_60_X6 ce_X6_takes L1.1 rfl rfl rfl (k_takesT (lo := 99) hG L1 hu9 hl (by omega) (by omega) hB h99) (by omega) (by omega) (by omega) (Nat.le_of_ble_eq_true rfl) (fun vL2 hL2 PL2 => ?_)
      obtain ⟨rfl, L2⟩ := PL2
      have lpL2 := L2.1
      refine ev_if_eqZ (tgt := 42) dX6_unit_23 (by decide) (by omega) (fun c23 => by omega) (fun c23 => ?_)
      refine ev_aload_n dX6_unit_26 rfl ?_
      refine ev_aload_n dX6_unit_27 rfl ?_
      refine ev_bipushZ dX6_unit_28 rfl ?_
      refine ev_bipushZ dX6_unit_30 rfl ?_
      refine ev_callVR dX6_unit_32 cv_X6_72_X6 ce_X6_take L2.1 rfl rfl rfl (k_takeT (lo := 49) (hi := 57) hG L2.1 L2.2.1 hu9 (by omega) (by omega) (by omega) hB hn) (by omega) (by omega) (by omega) (Nat.le_of_ble_eq_true rfl) (fun vL3 hL3 PL3 => ?_)
      obtain ⟨uL3, huL3, hrL3, rfl, HPL3, frL3⟩ := PL3
      have L3 := L2.take HPL3 frL3
      refine ev_bipushZ dX6_unit_35 rfl ?_
      refine ev_isubZ dX6_unit_37 ?_
      have hk9 := k_phr6 (p := p + 2) (kd := 1) (vl9 := (hrV t (p + 1) - 48).toNat) (off := ((uL3 : Nat) : Int) - 48) (d := d - 1) (c := c - 1) (k := k - 7) hG (K0.fr L3.2.2.2.1) hB hu9 hl L3.2.2.1.2.1 hIp L3.1 L3.2.1 (Nat.le_refl _) (by rw [hrV_some huL3, if_pos rfl]; omega) (fun _ => by rw [hrV_some huL3]; omega) (by omega) (by omega) (by omega) (by omega)
      refine ev_callV dX6_unit_38 cv_X6_93_X6 ce_X6_phrase L3.1 rfl rfl rfl hk9 (by omega) (by omega) (by omega) (Nat.le_of_ble_eq_true rfl) (fun v h9 q => ?_) (fun E q9 h9 r => evx_out rfl (PrQ.pre L3 (fun rs => rfl) r))
      obtain ⟨a, rfl⟩ := PrQ.inl q
      refine ev_areturn dX6_unit_41 rfl (Or.inl ⟨_, rfl⟩) (Or.inr ⟨_, rfl⟩) ?_
      exact PrQ.pre L3 (fun rs => rfl) q
    · rw [decide_eq_false h1] at hn
      rw [if_neg h1] at hc hk hge ⊢
      have hc : 20 * (p + 1) + 10 ≤ c + 20 * p := hc
      have hk : 1000 * (p + 1) + 100 ≤ k + 1000 * p := hk
      refine ev_aload_n dX6_unit_0 rfl ?_
      refine ev_bipushZ dX6_unit_1 rfl ?_
      refine ev_callVR dX6_unit_3 cv_X6_60_X6 ce_X6_takes L0.1 rfl rfl rfl (k_takesF (lo := 33) hG L0 hu9 hl (by omega) (by omega) hB h33) (by omega) (by omega) (by omega) (Nat.le_of_ble_eq_true rfl) (fun vL1 hL1 PL1 => ?_)
      obtain ⟨rfl, L1⟩ := PL1
      have lpL1 := L1.1
      refine ev_if_eqZ (tgt := 17) dX6_unit_6 (by decide) (by omega) (fun c6 => ?_) (fun c6 => by omega)
      refine ev_aload_n dX6_unit_17 rfl ?_
      refine ev_bipushZ dX6_unit_18 rfl ?_
      refine ev_callVR dX6_unit_20 cv_X6_60_X6 ce_X6_takes L1.1 rfl rfl rfl (k_takesT (lo := 99) hG L1 hu9 hl (by omega) (by omega) hB h99) (by omega) (by omega) (by omega) (Nat.le_of_ble_eq_true rfl) (fun vL2 hL2 PL2 => ?_)
      obtain ⟨rfl, L2⟩ := PL2
      have lpL2 := L2.1
      refine ev_if_eqZ (tgt := 42) dX6_unit_23 (by decide) (by omega) (fun c23 => by omega) (fun c23 => ?_)
      refine ev_aload_n dX6_unit_26 rfl ?_
      refine ev_aload_n dX6_unit_27 rfl ?_
      refine ev_bipushZ dX6_unit_28 rfl ?_
      refine ev_bipushZ dX6_unit_30 rfl ?_
      refine ev_callV dX6_unit_32 cv_X6_72_X6 ce_X6_take L2.1 rfl rfl rfl (k_takeF (lo := 49) (hi := 57) hG L2.1 L2.2.1 hu9 (by omega) (by omega) (by omega) hB hn) (by omega) (by omega) (by omega) (Nat.le_of_ble_eq_true rfl) (fun v h2 q => ?_) (fun E q h2 r => ?_)
      · obtain ⟨q9, e9, -⟩ := q; cases e9
      · exact evx_out rfl (L2.err r)
  rw [if_neg h99] at hc hk hge ⊢
  by_cases hm : hrV t p = 109 ∨ hrV t p = 114
  · rw [if_pos hm] at hc hk hge ⊢
    have hlt := hrV_ge (c := t) (p := p) (by omega)
    by_cases h9 : ne ≤ 9
    · rw [if_pos h9] at hc hk hge ⊢
      generalize hX : opnP t ne (p + 1) (prs t f 3 (ne + 1) (p + 2)) = X at hc hk hge ⊢
      have hE9 : ∀ nd, endP (mapP nd X) = endP X := fun nd => by cases X <;> rfl
      rw [hE9] at hc hk hge
      by_cases h109 : hrV t p = 109
      · rw [if_pos h109]
        refine ev_aload_n dX6_unit_0 rfl ?_
        refine ev_bipushZ dX6_unit_1 rfl ?_
        refine ev_callVR dX6_unit_3 cv_X6_60_X6 ce_X6_takes L0.1 rfl rfl rfl (k_takesF (lo := 33) hG L0 hu9 hl (by omega) (by omega) hB h33) (by omega) (by omega) (by omega) (Nat.le_of_ble_eq_true rfl) (fun vL1 hL1 PL1 => ?_)
        obtain ⟨rfl, L1⟩ := PL1
        have lpL1 := L1.1
        refine ev_if_eqZ (tgt := 17) dX6_unit_6 (by decide) (by omega) (fun c6 => ?_) (fun c6 => by omega)
        refine ev_aload_n dX6_unit_17 rfl ?_
        refine ev_bipushZ dX6_unit_18 rfl ?_
        refine ev_callVR dX6_unit_20 cv_X6_60_X6 ce_X6_takes L1.1 rfl rfl rfl (k_takesF (lo := 99) hG L1 hu9 hl (by omega) (by omega) hB h99) (by omega) (by omega) (by omega) (Nat.le_of_ble_eq_true rfl) (fun vL2 hL2 PL2 => ?_)
        obtain ⟨rfl, L2⟩ := PL2
        have lpL2 := L2.1
        refine ev_if_eqZ (tgt := 42) dX6_unit_23 (by decide) (by omega) (fun c23 => ?_) (fun c23 => by omega)
        refine ev_aload_n dX6_unit_42 rfl ?_
        refine ev_getf dX6_unit_43 gf_X6_84_X6 lpL2 rfl ?_
        refine ev_bipushZ dX6_unit_46 rfl ?_
        refine ev_icmp_geZ (tgt := 55) dX6_unit_48 (by decide) (by omega) (by omega) (fun c48 => by omega) (fun c48 => ?_)
        refine ev_iconstZ dX6_unit_51 ?_
        refine ev_goto (tgt := 56) dX6_unit_52 (by decide) ?_
        refine ev_istore_n dX6_unit_56 (by decide) rfl ?_
        dsimp only [List.set]
        refine ev_iload_n dX6_unit_57 rfl ?_
        refine ev_if_eqZ (tgt := 82) dX6_unit_58 (by decide) (by omega) (fun c58 => by omega) (fun c58 => ?_)
        refine ev_aload_n dX6_unit_61 rfl ?_
        refine ev_bipushZ dX6_unit_62 rfl ?_
        refine ev_callVR dX6_unit_64 cv_X6_60_X6 ce_X6_takes L2.1 rfl rfl rfl (k_takesT (lo := 109) hG L2 hu9 hl (by omega) (by omega) hB h109) (by omega) (by omega) (by omega) (Nat.le_of_ble_eq_true rfl) (fun vL3 hL3 PL3 => ?_)
        obtain ⟨rfl, L3⟩ := PL3
        have lpL3 := L3.1
        refine ev_if_eqZ (tgt := 82) dX6_unit_67 (by decide) (by omega) (fun c67 => by omega) (fun c67 => ?_)
        refine ev_newC (c' := c - 1) (k' := k - 1) [.null] dX6_unit_70 cf_X14 q1911 q1912 q164 rfl (by omega) (by omega) (fun q1 hp_2 e3 B4 Hq1_5 f6 => ?_)
        have lpL3_7 := (f6 _ (ne_no lpL3 e3)).trans lpL3
        have z8 := ((Fr.refl (g := g) hL3 [])).fresh e3
        have F9 := ((Fr.refl (g := g) hL3 [])).alloc (Or.inl ⟨_, Hq1_5⟩) f6 e3
        refine ev_dup dX6_unit_73 rfl ?_
        refine ev_aload_n dX6_unit_74 rfl ?_
        have FA := F9
        have L9 := L3.part ((Gw.refl L3.2.2.1.2.1).fr0 FA) (FA.keep L3.1 (fun q => by cases q)) (FA.more (fun x hx => by cases hx))
        have hq9 := Hq1_5
        have zq : h q1 = none := L3.2.2.2.1.fresh z8
        have hk9 := k_enc (d := d - 1) (c := c - 1) (k := k - 1) hG (K0.fr L9.2.2.2.1) hB hu9 hl L9.2.2.1.2.1 hIp L9.1 L9.2.1 (by omega) hne (by omega) IH (by omega) (by rw [hX]; omega) (by rw [hX]; omega)
        rw [hX] at hk9
        refine ev_callV dX6_unit_75 cv_X6_99_X6 ce_X6_enclosed L9.1 rfl rfl rfl hk9 (by omega) (by omega) (by omega) (Nat.le_of_ble_eq_true rfl) (fun v h9 q => ?_) (fun E q9 h9 r => ?_)
        · cases hx : X with
          | error e => rw [hx] at q; obtain ⟨q9, p9, e9, -⟩ := q; cases e9
          | ok r =>
            rw [hx] at q
            obtain ⟨a, n, J, e9, GJ, NJ, PJ, FJ⟩ := q
            cases e9
            have L5 := L9.part GJ PJ FJ
            have hqn : J q1 = none := GJ.nn (by rw [hq9]; exact fun q => by cases q) (hSI.none zq)
            have hqp : q1 ≠ ps := ne_of hq9 L9.1 (by simp)
            have hqk := FJ.keep hq9 (fun q => hqp (List.mem_singleton.mp q))
            refine ev_callVR dX6_unit_78 ci_X6_102 ce_X14_init hqk rfl rfl rfl (k_i14 hqk B4) (by omega) (by omega) (by omega) (Nat.le_of_ble_eq_true rfl) (fun v h8 P8 => ?_)
            obtain ⟨rfl, hn8, fr8⟩ := P8
            refine ev_areturn dX6_unit_81 rfl (Or.inl ⟨_, rfl⟩) (Or.inr ⟨_, rfl⟩) ?_
            have G8 := L5.2.2.1.fr fr8 (fun x hx => Or.inl (by rw [List.mem_singleton.mp hx]; exact hqn))
            refine ⟨q1, n + 1, _, rfl, G8.add hSI hn8 zq, ?_, fr8.keep L5.1 (fun q => hqp (List.mem_singleton.mp q).symm), L5.2.2.2.1.call fr8 (fun x hx => Or.inr (Or.inl (by rw [List.mem_singleton.mp hx]; exact zq)))⟩
            rw [tidy_one (by decide)]
            refine NodeAt.one NJ (G8.subadd hn8) rfl (by decide) ?_
            exact ⟨fun q => absurd q (by decide), fun q => absurd q (by decide), fun q => absurd q (by decide), fun _ => ⟨a, rfl, hs_same _ _ _⟩, fun q => absurd q (by decide), fun q => absurd q (by decide)⟩
        · cases hx : X with
          | ok r8 => rw [hx] at r; obtain ⟨a9, n9, J9, e9, -⟩ := r; cases e9
          | error e => rw [hx] at r; exact evx_out rfl (synE.pre L9.2.2.2.1 r)
      · rw [if_neg h109]
        have h114 : hrV t p = 114 := by omega
        refine ev_aload_n dX6_unit_0 rfl ?_
        refine ev_bipushZ dX6_unit_1 rfl ?_
        refine ev_callVR dX6_unit_3 cv_X6_60_X6 ce_X6_takes L0.1 rfl rfl rfl (k_takesF (lo := 33) hG L0 hu9 hl (by omega) (by omega) hB h33) (by omega) (by omega) (by omega) (Nat.le_of_ble_eq_true rfl) (fun vL1 hL1 PL1 => ?_)
        obtain ⟨rfl, L1⟩ := PL1
        have lpL1 := L1.1
        refine ev_if_eqZ (tgt := 17) dX6_unit_6 (by decide) (by omega) (fun c6 => ?_) (fun c6 => by omega)
        refine ev_aload_n dX6_unit_17 rfl ?_
        refine ev_bipushZ dX6_unit_18 rfl ?_
        refine ev_callVR dX6_unit_20 cv_X6_60_X6 ce_X6_takes L1.1 rfl rfl rfl (k_takesF (lo := 99) hG L1 hu9 hl (by omega) (by omega) hB h99) (by omega) (by omega) (by omega) (Nat.le_of_ble_eq_true rfl) (fun vL2 hL2 PL2 => ?_)
        obtain ⟨rfl, L2⟩ := PL2
        have lpL2 := L2.1
        refine ev_if_eqZ (tgt := 42) dX6_unit_23 (by decide) (by omega) (fun c23 => ?_) (fun c23 => by omega)
        refine ev_aload_n dX6_unit_42 rfl ?_
        refine ev_getf dX6_unit_43 gf_X6_84_X6 lpL2 rfl ?_
        refine ev_bipushZ dX6_unit_46 rfl ?_
        refine ev_icmp_geZ (tgt := 55) dX6_unit_48 (by decide) (by omega) (by omega) (fun c48 => by omega) (fun c48 => ?_)
        refine ev_iconstZ dX6_unit_51 ?_
        refine ev_goto (tgt := 56) dX6_unit_52 (by decide) ?_
        refine ev_istore_n dX6_unit_56 (by decide) rfl ?_
        dsimp only [List.set]
        refine ev_iload_n dX6_unit_57 rfl ?_
        refine ev_if_eqZ (tgt := 82) dX6_unit_58 (by decide) (by omega) (fun c58 => by omega) (fun c58 => ?_)
        refine ev_aload_n dX6_unit_61 rfl ?_
        refine ev_bipushZ dX6_unit_62 rfl ?_
        refine ev_callVR dX6_unit_64 cv_X6_60_X6 ce_X6_takes L2.1 rfl rfl rfl (k_takesF (lo := 109) hG L2 hu9 hl (by omega) (by omega) hB h109) (by omega) (by omega) (by omega) (Nat.le_of_ble_eq_true rfl) (fun vL3 hL3 PL3 => ?_)
        obtain ⟨rfl, L3⟩ := PL3
        have lpL3 := L3.1
        refine ev_if_eqZ (tgt := 82) dX6_unit_67 (by decide) (by omega) (fun c67 => ?_) (fun c67 => by omega)
        refine ev_iload_n dX6_unit_82 rfl ?_
        refine ev_if_eqZ (tgt := 107) dX6_unit_83 (by decide) (by omega) (fun c83 => by omega) (fun c83 => ?_)
        refine ev_aload_n dX6_unit_86 rfl ?_
        refine ev_bipushZ dX6_unit_87 rfl ?_
        refine ev_callVR dX6_unit_89 cv_X6_60_X6 ce_X6_takes L3.1 rfl rfl rfl (k_takesT (lo := 114) hG L3 hu9 hl (by omega) (by omega) hB h114) (by omega) (by omega) (by omega) (Nat.le_of_ble_eq_true rfl) (fun vL4 hL4 PL4 => ?_)
        obtain ⟨rfl, L4⟩ := PL4
        have lpL4 := L4.1
        refine ev_if_eqZ (tgt := 107) dX6_unit_92 (by decide) (by omega) (fun c92 => by omega) (fun c92 => ?_)
        refine ev_newC (c' := c - 1) (k' := k - 1) [.null] dX6_unit_95 cf_X15 q1936 q1937 q165 rfl (by omega) (by omega) (fun q1 hp_2 e3 B4 Hq1_5 f6 => ?_)
        have lpL4_7 := (f6 _ (ne_no lpL4 e3)).trans lpL4
        have z8 := ((Fr.refl (g := g) hL4 [])).fresh e3
        have F9 := ((Fr.refl (g := g) hL4 [])).alloc (Or.inl ⟨_, Hq1_5⟩) f6 e3
        refine ev_dup dX6_unit_98 rfl ?_
        refine ev_aload_n dX6_unit_99 rfl ?_
        have FA := F9
        have L9 := L4.part ((Gw.refl L4.2.2.1.2.1).fr0 FA) (FA.keep L4.1 (fun q => by cases q)) (FA.more (fun x hx => by cases hx))
        have hq9 := Hq1_5
        have zq : h q1 = none := L4.2.2.2.1.fresh z8
        have hk9 := k_enc (d := d - 1) (c := c - 1) (k := k - 1) hG (K0.fr L9.2.2.2.1) hB hu9 hl L9.2.2.1.2.1 hIp L9.1 L9.2.1 (by omega) hne (by omega) IH (by omega) (by rw [hX]; omega) (by rw [hX]; omega)
        rw [hX] at hk9
        refine ev_callV dX6_unit_100 cv_X6_99_X6 ce_X6_enclosed L9.1 rfl rfl rfl hk9 (by omega) (by omega) (by omega) (Nat.le_of_ble_eq_true rfl) (fun v h9 q => ?_) (fun E q9 h9 r => ?_)
        · cases hx : X with
          | error e => rw [hx] at q; obtain ⟨q9, p9, e9, -⟩ := q; cases e9
          | ok r =>
            rw [hx] at q
            obtain ⟨a, n, J, e9, GJ, NJ, PJ, FJ⟩ := q
            cases e9
            have L5 := L9.part GJ PJ FJ
            have hqn : J q1 = none := GJ.nn (by rw [hq9]; exact fun q => by cases q) (hSI.none zq)
            have hqp : q1 ≠ ps := ne_of hq9 L9.1 (by simp)
            have hqk := FJ.keep hq9 (fun q => hqp (List.mem_singleton.mp q))
            refine ev_callVR dX6_unit_103 ci_X6_107 ce_X15_init hqk rfl rfl rfl (k_i15 hqk B4) (by omega) (by omega) (by omega) (Nat.le_of_ble_eq_true rfl) (fun v h8 P8 => ?_)
            obtain ⟨rfl, hn8, fr8⟩ := P8
            refine ev_areturn dX6_unit_106 rfl (Or.inl ⟨_, rfl⟩) (Or.inr ⟨_, rfl⟩) ?_
            have G8 := L5.2.2.1.fr fr8 (fun x hx => Or.inl (by rw [List.mem_singleton.mp hx]; exact hqn))
            refine ⟨q1, n + 1, _, rfl, G8.add hSI hn8 zq, ?_, fr8.keep L5.1 (fun q => hqp (List.mem_singleton.mp q).symm), L5.2.2.2.1.call fr8 (fun x hx => Or.inr (Or.inl (by rw [List.mem_singleton.mp hx]; exact zq)))⟩
            rw [tidy_one (by decide)]
            refine NodeAt.one NJ (G8.subadd hn8) rfl (by decide) ?_
            exact ⟨fun q => absurd q (by decide), fun q => absurd q (by decide), fun q => absurd q (by decide), fun q => absurd q (by decide), fun _ => ⟨a, rfl, hs_same _ _ _⟩, fun q => absurd q (by decide)⟩
        · cases hx : X with
          | ok r8 => rw [hx] at r; obtain ⟨a9, n9, J9, e9, -⟩ := r; cases e9
          | error e => rw [hx] at r; exact evx_out rfl (synE.pre L9.2.2.2.1 r)
    · rw [if_neg h9] at hc hk hge ⊢
      have hc : 20 * p + 10 ≤ c + 20 * p := hc
      have hk : 1000 * p + 100 ≤ k + 1000 * p := hk
      have hpb : phrP t 0 0 p = .error p := phrP_bad hm
      rw [← hpb]
      have hpe : endP (phrP t 0 0 p) = p := by rw [hpb]; rfl
      rw [decide_eq_false (show ¬ hrV t p = 40 by omega)] at hn40
      refine ev_aload_n dX6_unit_0 rfl ?_
      refine ev_bipushZ dX6_unit_1 rfl ?_
      refine ev_callVR dX6_unit_3 cv_X6_60_X6 ce_X6_takes L0.1 rfl rfl rfl (k_takesF (lo := 33) hG L0 hu9 hl (by omega) (by omega) hB h33) (by omega) (by omega) (by omega) (Nat.le_of_ble_eq_true rfl) (fun vL1 hL1 PL1 => ?_)
      obtain ⟨rfl, L1⟩ := PL1
      have lpL1 := L1.1
      refine ev_if_eqZ (tgt := 17) dX6_unit_6 (by decide) (by omega) (fun c6 => ?_) (fun c6 => by omega)
      refine ev_aload_n dX6_unit_17 rfl ?_
      refine ev_bipushZ dX6_unit_18 rfl ?_
      refine ev_callVR dX6_unit_20 cv_X6_60_X6 ce_X6_takes L1.1 rfl rfl rfl (k_takesF (lo := 99) hG L1 hu9 hl (by omega) (by omega) hB h99) (by omega) (by omega) (by omega) (Nat.le_of_ble_eq_true rfl) (fun vL2 hL2 PL2 => ?_)
      obtain ⟨rfl, L2⟩ := PL2
      have lpL2 := L2.1
      refine ev_if_eqZ (tgt := 42) dX6_unit_23 (by decide) (by omega) (fun c23 => ?_) (fun c23 => by omega)
      refine ev_aload_n dX6_unit_42 rfl ?_
      refine ev_getf dX6_unit_43 gf_X6_84_X6 lpL2 rfl ?_
      refine ev_bipushZ dX6_unit_46 rfl ?_
      refine ev_icmp_geZ (tgt := 55) dX6_unit_48 (by decide) (by omega) (by omega) (fun c48 => ?_) (fun c48 => by omega)
      refine ev_iconstZ dX6_unit_55 ?_
      refine ev_istore_n dX6_unit_56 (by decide) rfl ?_
      dsimp only [List.set]
      refine ev_iload_n dX6_unit_57 rfl ?_
      refine ev_if_eqZ (tgt := 82) dX6_unit_58 (by decide) (by omega) (fun c58 => ?_) (fun c58 => by omega)
      refine ev_iload_n dX6_unit_82 rfl ?_
      refine ev_if_eqZ (tgt := 107) dX6_unit_83 (by decide) (by omega) (fun c83 => ?_) (fun c83 => by omega)
      refine ev_aload_n dX6_unit_107 rfl ?_
      refine ev_bipushZ dX6_unit_108 rfl ?_
      refine ev_callVE dX6_unit_110 cv_X6_46_X6 ce_X6_isNext_2 lpL2 rfl rfl rfl (k_isNext2 (d := 0) (lo := 40) hG L2.1 L2.2.1 hu9 (by omega) (by omega) (by omega)) (by omega) (Nat.le_of_ble_eq_true rfl) ?_
      refine ev_if_eqB (tgt := 123) dX6_unit_113 (by decide) (fun c113 => ?_) (fun c113 => by rw [hn40] at c113; cases c113)
      refine ev_aload_n dX6_unit_123 rfl ?_
      refine ev_iconstZ dX6_unit_124 ?_
      have hk9 := k_phr6 (p := p) (kd := 0) (vl9 := 0) (off := 0) (d := d - 1) (c := c) (k := k) hG (K0.fr L2.2.2.2.1) hB hu9 hl L2.2.2.1.2.1 hIp L2.1 L2.2.1 (by omega) rfl (fun q => by omega) (by omega) (by omega) (by omega) (by omega)
      refine ev_callV dX6_unit_125 cv_X6_93_X6 ce_X6_phrase L2.1 rfl rfl rfl hk9 (by omega) (by omega) (by omega) (Nat.le_of_ble_eq_true rfl) (fun v h9 q => ?_) (fun E q9 h9 r => evx_out rfl (PrQ.pre L2 (fun rs => rfl) r))
      obtain ⟨a, rfl⟩ := PrQ.inl q
      refine ev_areturn dX6_unit_128 rfl (Or.inl ⟨_, rfl⟩) (Or.inr ⟨_, rfl⟩) ?_
      exact PrQ.pre L2 (fun rs => rfl) q
  rw [if_neg hm] at hc hk hge ⊢
  have h109 : hrV t p ≠ 109 := fun q => hm (Or.inl q)
  have h114 : hrV t p ≠ 114 := fun q => hm (Or.inr q)
  by_cases h40 : hrV t p = 40
  · rw [if_pos h40] at hc hk hge ⊢
    rw [decide_eq_true h40] at hn40
    have hlt := hrV_in h40 (by decide)
    by_cases h9 : ne ≤ 9
    · refine ev_aload_n dX6_unit_0 rfl ?_
      refine ev_bipushZ dX6_unit_1 rfl ?_
      refine ev_callVR dX6_unit_3 cv_X6_60_X6 ce_X6_takes L0.1 rfl rfl rfl (k_takesF (lo := 33) hG L0 hu9 hl (by omega) (by omega) hB h33) (by omega) (by omega) (by omega) (Nat.le_of_ble_eq_true rfl) (fun vL1 hL1 PL1 => ?_)
      obtain ⟨rfl, L1⟩ := PL1
      have lpL1 := L1.1
      refine ev_if_eqZ (tgt := 17) dX6_unit_6 (by decide) (by omega) (fun c6 => ?_) (fun c6 => by omega)
      refine ev_aload_n dX6_unit_17 rfl ?_
      refine ev_bipushZ dX6_unit_18 rfl ?_
      refine ev_callVR dX6_unit_20 cv_X6_60_X6 ce_X6_takes L1.1 rfl rfl rfl (k_takesF (lo := 99) hG L1 hu9 hl (by omega) (by omega) hB h99) (by omega) (by omega) (by omega) (Nat.le_of_ble_eq_true rfl) (fun vL2 hL2 PL2 => ?_)
      obtain ⟨rfl, L2⟩ := PL2
      have lpL2 := L2.1
      refine ev_if_eqZ (tgt := 42) dX6_unit_23 (by decide) (by omega) (fun c23 => ?_) (fun c23 => by omega)
      refine ev_aload_n dX6_unit_42 rfl ?_
      refine ev_getf dX6_unit_43 gf_X6_84_X6 lpL2 rfl ?_
      refine ev_bipushZ dX6_unit_46 rfl ?_
      refine ev_icmp_geZ (tgt := 55) dX6_unit_48 (by decide) (by omega) (by omega) (fun c48 => by omega) (fun c48 => ?_)
      refine ev_iconstZ dX6_unit_51 ?_
      refine ev_goto (tgt := 56) dX6_unit_52 (by decide) ?_
      refine ev_istore_n dX6_unit_56 (by decide) rfl ?_
      dsimp only [List.set]
      refine ev_iload_n dX6_unit_57 rfl ?_
      refine ev_if_eqZ (tgt := 82) dX6_unit_58 (by decide) (by omega) (fun c58 => by omega) (fun c58 => ?_)
      refine ev_aload_n dX6_unit_61 rfl ?_
      refine ev_bipushZ dX6_unit_62 rfl ?_
      refine ev_callVR dX6_unit_64 cv_X6_60_X6 ce_X6_takes L2.1 rfl rfl rfl (k_takesF (lo := 109) hG L2 hu9 hl (by omega) (by omega) hB h109) (by omega) (by omega) (by omega) (Nat.le_of_ble_eq_true rfl) (fun vL3 hL3 PL3 => ?_)
      obtain ⟨rfl, L3⟩ := PL3
      have lpL3 := L3.1
      refine ev_if_eqZ (tgt := 82) dX6_unit_67 (by decide) (by omega) (fun c67 => ?_) (fun c67 => by omega)
      refine ev_iload_n dX6_unit_82 rfl ?_
      refine ev_if_eqZ (tgt := 107) dX6_unit_83 (by decide) (by omega) (fun c83 => by omega) (fun c83 => ?_)
      refine ev_aload_n dX6_unit_86 rfl ?_
      refine ev_bipushZ dX6_unit_87 rfl ?_
      refine ev_callVR dX6_unit_89 cv_X6_60_X6 ce_X6_takes L3.1 rfl rfl rfl (k_takesF (lo := 114) hG L3 hu9 hl (by omega) (by omega) hB h114) (by omega) (by omega) (by omega) (Nat.le_of_ble_eq_true rfl) (fun vL4 hL4 PL4 => ?_)
      obtain ⟨rfl, L4⟩ := PL4
      have lpL4 := L4.1
      refine ev_if_eqZ (tgt := 107) dX6_unit_92 (by decide) (by omega) (fun c92 => ?_) (fun c92 => by omega)
      refine ev_aload_n dX6_unit_107 rfl ?_
      refine ev_bipushZ dX6_unit_108 rfl ?_
      refine ev_callVE dX6_unit_110 cv_X6_46_X6 ce_X6_isNext_2 lpL4 rfl rfl rfl (k_isNext2 (d := 0) (lo := 40) hG L4.1 L4.2.1 hu9 (by omega) (by omega) (by omega)) (by omega) (Nat.le_of_ble_eq_true rfl) ?_
      refine ev_if_eqB (tgt := 123) dX6_unit_113 (by decide) (fun c113 => by rw [hn40] at c113; cases c113) (fun c113 => ?_)
      refine ev_aload_n dX6_unit_116 rfl ?_
      have hk9 := k_enc (d := d - 1) (c := c) (k := k) hG (K0.fr L4.2.2.2.1) hB hu9 hl L4.2.2.1.2.1 hIp L4.1 L4.2.1 (by omega) hne (by omega) IH (by omega) (by omega) (by omega)
      refine ev_callV dX6_unit_117 cv_X6_99_X6 ce_X6_enclosed L4.1 rfl rfl rfl hk9 (by omega) (by omega) (by omega) (Nat.le_of_ble_eq_true rfl) (fun v h9 q => ?_) (fun E q9 h9 r => evx_out rfl (PrQ.pre L4 (fun rs => rfl) r))
      obtain ⟨a, rfl⟩ := PrQ.inl q
      refine ev_goto (tgt := 128) dX6_unit_120 (by decide) ?_
      refine ev_areturn dX6_unit_128 rfl (Or.inl ⟨_, rfl⟩) (Or.inr ⟨_, rfl⟩) ?_
      exact PrQ.pre L4 (fun rs => rfl) q
    · refine ev_aload_n dX6_unit_0 rfl ?_
      refine ev_bipushZ dX6_unit_1 rfl ?_
      refine ev_callVR dX6_unit_3 cv_X6_60_X6 ce_X6_takes L0.1 rfl rfl rfl (k_takesF (lo := 33) hG L0 hu9 hl (by omega) (by omega) hB h33) (by omega) (by omega) (by omega) (Nat.le_of_ble_eq_true rfl) (fun vL1 hL1 PL1 => ?_)
      obtain ⟨rfl, L1⟩ := PL1
      have lpL1 := L1.1
      refine ev_if_eqZ (tgt := 17) dX6_unit_6 (by decide) (by omega) (fun c6 => ?_) (fun c6 => by omega)
      refine ev_aload_n dX6_unit_17 rfl ?_
      refine ev_bipushZ dX6_unit_18 rfl ?_
      refine ev_callVR dX6_unit_20 cv_X6_60_X6 ce_X6_takes L1.1 rfl rfl rfl (k_takesF (lo := 99) hG L1 hu9 hl (by omega) (by omega) hB h99) (by omega) (by omega) (by omega) (Nat.le_of_ble_eq_true rfl) (fun vL2 hL2 PL2 => ?_)
      obtain ⟨rfl, L2⟩ := PL2
      have lpL2 := L2.1
      refine ev_if_eqZ (tgt := 42) dX6_unit_23 (by decide) (by omega) (fun c23 => ?_) (fun c23 => by omega)
      refine ev_aload_n dX6_unit_42 rfl ?_
      refine ev_getf dX6_unit_43 gf_X6_84_X6 lpL2 rfl ?_
      refine ev_bipushZ dX6_unit_46 rfl ?_
      refine ev_icmp_geZ (tgt := 55) dX6_unit_48 (by decide) (by omega) (by omega) (fun c48 => ?_) (fun c48 => by omega)
      refine ev_iconstZ dX6_unit_55 ?_
      refine ev_istore_n dX6_unit_56 (by decide) rfl ?_
      dsimp only [List.set]
      refine ev_iload_n dX6_unit_57 rfl ?_
      refine ev_if_eqZ (tgt := 82) dX6_unit_58 (by decide) (by omega) (fun c58 => ?_) (fun c58 => by omega)
      refine ev_iload_n dX6_unit_82 rfl ?_
      refine ev_if_eqZ (tgt := 107) dX6_unit_83 (by decide) (by omega) (fun c83 => ?_) (fun c83 => by omega)
      refine ev_aload_n dX6_unit_107 rfl ?_
      refine ev_bipushZ dX6_unit_108 rfl ?_
      refine ev_callVE dX6_unit_110 cv_X6_46_X6 ce_X6_isNext_2 lpL2 rfl rfl rfl (k_isNext2 (d := 0) (lo := 40) hG L2.1 L2.2.1 hu9 (by omega) (by omega) (by omega)) (by omega) (Nat.le_of_ble_eq_true rfl) ?_
      refine ev_if_eqB (tgt := 123) dX6_unit_113 (by decide) (fun c113 => by rw [hn40] at c113; cases c113) (fun c113 => ?_)
      refine ev_aload_n dX6_unit_116 rfl ?_
      have hk9 := k_enc (d := d - 1) (c := c) (k := k) hG (K0.fr L2.2.2.2.1) hB hu9 hl L2.2.2.1.2.1 hIp L2.1 L2.2.1 (by omega) hne (by omega) IH (by omega) (by omega) (by omega)
      refine ev_callV dX6_unit_117 cv_X6_99_X6 ce_X6_enclosed L2.1 rfl rfl rfl hk9 (by omega) (by omega) (by omega) (Nat.le_of_ble_eq_true rfl) (fun v h9 q => ?_) (fun E q9 h9 r => evx_out rfl (PrQ.pre L2 (fun rs => rfl) r))
      obtain ⟨a, rfl⟩ := PrQ.inl q
      refine ev_goto (tgt := 128) dX6_unit_120 (by decide) ?_
      refine ev_areturn dX6_unit_128 rfl (Or.inl ⟨_, rfl⟩) (Or.inr ⟨_, rfl⟩) ?_
      exact PrQ.pre L2 (fun rs => rfl) q
  · rw [if_neg h40] at hc hk hge ⊢
    rw [decide_eq_false h40] at hn40
    by_cases h9 : ne ≤ 9
    · refine ev_aload_n dX6_unit_0 rfl ?_
      refine ev_bipushZ dX6_unit_1 rfl ?_
      refine ev_callVR dX6_unit_3 cv_X6_60_X6 ce_X6_takes L0.1 rfl rfl rfl (k_takesF (lo := 33) hG L0 hu9 hl (by omega) (by omega) hB h33) (by omega) (by omega) (by omega) (Nat.le_of_ble_eq_true rfl) (fun vL1 hL1 PL1 => ?_)
      obtain ⟨rfl, L1⟩ := PL1
      have lpL1 := L1.1
      refine ev_if_eqZ (tgt := 17) dX6_unit_6 (by decide) (by omega) (fun c6 => ?_) (fun c6 => by omega)
      refine ev_aload_n dX6_unit_17 rfl ?_
      refine ev_bipushZ dX6_unit_18 rfl ?_
      refine ev_callVR dX6_unit_20 cv_X6_60_X6 ce_X6_takes L1.1 rfl rfl rfl (k_takesF (lo := 99) hG L1 hu9 hl (by omega) (by omega) hB h99) (by omega) (by omega) (by omega) (Nat.le_of_ble_eq_true rfl) (fun vL2 hL2 PL2 => ?_)
      obtain ⟨rfl, L2⟩ := PL2
      have lpL2 := L2.1
      refine ev_if_eqZ (tgt := 42) dX6_unit_23 (by decide) (by omega) (fun c23 => ?_) (fun c23 => by omega)
      refine ev_aload_n dX6_unit_42 rfl ?_
      refine ev_getf dX6_unit_43 gf_X6_84_X6 lpL2 rfl ?_
      refine ev_bipushZ dX6_unit_46 rfl ?_
      refine ev_icmp_geZ (tgt := 55) dX6_unit_48 (by decide) (by omega) (by omega) (fun c48 => by omega) (fun c48 => ?_)
      refine ev_iconstZ dX6_unit_51 ?_
      refine ev_goto (tgt := 56) dX6_unit_52 (by decide) ?_
      refine ev_istore_n dX6_unit_56 (by decide) rfl ?_
      dsimp only [List.set]
      refine ev_iload_n dX6_unit_57 rfl ?_
      refine ev_if_eqZ (tgt := 82) dX6_unit_58 (by decide) (by omega) (fun c58 => by omega) (fun c58 => ?_)
      refine ev_aload_n dX6_unit_61 rfl ?_
      refine ev_bipushZ dX6_unit_62 rfl ?_
      refine ev_callVR dX6_unit_64 cv_X6_60_X6 ce_X6_takes L2.1 rfl rfl rfl (k_takesF (lo := 109) hG L2 hu9 hl (by omega) (by omega) hB h109) (by omega) (by omega) (by omega) (Nat.le_of_ble_eq_true rfl) (fun vL3 hL3 PL3 => ?_)
      obtain ⟨rfl, L3⟩ := PL3
      have lpL3 := L3.1
      refine ev_if_eqZ (tgt := 82) dX6_unit_67 (by decide) (by omega) (fun c67 => ?_) (fun c67 => by omega)
      refine ev_iload_n dX6_unit_82 rfl ?_
      refine ev_if_eqZ (tgt := 107) dX6_unit_83 (by decide) (by omega) (fun c83 => by omega) (fun c83 => ?_)
      refine ev_aload_n dX6_unit_86 rfl ?_
      refine ev_bipushZ dX6_unit_87 rfl ?_
      refine ev_callVR dX6_unit_89 cv_X6_60_X6 ce_X6_takes L3.1 rfl rfl rfl (k_takesF (lo := 114) hG L3 hu9 hl (by omega) (by omega) hB h114) (by omega) (by omega) (by omega) (Nat.le_of_ble_eq_true rfl) (fun vL4 hL4 PL4 => ?_)
      obtain ⟨rfl, L4⟩ := PL4
      have lpL4 := L4.1
      refine ev_if_eqZ (tgt := 107) dX6_unit_92 (by decide) (by omega) (fun c92 => ?_) (fun c92 => by omega)
      refine ev_aload_n dX6_unit_107 rfl ?_
      refine ev_bipushZ dX6_unit_108 rfl ?_
      refine ev_callVE dX6_unit_110 cv_X6_46_X6 ce_X6_isNext_2 lpL4 rfl rfl rfl (k_isNext2 (d := 0) (lo := 40) hG L4.1 L4.2.1 hu9 (by omega) (by omega) (by omega)) (by omega) (Nat.le_of_ble_eq_true rfl) ?_
      refine ev_if_eqB (tgt := 123) dX6_unit_113 (by decide) (fun c113 => ?_) (fun c113 => by rw [hn40] at c113; cases c113)
      refine ev_aload_n dX6_unit_123 rfl ?_
      refine ev_iconstZ dX6_unit_124 ?_
      have hk9 := k_phr6 (p := p) (kd := 0) (vl9 := 0) (off := 0) (d := d - 1) (c := c) (k := k) hG (K0.fr L4.2.2.2.1) hB hu9 hl L4.2.2.1.2.1 hIp L4.1 L4.2.1 (by omega) rfl (fun q => by omega) (by omega) (by omega) (by omega) (by omega)
      refine ev_callV dX6_unit_125 cv_X6_93_X6 ce_X6_phrase L4.1 rfl rfl rfl hk9 (by omega) (by omega) (by omega) (Nat.le_of_ble_eq_true rfl) (fun v h9 q => ?_) (fun E q9 h9 r => evx_out rfl (PrQ.pre L4 (fun rs => rfl) r))
      obtain ⟨a, rfl⟩ := PrQ.inl q
      refine ev_areturn dX6_unit_128 rfl (Or.inl ⟨_, rfl⟩) (Or.inr ⟨_, rfl⟩) ?_
      exact PrQ.pre L4 (fun rs => rfl) q
    · refine ev_aload_n dX6_unit_0 rfl ?_
      refine ev_bipushZ dX6_unit_1 rfl ?_
      refine ev_callVR dX6_unit_3 cv_X6_60_X6 ce_X6_takes L0.1 rfl rfl rfl (k_takesF (lo := 33) hG L0 hu9 hl (by omega) (by omega) hB h33) (by omega) (by omega) (by omega) (Nat.le_of_ble_eq_true rfl) (fun vL1 hL1 PL1 => ?_)
      obtain ⟨rfl, L1⟩ := PL1
      have lpL1 := L1.1
      refine ev_if_eqZ (tgt := 17) dX6_unit_6 (by decide) (by omega) (fun c6 => ?_) (fun c6 => by omega)
      refine ev_aload_n dX6_unit_17 rfl ?_
      refine ev_bipushZ dX6_unit_18 rfl ?_
      refine ev_callVR dX6_unit_20 cv_X6_60_X6 ce_X6_takes L1.1 rfl rfl rfl (k_takesF (lo := 99) hG L1 hu9 hl (by omega) (by omega) hB h99) (by omega) (by omega) (by omega) (Nat.le_of_ble_eq_true rfl) (fun vL2 hL2 PL2 => ?_)
      obtain ⟨rfl, L2⟩ := PL2
      have lpL2 := L2.1
      refine ev_if_eqZ (tgt := 42) dX6_unit_23 (by decide) (by omega) (fun c23 => ?_) (fun c23 => by omega)
      refine ev_aload_n dX6_unit_42 rfl ?_
      refine ev_getf dX6_unit_43 gf_X6_84_X6 lpL2 rfl ?_
      refine ev_bipushZ dX6_unit_46 rfl ?_
      refine ev_icmp_geZ (tgt := 55) dX6_unit_48 (by decide) (by omega) (by omega) (fun c48 => ?_) (fun c48 => by omega)
      refine ev_iconstZ dX6_unit_55 ?_
      refine ev_istore_n dX6_unit_56 (by decide) rfl ?_
      dsimp only [List.set]
      refine ev_iload_n dX6_unit_57 rfl ?_
      refine ev_if_eqZ (tgt := 82) dX6_unit_58 (by decide) (by omega) (fun c58 => ?_) (fun c58 => by omega)
      refine ev_iload_n dX6_unit_82 rfl ?_
      refine ev_if_eqZ (tgt := 107) dX6_unit_83 (by decide) (by omega) (fun c83 => ?_) (fun c83 => by omega)
      refine ev_aload_n dX6_unit_107 rfl ?_
      refine ev_bipushZ dX6_unit_108 rfl ?_
      refine ev_callVE dX6_unit_110 cv_X6_46_X6 ce_X6_isNext_2 lpL2 rfl rfl rfl (k_isNext2 (d := 0) (lo := 40) hG L2.1 L2.2.1 hu9 (by omega) (by omega) (by omega)) (by omega) (Nat.le_of_ble_eq_true rfl) ?_
      refine ev_if_eqB (tgt := 123) dX6_unit_113 (by decide) (fun c113 => ?_) (fun c113 => by rw [hn40] at c113; cases c113)
      refine ev_aload_n dX6_unit_123 rfl ?_
      refine ev_iconstZ dX6_unit_124 ?_
      have hk9 := k_phr6 (p := p) (kd := 0) (vl9 := 0) (off := 0) (d := d - 1) (c := c) (k := k) hG (K0.fr L2.2.2.2.1) hB hu9 hl L2.2.2.1.2.1 hIp L2.1 L2.2.1 (by omega) rfl (fun q => by omega) (by omega) (by omega) (by omega) (by omega)
      refine ev_callV dX6_unit_125 cv_X6_93_X6 ce_X6_phrase L2.1 rfl rfl rfl hk9 (by omega) (by omega) (by omega) (Nat.le_of_ble_eq_true rfl) (fun v h9 q => ?_) (fun E q9 h9 r => evx_out rfl (PrQ.pre L2 (fun rs => rfl) r))
      obtain ⟨a, rfl⟩ := PrQ.inl q
      refine ev_areturn dX6_unit_128 rfl (Or.inl ⟨_, rfl⟩) (Or.inr ⟨_, rfl⟩) ?_
      exact PrQ.pre L2 (fun rs => rfl) q
set_option maxRecDepth 100000 in
set_option maxHeartbeats 4000000 in
theorem k_repeated (hG : GKx g) (K0 : KC g h) (hB : gB g ≤ ps) (hu9 : ∀ u ∈ t, u < 128) (hl : t.length ≤ 100) (hSI : Sub I h) (hIp : I ps = none) {f p : Nat} (HP : ParC h ps tb p ne) (HT : SBh g h tb tv cap t) (hp : p ≤ t.length) (hne : ne ≤ 10) (hf : 4 * (t.length - p) + 1 ≤ f) (IH : ∀ ne' p', PCon g t f 0 ne' p') (hd : 5 * (10 - ne) + 21 ≤ d) (hc : 20 * endP (prs t (f + 1) 1 ne p) + 10 ≤ c + 20 * p) (hk : 1000 * endP (prs t (f + 1) 1 ne p) + 100 ≤ k + 1000 * p) : Kc g mX6_repeated d c k [.ref ps] h (PrQ g I h ps tb ne 1 (prs t (f + 1) 1 ne p)) := by
  refine Kc.of (ls := [some (.ref ps), none]) (by decide +kernel) (Nat.le_of_ble_eq_true rfl) rfl ?_
  have L0 : PsS g I h ps tb tv cap ne t I p h := ⟨HP, HT, Gw.refl hSI, Fr.refl _ _, hIp⟩
  have hge := prs_ge (t := t) (f + 1) 1 ne p (by omega) hp (by omega)
  rw [prs_1] at hc hk hge ⊢
  have hn : nx t p 50 57 = isG t p := nx_G
  by_cases h1 : isG t p = true
  · rw [h1] at hn
    rw [if_pos h1] at hc hk hge ⊢
    have hlt := isG_in h1
    generalize hX : prs t f 0 ne (p + 1) = X at hc hk hge ⊢
    have hE9 : ∀ nd, endP (mapP nd X) = endP X := fun nd => by cases X <;> rfl
    rw [hE9] at hc hk hge
    refine ev_aload_n dX6_repeated_0 rfl ?_
    refine ev_bipushZ dX6_repeated_1 rfl ?_
    refine ev_bipushZ dX6_repeated_3 rfl ?_
    refine ev_callVE dX6_repeated_5 cv_X6_33_X6 ce_X6_isNext HP rfl rfl rfl (k_isNext (d := 0) (lo := 50) (hi := 57) hG HP HT hu9 (by omega) (by omega) (by omega)) (by omega) (Nat.le_of_ble_eq_true rfl) ?_
    refine ev_if_eqB (tgt := 36) dX6_repeated_8 (by decide) (fun c8 => by rw [hn] at c8; cases c8) (fun c8 => ?_)
    refine ev_aload_n dX6_repeated_11 rfl ?_
    refine ev_bipushZ dX6_repeated_12 rfl ?_
    refine ev_bipushZ dX6_repeated_14 rfl ?_
    refine ev_callVR dX6_repeated_16 cv_X6_72_X6 ce_X6_take L0.1 rfl rfl rfl (k_takeT (lo := 50) (hi := 57) hG L0.1 L0.2.1 hu9 (by omega) (by omega) (by omega) hB hn) (by omega) (by omega) (by omega) (Nat.le_of_ble_eq_true rfl) (fun vL3 hL3 PL3 => ?_)
    obtain ⟨uL3, huL3, hrL3, rfl, HPL3, frL3⟩ := PL3
    have L3 := L0.take HPL3 frL3
    refine ev_bipushZ dX6_repeated_19 rfl ?_
    refine ev_isubZ dX6_repeated_21 ?_
    refine ev_istore_n dX6_repeated_22 (by decide) rfl ?_
    dsimp only [List.set]
    have hnum : (((hrV t p - 48).toNat : Nat) : Int) = ((uL3 : Nat) : Int) - 48 := by rw [hrV_some huL3]; omega
    have la := L3.1
    refine ev_newC (c' := c - 2) (k' := k - 9) [.null, vz 0] dX6_repeated_23 cf_X10 q1707 q1708 q156 rfl (by omega) (by omega) (fun q1 hp_2 e3 B4 Hq1_5 f6 => ?_)
    have la_7 := (f6 _ (ne_no la e3)).trans la
    have z8 := ((Fr.refl (g := g) hL3 [])).fresh e3
    have F9 := ((Fr.refl (g := g) hL3 [])).alloc (Or.inl ⟨_, Hq1_5⟩) f6 e3
    refine ev_dup dX6_repeated_26 rfl ?_
    refine ev_iload_n dX6_repeated_27 rfl ?_
    refine ev_aload_n dX6_repeated_28 rfl ?_
    have FA := F9
    have L9 := L3.part ((Gw.refl L3.2.2.1.2.1).fr0 FA) (FA.keep L3.1 (fun q => by cases q)) (FA.more (fun x hx => by cases hx))
    have hq9 := Hq1_5
    have zq : h q1 = none := L3.2.2.2.1.fresh z8
    have hk9 := IH ne (p + 1) I hp_2 ps tb tv cap (d - 1) (c - 2) (k - 9) (K0.fr L9.2.2.2.1) hB L9.2.2.1.2.1 hIp L9.1 L9.2.1 (by omega) hne (by omega) (by omega) (by rw [hX]; omega) (by rw [hX]; omega)
    rw [hX] at hk9
    refine ev_callV dX6_repeated_29 cv_X6_78_X6 ce_X6_unit L9.1 rfl rfl rfl hk9 (by omega) (by omega) (by omega) (Nat.le_of_ble_eq_true rfl) (fun v h9 q => ?_) (fun E q9 h9 r => ?_)
    · cases hx : X with
      | error e => rw [hx] at q; obtain ⟨q9, p9, e9, -⟩ := q; cases e9
      | ok r =>
        rw [hx] at q
        obtain ⟨a, n, J, e9, GJ, NJ, PJ, FJ⟩ := q
        cases e9
        have L5 := L9.part GJ PJ FJ
        have hqn : J q1 = none := GJ.nn (by rw [hq9]; exact fun q => by cases q) (hSI.none zq)
        have hqp : q1 ≠ ps := ne_of hq9 L9.1 (by simp)
        have hqk := FJ.keep hq9 (fun q => hqp (List.mem_singleton.mp q))
        refine ev_callVR dX6_repeated_32 ci_X6_81 ce_X10_init hqk rfl rfl rfl (k_i10 hqk B4) (by omega) (by omega) (by omega) (Nat.le_of_ble_eq_true rfl) (fun v h8 P8 => ?_)
        obtain ⟨rfl, hn8, fr8⟩ := P8
        refine ev_areturn dX6_repeated_35 rfl (Or.inl ⟨_, rfl⟩) (Or.inr ⟨_, rfl⟩) ?_
        have G8 := L5.2.2.1.fr fr8 (fun x hx => Or.inl (by rw [List.mem_singleton.mp hx]; exact hqn))
        refine ⟨q1, n + 1, _, rfl, G8.add hSI hn8 zq, ?_, fr8.keep L5.1 (fun q => hqp (List.mem_singleton.mp q).symm), L5.2.2.2.1.call fr8 (fun x hx => Or.inr (Or.inl (by rw [List.mem_singleton.mp hx]; exact zq)))⟩
        show NodeAt _ _ _ (tidy (nodR 0 [(3, (hrV t p - 48).toNat, 1, [], []) :: r.1.flatten]))
        rw [tidy_one (by decide)]
        refine NodeAt.one NJ (G8.subadd hn8) rfl (show 3 ≤ 3 by decide) ?_
        exact ⟨fun q => absurd q (show ¬ 3 ≤ 1 by decide), fun q => absurd q (show ¬ 3 = 2 by decide), fun _ => ⟨a, rfl, by rw [hs_same, hnum]⟩, fun q => absurd q (show ¬ 3 = 4 by decide), fun q => absurd q (show ¬ 3 = 5 by decide), fun q => absurd q (show ¬ 6 ≤ 3 by decide)⟩
    · cases hx : X with
      | ok r8 => rw [hx] at r; obtain ⟨a9, n9, J9, e9, -⟩ := r; cases e9
      | error e => rw [hx] at r; exact evx_out rfl (synE.pre L9.2.2.2.1 r)
  · have h2 := Bool.eq_false_iff.mpr h1
    rw [h2] at hn
    rw [if_neg h1] at hc hk hge ⊢
    refine ev_aload_n dX6_repeated_0 rfl ?_
    refine ev_bipushZ dX6_repeated_1 rfl ?_
    refine ev_bipushZ dX6_repeated_3 rfl ?_
    refine ev_callVE dX6_repeated_5 cv_X6_33_X6 ce_X6_isNext HP rfl rfl rfl (k_isNext (d := 0) (lo := 50) (hi := 57) hG HP HT hu9 (by omega) (by omega) (by omega)) (by omega) (Nat.le_of_ble_eq_true rfl) ?_
    refine ev_if_eqB (tgt := 36) dX6_repeated_8 (by decide) (fun c8 => ?_) (fun c8 => by rw [hn] at c8; cases c8)
    refine ev_aload_n dX6_repeated_36 rfl ?_
    have hk9 := IH ne p I h ps tb tv cap (d - 1) c k K0 hB hSI hIp HP HT hp hne (by omega) (by omega) (by omega) (by omega)
    refine ev_callV dX6_repeated_37 cv_X6_78_X6 ce_X6_unit L0.1 rfl rfl rfl hk9 (by omega) (by omega) (by omega) (Nat.le_of_ble_eq_true rfl) (fun v h9 q => ?_) (fun E q9 h9 r => evx_out rfl (PrQ.pre L0 (fun rs => rfl) r))
    obtain ⟨a, rfl⟩ := PrQ.inl q
    refine ev_areturn dX6_repeated_40 rfl (Or.inl ⟨_, rfl⟩) (Or.inr ⟨_, rfl⟩) ?_
    exact PrQ.pre L0 (fun rs => rfl) q
end V6S

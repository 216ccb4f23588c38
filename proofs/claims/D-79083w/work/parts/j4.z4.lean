/-! the reference: plan, 1 (printed by gen) -/
section Z4
variable {g : GB} {M : MI} {d c k : Nat} {Q : RS → HM → Prop} {pc : Nat} {ls : List (Option Value)} {st : List Value} {h : HM} {a b : Int} {ad : Nat → Nat} {o : Nat} {h0 : HM} {s : MSt}
set_option maxRecDepth 100000 in
set_option maxHeartbeats 4000000 in
theorem k_endOf {D : Dn} {P : Pt} (hM : MX g ad o h0 s h) (hD : dnAt (s.2 1) D) (hO : dnOk D) (hs17 : s.1 17 = ((P.1.1 : Nat) : Int)) (h99 : P.1.1 ≤ 99) (hp : plAt s D P) {e : Nat} (he : e < 8) (hd : 1 ≤ d) : Kc g mX3_endOf d 0 0 [.ref o, vz (e : Int)] h (mR g ad o h0 (some (vz (posR D P e P.1.1 * (D.1.1 : Nat) + posC D P e P.1.1))) s) := by
  refine Kc.of (ls := [some (.ref o), some (vz (e : Int))]) (by decide +kernel) (Nat.le_of_ble_eq_true rfl) rfl ?_
  refine ev_aload_n dX3_endOf_0 rfl ?_
  refine mx_getA hM dX3_endOf_1 gf_X3_86_X3 rfl ?_
  refine ev_bipushZ dX3_endOf_4 rfl ?_
  refine ev_iload_n dX3_endOf_6 rfl ?_
  refine ev_imulZ dX3_endOf_7 ?_
  refine ev_aload_n dX3_endOf_8 rfl ?_
  refine mx_getI hM dX3_endOf_9 gf_X3_141_X3 rfl ?_
  rw [hs17]
  refine ev_iaddZ dX3_endOf_12 ?_
  refine ev_to (b := ((100 * e + P.1.1 : Nat) : Int)) (by omega) ?_
  refine mx_iald hM rfl dX3_endOf_13 (by omega) ?_
  try simp only [uS_1, uA_1, uF_1, uS_2, uA_2a, uF_2a, Nat.reduceEqDiff, reduceIte, Int.reduceToNat, Int.toNat_natCast]
  rw [(hp e P.1.1 he (Nat.le_refl _)).2]
  refine ev_aload_n dX3_endOf_14 rfl ?_
  refine mx_getA hM dX3_endOf_15 gf_X3_7_X3 rfl ?_
  refine ev_iconstZ dX3_endOf_18 ?_
  refine mx_iald hM rfl dX3_endOf_19 (by omega) ?_
  try simp only [uS_1, uA_1, uF_1, uS_2, uA_2a, uF_2a, Nat.reduceEqDiff, reduceIte, Int.reduceToNat, Int.toNat_natCast]
  rw [hD.1]
  refine ev_imulZ dX3_endOf_20 ?_
  refine ev_aload_n dX3_endOf_21 rfl ?_
  refine mx_getA hM dX3_endOf_22 gf_X3_83_X3 rfl ?_
  refine ev_bipushZ dX3_endOf_25 rfl ?_
  refine ev_iload_n dX3_endOf_27 rfl ?_
  refine ev_imulZ dX3_endOf_28 ?_
  refine ev_aload_n dX3_endOf_29 rfl ?_
  refine mx_getI hM dX3_endOf_30 gf_X3_141_X3 rfl ?_
  rw [hs17]
  refine ev_iaddZ dX3_endOf_33 ?_
  refine ev_to (b := ((100 * e + P.1.1 : Nat) : Int)) (by omega) ?_
  refine mx_iald hM rfl dX3_endOf_34 (by omega) ?_
  try simp only [uS_1, uA_1, uF_1, uS_2, uA_2a, uF_2a, Nat.reduceEqDiff, reduceIte, Int.reduceToNat, Int.toNat_natCast]
  rw [(hp e P.1.1 he (Nat.le_refl _)).1]
  refine ev_iaddZ dX3_endOf_35 ?_
  refine ev_ireturn dX3_endOf_36 rfl ?_
  exact ⟨rfl, hM⟩
theorem nb_val {C R p q : Nat} : (nbI C R p q = if (0 ≤ (p : Int) % (C : Nat) + acr (q : Nat) ∧ (p : Int) % (C : Nat) + acr (q : Nat) ≤ (C : Nat) - 1) ∧ (0 ≤ (p : Int) / (C : Nat) + alo (q : Nat) ∧ (p : Int) / (C : Nat) + alo (q : Nat) ≤ (R : Nat) - 1) then ((p : Int) / (C : Nat) + alo (q : Nat)) * (C : Nat) + ((p : Int) % (C : Nat) + acr (q : Nat)) else -1) := by
  have e1 : (((p / C : Nat)) : Int) = (p : Int) / (C : Nat) := Int.natCast_ediv p C
  have e2 : (((p % C : Nat)) : Int) = (p : Int) % (C : Nat) := Int.natCast_emod p C
  unfold nbI nbP
  rw [e1, e2]
  by_cases h : (0 ≤ (p : Int) / (C : Nat) + alo (q : Nat) ∧ (p : Int) / (C : Nat) + alo (q : Nat) ≤ (R : Nat) - 1) ∧ (0 ≤ (p : Int) % (C : Nat) + acr (q : Nat) ∧ (p : Int) % (C : Nat) + acr (q : Nat) ≤ (C : Nat) - 1)
  · rw [if_pos h, if_pos ⟨h.2, h.1⟩]
    have h1 : (0 : Int) ≤ ((p : Int) / (C : Nat) + alo (q : Nat)) * (C : Nat) := Int.mul_nonneg h.1.1 (by omega)
    show (((((p : Int) / (C : Nat) + alo (q : Nat)) * (C : Nat) + ((p : Int) % (C : Nat) + acr (q : Nat))).toNat : Nat) : Int) = _
    omega
  · rw [if_neg h, if_neg (fun q => h ⟨q.2, q.1⟩)]
set_option maxRecDepth 100000 in
set_option maxHeartbeats 4000000 in
theorem k_stepped {D : Dn} {p q : Nat} (hM : MX g ad o h0 s h) (hD : dnAt (s.2 1) D) (hO : dnOk D) (hp : p < 81) (hq : q < 5) (hd : 2 ≤ d) : Kc g mX3_stepped d 0 0 [.ref o, vz (p : Int), vz (q : Int)] h (mR g ad o h0 (some (vz (nbI D.1.1 D.1.2 p q))) s) := by
  refine Kc.of (ls := [some (.ref o), some (vz (p : Int)), some (vz (q : Int)), none, none]) (by decide +kernel) (Nat.le_of_ble_eq_true rfl) rfl ?_
  have hC2 := hO.1
  have hC9 := hO.2.1
  have hR2 := hO.2.2.1
  have hR9 := hO.2.2.2.1
  have hm1 := Int.emod_lt_of_pos (p : Int) (b := (D.1.1 : Int)) (by omega)
  have hm0 := Int.emod_nonneg (p : Int) (b := (D.1.1 : Int)) (by omega)
  have hd1 := Int.ediv_le_self (a := (p : Int)) (D.1.1 : Int) (by omega)
  have hd0 := Int.ediv_nonneg (a := (p : Int)) (b := (D.1.1 : Int)) (by omega) (by omega)
  have ha : -1 ≤ acr (q : Nat) ∧ acr (q : Nat) ≤ 1 := by unfold acr; split <;> (try split) <;> omega
  have hb : -1 ≤ alo (q : Nat) ∧ alo (q : Nat) ≤ 1 := by unfold alo; split <;> (try split) <;> omega
  rw [nb_val]
  refine ev_iload_n dX3_stepped_0 rfl ?_
  refine ev_aload_n dX3_stepped_1 rfl ?_
  refine mx_getA hM dX3_stepped_2 gf_X3_7_X3 rfl ?_
  refine ev_iconstZ dX3_stepped_5 ?_
  refine mx_iald hM rfl dX3_stepped_6 (by omega) ?_
  try simp only [uS_1, uA_1, uF_1, uS_2, uA_2a, uF_2a, Nat.reduceEqDiff, reduceIte, Int.reduceToNat, Int.toNat_natCast]
  rw [hD.1]
  refine ev_iremZ dX3_stepped_7 (by omega) (by omega) (by omega) (by omega) ?_
  refine ev_iload_n dX3_stepped_8 rfl ?_
  refine ev_callSE dX3_stepped_9 cs_X3_329 ce_X3_across rfl rfl (k_across (d := d - 1) (by omega) (by omega)) (by omega) (Nat.le_of_ble_eq_true rfl) ?_
  refine ev_iaddZ dX3_stepped_12 ?_
  refine ev_istore_n dX3_stepped_13 (by decide) rfl ?_
  dsimp only [List.set]
  refine ev_iload_n dX3_stepped_14 rfl ?_
  refine ev_aload_n dX3_stepped_15 rfl ?_
  refine mx_getA hM dX3_stepped_16 gf_X3_7_X3 rfl ?_
  refine ev_iconstZ dX3_stepped_19 ?_
  refine mx_iald hM rfl dX3_stepped_20 (by omega) ?_
  try simp only [uS_1, uA_1, uF_1, uS_2, uA_2a, uF_2a, Nat.reduceEqDiff, reduceIte, Int.reduceToNat, Int.toNat_natCast]
  rw [hD.1]
  refine ev_idivZ dX3_stepped_21 (by omega) (by omega) (by omega) (by omega) ?_
  refine ev_iload_n dX3_stepped_22 rfl ?_
  refine ev_callSE dX3_stepped_23 cs_X3_326 ce_X3_along rfl rfl (k_along (d := d - 1) (by omega) (by omega)) (by omega) (Nat.le_of_ble_eq_true rfl) ?_
  refine ev_iaddZ dX3_stepped_26 ?_
  refine ev_istore dX3_stepped_27 (by decide) rfl ?_
  dsimp only [List.set]
  refine ev_iload_n dX3_stepped_29 rfl ?_
  refine ev_iconstZ dX3_stepped_30 ?_
  refine ev_aload_n dX3_stepped_31 rfl ?_
  refine mx_getA hM dX3_stepped_32 gf_X3_7_X3 rfl ?_
  refine ev_iconstZ dX3_stepped_35 ?_
  refine mx_iald hM rfl dX3_stepped_36 (by omega) ?_
  try simp only [uS_1, uA_1, uF_1, uS_2, uA_2a, uF_2a, Nat.reduceEqDiff, reduceIte, Int.reduceToNat, Int.toNat_natCast]
  rw [hD.1]
  refine ev_iconstZ dX3_stepped_37 ?_
  refine ev_isubZ dX3_stepped_38 ?_
  refine ev_callSE dX3_stepped_39 cs_X3_121 ce_X3_in rfl rfl (k_in (d := d - 1) (by omega) ⟨by omega, by omega, by omega⟩) (by omega) (Nat.le_of_ble_eq_true rfl) ?_
  refine ev_if_eqB (tgt := 76) dX3_stepped_42 (by decide) (fun c42 => ?_) (fun c42 => ?_)
  · refine ev_iconstZ dX3_stepped_76 ?_
    refine ev_ireturn dX3_stepped_77 rfl ?_
    refine ⟨?_, hM⟩
    simp only [decide_eq_true_eq, decide_eq_false_iff_not] at *
    first
      | (rw [if_pos (by constructor <;> assumption)]; done)
      | (rw [if_neg (fun q9 => by first | exact absurd q9.1 (by assumption) | exact absurd q9.2 (by assumption))]; done)
  · refine ev_iload dX3_stepped_45 rfl ?_
    refine ev_iconstZ dX3_stepped_47 ?_
    refine ev_aload_n dX3_stepped_48 rfl ?_
    refine mx_getA hM dX3_stepped_49 gf_X3_7_X3 rfl ?_
    refine ev_iconstZ dX3_stepped_52 ?_
    refine mx_iald hM rfl dX3_stepped_53 (by omega) ?_
    try simp only [uS_1, uA_1, uF_1, uS_2, uA_2a, uF_2a, Nat.reduceEqDiff, reduceIte, Int.reduceToNat, Int.toNat_natCast]
    rw [hD.2.1]
    refine ev_iconstZ dX3_stepped_54 ?_
    refine ev_isubZ dX3_stepped_55 ?_
    refine ev_callSE dX3_stepped_56 cs_X3_121 ce_X3_in rfl rfl (k_in (d := d - 1) (by omega) ⟨by omega, by omega, by omega⟩) (by omega) (Nat.le_of_ble_eq_true rfl) ?_
    refine ev_if_eqB (tgt := 76) dX3_stepped_59 (by decide) (fun c59 => ?_) (fun c59 => ?_)
    · refine ev_iconstZ dX3_stepped_76 ?_
      refine ev_ireturn dX3_stepped_77 rfl ?_
      refine ⟨?_, hM⟩
      simp only [decide_eq_true_eq, decide_eq_false_iff_not] at *
      first
        | (rw [if_pos (by constructor <;> assumption)]; done)
        | (rw [if_neg (fun q9 => by first | exact absurd q9.1 (by assumption) | exact absurd q9.2 (by assumption))]; done)
    · refine ev_iload dX3_stepped_62 rfl ?_
      refine ev_aload_n dX3_stepped_64 rfl ?_
      refine mx_getA hM dX3_stepped_65 gf_X3_7_X3 rfl ?_
      refine ev_iconstZ dX3_stepped_68 ?_
      refine mx_iald hM rfl dX3_stepped_69 (by omega) ?_
      try simp only [uS_1, uA_1, uF_1, uS_2, uA_2a, uF_2a, Nat.reduceEqDiff, reduceIte, Int.reduceToNat, Int.toNat_natCast]
      rw [hD.1]
      refine ev_imulZ dX3_stepped_70 ?_
      refine ev_iload_n dX3_stepped_71 rfl ?_
      refine ev_iaddZ dX3_stepped_72 ?_
      refine ev_goto (tgt := 77) dX3_stepped_73 (by decide) ?_
      refine ev_ireturn dX3_stepped_77 rfl ?_
      refine ⟨?_, hM⟩
      simp only [decide_eq_true_eq, decide_eq_false_iff_not] at *
      first
        | (rw [if_pos (by constructor <;> assumption)]; done)
        | (rw [if_neg (fun q9 => by first | exact absurd q9.1 (by assumption) | exact absurd q9.2 (by assumption))]; done)
end Z4

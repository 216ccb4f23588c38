/-! the reference: plan, 2 (printed by gen) -/
section Z5
variable {g : GB} {M : MI} {d c k : Nat} {Q : RS → HM → Prop} {pc : Nat} {ls : List (Option Value)} {st : List Value} {h : HM} {a b : Int} {ad : Nat → Nat} {o : Nat} {h0 : HM} {s : MSt}
/-- the plan so far: the paths of those below n -/
def pnAt (s : MSt) (D : Dn) (P : Pt) (fm n : Nat) (L : PL) : Prop := ∀ e : Nat, e < 8 → if tkB D e = true then (if D.2.2.1 fm e ≠ -1 then (if e < n then s.2 50 e = 1 ∧ ∃ f : Nat → Nat, L e = some f ∧ ∀ k : Nat, k ≤ 20 → s.2 47 (21 * e + k) = ((f k : Nat) : Int) else s.2 50 e = 0 ∧ L e = none) else s.2 50 e = 0 ∧ L e = some (fun _ => dnE D P e)) else s.2 50 e = 0 ∧ L e = none
def frT (L : PL) (k x e : Nat) : Bool := match L e with
  | none => true
  | some f => !decide (f k = x)
def frN (L : PL) (k x i : Nat) : Bool := (List.range i).all (frT L k x)
theorem frN_s (L : PL) (k x i : Nat) : frN L k x (i + 1) = (frN L k x i && frT L k x i) := by
  unfold frN
  rw [List.range_succ, List.all_append]
  simp
theorem frN_8 (L : PL) (k x : Nat) : frN L k x 8 = frP L k x := rfl
theorem dnE_val {D : Dn} {P : Pt} (h : endOk D P) {e : Nat} (he : e < 8) (ht : tkB D e = true) : posR D P e P.1.1 * (D.1.1 : Nat) + posC D P e P.1.1 = ((dnE D P e : Nat) : Int) := by
  obtain ⟨⟨h1, -⟩, h2, -⟩ := h.1 e he ht
  have h3 : (0 : Int) ≤ (D.1.1 : Nat) * posR D P e P.1.1 := Int.mul_nonneg (by omega) h1
  unfold dnE
  rw [Int.mul_comm]
  omega
set_option maxRecDepth 100000 in
set_option maxHeartbeats 4000000 in
theorem k_isFree {D : Dn} {P : Pt} {fm n : Nat} {L : PL} (hM : MX g ad o h0 s h) (hD : dnAt (s.2 1) D) (hO : dnOk D) (hs17 : s.1 17 = ((P.1.1 : Nat) : Int)) (h99 : P.1.1 ≤ 99) (hp : plAt s D P) (hE : endOk D P) (hpn : pnAt s D P fm n L) (hfm : fm < 4) {dn k x : Nat} (hdn : dn < 8) (hk20 : k ≤ 20) (hx : x < 100) (hLd : L dn = none) (hL9 : ∀ (e : Nat) (f : Nat → Nat), e < 8 → L e = some f → ∀ k, k ≤ 20 → f k < 100) (hd : 3 ≤ d) : Kc g mX3_isFree d 0 0 [.ref o, vz (fm : Int), vz (dn : Int), vz (k : Int), vz (x : Int)] h (mR g ad o h0 (some (vz (bI (frP L k x)))) s) := by
  refine Kc.of (ls := [some (.ref o), some (vz (fm : Int)), some (vz (dn : Int)), some (vz (k : Int)), some (vz (x : Int)), none, none]) (by decide +kernel) (Nat.le_of_ble_eq_true rfl) rfl ?_
  refine ev_iconstZ dX3_isFree_0 ?_
  refine ev_istore dX3_isFree_1 (by decide) rfl ?_
  dsimp only [List.set]
  refine ev_iconstZ dX3_isFree_3 ?_
  refine ev_istore dX3_isFree_4 (by decide) rfl ?_
  dsimp only [List.set]
  refine ev_for 8 (fun i h => MX g ad o h0 s h) (fun i => [some (.ref o), some (vz (fm : Int)), some (vz (dn : Int)), some (vz (k : Int)), some (vz (x : Int)), some (vz (bI (frN L k x i))), some (vz ((i : Nat) : Int))]) 0 (by omega) hM ⟨rfl, rfl, rfl, rfl, rfl, rfl, rfl, trivial⟩ (fun i h hi1 hi2 hX hN => ?_) (fun h hX => ?_)
  · clear hM
    have hM : MX g ad o h0 s h := hX
    have hpi := hpn i hi2
    have hdl : ∀ e, e < 8 → tkB D e = true → dnE D P e < 100 := fun e he ht => by have := dnE_lt hE he ht; have h1 : D.1.1 * D.1.2 ≤ 9 * 9 := Nat.mul_le_mul hO.2.1 hO.2.2.2.1; omega
    by_cases hid : i = dn
    · have hT : frT L k x i = true := by unfold frT; rw [hid, hLd]
      refine ev_iload dX3_isFree_6 rfl ?_
      refine ev_bipushZ dX3_isFree_8 rfl ?_
      refine ev_icmp_geZ (tgt := 97) dX3_isFree_10 (by decide) (by omega) (by omega) (fun c => absurd c (by omega)) (fun _ => ?_)
      refine ev_iload dX3_isFree_13 rfl ?_
      refine ev_iload_n dX3_isFree_15 rfl ?_
      refine ev_icmp_eqZ (tgt := 91) dX3_isFree_16 (by decide) (by omega) (by omega) (fun _ => ?_) (fun c => absurd (by omega) c)
      refine ev_iincZ dX3_isFree_91 rfl (by decide) rfl ?_
      dsimp only [List.set]
      refine ev_goto (tgt := 6) dX3_isFree_94 (by decide) ?_
      have hv : frN L k x (i + 1) = frN L k x i := by rw [frN_s, hT, Bool.and_true]
      exact hN _ _ ⟨rfl, rfl, rfl, rfl, rfl, by rw [hv], vz_eq (by omega), trivial⟩ hM
    · cases ht : tkB D i with
      | false =>
        rw [if_neg (by rw [ht]; decide)] at hpi
        have hT : frT L k x i = true := by unfold frT; rw [hpi.2]
        refine ev_iload dX3_isFree_6 rfl ?_
        refine ev_bipushZ dX3_isFree_8 rfl ?_
        refine ev_icmp_geZ (tgt := 97) dX3_isFree_10 (by decide) (by omega) (by omega) (fun c => absurd c (by omega)) (fun _ => ?_)
        refine ev_iload dX3_isFree_13 rfl ?_
        refine ev_iload_n dX3_isFree_15 rfl ?_
        refine ev_icmp_eqZ (tgt := 91) dX3_isFree_16 (by decide) (by omega) (by omega) (fun c => absurd c (by omega)) (fun _ => ?_)
        refine ev_aload_n dX3_isFree_19 rfl ?_
        refine ev_iload dX3_isFree_20 rfl ?_
        refine mx_call dX3_isFree_22 cv_X3_336_X3 ce_X3_takesPart hM rfl rfl (k_takesPart (D := D) (e := i) hM hD hO hi2 (d := d - 1) (by omega)) (by omega) (Nat.le_of_ble_eq_true rfl) (fun h hM => ?_)
        refine ev_if_eqB (tgt := 91) dX3_isFree_25 (by decide) (fun _ => ?_) (fun c => by rw [ht] at c; cases c)
        refine ev_iincZ dX3_isFree_91 rfl (by decide) rfl ?_
        dsimp only [List.set]
        refine ev_goto (tgt := 6) dX3_isFree_94 (by decide) ?_
        have hv : frN L k x (i + 1) = frN L k x i := by rw [frN_s, hT, Bool.and_true]
        exact hN _ _ ⟨rfl, rfl, rfl, rfl, rfl, by rw [hv], vz_eq (by omega), trivial⟩ hM
      | true =>
        rw [if_pos ht] at hpi
        by_cases hfo : D.2.2.1 fm i ≠ -1
        · rw [if_pos hfo] at hpi
          by_cases hin1 : i < n
          · rw [if_pos hin1] at hpi
            obtain ⟨h50, f9, hf9, hfk0⟩ := hpi
            have hfk := hfk0 k hk20
            have hin : inB D fm i = true := by unfold inB; rw [decide_eq_true hfo, ht]; rfl
            have hT : frT L k x i = !decide (f9 k = x) := by unfold frT; rw [hf9]
            have hlf := hL9 i f9 hi2 hf9 k hk20
            refine ev_iload dX3_isFree_6 rfl ?_
            refine ev_bipushZ dX3_isFree_8 rfl ?_
            refine ev_icmp_geZ (tgt := 97) dX3_isFree_10 (by decide) (by omega) (by omega) (fun c => absurd c (by omega)) (fun _ => ?_)
            refine ev_iload dX3_isFree_13 rfl ?_
            refine ev_iload_n dX3_isFree_15 rfl ?_
            refine ev_icmp_eqZ (tgt := 91) dX3_isFree_16 (by decide) (by omega) (by omega) (fun c => absurd c (by omega)) (fun _ => ?_)
            refine ev_aload_n dX3_isFree_19 rfl ?_
            refine ev_iload dX3_isFree_20 rfl ?_
            refine mx_call dX3_isFree_22 cv_X3_336_X3 ce_X3_takesPart hM rfl rfl (k_takesPart (D := D) (e := i) hM hD hO hi2 (d := d - 1) (by omega)) (by omega) (Nat.le_of_ble_eq_true rfl) (fun h hM => ?_)
            refine ev_if_eqB (tgt := 91) dX3_isFree_25 (by decide) (fun c => by rw [ht] at c; cases c) (fun _ => ?_)
            refine ev_iload dX3_isFree_28 rfl ?_
            refine ev_if_eqB (tgt := 88) dX3_isFree_30 (by decide) (fun c30 => ?_) (fun c30 => ?_)
            · refine ev_iconstZ dX3_isFree_88 ?_
              refine ev_istore dX3_isFree_89 (by decide) rfl ?_
              dsimp only [List.set]
              refine ev_iincZ dX3_isFree_91 rfl (by decide) rfl ?_
              dsimp only [List.set]
              refine ev_goto (tgt := 6) dX3_isFree_94 (by decide) ?_
              have hv := frN_s L k x i
              first
                | (rw [c30, Bool.false_and] at hv; exact hN _ _ ⟨rfl, rfl, rfl, rfl, rfl, by rw [hv]; rfl, vz_eq (by omega), trivial⟩ hM)
                | (rw [c30, hT, Bool.true_and] at hv; exact hN _ _ ⟨rfl, rfl, rfl, rfl, rfl, by rw [hv, decide_eq_true (by omega)]; rfl, vz_eq (by omega), trivial⟩ hM)
                | (rw [c30, hT, Bool.true_and] at hv; exact hN _ _ ⟨rfl, rfl, rfl, rfl, rfl, by rw [hv, decide_eq_false (by omega)]; rfl, vz_eq (by omega), trivial⟩ hM)
            · refine ev_aload_n dX3_isFree_33 rfl ?_
              refine ev_iload_n dX3_isFree_34 rfl ?_
              refine ev_iload dX3_isFree_35 rfl ?_
              refine mx_call dX3_isFree_37 cv_X3_382_X3 ce_X3_isIn hM rfl rfl (k_isIn (D := D) (f := fm) (e := i) hM hD hO hfm hi2 (d := d - 1) (by omega)) (by omega) (Nat.le_of_ble_eq_true rfl) (fun h hM => ?_)
              refine ev_if_eqB (tgt := 73) dX3_isFree_40 (by decide) (fun c => by rw [hin] at c; cases c) (fun _ => ?_)
              refine ev_aload_n dX3_isFree_43 rfl ?_
              refine mx_getA hM dX3_isFree_44 gf_X3_98_X3 rfl ?_
              refine ev_iload dX3_isFree_47 rfl ?_
              refine mx_zald hM rfl dX3_isFree_49 (by omega) ?_
              try simp only [uS_1, uA_1, uF_1, uS_2, uA_2a, uF_2a, Nat.reduceEqDiff, reduceIte, Int.reduceToNat, Int.toNat_natCast]
              rw [h50]
              refine ev_if_eqZ (tgt := 84) dX3_isFree_50 (by decide) (by omega) (fun c => absurd c (by decide)) (fun _ => ?_)
              refine ev_aload_n dX3_isFree_53 rfl ?_
              refine mx_getA hM dX3_isFree_54 gf_X3_89_X3 rfl ?_
              refine ev_bipushZ dX3_isFree_57 rfl ?_
              refine ev_iload dX3_isFree_59 rfl ?_
              refine ev_imulZ dX3_isFree_61 ?_
              refine ev_iload_n dX3_isFree_62 rfl ?_
              refine ev_iaddZ dX3_isFree_63 ?_
              refine ev_to (b := ((21 * i + k : Nat) : Int)) (by omega) ?_
              refine mx_iald hM rfl dX3_isFree_64 (by omega) ?_
              try simp only [uS_1, uA_1, uF_1, uS_2, uA_2a, uF_2a, Nat.reduceEqDiff, reduceIte, Int.reduceToNat, Int.toNat_natCast]
              rw [hfk]
              refine ev_iload dX3_isFree_65 rfl ?_
              refine ev_icmp_eqZ (tgt := 88) dX3_isFree_67 (by decide) (by omega) (by omega) (fun c67 => ?_) (fun c67 => ?_)
              · refine ev_iconstZ dX3_isFree_88 ?_
                refine ev_istore dX3_isFree_89 (by decide) rfl ?_
                dsimp only [List.set]
                refine ev_iincZ dX3_isFree_91 rfl (by decide) rfl ?_
                dsimp only [List.set]
                refine ev_goto (tgt := 6) dX3_isFree_94 (by decide) ?_
                have hv := frN_s L k x i
                first
                  | (rw [c30, Bool.false_and] at hv; exact hN _ _ ⟨rfl, rfl, rfl, rfl, rfl, by rw [hv]; rfl, vz_eq (by omega), trivial⟩ hM)
                  | (rw [c30, hT, Bool.true_and] at hv; exact hN _ _ ⟨rfl, rfl, rfl, rfl, rfl, by rw [hv, decide_eq_true (by omega)]; rfl, vz_eq (by omega), trivial⟩ hM)
                  | (rw [c30, hT, Bool.true_and] at hv; exact hN _ _ ⟨rfl, rfl, rfl, rfl, rfl, by rw [hv, decide_eq_false (by omega)]; rfl, vz_eq (by omega), trivial⟩ hM)
              · refine ev_goto (tgt := 84) dX3_isFree_70 (by decide) ?_
                refine ev_iconstZ dX3_isFree_84 ?_
                refine ev_goto (tgt := 89) dX3_isFree_85 (by decide) ?_
                refine ev_istore dX3_isFree_89 (by decide) rfl ?_
                dsimp only [List.set]
                refine ev_iincZ dX3_isFree_91 rfl (by decide) rfl ?_
                dsimp only [List.set]
                refine ev_goto (tgt := 6) dX3_isFree_94 (by decide) ?_
                have hv := frN_s L k x i
                first
                  | (rw [c30, Bool.false_and] at hv; exact hN _ _ ⟨rfl, rfl, rfl, rfl, rfl, by rw [hv]; rfl, vz_eq (by omega), trivial⟩ hM)
                  | (rw [c30, hT, Bool.true_and] at hv; exact hN _ _ ⟨rfl, rfl, rfl, rfl, rfl, by rw [hv, decide_eq_true (by omega)]; rfl, vz_eq (by omega), trivial⟩ hM)
                  | (rw [c30, hT, Bool.true_and] at hv; exact hN _ _ ⟨rfl, rfl, rfl, rfl, rfl, by rw [hv, decide_eq_false (by omega)]; rfl, vz_eq (by omega), trivial⟩ hM)
          · rw [if_neg hin1] at hpi
            have h50 := hpi.1
            have hin : inB D fm i = true := by unfold inB; rw [decide_eq_true hfo, ht]; rfl
            have hT : frT L k x i = true := by unfold frT; rw [hpi.2]
            have hfk : True := trivial
            refine ev_iload dX3_isFree_6 rfl ?_
            refine ev_bipushZ dX3_isFree_8 rfl ?_
            refine ev_icmp_geZ (tgt := 97) dX3_isFree_10 (by decide) (by omega) (by omega) (fun c => absurd c (by omega)) (fun _ => ?_)
            refine ev_iload dX3_isFree_13 rfl ?_
            refine ev_iload_n dX3_isFree_15 rfl ?_
            refine ev_icmp_eqZ (tgt := 91) dX3_isFree_16 (by decide) (by omega) (by omega) (fun c => absurd c (by omega)) (fun _ => ?_)
            refine ev_aload_n dX3_isFree_19 rfl ?_
            refine ev_iload dX3_isFree_20 rfl ?_
            refine mx_call dX3_isFree_22 cv_X3_336_X3 ce_X3_takesPart hM rfl rfl (k_takesPart (D := D) (e := i) hM hD hO hi2 (d := d - 1) (by omega)) (by omega) (Nat.le_of_ble_eq_true rfl) (fun h hM => ?_)
            refine ev_if_eqB (tgt := 91) dX3_isFree_25 (by decide) (fun c => by rw [ht] at c; cases c) (fun _ => ?_)
            refine ev_iload dX3_isFree_28 rfl ?_
            refine ev_if_eqB (tgt := 88) dX3_isFree_30 (by decide) (fun c30 => ?_) (fun c30 => ?_)
            · refine ev_iconstZ dX3_isFree_88 ?_
              refine ev_istore dX3_isFree_89 (by decide) rfl ?_
              dsimp only [List.set]
              refine ev_iincZ dX3_isFree_91 rfl (by decide) rfl ?_
              dsimp only [List.set]
              refine ev_goto (tgt := 6) dX3_isFree_94 (by decide) ?_
              have hv := frN_s L k x i
              first
                | (rw [c30, Bool.false_and] at hv; exact hN _ _ ⟨rfl, rfl, rfl, rfl, rfl, by rw [hv]; rfl, vz_eq (by omega), trivial⟩ hM)
                | (rw [c30, hT, Bool.true_and] at hv; exact hN _ _ ⟨rfl, rfl, rfl, rfl, rfl, by rw [hv]; rfl, vz_eq (by omega), trivial⟩ hM)
            · refine ev_aload_n dX3_isFree_33 rfl ?_
              refine ev_iload_n dX3_isFree_34 rfl ?_
              refine ev_iload dX3_isFree_35 rfl ?_
              refine mx_call dX3_isFree_37 cv_X3_382_X3 ce_X3_isIn hM rfl rfl (k_isIn (D := D) (f := fm) (e := i) hM hD hO hfm hi2 (d := d - 1) (by omega)) (by omega) (Nat.le_of_ble_eq_true rfl) (fun h hM => ?_)
              refine ev_if_eqB (tgt := 73) dX3_isFree_40 (by decide) (fun c => by rw [hin] at c; cases c) (fun _ => ?_)
              refine ev_aload_n dX3_isFree_43 rfl ?_
              refine mx_getA hM dX3_isFree_44 gf_X3_98_X3 rfl ?_
              refine ev_iload dX3_isFree_47 rfl ?_
              refine mx_zald hM rfl dX3_isFree_49 (by omega) ?_
              try simp only [uS_1, uA_1, uF_1, uS_2, uA_2a, uF_2a, Nat.reduceEqDiff, reduceIte, Int.reduceToNat, Int.toNat_natCast]
              rw [h50]
              refine ev_if_eqZ (tgt := 84) dX3_isFree_50 (by decide) (by omega) (fun _ => ?_) (fun c => absurd rfl c)
              refine ev_iconstZ dX3_isFree_84 ?_
              refine ev_goto (tgt := 89) dX3_isFree_85 (by decide) ?_
              refine ev_istore dX3_isFree_89 (by decide) rfl ?_
              dsimp only [List.set]
              refine ev_iincZ dX3_isFree_91 rfl (by decide) rfl ?_
              dsimp only [List.set]
              refine ev_goto (tgt := 6) dX3_isFree_94 (by decide) ?_
              have hv := frN_s L k x i
              first
                | (rw [c30, Bool.false_and] at hv; exact hN _ _ ⟨rfl, rfl, rfl, rfl, rfl, by rw [hv]; rfl, vz_eq (by omega), trivial⟩ hM)
                | (rw [c30, hT, Bool.true_and] at hv; exact hN _ _ ⟨rfl, rfl, rfl, rfl, rfl, by rw [hv]; rfl, vz_eq (by omega), trivial⟩ hM)
        · rw [if_neg hfo] at hpi
          have h50 := hpi.1
          have hin : inB D fm i = false := by unfold inB; rw [decide_eq_false hfo]; rfl
          have hT : frT L k x i = !decide (dnE D P i = x) := by unfold frT; rw [hpi.2]
          have hdi := hdl i hi2 ht
          refine ev_iload dX3_isFree_6 rfl ?_
          refine ev_bipushZ dX3_isFree_8 rfl ?_
          refine ev_icmp_geZ (tgt := 97) dX3_isFree_10 (by decide) (by omega) (by omega) (fun c => absurd c (by omega)) (fun _ => ?_)
          refine ev_iload dX3_isFree_13 rfl ?_
          refine ev_iload_n dX3_isFree_15 rfl ?_
          refine ev_icmp_eqZ (tgt := 91) dX3_isFree_16 (by decide) (by omega) (by omega) (fun c => absurd c (by omega)) (fun _ => ?_)
          refine ev_aload_n dX3_isFree_19 rfl ?_
          refine ev_iload dX3_isFree_20 rfl ?_
          refine mx_call dX3_isFree_22 cv_X3_336_X3 ce_X3_takesPart hM rfl rfl (k_takesPart (D := D) (e := i) hM hD hO hi2 (d := d - 1) (by omega)) (by omega) (Nat.le_of_ble_eq_true rfl) (fun h hM => ?_)
          refine ev_if_eqB (tgt := 91) dX3_isFree_25 (by decide) (fun c => by rw [ht] at c; cases c) (fun _ => ?_)
          refine ev_iload dX3_isFree_28 rfl ?_
          refine ev_if_eqB (tgt := 88) dX3_isFree_30 (by decide) (fun c30 => ?_) (fun c30 => ?_)
          · refine ev_iconstZ dX3_isFree_88 ?_
            refine ev_istore dX3_isFree_89 (by decide) rfl ?_
            dsimp only [List.set]
            refine ev_iincZ dX3_isFree_91 rfl (by decide) rfl ?_
            dsimp only [List.set]
            refine ev_goto (tgt := 6) dX3_isFree_94 (by decide) ?_
            have hv := frN_s L k x i
            first
              | (rw [c30, Bool.false_and] at hv; exact hN _ _ ⟨rfl, rfl, rfl, rfl, rfl, by rw [hv]; rfl, vz_eq (by omega), trivial⟩ hM)
              | (rw [c30, hT, Bool.true_and] at hv; exact hN _ _ ⟨rfl, rfl, rfl, rfl, rfl, by rw [hv, decide_eq_true (by omega)]; rfl, vz_eq (by omega), trivial⟩ hM)
              | (rw [c30, hT, Bool.true_and] at hv; exact hN _ _ ⟨rfl, rfl, rfl, rfl, rfl, by rw [hv, decide_eq_false (by omega)]; rfl, vz_eq (by omega), trivial⟩ hM)
          · refine ev_aload_n dX3_isFree_33 rfl ?_
            refine ev_iload_n dX3_isFree_34 rfl ?_
            refine ev_iload dX3_isFree_35 rfl ?_
            refine mx_call dX3_isFree_37 cv_X3_382_X3 ce_X3_isIn hM rfl rfl (k_isIn (D := D) (f := fm) (e := i) hM hD hO hfm hi2 (d := d - 1) (by omega)) (by omega) (Nat.le_of_ble_eq_true rfl) (fun h hM => ?_)
            refine ev_if_eqB (tgt := 73) dX3_isFree_40 (by decide) (fun _ => ?_) (fun c => by rw [hin] at c; cases c)
            refine ev_aload_n dX3_isFree_73 rfl ?_
            refine ev_iload dX3_isFree_74 rfl ?_
            refine mx_call dX3_isFree_76 cv_X3_388_X3 ce_X3_endOf hM rfl rfl (k_endOf (D := D) (P := P) (e := i) hM hD hO hs17 h99 hp hi2 (d := d - 1) (by omega)) (by omega) (Nat.le_of_ble_eq_true rfl) (fun h hM => ?_)
            rw [dnE_val hE hi2 ht]
            refine ev_iload dX3_isFree_79 rfl ?_
            refine ev_icmp_eqZ (tgt := 88) dX3_isFree_81 (by decide) (by omega) (by omega) (fun c81 => ?_) (fun c81 => ?_)
            · refine ev_iconstZ dX3_isFree_88 ?_
              refine ev_istore dX3_isFree_89 (by decide) rfl ?_
              dsimp only [List.set]
              refine ev_iincZ dX3_isFree_91 rfl (by decide) rfl ?_
              dsimp only [List.set]
              refine ev_goto (tgt := 6) dX3_isFree_94 (by decide) ?_
              have hv := frN_s L k x i
              first
                | (rw [c30, Bool.false_and] at hv; exact hN _ _ ⟨rfl, rfl, rfl, rfl, rfl, by rw [hv]; rfl, vz_eq (by omega), trivial⟩ hM)
                | (rw [c30, hT, Bool.true_and] at hv; exact hN _ _ ⟨rfl, rfl, rfl, rfl, rfl, by rw [hv, decide_eq_true (by omega)]; rfl, vz_eq (by omega), trivial⟩ hM)
                | (rw [c30, hT, Bool.true_and] at hv; exact hN _ _ ⟨rfl, rfl, rfl, rfl, rfl, by rw [hv, decide_eq_false (by omega)]; rfl, vz_eq (by omega), trivial⟩ hM)
            · refine ev_iconstZ dX3_isFree_84 ?_
              refine ev_goto (tgt := 89) dX3_isFree_85 (by decide) ?_
              refine ev_istore dX3_isFree_89 (by decide) rfl ?_
              dsimp only [List.set]
              refine ev_iincZ dX3_isFree_91 rfl (by decide) rfl ?_
              dsimp only [List.set]
              refine ev_goto (tgt := 6) dX3_isFree_94 (by decide) ?_
              have hv := frN_s L k x i
              first
                | (rw [c30, Bool.false_and] at hv; exact hN _ _ ⟨rfl, rfl, rfl, rfl, rfl, by rw [hv]; rfl, vz_eq (by omega), trivial⟩ hM)
                | (rw [c30, hT, Bool.true_and] at hv; exact hN _ _ ⟨rfl, rfl, rfl, rfl, rfl, by rw [hv, decide_eq_true (by omega)]; rfl, vz_eq (by omega), trivial⟩ hM)
                | (rw [c30, hT, Bool.true_and] at hv; exact hN _ _ ⟨rfl, rfl, rfl, rfl, rfl, by rw [hv, decide_eq_false (by omega)]; rfl, vz_eq (by omega), trivial⟩ hM)
  · clear hM
    have hM : MX g ad o h0 s h := hX
    refine ev_iload dX3_isFree_6 rfl ?_
    refine ev_bipushZ dX3_isFree_8 rfl ?_
    refine ev_icmp_geZ (tgt := 97) dX3_isFree_10 (by decide) (by omega) (by omega) (fun _ => ?_) (fun c => absurd (by omega) c)
    refine ev_iload dX3_isFree_97 rfl ?_
    refine ev_zreturn dX3_isFree_99 rfl (by cases frN L k x 8 <;> decide) ?_
    exact ⟨rfl, hM⟩
def crT (L : PL) (k p x e : Nat) : Bool := match L e with
  | none => true
  | some f => !(decide (f (k + 1) = p) && decide (f k = x) && !decide (p = x))
def crN (L : PL) (k p x i : Nat) : Bool := (List.range i).all (crT L k p x)
theorem crN_s (L : PL) (k p x i : Nat) : crN L k p x (i + 1) = (crN L k p x i && crT L k p x i) := by
  unfold crN
  rw [List.range_succ, List.all_append]
  simp
theorem crN_8 (L : PL) (k p x : Nat) : crN L k p x 8 = crP L k p x := rfl
set_option maxRecDepth 100000 in
set_option maxHeartbeats 4000000 in
theorem k_canStep {D : Dn} {P : Pt} {fm n : Nat} {L : PL} (hM : MX g ad o h0 s h) (hD : dnAt (s.2 1) D) (hO : dnOk D) (hs17 : s.1 17 = ((P.1.1 : Nat) : Int)) (h99 : P.1.1 ≤ 99) (hp : plAt s D P) (hE : endOk D P) (hpn : pnAt s D P fm n L) (hfm : fm < 4) {dn k p x : Nat} (hdn : dn < 8) (hk20 : k ≤ 19) (hp9 : p < 100) (hx : x < 100) (hLd : L dn = none) (hL9 : ∀ (e : Nat) (f : Nat → Nat), e < 8 → L e = some f → ∀ k, k ≤ 20 → f k < 100) (hd : 4 ≤ d) : Kc g mX3_canStep d 0 0 [.ref o, vz (fm : Int), vz (dn : Int), vz (k : Int), vz (p : Int), vz (x : Int)] h (mR g ad o h0 (some (vz (bI (goP L k p x)))) s) := by
  refine Kc.of (ls := [some (.ref o), some (vz (fm : Int)), some (vz (dn : Int)), some (vz (k : Int)), some (vz (p : Int)), some (vz (x : Int)), none, none]) (by decide +kernel) (Nat.le_of_ble_eq_true rfl) rfl ?_
  refine ev_iload dX3_canStep_0 rfl ?_
  refine ev_iconstZ dX3_canStep_2 ?_
  refine ev_icmp_eqZ (tgt := 20) dX3_canStep_3 (by decide) (by omega) (by omega) (fun c => absurd c (by omega)) (fun _ => ?_)
  refine ev_aload_n dX3_canStep_6 rfl ?_
  refine ev_iload_n dX3_canStep_7 rfl ?_
  refine ev_iload_n dX3_canStep_8 rfl ?_
  refine ev_iload_n dX3_canStep_9 rfl ?_
  refine ev_iconstZ dX3_canStep_10 ?_
  refine ev_iaddZ dX3_canStep_11 ?_
  refine ev_to (b := ((k + 1 : Nat) : Int)) (by omega) ?_
  refine ev_iload dX3_canStep_12 rfl ?_
  refine mx_call dX3_canStep_14 cv_X3_391_X3 ce_X3_isFree hM rfl rfl (k_isFree (D := D) (P := P) (fm := fm) (n := n) (L := L) (dn := dn) (k := k + 1) (x := x) hM hD hO hs17 h99 hp hE hpn hfm hdn (by omega) hx hLd hL9 (d := d - 1) (by omega)) (by omega) (Nat.le_of_ble_eq_true rfl) (fun h hM => ?_)
  refine ev_if_neB (tgt := 22) dX3_canStep_17 (by decide) (fun cfr => ?_) (fun cfr => ?_)
  · refine ev_iconstZ dX3_canStep_22 ?_
    refine ev_istore dX3_canStep_23 (by decide) rfl ?_
    dsimp only [List.set]
    refine ev_iconstZ dX3_canStep_25 ?_
    refine ev_istore dX3_canStep_26 (by decide) rfl ?_
    dsimp only [List.set]
    refine ev_for 8 (fun i h => MX g ad o h0 s h) (fun i => [some (.ref o), some (vz (fm : Int)), some (vz (dn : Int)), some (vz (k : Int)), some (vz (p : Int)), some (vz (x : Int)), some (vz (bI (crN L k p x i))), some (vz ((i : Nat) : Int))]) 0 (by omega) hM ⟨rfl, rfl, rfl, rfl, rfl, rfl, rfl, rfl, trivial⟩ (fun i h hi1 hi2 hX hN => ?_) (fun h hX => ?_)
    · clear hM
      have hM : MX g ad o h0 s h := hX
      have hpi := hpn i hi2
      by_cases hid : i = dn
      · have hT : crT L k p x i = true := by unfold crT; rw [hid, hLd]
        refine ev_iload dX3_canStep_28 rfl ?_
        refine ev_bipushZ dX3_canStep_30 rfl ?_
        refine ev_icmp_geZ (tgt := 112) dX3_canStep_32 (by decide) (by omega) (by omega) (fun c => absurd c (by omega)) (fun _ => ?_)
        refine ev_iload dX3_canStep_35 rfl ?_
        refine ev_if_eqB (tgt := 103) dX3_canStep_37 (by decide) (fun c37 => ?_) (fun c37 => ?_)
        · refine ev_iconstZ dX3_canStep_103 ?_
          refine ev_istore dX3_canStep_104 (by decide) rfl ?_
          dsimp only [List.set]
          refine ev_iincZ dX3_canStep_106 rfl (by decide) rfl ?_
          dsimp only [List.set]
          refine ev_goto (tgt := 28) dX3_canStep_109 (by decide) ?_
          have hv := crN_s L k p x i
          first
            | (rw [c37, Bool.false_and] at hv; exact hN _ _ ⟨rfl, rfl, rfl, rfl, rfl, rfl, by rw [hv]; rfl, vz_eq (by omega), trivial⟩ hM)
            | (rw [c37, hT, Bool.true_and] at hv; exact hN _ _ ⟨rfl, rfl, rfl, rfl, rfl, rfl, by rw [hv]; rfl, vz_eq (by omega), trivial⟩ hM)
        · refine ev_iload dX3_canStep_40 rfl ?_
          refine ev_iload_n dX3_canStep_42 rfl ?_
          refine ev_icmp_eqZ (tgt := 99) dX3_canStep_43 (by decide) (by omega) (by omega) (fun _ => ?_) (fun c => absurd (by omega) c)
          refine ev_iconstZ dX3_canStep_99 ?_
          refine ev_goto (tgt := 104) dX3_canStep_100 (by decide) ?_
          refine ev_istore dX3_canStep_104 (by decide) rfl ?_
          dsimp only [List.set]
          refine ev_iincZ dX3_canStep_106 rfl (by decide) rfl ?_
          dsimp only [List.set]
          refine ev_goto (tgt := 28) dX3_canStep_109 (by decide) ?_
          have hv := crN_s L k p x i
          first
            | (rw [c37, Bool.false_and] at hv; exact hN _ _ ⟨rfl, rfl, rfl, rfl, rfl, rfl, by rw [hv]; rfl, vz_eq (by omega), trivial⟩ hM)
            | (rw [c37, hT, Bool.true_and] at hv; exact hN _ _ ⟨rfl, rfl, rfl, rfl, rfl, rfl, by rw [hv]; rfl, vz_eq (by omega), trivial⟩ hM)
      · cases ht : tkB D i with
        | false =>
          rw [if_neg (by rw [ht]; decide)] at hpi
          have h50 := hpi.1
          have hT : crT L k p x i = true := by unfold crT; rw [hpi.2]
          refine ev_iload dX3_canStep_28 rfl ?_
          refine ev_bipushZ dX3_canStep_30 rfl ?_
          refine ev_icmp_geZ (tgt := 112) dX3_canStep_32 (by decide) (by omega) (by omega) (fun c => absurd c (by omega)) (fun _ => ?_)
          refine ev_iload dX3_canStep_35 rfl ?_
          refine ev_if_eqB (tgt := 103) dX3_canStep_37 (by decide) (fun c37 => ?_) (fun c37 => ?_)
          · refine ev_iconstZ dX3_canStep_103 ?_
            refine ev_istore dX3_canStep_104 (by decide) rfl ?_
            dsimp only [List.set]
            refine ev_iincZ dX3_canStep_106 rfl (by decide) rfl ?_
            dsimp only [List.set]
            refine ev_goto (tgt := 28) dX3_canStep_109 (by decide) ?_
            have hv := crN_s L k p x i
            first
              | (rw [c37, Bool.false_and] at hv; exact hN _ _ ⟨rfl, rfl, rfl, rfl, rfl, rfl, by rw [hv]; rfl, vz_eq (by omega), trivial⟩ hM)
              | (rw [c37, hT, Bool.true_and] at hv; exact hN _ _ ⟨rfl, rfl, rfl, rfl, rfl, rfl, by rw [hv]; rfl, vz_eq (by omega), trivial⟩ hM)
          · refine ev_iload dX3_canStep_40 rfl ?_
            refine ev_iload_n dX3_canStep_42 rfl ?_
            refine ev_icmp_eqZ (tgt := 99) dX3_canStep_43 (by decide) (by omega) (by omega) (fun c => absurd c (by omega)) (fun _ => ?_)
            refine ev_aload_n dX3_canStep_46 rfl ?_
            refine mx_getA hM dX3_canStep_47 gf_X3_98_X3 rfl ?_
            refine ev_iload dX3_canStep_50 rfl ?_
            refine mx_zald hM rfl dX3_canStep_52 (by omega) ?_
            try simp only [uS_1, uA_1, uF_1, uS_2, uA_2a, uF_2a, Nat.reduceEqDiff, reduceIte, Int.reduceToNat, Int.toNat_natCast]
            rw [h50]
            refine ev_if_eqZ (tgt := 99) dX3_canStep_53 (by decide) (by omega) (fun _ => ?_) (fun c => absurd rfl c)
            refine ev_iconstZ dX3_canStep_99 ?_
            refine ev_goto (tgt := 104) dX3_canStep_100 (by decide) ?_
            refine ev_istore dX3_canStep_104 (by decide) rfl ?_
            dsimp only [List.set]
            refine ev_iincZ dX3_canStep_106 rfl (by decide) rfl ?_
            dsimp only [List.set]
            refine ev_goto (tgt := 28) dX3_canStep_109 (by decide) ?_
            have hv := crN_s L k p x i
            first
              | (rw [c37, Bool.false_and] at hv; exact hN _ _ ⟨rfl, rfl, rfl, rfl, rfl, rfl, by rw [hv]; rfl, vz_eq (by omega), trivial⟩ hM)
              | (rw [c37, hT, Bool.true_and] at hv; exact hN _ _ ⟨rfl, rfl, rfl, rfl, rfl, rfl, by rw [hv]; rfl, vz_eq (by omega), trivial⟩ hM)
        | true =>
          rw [if_pos ht] at hpi
          by_cases hfo : D.2.2.1 fm i ≠ -1
          · rw [if_pos hfo] at hpi
            by_cases hin1 : i < n
            · rw [if_pos hin1] at hpi
              obtain ⟨h50, f9, hf9, hfk0⟩ := hpi
              have hfk := hfk0 k (by omega)
              have hfk1 := hfk0 (k + 1) (by omega)
              have hT : crT L k p x i = !(decide (f9 (k + 1) = p) && decide (f9 k = x) && !decide (p = x)) := by unfold crT; rw [hf9]
              have hlf := hL9 i f9 hi2 hf9 k (by omega)
              have hlf1 := hL9 i f9 hi2 hf9 (k + 1) (by omega)
              refine ev_iload dX3_canStep_28 rfl ?_
              refine ev_bipushZ dX3_canStep_30 rfl ?_
              refine ev_icmp_geZ (tgt := 112) dX3_canStep_32 (by decide) (by omega) (by omega) (fun c => absurd c (by omega)) (fun _ => ?_)
              refine ev_iload dX3_canStep_35 rfl ?_
              refine ev_if_eqB (tgt := 103) dX3_canStep_37 (by decide) (fun c37 => ?_) (fun c37 => ?_)
              · refine ev_iconstZ dX3_canStep_103 ?_
                refine ev_istore dX3_canStep_104 (by decide) rfl ?_
                dsimp only [List.set]
                refine ev_iincZ dX3_canStep_106 rfl (by decide) rfl ?_
                dsimp only [List.set]
                refine ev_goto (tgt := 28) dX3_canStep_109 (by decide) ?_
                have hv := crN_s L k p x i
                first
                  | (rw [c37, Bool.false_and] at hv; exact hN _ _ ⟨rfl, rfl, rfl, rfl, rfl, rfl, by rw [hv]; rfl, vz_eq (by omega), trivial⟩ hM)
                  | (rw [c37, hT, show (decide (f9 (k + 1) = p) && decide (f9 k = x) && !decide (p = x)) = false by (rw [Bool.and_eq_false_iff]; first | exact Or.inr (by rw [decide_eq_true (by omega)]; rfl) | exact Or.inl (Bool.and_eq_false_iff.mpr (by first | exact Or.inl (decide_eq_false (by omega)) | exact Or.inr (decide_eq_false (by omega)))))] at hv; exact hN _ _ ⟨rfl, rfl, rfl, rfl, rfl, rfl, by rw [hv]; rfl, vz_eq (by omega), trivial⟩ hM)
                  | (rw [c37, hT, decide_eq_true (show f9 (k + 1) = p by omega), decide_eq_true (show f9 k = x by omega), decide_eq_false (show ¬ p = x by omega)] at hv; exact hN _ _ ⟨rfl, rfl, rfl, rfl, rfl, rfl, by rw [hv]; rfl, vz_eq (by omega), trivial⟩ hM)
              · refine ev_iload dX3_canStep_40 rfl ?_
                refine ev_iload_n dX3_canStep_42 rfl ?_
                refine ev_icmp_eqZ (tgt := 99) dX3_canStep_43 (by decide) (by omega) (by omega) (fun c => absurd c (by omega)) (fun _ => ?_)
                refine ev_aload_n dX3_canStep_46 rfl ?_
                refine mx_getA hM dX3_canStep_47 gf_X3_98_X3 rfl ?_
                refine ev_iload dX3_canStep_50 rfl ?_
                refine mx_zald hM rfl dX3_canStep_52 (by omega) ?_
                try simp only [uS_1, uA_1, uF_1, uS_2, uA_2a, uF_2a, Nat.reduceEqDiff, reduceIte, Int.reduceToNat, Int.toNat_natCast]
                rw [h50]
                refine ev_if_eqZ (tgt := 99) dX3_canStep_53 (by decide) (by omega) (fun c => absurd c (by decide)) (fun _ => ?_)
                refine ev_iload dX3_canStep_56 rfl ?_
                refine ev_iload dX3_canStep_58 rfl ?_
                refine ev_icmp_eqZ (tgt := 99) dX3_canStep_60 (by decide) (by omega) (by omega) (fun c60 => ?_) (fun c60 => ?_)
                · refine ev_iconstZ dX3_canStep_99 ?_
                  refine ev_goto (tgt := 104) dX3_canStep_100 (by decide) ?_
                  refine ev_istore dX3_canStep_104 (by decide) rfl ?_
                  dsimp only [List.set]
                  refine ev_iincZ dX3_canStep_106 rfl (by decide) rfl ?_
                  dsimp only [List.set]
                  refine ev_goto (tgt := 28) dX3_canStep_109 (by decide) ?_
                  have hv := crN_s L k p x i
                  first
                    | (rw [c37, Bool.false_and] at hv; exact hN _ _ ⟨rfl, rfl, rfl, rfl, rfl, rfl, by rw [hv]; rfl, vz_eq (by omega), trivial⟩ hM)
                    | (rw [c37, hT, show (decide (f9 (k + 1) = p) && decide (f9 k = x) && !decide (p = x)) = false by (rw [Bool.and_eq_false_iff]; first | exact Or.inr (by rw [decide_eq_true (by omega)]; rfl) | exact Or.inl (Bool.and_eq_false_iff.mpr (by first | exact Or.inl (decide_eq_false (by omega)) | exact Or.inr (decide_eq_false (by omega)))))] at hv; exact hN _ _ ⟨rfl, rfl, rfl, rfl, rfl, rfl, by rw [hv]; rfl, vz_eq (by omega), trivial⟩ hM)
                    | (rw [c37, hT, decide_eq_true (show f9 (k + 1) = p by omega), decide_eq_true (show f9 k = x by omega), decide_eq_false (show ¬ p = x by omega)] at hv; exact hN _ _ ⟨rfl, rfl, rfl, rfl, rfl, rfl, by rw [hv]; rfl, vz_eq (by omega), trivial⟩ hM)
                · refine ev_aload_n dX3_canStep_63 rfl ?_
                  refine mx_getA hM dX3_canStep_64 gf_X3_89_X3 rfl ?_
                  refine ev_bipushZ dX3_canStep_67 rfl ?_
                  refine ev_iload dX3_canStep_69 rfl ?_
                  refine ev_imulZ dX3_canStep_71 ?_
                  refine ev_iload_n dX3_canStep_72 rfl ?_
                  refine ev_iaddZ dX3_canStep_73 ?_
                  refine ev_to (b := ((21 * i + k : Nat) : Int)) (by omega) ?_
                  refine mx_iald hM rfl dX3_canStep_74 (by omega) ?_
                  try simp only [uS_1, uA_1, uF_1, uS_2, uA_2a, uF_2a, Nat.reduceEqDiff, reduceIte, Int.reduceToNat, Int.toNat_natCast]
                  rw [hfk]
                  refine ev_iload dX3_canStep_75 rfl ?_
                  refine ev_icmp_neZ (tgt := 99) dX3_canStep_77 (by decide) (by omega) (by omega) (fun c77 => ?_) (fun c77 => ?_)
                  · refine ev_iconstZ dX3_canStep_99 ?_
                    refine ev_goto (tgt := 104) dX3_canStep_100 (by decide) ?_
                    refine ev_istore dX3_canStep_104 (by decide) rfl ?_
                    dsimp only [List.set]
                    refine ev_iincZ dX3_canStep_106 rfl (by decide) rfl ?_
                    dsimp only [List.set]
                    refine ev_goto (tgt := 28) dX3_canStep_109 (by decide) ?_
                    have hv := crN_s L k p x i
                    first
                      | (rw [c37, Bool.false_and] at hv; exact hN _ _ ⟨rfl, rfl, rfl, rfl, rfl, rfl, by rw [hv]; rfl, vz_eq (by omega), trivial⟩ hM)
                      | (rw [c37, hT, show (decide (f9 (k + 1) = p) && decide (f9 k = x) && !decide (p = x)) = false by (rw [Bool.and_eq_false_iff]; first | exact Or.inr (by rw [decide_eq_true (by omega)]; rfl) | exact Or.inl (Bool.and_eq_false_iff.mpr (by first | exact Or.inl (decide_eq_false (by omega)) | exact Or.inr (decide_eq_false (by omega)))))] at hv; exact hN _ _ ⟨rfl, rfl, rfl, rfl, rfl, rfl, by rw [hv]; rfl, vz_eq (by omega), trivial⟩ hM)
                      | (rw [c37, hT, decide_eq_true (show f9 (k + 1) = p by omega), decide_eq_true (show f9 k = x by omega), decide_eq_false (show ¬ p = x by omega)] at hv; exact hN _ _ ⟨rfl, rfl, rfl, rfl, rfl, rfl, by rw [hv]; rfl, vz_eq (by omega), trivial⟩ hM)
                  · refine ev_aload_n dX3_canStep_80 rfl ?_
                    refine mx_getA hM dX3_canStep_81 gf_X3_89_X3 rfl ?_
                    refine ev_bipushZ dX3_canStep_84 rfl ?_
                    refine ev_iload dX3_canStep_86 rfl ?_
                    refine ev_imulZ dX3_canStep_88 ?_
                    refine ev_iload_n dX3_canStep_89 rfl ?_
                    refine ev_iaddZ dX3_canStep_90 ?_
                    refine ev_iconstZ dX3_canStep_91 ?_
                    refine ev_iaddZ dX3_canStep_92 ?_
                    refine ev_to (b := ((21 * i + (k + 1) : Nat) : Int)) (by omega) ?_
                    refine mx_iald hM rfl dX3_canStep_93 (by omega) ?_
                    try simp only [uS_1, uA_1, uF_1, uS_2, uA_2a, uF_2a, Nat.reduceEqDiff, reduceIte, Int.reduceToNat, Int.toNat_natCast]
                    rw [hfk1]
                    refine ev_iload dX3_canStep_94 rfl ?_
                    refine ev_icmp_eqZ (tgt := 103) dX3_canStep_96 (by decide) (by omega) (by omega) (fun c96 => ?_) (fun c96 => ?_)
                    · refine ev_iconstZ dX3_canStep_103 ?_
                      refine ev_istore dX3_canStep_104 (by decide) rfl ?_
                      dsimp only [List.set]
                      refine ev_iincZ dX3_canStep_106 rfl (by decide) rfl ?_
                      dsimp only [List.set]
                      refine ev_goto (tgt := 28) dX3_canStep_109 (by decide) ?_
                      have hv := crN_s L k p x i
                      first
                        | (rw [c37, Bool.false_and] at hv; exact hN _ _ ⟨rfl, rfl, rfl, rfl, rfl, rfl, by rw [hv]; rfl, vz_eq (by omega), trivial⟩ hM)
                        | (rw [c37, hT, show (decide (f9 (k + 1) = p) && decide (f9 k = x) && !decide (p = x)) = false by (rw [Bool.and_eq_false_iff]; first | exact Or.inr (by rw [decide_eq_true (by omega)]; rfl) | exact Or.inl (Bool.and_eq_false_iff.mpr (by first | exact Or.inl (decide_eq_false (by omega)) | exact Or.inr (decide_eq_false (by omega)))))] at hv; exact hN _ _ ⟨rfl, rfl, rfl, rfl, rfl, rfl, by rw [hv]; rfl, vz_eq (by omega), trivial⟩ hM)
                        | (rw [c37, hT, decide_eq_true (show f9 (k + 1) = p by omega), decide_eq_true (show f9 k = x by omega), decide_eq_false (show ¬ p = x by omega)] at hv; exact hN _ _ ⟨rfl, rfl, rfl, rfl, rfl, rfl, by rw [hv]; rfl, vz_eq (by omega), trivial⟩ hM)
                    · refine ev_iconstZ dX3_canStep_99 ?_
                      refine ev_goto (tgt := 104) dX3_canStep_100 (by decide) ?_
                      refine ev_istore dX3_canStep_104 (by decide) rfl ?_
                      dsimp only [List.set]
                      refine ev_iincZ dX3_canStep_106 rfl (by decide) rfl ?_
                      dsimp only [List.set]
                      refine ev_goto (tgt := 28) dX3_canStep_109 (by decide) ?_
                      have hv := crN_s L k p x i
                      first
                        | (rw [c37, Bool.false_and] at hv; exact hN _ _ ⟨rfl, rfl, rfl, rfl, rfl, rfl, by rw [hv]; rfl, vz_eq (by omega), trivial⟩ hM)
                        | (rw [c37, hT, show (decide (f9 (k + 1) = p) && decide (f9 k = x) && !decide (p = x)) = false by (rw [Bool.and_eq_false_iff]; first | exact Or.inr (by rw [decide_eq_true (by omega)]; rfl) | exact Or.inl (Bool.and_eq_false_iff.mpr (by first | exact Or.inl (decide_eq_false (by omega)) | exact Or.inr (decide_eq_false (by omega)))))] at hv; exact hN _ _ ⟨rfl, rfl, rfl, rfl, rfl, rfl, by rw [hv]; rfl, vz_eq (by omega), trivial⟩ hM)
                        | (rw [c37, hT, decide_eq_true (show f9 (k + 1) = p by omega), decide_eq_true (show f9 k = x by omega), decide_eq_false (show ¬ p = x by omega)] at hv; exact hN _ _ ⟨rfl, rfl, rfl, rfl, rfl, rfl, by rw [hv]; rfl, vz_eq (by omega), trivial⟩ hM)
            · rw [if_neg hin1] at hpi
              have h50 := hpi.1
              have hT : crT L k p x i = true := by unfold crT; rw [hpi.2]
              refine ev_iload dX3_canStep_28 rfl ?_
              refine ev_bipushZ dX3_canStep_30 rfl ?_
              refine ev_icmp_geZ (tgt := 112) dX3_canStep_32 (by decide) (by omega) (by omega) (fun c => absurd c (by omega)) (fun _ => ?_)
              refine ev_iload dX3_canStep_35 rfl ?_
              refine ev_if_eqB (tgt := 103) dX3_canStep_37 (by decide) (fun c37 => ?_) (fun c37 => ?_)
              · refine ev_iconstZ dX3_canStep_103 ?_
                refine ev_istore dX3_canStep_104 (by decide) rfl ?_
                dsimp only [List.set]
                refine ev_iincZ dX3_canStep_106 rfl (by decide) rfl ?_
                dsimp only [List.set]
                refine ev_goto (tgt := 28) dX3_canStep_109 (by decide) ?_
                have hv := crN_s L k p x i
                first
                  | (rw [c37, Bool.false_and] at hv; exact hN _ _ ⟨rfl, rfl, rfl, rfl, rfl, rfl, by rw [hv]; rfl, vz_eq (by omega), trivial⟩ hM)
                  | (rw [c37, hT, Bool.true_and] at hv; exact hN _ _ ⟨rfl, rfl, rfl, rfl, rfl, rfl, by rw [hv]; rfl, vz_eq (by omega), trivial⟩ hM)
              · refine ev_iload dX3_canStep_40 rfl ?_
                refine ev_iload_n dX3_canStep_42 rfl ?_
                refine ev_icmp_eqZ (tgt := 99) dX3_canStep_43 (by decide) (by omega) (by omega) (fun c => absurd c (by omega)) (fun _ => ?_)
                refine ev_aload_n dX3_canStep_46 rfl ?_
                refine mx_getA hM dX3_canStep_47 gf_X3_98_X3 rfl ?_
                refine ev_iload dX3_canStep_50 rfl ?_
                refine mx_zald hM rfl dX3_canStep_52 (by omega) ?_
                try simp only [uS_1, uA_1, uF_1, uS_2, uA_2a, uF_2a, Nat.reduceEqDiff, reduceIte, Int.reduceToNat, Int.toNat_natCast]
                rw [h50]
                refine ev_if_eqZ (tgt := 99) dX3_canStep_53 (by decide) (by omega) (fun _ => ?_) (fun c => absurd rfl c)
                refine ev_iconstZ dX3_canStep_99 ?_
                refine ev_goto (tgt := 104) dX3_canStep_100 (by decide) ?_
                refine ev_istore dX3_canStep_104 (by decide) rfl ?_
                dsimp only [List.set]
                refine ev_iincZ dX3_canStep_106 rfl (by decide) rfl ?_
                dsimp only [List.set]
                refine ev_goto (tgt := 28) dX3_canStep_109 (by decide) ?_
                have hv := crN_s L k p x i
                first
                  | (rw [c37, Bool.false_and] at hv; exact hN _ _ ⟨rfl, rfl, rfl, rfl, rfl, rfl, by rw [hv]; rfl, vz_eq (by omega), trivial⟩ hM)
                  | (rw [c37, hT, Bool.true_and] at hv; exact hN _ _ ⟨rfl, rfl, rfl, rfl, rfl, rfl, by rw [hv]; rfl, vz_eq (by omega), trivial⟩ hM)
          · rw [if_neg hfo] at hpi
            have h50 := hpi.1
            have hT : crT L k p x i = true := by
              unfold crT
              rw [hpi.2]
              by_cases q : dnE D P i = p
              · by_cases q2 : dnE D P i = x
                · simp [q, q2]
                · simp [q2]
              · simp [q]
            refine ev_iload dX3_canStep_28 rfl ?_
            refine ev_bipushZ dX3_canStep_30 rfl ?_
            refine ev_icmp_geZ (tgt := 112) dX3_canStep_32 (by decide) (by omega) (by omega) (fun c => absurd c (by omega)) (fun _ => ?_)
            refine ev_iload dX3_canStep_35 rfl ?_
            refine ev_if_eqB (tgt := 103) dX3_canStep_37 (by decide) (fun c37 => ?_) (fun c37 => ?_)
            · refine ev_iconstZ dX3_canStep_103 ?_
              refine ev_istore dX3_canStep_104 (by decide) rfl ?_
              dsimp only [List.set]
              refine ev_iincZ dX3_canStep_106 rfl (by decide) rfl ?_
              dsimp only [List.set]
              refine ev_goto (tgt := 28) dX3_canStep_109 (by decide) ?_
              have hv := crN_s L k p x i
              first
                | (rw [c37, Bool.false_and] at hv; exact hN _ _ ⟨rfl, rfl, rfl, rfl, rfl, rfl, by rw [hv]; rfl, vz_eq (by omega), trivial⟩ hM)
                | (rw [c37, hT, Bool.true_and] at hv; exact hN _ _ ⟨rfl, rfl, rfl, rfl, rfl, rfl, by rw [hv]; rfl, vz_eq (by omega), trivial⟩ hM)
            · refine ev_iload dX3_canStep_40 rfl ?_
              refine ev_iload_n dX3_canStep_42 rfl ?_
              refine ev_icmp_eqZ (tgt := 99) dX3_canStep_43 (by decide) (by omega) (by omega) (fun c => absurd c (by omega)) (fun _ => ?_)
              refine ev_aload_n dX3_canStep_46 rfl ?_
              refine mx_getA hM dX3_canStep_47 gf_X3_98_X3 rfl ?_
              refine ev_iload dX3_canStep_50 rfl ?_
              refine mx_zald hM rfl dX3_canStep_52 (by omega) ?_
              try simp only [uS_1, uA_1, uF_1, uS_2, uA_2a, uF_2a, Nat.reduceEqDiff, reduceIte, Int.reduceToNat, Int.toNat_natCast]
              rw [h50]
              refine ev_if_eqZ (tgt := 99) dX3_canStep_53 (by decide) (by omega) (fun _ => ?_) (fun c => absurd rfl c)
              refine ev_iconstZ dX3_canStep_99 ?_
              refine ev_goto (tgt := 104) dX3_canStep_100 (by decide) ?_
              refine ev_istore dX3_canStep_104 (by decide) rfl ?_
              dsimp only [List.set]
              refine ev_iincZ dX3_canStep_106 rfl (by decide) rfl ?_
              dsimp only [List.set]
              refine ev_goto (tgt := 28) dX3_canStep_109 (by decide) ?_
              have hv := crN_s L k p x i
              first
                | (rw [c37, Bool.false_and] at hv; exact hN _ _ ⟨rfl, rfl, rfl, rfl, rfl, rfl, by rw [hv]; rfl, vz_eq (by omega), trivial⟩ hM)
                | (rw [c37, hT, Bool.true_and] at hv; exact hN _ _ ⟨rfl, rfl, rfl, rfl, rfl, rfl, by rw [hv]; rfl, vz_eq (by omega), trivial⟩ hM)
    · clear hM
      have hM : MX g ad o h0 s h := hX
      refine ev_iload dX3_canStep_28 rfl ?_
      refine ev_bipushZ dX3_canStep_30 rfl ?_
      refine ev_icmp_geZ (tgt := 112) dX3_canStep_32 (by decide) (by omega) (by omega) (fun _ => ?_) (fun c => absurd (by omega) c)
      refine ev_iload dX3_canStep_112 rfl ?_
      refine ev_zreturn dX3_canStep_114 rfl (by cases crN L k p x 8 <;> decide) ?_
      refine ⟨?_, hM⟩
      unfold goP
      rw [cfr, Bool.true_and]; rfl
  · refine ev_iconstZ dX3_canStep_20 ?_
    refine ev_zreturn dX3_canStep_21 rfl rfl ?_
    refine ⟨?_, hM⟩
    unfold goP
    rw [cfr]; rfl
set_option maxRecDepth 100000 in
set_option maxHeartbeats 4000000 in
theorem k_canStepN {D : Dn} {P : Pt} {fm n : Nat} {L : PL} (hM : MX g ad o h0 s h) (hD : dnAt (s.2 1) D) (hO : dnOk D) (hs17 : s.1 17 = ((P.1.1 : Nat) : Int)) (h99 : P.1.1 ≤ 99) (hp : plAt s D P) (hE : endOk D P) (hpn : pnAt s D P fm n L) (hfm : fm < 4) {dn k p : Nat} (hdn : dn < 8) (hd : 4 ≤ d) : Kc g mX3_canStep d 0 0 [.ref o, vz (fm : Int), vz (dn : Int), vz (k : Int), vz (p : Int), vz (-1)] h (mR g ad o h0 (some (vz (bI false))) s) := by
  refine Kc.of (ls := [some (.ref o), some (vz (fm : Int)), some (vz (dn : Int)), some (vz (k : Int)), some (vz (p : Int)), some (vz (-1)), none, none]) (by decide +kernel) (Nat.le_of_ble_eq_true rfl) rfl ?_
  refine ev_iload dX3_canStep_0 rfl ?_
  refine ev_iconstZ dX3_canStep_2 ?_
  refine ev_icmp_eqZ (tgt := 20) dX3_canStep_3 (by decide) (by omega) (by omega) (fun _ => ?_) (fun c => absurd rfl c)
  refine ev_iconstZ dX3_canStep_20 ?_
  refine ev_zreturn dX3_canStep_21 rfl rfl ?_
  exact ⟨rfl, hM⟩
end Z5

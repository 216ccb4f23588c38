/-! the reference: means of steps (printed by gen) -/
section P8
variable {g : GB} {M : MI} {d c k : Nat} {Q : RS → HM → Prop} {pc : Nat} {ls : List (Option Value)} {st : List Value} {h : HM} {a b : Int} {ad : Nat → Nat} {o : Nat} {h0 : HM} {s : MSt}
def mvN (P : Pt) (e : Nat) : Nat → Nat
  | 0 => 0
  | k + 1 => mvN P e k + (if P.2.1 e k = 0 then 0 else 1)
def sumU (P : Pt) : Nat → Nat
  | 0 => 0
  | e + 1 => sumU P e + (if P.1.2.1.testBit e then mvN P e P.1.1 else 0)
def bitsU (u : Nat) : Nat → Nat
  | 0 => 0
  | e + 1 => bitsU u e + (if u.testBit e then 1 else 0)
theorem mvN_le (P : Pt) (e : Nat) : ∀ k, mvN P e k ≤ k := by
  intro k
  induction k with
  | zero => exact Nat.le_refl _
  | succ k ih => show mvN P e k + _ ≤ k + 1; split <;> omega
theorem sumU_le {P : Pt} (h : P.1.1 ≤ 99) : ∀ e, sumU P e ≤ 99 * e := by
  intro e
  induction e with
  | zero => exact Nat.le_refl _
  | succ e ih => show sumU P e + _ ≤ _; have := mvN_le P e P.1.1; split <;> omega
theorem bitsU_le (u : Nat) : ∀ e, bitsU u e ≤ e := by
  intro e
  induction e with
  | zero => exact Nat.le_refl _
  | succ e ih => show bitsU u e + _ ≤ _; split <;> omega
theorem ddiv_ok' : ∀ a : Fin 800, ∀ b : Fin 8, (FP.ddiv (FP.i2d (zI (a.val : Nat))) (FP.i2d (zI ((b.val + 1 : Nat) : Int)))) &&& 0x7fffffffffffffff ≤ 0x7ff0000000000000 := by decide +kernel
theorem ddiv_ok {a b : Nat} (ha : a < 800) (h0 : b ≠ 0) (hb : b ≤ 8) : vf_n64 (FP.ddiv (FP.i2d (zI (a : Int))) (FP.i2d (zI (b : Int)))) := by
  have h := ddiv_ok' ⟨a, ha⟩ ⟨b - 1, by omega⟩
  dsimp only at h
  rw [show b - 1 + 1 = b by omega] at h
  exact h
theorem fdiv_ok' : ∀ a : Fin 100, ∀ b : Fin 99, (FP.fdiv (FP.i2f (zI (a.val : Nat))) (FP.i2f (zI ((b.val + 1 : Nat) : Int)))) &&& 0x7fffffff ≤ 0x7f800000 := by decide +kernel
theorem fdiv_ok {a b : Nat} (ha : a < 100) (h0 : b ≠ 0) (hb : b ≤ 99) : vf_n32 (FP.fdiv (FP.i2f (zI (a : Int))) (FP.i2f (zI (b : Int)))) := by
  have h := fdiv_ok' ⟨a, ha⟩ ⟨b - 1, by omega⟩
  dsimp only at h
  rw [show b - 1 + 1 = b by omega] at h
  exact h
/-- code, numerator and denominator, state -/
abbrev Rd : Type := Int × (Nat × Nat) × Sp
def mRd (r : Rd) : Option Value → MSt → Prop := fun v s' => s'.1 0 = r.1 ∧ TI s' r.2.2 ∧ ∃ x, v = some (.double x) ∧ (r.1 = 0 → x = FP.ddiv (FP.i2d (zI (r.2.1.1 : Nat))) (FP.i2d (zI (r.2.1.2 : Nat))))
def mRf (r : Rd) : Option Value → MSt → Prop := fun v s' => s'.1 0 = r.1 ∧ TI s' r.2.2 ∧ ∃ x, v = some (.float x) ∧ (r.1 = 0 → x = FP.fdiv (FP.i2f (zI (r.2.1.1 : Nat))) (FP.i2f (zI (r.2.1.2 : Nat))))
def opMean (σ : Sp) : Rd := match σ.1.2.2.2 with
  | none => (1, (0, 0), wReason σ 3)
  | some l => if bitsU (mean l).1.2.1 8 = 0 then (2, (0, 0), σ) else (0, (sumU (mean l) 8, bitsU (mean l).1.2.1 8), σ)
def opShare (σ : Sp) (x : Int) : Rd := if 0 ≤ x ∧ x ≤ 7 then (match σ.1.2.2.2 with
  | none => (2, (0, 0), wReason σ 3)
  | some l => if (mean l).1.1 = 0 then (3, (0, 0), σ) else (0, (mvN (mean l) x.toNat (mean l).1.1, (mean l).1.1), σ)) else (1, (0, 0), σ)
set_option maxRecDepth 100000 in
set_option maxHeartbeats 4000000 in
theorem k_movingSteps {P : Pt} {e : Nat} (hM : MX g ad o h0 s h) (hk : knAt s (.ok P)) (he : e < 8) (hd : 1 ≤ d) : Kc g mX3_movingSteps d 0 0 [.ref o, vz (e : Int)] h (mR g ad o h0 (some (vz (mvN P e P.1.1 : Nat))) s) := by
  refine Kc.of (ls := [some (.ref o), some (vz (e : Int)), none, none]) (by decide +kernel) (Nat.le_of_ble_eq_true rfl) rfl ?_
  have k17 := hk.ok.2.1.1
  have hsb := hk.ok.2.2.1
  refine ev_iconstZ dX3_movingSteps_0 ?_
  refine ev_istore_n dX3_movingSteps_1 (by decide) rfl ?_
  dsimp only [List.set]
  refine ev_iconstZ dX3_movingSteps_2 ?_
  refine ev_istore_n dX3_movingSteps_3 (by decide) rfl ?_
  dsimp only [List.set]
  refine ev_for P.1.1 (fun i h => MX g ad o h0 s h) (fun i => [some (.ref o), some (vz (e : Int)), some (vz ((mvN P e i : Nat) : Int)), some (vz (i : Int))]) 0 (by omega) hM (by repeat' first | exact rfl | exact trivial | exact vz_eq (by omega) | refine And.intro ?_ ?_) (fun i h hi1 hi2 hX hN => ?_) (fun h hX => ?_)
  · clear hM
    have hM : MX g ad o h0 s h := hX
    refine ev_iload_n dX3_movingSteps_4 rfl ?_
    refine ev_aload_n dX3_movingSteps_5 rfl ?_
    refine mx_getI hM dX3_movingSteps_6 gf_X3_141_X3 rfl ?_
    try simp only [uS_1, uA_1, uF_1, uS_2, uA_2a, uF_2a, Nat.reduceEqDiff, reduceIte, Int.reduceToNat, Int.toNat_natCast]
    rw [k17]
    refine ev_icmp_geZ (tgt := 40) dX3_movingSteps_9 (by decide) (by omega) (by omega) (fun c => absurd c (by omega)) (fun _ => ?_)
    refine ev_iload_n dX3_movingSteps_12 rfl ?_
    refine ev_aload_n dX3_movingSteps_13 rfl ?_
    refine mx_getA hM dX3_movingSteps_14 gf_X3_36_X3 rfl ?_
    refine ev_bipushZ dX3_movingSteps_17 rfl ?_
    refine ev_iload_n dX3_movingSteps_19 rfl ?_
    refine ev_imulZ dX3_movingSteps_20 ?_
    refine ev_iload_n dX3_movingSteps_21 rfl ?_
    refine ev_iaddZ dX3_movingSteps_22 ?_
    refine ev_to (b := ((100 * e + i : Nat) : Int)) (by omega) ?_
    refine mx_iald hM rfl dX3_movingSteps_23 (by omega) ?_
    try simp only [uS_1, uA_1, uF_1, uS_2, uA_2a, uF_2a, Nat.reduceEqDiff, reduceIte, Int.reduceToNat, Int.toNat_natCast]
    rw [(hk.stp he (show i < 100 by omega)).1]
    refine ev_if_eqZ (tgt := 31) dX3_movingSteps_24 (by decide) (by have := (hk.stp he (show i < 100 by omega)).2; omega) (fun c24 => ?_) (fun c24 => ?_)
    · refine ev_iconstZ dX3_movingSteps_31 ?_
      refine ev_iaddZ dX3_movingSteps_32 ?_
      refine ev_istore_n dX3_movingSteps_33 (by decide) rfl ?_
      dsimp only [List.set]
      refine ev_iincZ dX3_movingSteps_34 rfl (by decide) rfl ?_
      dsimp only [List.set]
      refine ev_goto (tgt := 4) dX3_movingSteps_37 (by decide) ?_
      have e2 : mvN P e (i + 1) = mvN P e i + (if P.2.1 e i = 0 then 0 else 1) := rfl
      first
        | exact hN _ _ (by rw [e2, if_pos (by omega)]; exact ⟨rfl, rfl, by simp, rfl, trivial⟩) hM
        | exact hN _ _ (by rw [e2, if_neg (by omega)]; exact ⟨rfl, rfl, by simp, rfl, trivial⟩) hM
    · refine ev_iconstZ dX3_movingSteps_27 ?_
      refine ev_goto (tgt := 32) dX3_movingSteps_28 (by decide) ?_
      refine ev_iaddZ dX3_movingSteps_32 ?_
      refine ev_istore_n dX3_movingSteps_33 (by decide) rfl ?_
      dsimp only [List.set]
      refine ev_iincZ dX3_movingSteps_34 rfl (by decide) rfl ?_
      dsimp only [List.set]
      refine ev_goto (tgt := 4) dX3_movingSteps_37 (by decide) ?_
      have e2 : mvN P e (i + 1) = mvN P e i + (if P.2.1 e i = 0 then 0 else 1) := rfl
      first
        | exact hN _ _ (by rw [e2, if_pos (by omega)]; exact ⟨rfl, rfl, by simp, rfl, trivial⟩) hM
        | exact hN _ _ (by rw [e2, if_neg (by omega)]; exact ⟨rfl, rfl, by simp, rfl, trivial⟩) hM
  · clear hM
    have hM : MX g ad o h0 s h := hX
    refine ev_iload_n dX3_movingSteps_4 rfl ?_
    refine ev_aload_n dX3_movingSteps_5 rfl ?_
    refine mx_getI hM dX3_movingSteps_6 gf_X3_141_X3 rfl ?_
    try simp only [uS_1, uA_1, uF_1, uS_2, uA_2a, uF_2a, Nat.reduceEqDiff, reduceIte, Int.reduceToNat, Int.toNat_natCast]
    rw [k17]
    refine ev_icmp_geZ (tgt := 40) dX3_movingSteps_9 (by decide) (by omega) (by omega) (fun _ => ?_) (fun c => absurd (by omega) c)
    refine ev_iload_n dX3_movingSteps_40 rfl ?_
    refine ev_ireturn dX3_movingSteps_41 rfl ?_
    exact ⟨rfl, hM⟩
set_option maxRecDepth 100000 in
set_option maxHeartbeats 4000000 in
theorem k_meanSteps  {σ : Sp} (hM : MX g ad o h0 s h) (hT : TI s σ) (hO : spOk σ)  (hd : 9 ≤ d) : Kc g mX3_meanSteps d 0 0 [.ref o] h ((mP g ad o h0 (mRd (opMean σ)))) := by
  refine Kc.of (ls := [some (.ref o), none, none, none]) (by decide +kernel) (Nat.le_of_ble_eq_true rfl) rfl ?_
  cases hp : σ.1.2.2.2 with
  | none =>
    refine ev_aload_n dX3_meanSteps_0 rfl ?_
    refine ev_iconstZ dX3_meanSteps_1 ?_
    refine mx_callP dX3_meanSteps_2 cv_X3_305_X3 ce_X3_hasNoPiece hM rfl rfl (k_hasNo0 (code := 1) hM hT hO hp (d := d - 1) (by omega)) (by omega) (Nat.le_of_ble_eq_true rfl) (fun v s' h hP hM => ?_)
    obtain ⟨rfl, hP⟩ := hP
    refine ev_if_eqZ (tgt := 10) dX3_meanSteps_5 (by decide) (by decide) (fun c => absurd c (by decide)) (fun _ => ?_)
    refine ev_dconst0 dX3_meanSteps_8 ?_
    refine ev_dreturn dX3_meanSteps_9 rfl ?_
    refine ⟨_, _, rfl, ?_, hM⟩
    unfold opMean
    rw [hp]
    exact ⟨hP.1, hP.2, _, rfl, fun q => by cases q⟩
  | some l =>
    refine ev_aload_n dX3_meanSteps_0 rfl ?_
    refine ev_iconstZ dX3_meanSteps_1 ?_
    refine mx_callP dX3_meanSteps_2 cv_X3_305_X3 ce_X3_hasNoPiece hM rfl rfl (k_hasNo1 (code := 1) hM hT hO hp (d := d - 1) (by omega)) (by omega) (Nat.le_of_ble_eq_true rfl) (fun v s' h hP hM => ?_)
    obtain ⟨rfl, hz, hT1, g14, hk1, hf1⟩ := hP
    obtain ⟨k15, kpt, kok⟩ := hk1.ok
    have k17 := kpt.1
    have k18 := kpt.2.1
    have k19 := kpt.2.2.1
    have k20 := kpt.2.2.2.1
    obtain ⟨b1, b2, b3⟩ := dn_some hT1.1 hp
    obtain ⟨hok, hsm⟩ := hO.1.2.2.2.2.2.2 l hp
    have hdb : (mean l).1.2.2.1 ≤ 81 := kok.2.2.1
    have hsb := kok.1
    have hub := kok.2.1
    have hcb := kok.2.2.2.1
    have T63 : ∀ (h : HM), MX g ad o h0 s' h → Ev g mX3_meanSteps d 0 0 (mP g ad o h0 (mRd (opMean σ))) 63 [some (.ref o), some (vz ((sumU (mean l) 8 : Nat) : Int)), some (vz ((bitsU (mean l).1.2.1 8 : Nat) : Int)), some (vz ((8 : Nat) : Int))] [] h := by
      intro h hM
      have hs8 := sumU_le hsb 8
      have hb8 := bitsU_le (mean l).1.2.1 8
      by_cases hb0 : bitsU (mean l).1.2.1 8 = 0
      · refine ev_aload_n dX3_meanSteps_63 rfl ?_
        refine ev_iload_n dX3_meanSteps_64 rfl ?_
        refine ev_if_neZ (tgt := 72) dX3_meanSteps_65 (by decide) (by omega) (fun c => absurd (by omega) c) (fun _ => ?_)
        refine ev_iconstZ dX3_meanSteps_68 ?_
        refine ev_goto (tgt := 73) dX3_meanSteps_69 (by decide) ?_
        refine mx_putI hM dX3_meanSteps_73 gf_X3_111_X3 rfl (fun h hM => ?_)
        refine ev_iload_n dX3_meanSteps_76 rfl ?_
        refine ev_if_neZ (tgt := 84) dX3_meanSteps_77 (by decide) (by omega) (fun c => absurd (by omega) c) (fun _ => ?_)
        refine ev_dconst0 dX3_meanSteps_80 ?_
        refine ev_goto (tgt := 89) dX3_meanSteps_81 (by decide) ?_
        refine ev_dreturn dX3_meanSteps_89 rfl ?_
        refine ⟨_, _, rfl, ?_, hM⟩
        unfold opMean
        rw [hp]
        dsimp only
        rw [if_pos hb0]
        exact ⟨rfl, hT1, _, rfl, fun q => by cases q⟩
      · refine ev_aload_n dX3_meanSteps_63 rfl ?_
        refine ev_iload_n dX3_meanSteps_64 rfl ?_
        refine ev_if_neZ (tgt := 72) dX3_meanSteps_65 (by decide) (by omega) (fun _ => ?_) (fun c => absurd (by omega) hb0)
        refine ev_iconstZ dX3_meanSteps_72 ?_
        refine mx_putI hM dX3_meanSteps_73 gf_X3_111_X3 rfl (fun h hM => ?_)
        refine ev_iload_n dX3_meanSteps_76 rfl ?_
        refine ev_if_neZ (tgt := 84) dX3_meanSteps_77 (by decide) (by omega) (fun _ => ?_) (fun c => absurd (by omega) hb0)
        refine ev_iload_n dX3_meanSteps_84 rfl ?_
        refine ev_i2d dX3_meanSteps_85 ?_
        refine ev_iload_n dX3_meanSteps_86 rfl ?_
        refine ev_i2d dX3_meanSteps_87 ?_
        refine ev_ddiv dX3_meanSteps_88 (ddiv_ok (by omega) hb0 (by omega)) ?_
        refine ev_dreturn dX3_meanSteps_89 rfl ?_
        refine ⟨_, _, rfl, ?_, hM⟩
        unfold opMean
        rw [hp]
        dsimp only
        rw [if_neg hb0]
        exact ⟨rfl, hT1, _, rfl, fun _ => rfl⟩
    refine ev_if_eqZ (tgt := 10) dX3_meanSteps_5 (by decide) (by decide) (fun _ => ?_) (fun c => absurd c (by decide))
    refine ev_iconstZ dX3_meanSteps_10 ?_
    refine ev_istore_n dX3_meanSteps_11 (by decide) rfl ?_
    dsimp only [List.set]
    refine ev_iconstZ dX3_meanSteps_12 ?_
    refine ev_istore_n dX3_meanSteps_13 (by decide) rfl ?_
    dsimp only [List.set]
    refine ev_iconstZ dX3_meanSteps_14 ?_
    refine ev_istore_n dX3_meanSteps_15 (by decide) rfl ?_
    dsimp only [List.set]
    refine ev_for 8 (fun i h => MX g ad o h0 s' h) (fun i => [some (.ref o), some (vz ((sumU (mean l) i : Nat) : Int)), some (vz ((bitsU (mean l).1.2.1 i : Nat) : Int)), some (vz (i : Int))]) 0 (by omega) hM (by repeat' first | exact rfl | exact trivial | exact vz_eq (by omega) | refine And.intro ?_ ?_) (fun i h hi1 hi2 hX hN => ?_) (fun h hX => ?_)
    · clear hM
      have hM : MX g ad o h0 s' h := hX
      have hbb := bit_e (u := (mean l).1.2.1) (e := i) (by omega) (by omega)
      refine ev_iload_n dX3_meanSteps_16 rfl ?_
      refine ev_bipushZ dX3_meanSteps_17 rfl ?_
      refine ev_icmp_geZ (tgt := 63) dX3_meanSteps_19 (by decide) (by omega) (by omega) (fun c => absurd c (by omega)) (fun _ => ?_)
      refine ev_iload_n dX3_meanSteps_22 rfl ?_
      refine ev_aload_n dX3_meanSteps_23 rfl ?_
      refine mx_getI hM dX3_meanSteps_24 gf_X3_144_X3 rfl ?_
      try simp only [uS_1, uA_1, uF_1, uS_2, uA_2a, uF_2a, Nat.reduceEqDiff, reduceIte, Int.reduceToNat, Int.toNat_natCast]
      rw [k18]
      refine ev_iload_n dX3_meanSteps_27 rfl ?_
      refine ev_ishrZ (u := (mean l).1.2.1) (e := i) dX3_meanSteps_28 (by omega) (by omega) ?_
      refine ev_iconstZ dX3_meanSteps_29 ?_
      refine ev_iandZ (a := (mean l).1.2.1 >>> i) (b := 1) dX3_meanSteps_30 (Nat.lt_of_le_of_lt (Nat.shiftRight_le _ _) (by omega)) (by omega) ?_
      rw [hbb]
      refine ev_iconstZ dX3_meanSteps_31 ?_
      refine ev_icmp_neZ (tgt := 43) dX3_meanSteps_32 (by decide) (by split <;> omega) (by omega) (fun c32 => ?_) (fun c32 => ?_)
      · have hb : (mean l).1.2.1.testBit i = false := by cases q : (mean l).1.2.1.testBit i with | false => rfl | true => exact absurd (by rw [q]; rfl) c32
        refine ev_iconstZ dX3_meanSteps_43 ?_
        refine ev_iaddZ dX3_meanSteps_44 ?_
        refine ev_istore_n dX3_meanSteps_45 (by decide) rfl ?_
        dsimp only [List.set]
        refine ev_iload_n dX3_meanSteps_46 rfl ?_
        refine ev_aload_n dX3_meanSteps_47 rfl ?_
        refine mx_getI hM dX3_meanSteps_48 gf_X3_144_X3 rfl ?_
        try simp only [uS_1, uA_1, uF_1, uS_2, uA_2a, uF_2a, Nat.reduceEqDiff, reduceIte, Int.reduceToNat, Int.toNat_natCast]
        rw [k18]
        refine ev_iload_n dX3_meanSteps_51 rfl ?_
        refine ev_ishrZ (u := (mean l).1.2.1) (e := i) dX3_meanSteps_52 (by omega) (by omega) ?_
        refine ev_iconstZ dX3_meanSteps_53 ?_
        refine ev_iandZ (a := (mean l).1.2.1 >>> i) (b := 1) dX3_meanSteps_54 (Nat.lt_of_le_of_lt (Nat.shiftRight_le _ _) (by omega)) (by omega) ?_
        rw [hbb]
        refine ev_iaddZ dX3_meanSteps_55 ?_
        refine ev_istore_n dX3_meanSteps_56 (by decide) rfl ?_
        dsimp only [List.set]
        refine ev_iincZ dX3_meanSteps_57 rfl (by decide) rfl ?_
        dsimp only [List.set]
        refine ev_goto (tgt := 16) dX3_meanSteps_60 (by decide) ?_
        have e2 : sumU (mean l) (i + 1) = sumU (mean l) i + (if (mean l).1.2.1.testBit i then mvN (mean l) i (mean l).1.1 else 0) := rfl
        have e3 : bitsU (mean l).1.2.1 (i + 1) = bitsU (mean l).1.2.1 i + (if (mean l).1.2.1.testBit i then 1 else 0) := rfl
        exact hN _ _ (by rw [e2, e3, hb]; exact ⟨rfl, by simp, by simp, rfl, trivial⟩) hM
      · have hb : (mean l).1.2.1.testBit i = true := by cases q : (mean l).1.2.1.testBit i with | true => rfl | false => rw [q] at c32; exact absurd c32 (by decide)
        refine ev_aload_n dX3_meanSteps_35 rfl ?_
        refine ev_iload_n dX3_meanSteps_36 rfl ?_
        refine mx_call dX3_meanSteps_37 cv_X3_376_X3 ce_X3_movingSteps hM rfl rfl (k_movingSteps (P := mean l) (e := i) hM hk1 hi2 (d := d - 1) (by omega)) (by omega) (Nat.le_of_ble_eq_true rfl) (fun h hM => ?_)
        refine ev_goto (tgt := 44) dX3_meanSteps_40 (by decide) ?_
        refine ev_iaddZ dX3_meanSteps_44 ?_
        refine ev_istore_n dX3_meanSteps_45 (by decide) rfl ?_
        dsimp only [List.set]
        refine ev_iload_n dX3_meanSteps_46 rfl ?_
        refine ev_aload_n dX3_meanSteps_47 rfl ?_
        refine mx_getI hM dX3_meanSteps_48 gf_X3_144_X3 rfl ?_
        try simp only [uS_1, uA_1, uF_1, uS_2, uA_2a, uF_2a, Nat.reduceEqDiff, reduceIte, Int.reduceToNat, Int.toNat_natCast]
        rw [k18]
        refine ev_iload_n dX3_meanSteps_51 rfl ?_
        refine ev_ishrZ (u := (mean l).1.2.1) (e := i) dX3_meanSteps_52 (by omega) (by omega) ?_
        refine ev_iconstZ dX3_meanSteps_53 ?_
        refine ev_iandZ (a := (mean l).1.2.1 >>> i) (b := 1) dX3_meanSteps_54 (Nat.lt_of_le_of_lt (Nat.shiftRight_le _ _) (by omega)) (by omega) ?_
        rw [hbb]
        refine ev_iaddZ dX3_meanSteps_55 ?_
        refine ev_istore_n dX3_meanSteps_56 (by decide) rfl ?_
        dsimp only [List.set]
        refine ev_iincZ dX3_meanSteps_57 rfl (by decide) rfl ?_
        dsimp only [List.set]
        refine ev_goto (tgt := 16) dX3_meanSteps_60 (by decide) ?_
        have e2 : sumU (mean l) (i + 1) = sumU (mean l) i + (if (mean l).1.2.1.testBit i then mvN (mean l) i (mean l).1.1 else 0) := rfl
        have e3 : bitsU (mean l).1.2.1 (i + 1) = bitsU (mean l).1.2.1 i + (if (mean l).1.2.1.testBit i then 1 else 0) := rfl
        exact hN _ _ (by rw [e2, e3, hb]; exact ⟨rfl, by simp, by simp, rfl, trivial⟩) hM
    · clear hM
      have hM : MX g ad o h0 s' h := hX
      refine ev_iload_n dX3_meanSteps_16 rfl ?_
      refine ev_bipushZ dX3_meanSteps_17 rfl ?_
      refine ev_icmp_geZ (tgt := 63) dX3_meanSteps_19 (by decide) (by omega) (by omega) (fun _ => ?_) (fun c => absurd (by omega) c)
      exact T63 h hM
set_option maxRecDepth 100000 in
set_option maxHeartbeats 4000000 in
theorem k_movingShare {x : Int} {σ : Sp} (hM : MX g ad o h0 s h) (hT : TI s σ) (hO : spOk σ) (hr : inR x) (hd : 9 ≤ d) : Kc g mX3_movingShare d 0 0 [.ref o, vz x] h (mP g ad o h0 (mRf (opShare σ x))) := by
  refine Kc.of (ls := [some (.ref o), some (vz x)]) (by decide +kernel) (Nat.le_of_ble_eq_true rfl) rfl ?_
  refine ev_aload_n dX3_movingShare_0 rfl ?_
  refine ev_iload_n dX3_movingShare_1 rfl ?_
  refine ev_callSE dX3_movingShare_2 cs_X3_214 ce_X3_isDancer rfl rfl (k_isDancer (d := d - 1) (by omega) (by omega)) (by omega) (Nat.le_of_ble_eq_true rfl) ?_
  refine ev_if_eqB (tgt := 12) dX3_movingShare_5 (by decide) (fun cc => ?_) (fun cc => ?_)
  · refine ev_iconstZ dX3_movingShare_12 ?_
    refine mx_putI hM dX3_movingShare_13 gf_X3_111_X3 rfl (fun h hM => ?_)
    refine ev_aload_n dX3_movingShare_16 rfl ?_
    refine mx_getI hM dX3_movingShare_17 gf_X3_111_X3 rfl ?_
    try simp only [uS_1, uA_1, uF_1, uS_2, uA_2a, uF_2a, Nat.reduceEqDiff, reduceIte, Int.reduceToNat, Int.toNat_natCast]
    refine ev_if_gtZ (tgt := 31) dX3_movingShare_20 (by decide) (by decide) (fun _ => ?_) (fun c => absurd (by decide) c)
    refine ev_fconst0 dX3_movingShare_31 ?_
    refine ev_freturn dX3_movingShare_32 rfl ?_
    refine ⟨_, _, rfl, ?_, hM⟩
    unfold opShare
    rw [if_neg (by simp at cc; omega)]
    exact ⟨rfl, hT, _, rfl, fun q => by cases q⟩
  · have cx : 0 ≤ x ∧ x ≤ 7 := by simpa using cc
    refine ev_iconstZ dX3_movingShare_8 ?_
    refine ev_goto (tgt := 13) dX3_movingShare_9 (by decide) ?_
    refine mx_putI hM dX3_movingShare_13 gf_X3_111_X3 rfl (fun h hM => ?_)
    refine ev_aload_n dX3_movingShare_16 rfl ?_
    refine mx_getI hM dX3_movingShare_17 gf_X3_111_X3 rfl ?_
    try simp only [uS_1, uA_1, uF_1, uS_2, uA_2a, uF_2a, Nat.reduceEqDiff, reduceIte, Int.reduceToNat, Int.toNat_natCast]
    refine ev_if_gtZ (tgt := 31) dX3_movingShare_20 (by decide) (by decide) (fun c => absurd c (by decide)) (fun _ => ?_)
    cases hp : σ.1.2.2.2 with
    | none =>
      refine ev_aload_n dX3_movingShare_23 rfl ?_
      refine ev_iconstZ dX3_movingShare_24 ?_
      refine mx_callP dX3_movingShare_25 cv_X3_305_X3 ce_X3_hasNoPiece hM rfl rfl (k_hasNo0 (code := 2) hM (hT.thrown 0) hO hp (d := d - 1) (by omega)) (by omega) (Nat.le_of_ble_eq_true rfl) (fun v s' h hP hM => ?_)
      obtain ⟨rfl, hP⟩ := hP
      refine ev_if_eqZ (tgt := 33) dX3_movingShare_28 (by decide) (by decide) (fun c => absurd c (by decide)) (fun _ => ?_)
      refine ev_fconst0 dX3_movingShare_31 ?_
      refine ev_freturn dX3_movingShare_32 rfl ?_
      refine ⟨_, _, rfl, ?_, hM⟩
      unfold opShare
      rw [if_pos cx, hp]
      exact ⟨hP.1, hP.2, _, rfl, fun q => by cases q⟩
    | some l =>
      refine ev_aload_n dX3_movingShare_23 rfl ?_
      refine ev_iconstZ dX3_movingShare_24 ?_
      refine mx_callP dX3_movingShare_25 cv_X3_305_X3 ce_X3_hasNoPiece hM rfl rfl (k_hasNo1 (code := 2) hM (hT.thrown 0) hO hp (d := d - 1) (by omega)) (by omega) (Nat.le_of_ble_eq_true rfl) (fun v s' h hP hM => ?_)
      obtain ⟨rfl, hz, hT1, g14, hk1, hf1⟩ := hP
      obtain ⟨k15, kpt, kok⟩ := hk1.ok
      have k17 := kpt.1
      have k18 := kpt.2.1
      have k19 := kpt.2.2.1
      have k20 := kpt.2.2.2.1
      obtain ⟨b1, b2, b3⟩ := dn_some hT1.1 hp
      obtain ⟨hok, hsm⟩ := hO.1.2.2.2.2.2.2 l hp
      have hdb : (mean l).1.2.2.1 ≤ 81 := kok.2.2.1
      have hsb := kok.1
      have hub := kok.2.1
      have hcb := kok.2.2.2.1
      refine ev_if_eqZ (tgt := 33) dX3_movingShare_28 (by decide) (by decide) (fun _ => ?_) (fun c => absurd c (by decide))
      by_cases hz0 : (mean l).1.1 = 0
      · refine ev_aload_n dX3_movingShare_33 rfl ?_
        refine ev_aload_n dX3_movingShare_34 rfl ?_
        refine mx_getI hM dX3_movingShare_35 gf_X3_141_X3 rfl ?_
        try simp only [uS_1, uA_1, uF_1, uS_2, uA_2a, uF_2a, Nat.reduceEqDiff, reduceIte, Int.reduceToNat, Int.toNat_natCast]
        rw [k17]
        refine ev_if_neZ (tgt := 45) dX3_movingShare_38 (by decide) (by omega) (fun c => absurd (by omega) c) (fun _ => ?_)
        refine ev_iconstZ dX3_movingShare_41 ?_
        refine ev_goto (tgt := 46) dX3_movingShare_42 (by decide) ?_
        refine mx_putI hM dX3_movingShare_46 gf_X3_111_X3 rfl (fun h hM => ?_)
        refine ev_aload_n dX3_movingShare_49 rfl ?_
        refine mx_getI hM dX3_movingShare_50 gf_X3_141_X3 rfl ?_
        try simp only [uS_1, uA_1, uF_1, uS_2, uA_2a, uF_2a, Nat.reduceEqDiff, reduceIte, Int.reduceToNat, Int.toNat_natCast]
        rw [k17]
        refine ev_if_neZ (tgt := 60) dX3_movingShare_53 (by decide) (by omega) (fun c => absurd (by omega) c) (fun _ => ?_)
        refine ev_fconst0 dX3_movingShare_56 ?_
        refine ev_goto (tgt := 72) dX3_movingShare_57 (by decide) ?_
        refine ev_freturn dX3_movingShare_72 rfl ?_
        refine ⟨_, _, rfl, ?_, hM⟩
        unfold opShare
        rw [if_pos cx, hp]
        dsimp only
        rw [if_pos hz0]
        exact ⟨rfl, hT1, _, rfl, fun q => by cases q⟩
      · refine ev_aload_n dX3_movingShare_33 rfl ?_
        refine ev_aload_n dX3_movingShare_34 rfl ?_
        refine mx_getI hM dX3_movingShare_35 gf_X3_141_X3 rfl ?_
        try simp only [uS_1, uA_1, uF_1, uS_2, uA_2a, uF_2a, Nat.reduceEqDiff, reduceIte, Int.reduceToNat, Int.toNat_natCast]
        rw [k17]
        refine ev_if_neZ (tgt := 45) dX3_movingShare_38 (by decide) (by omega) (fun _ => ?_) (fun c => absurd (by omega) hz0)
        refine ev_iconstZ dX3_movingShare_45 ?_
        refine mx_putI hM dX3_movingShare_46 gf_X3_111_X3 rfl (fun h hM => ?_)
        refine ev_aload_n dX3_movingShare_49 rfl ?_
        refine mx_getI hM dX3_movingShare_50 gf_X3_141_X3 rfl ?_
        try simp only [uS_1, uA_1, uF_1, uS_2, uA_2a, uF_2a, Nat.reduceEqDiff, reduceIte, Int.reduceToNat, Int.toNat_natCast]
        rw [k17]
        refine ev_if_neZ (tgt := 60) dX3_movingShare_53 (by decide) (by omega) (fun _ => ?_) (fun c => absurd (by omega) hz0)
        refine ev_aload_n dX3_movingShare_60 rfl ?_
        refine ev_iload_n dX3_movingShare_61 rfl ?_
        refine ev_to (b := ((x.toNat : Nat) : Int)) (by omega) ?_
        refine mx_call dX3_movingShare_62 cv_X3_376_X3 ce_X3_movingSteps hM rfl rfl (k_movingSteps (P := mean l) (e := x.toNat) hM (hk1.S (k := 0) (x := 0) rfl) (by omega) (d := d - 1) (by omega)) (by omega) (Nat.le_of_ble_eq_true rfl) (fun h hM => ?_)
        refine ev_i2f dX3_movingShare_65 ?_
        refine ev_aload_n dX3_movingShare_66 rfl ?_
        refine mx_getI hM dX3_movingShare_67 gf_X3_141_X3 rfl ?_
        try simp only [uS_1, uA_1, uF_1, uS_2, uA_2a, uF_2a, Nat.reduceEqDiff, reduceIte, Int.reduceToNat, Int.toNat_natCast]
        rw [k17]
        refine ev_i2f dX3_movingShare_70 ?_
        refine ev_fdiv dX3_movingShare_71 (fdiv_ok (by have := mvN_le (mean l) x.toNat (mean l).1.1; omega) hz0 (by omega)) ?_
        refine ev_freturn dX3_movingShare_72 rfl ?_
        refine ⟨_, _, rfl, ?_, hM⟩
        unfold opShare
        rw [if_pos cx, hp]
        dsimp only
        rw [if_neg hz0]
        exact ⟨rfl, hT1, _, rfl, fun _ => rfl⟩
end P8

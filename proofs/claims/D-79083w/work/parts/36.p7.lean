/-! the reference: what a piece tells, 2 (printed by gen) -/
section P7
variable {g : GB} {M : MI} {d c k : Nat} {Q : RS → HM → Prop} {pc : Nat} {ls : List (Option Value)} {st : List Value} {h : HM} {a b : Int} {ad : Nat → Nat} {o : Nat} {h0 : HM} {s : MSt}
theorem sgn_f : ∀ n : Fin 5, sgn ((n.val : Nat) : Int) = if n.val = 1 then 110 else if n.val = 2 then 115 else if n.val = 3 then 101 else if n.val = 4 then 119 else 46 := by decide
theorem sgn_lt {n : Nat} (h : n ≤ 4) : ∃ m : Nat, sgn (n : Int) = m ∧ m < 256 := by
  have : ∀ n : Fin 5, ∃ m : Fin 256, sgn ((n.val : Nat) : Int) = (m.val : Nat) := by decide +kernel
  obtain ⟨m, hm⟩ := this ⟨n, by omega⟩
  exact ⟨m.val, hm, m.isLt⟩
set_option maxRecDepth 100000 in
set_option maxHeartbeats 4000000 in
theorem k_signOf {n : Nat} (hn : n ≤ 4) (hd : 1 ≤ d) : Kc g mX3_signOf d 0 0 [vz (n : Int)] h (sR (some (vz (sgn (n : Int)))) h) := by
  refine Kc.of (ls := [some (vz (n : Int))]) (by decide +kernel) (Nat.le_of_ble_eq_true rfl) rfl ?_
  refine ev_iload_n dX3_signOf_0 rfl ?_
  have hv : n = 0 ∨ n = 1 ∨ n = 2 ∨ n = 3 ∨ n = 4 := by omega
  rcases hv with rfl | rfl | rfl | rfl | rfl
  · refine ev_tableOut (tgt := 44) dX3_signOf_1 (by decide) (by decide) ?_
    refine ev_bipushZ dX3_signOf_44 rfl ?_
    refine ev_zreturn dX3_signOf_46 rfl (by decide) ?_
    exact ⟨rfl, rfl⟩
  · refine ev_tableIn (tgt := 32) dX3_signOf_1 (by decide) (by decide) rfl (by decide) ?_
    refine ev_bipushZ dX3_signOf_32 rfl ?_
    refine ev_zreturn dX3_signOf_34 rfl (by decide) ?_
    exact ⟨rfl, rfl⟩
  · refine ev_tableIn (tgt := 35) dX3_signOf_1 (by decide) (by decide) rfl (by decide) ?_
    refine ev_bipushZ dX3_signOf_35 rfl ?_
    refine ev_zreturn dX3_signOf_37 rfl (by decide) ?_
    exact ⟨rfl, rfl⟩
  · refine ev_tableIn (tgt := 38) dX3_signOf_1 (by decide) (by decide) rfl (by decide) ?_
    refine ev_bipushZ dX3_signOf_38 rfl ?_
    refine ev_zreturn dX3_signOf_40 rfl (by decide) ?_
    exact ⟨rfl, rfl⟩
  · refine ev_tableIn (tgt := 41) dX3_signOf_1 (by decide) (by decide) rfl (by decide) ?_
    refine ev_bipushZ dX3_signOf_41 rfl ?_
    refine ev_zreturn dX3_signOf_43 rfl (by decide) ?_
    exact ⟨rfl, rfl⟩
set_option maxRecDepth 100000 in
set_option maxHeartbeats 4000000 in
theorem k_step {x k : Int} {σ : Sp} (hM : MX g ad o h0 s h) (hT : TI s σ) (hO : spOk σ) (hr : inR x ∧ inR k) (hd : 9 ≤ d) : Kc g mX3_step d 0 0 [.ref o, vz x, vz k] h (mP g ad o h0 (mRs (opStep σ x k))) := by
  refine Kc.of (ls := [some (.ref o), some (vz x), some (vz k)]) (by decide +kernel) (Nat.le_of_ble_eq_true rfl) rfl ?_
  refine ev_aload_n dX3_step_0 rfl ?_
  refine ev_iconstZ dX3_step_1 ?_
  refine mx_putI hM dX3_step_2 gf_X3_111_X3 rfl (fun h hM => ?_)
  refine ev_iload_n dX3_step_5 rfl ?_
  refine ev_callSE dX3_step_6 cs_X3_214 ce_X3_isDancer rfl rfl (k_isDancer (d := d - 1) (by omega) (by omega)) (by omega) (Nat.le_of_ble_eq_true rfl) ?_
  refine ev_if_neB (tgt := 19) dX3_step_9 (by decide) (fun cc => ?_) (fun cc => ?_)
  · have cx : 0 ≤ x ∧ x ≤ 7 := by simpa using cc
    cases hp : σ.1.2.2.2 with
    | none =>
      refine ev_aload_n dX3_step_19 rfl ?_
      refine ev_iconstZ dX3_step_20 ?_
      refine mx_callP dX3_step_21 cv_X3_305_X3 ce_X3_hasNoPiece hM rfl rfl (k_hasNo0 (code := 2) hM (hT.thrown 0) hO hp (d := d - 1) (by omega)) (by omega) (Nat.le_of_ble_eq_true rfl) (fun v s' h hP hM => ?_)
      obtain ⟨rfl, hP⟩ := hP
      refine ev_if_eqZ (tgt := 29) dX3_step_24 (by decide) (by decide) (fun c => absurd c (by decide)) (fun _ => ?_)
      refine ev_iconstZ dX3_step_27 ?_
      refine ev_zreturn dX3_step_28 rfl (by decide) ?_
      refine ⟨_, _, rfl, ?_, hM⟩
      unfold opStep
      rw [if_pos cx, withP_none hp]
      exact ⟨hP.1, hP.2, rfl⟩
    | some l =>
      refine ev_aload_n dX3_step_19 rfl ?_
      refine ev_iconstZ dX3_step_20 ?_
      refine mx_callP dX3_step_21 cv_X3_305_X3 ce_X3_hasNoPiece hM rfl rfl (k_hasNo1 (code := 2) hM (hT.thrown 0) hO hp (d := d - 1) (by omega)) (by omega) (Nat.le_of_ble_eq_true rfl) (fun v s' h hP hM => ?_)
      obtain ⟨rfl, hz, hT1, g14, hk1, hf1⟩ := hP
      obtain ⟨k15, kpt, kok⟩ := hk1.ok
      have k17 := kpt.1
      have k18 := kpt.2.1
      have k19 := kpt.2.2.1
      have k20 := kpt.2.2.2.1
      obtain ⟨b1, b2, b3⟩ := dn_some hT1.1 hp
      obtain ⟨hok, hsm⟩ := hO.1.2.2.2.2.2.2 l hp
      have hdb : (mean l).1.2.2.1 ≤ 81 := kok.2.2.1
      have hsb := kok.1
      have hub := kok.2.1
      have hcb := kok.2.2.2.1
      refine ev_if_eqZ (tgt := 29) dX3_step_24 (by decide) (by decide) (fun _ => ?_) (fun c => absurd c (by decide))
      refine ev_iload_n dX3_step_29 rfl ?_
      refine ev_iconstZ dX3_step_30 ?_
      refine ev_aload_n dX3_step_31 rfl ?_
      refine mx_getI hM dX3_step_32 gf_X3_141_X3 rfl ?_
      try simp only [uS_1, uA_1, uF_1, uS_2, uA_2a, uF_2a, Nat.reduceEqDiff, reduceIte, Int.reduceToNat, Int.toNat_natCast]
      rw [k17]
      refine ev_iconstZ dX3_step_35 ?_
      refine ev_isubZ dX3_step_36 ?_
      refine ev_callSE dX3_step_37 cs_X3_121 ce_X3_in rfl rfl (k_in (d := d - 1) (by omega) (by omega)) (by omega) (Nat.le_of_ble_eq_true rfl) ?_
      refine ev_if_eqB (tgt := 60) dX3_step_40 (by decide) (fun c40 => ?_) (fun c40 => ?_)
      · refine ev_aload_n dX3_step_60 rfl ?_
        refine ev_iconstZ dX3_step_61 ?_
        refine mx_call dX3_step_62 cv_X3_117_X3 ce_X3_fails hM rfl rfl (k_fails (d := d - 1) (by omega) hM) (by omega) (Nat.le_of_ble_eq_true rfl) (fun h hM => ?_)
        refine ev_i2cZ (n := 0) dX3_step_65 (by decide) ?_
        refine ev_zreturn dX3_step_66 rfl (by first | decide | (obtain ⟨m, q1, q2⟩ := sgn_lt (hk1.stp (show x.toNat < 8 by omega) (show k.toNat < 100 by omega)).2; rw [q1]; exact narrow_c q2)) ?_
        refine ⟨_, _, rfl, ?_, hM⟩
        unfold opStep
        rw [if_pos cx, withP_some hp]
        simp at c40
        first
          | (rw [if_pos (by omega)]; exact ⟨hz, hT1, rfl⟩)
          | (rw [if_neg (by omega)]; exact ⟨rfl, hT1, rfl⟩)
      · refine ev_aload_n dX3_step_43 rfl ?_
        refine mx_getA hM dX3_step_44 gf_X3_36_X3 rfl ?_
        refine ev_bipushZ dX3_step_47 rfl ?_
        refine ev_iload_n dX3_step_49 rfl ?_
        refine ev_imulZ dX3_step_50 ?_
        refine ev_iload_n dX3_step_51 rfl ?_
        refine ev_iaddZ dX3_step_52 ?_
        have cc2 : 0 ≤ k ∧ k ≤ (mean l).1.1 - 1 := by simpa using c40
        refine ev_to (b := ((100 * x.toNat + k.toNat : Nat) : Int)) (by omega) ?_
        refine mx_iald hM rfl dX3_step_53 (by omega) ?_
        try simp only [uS_1, uA_1, uF_1, uS_2, uA_2a, uF_2a, Nat.reduceEqDiff, reduceIte, Int.reduceToNat, Int.toNat_natCast]
        rw [(hk1.stp (show x.toNat < 8 by omega) (show k.toNat < 100 by omega)).1]
        refine ev_callSE dX3_step_54 cs_X3_294 ce_X3_signOf rfl rfl (k_signOf (n := ((mean l).2.1 x.toNat k.toNat)) (d := d - 1) (hk1.stp (show x.toNat < 8 by omega) (show k.toNat < 100 by omega)).2 (by omega)) (by omega) (Nat.le_of_ble_eq_true rfl) ?_
        refine ev_goto (tgt := 66) dX3_step_57 (by decide) ?_
        refine ev_zreturn dX3_step_66 rfl (by first | decide | (obtain ⟨m, q1, q2⟩ := sgn_lt (hk1.stp (show x.toNat < 8 by omega) (show k.toNat < 100 by omega)).2; rw [q1]; exact narrow_c q2)) ?_
        refine ⟨_, _, rfl, ?_, hM⟩
        unfold opStep
        rw [if_pos cx, withP_some hp]
        simp at c40
        first
          | (rw [if_pos (by omega)]; exact ⟨hz, hT1, rfl⟩)
          | (rw [if_neg (by omega)]; exact ⟨rfl, hT1, rfl⟩)
  · refine ev_aload_n dX3_step_12 rfl ?_
    refine ev_iconstZ dX3_step_13 ?_
    refine mx_call dX3_step_14 cv_X3_117_X3 ce_X3_fails hM rfl rfl (k_fails (d := d - 1) (by omega) hM) (by omega) (Nat.le_of_ble_eq_true rfl) (fun h hM => ?_)
    refine ev_i2c dX3_step_17 ?_
    refine ev_zreturn dX3_step_18 rfl (by decide) ?_
    refine ⟨_, _, rfl, ?_, hM⟩
    unfold opStep
    rw [if_neg (by simp at cc; omega)]
    exact ⟨rfl, hT, rfl⟩
set_option maxRecDepth 100000 in
set_option maxHeartbeats 4000000 in
theorem k_displacement {x : Int} {row : Bool} {σ : Sp} (hM : MX g ad o h0 s h) (hT : TI s σ) (hO : spOk σ) (hr : inR x) (hd : 9 ≤ d) : Kc g mX3_displacement d 0 0 [.ref o, vz x, vz (bI row)] h (mP g ad o h0 (mRs (opDisp σ x row))) := by
  refine Kc.of (ls := [some (.ref o), some (vz x), some (vz (bI row))]) (by decide +kernel) (Nat.le_of_ble_eq_true rfl) rfl ?_
  refine ev_aload_n dX3_displacement_0 rfl ?_
  refine ev_iconstZ dX3_displacement_1 ?_
  refine mx_putI hM dX3_displacement_2 gf_X3_111_X3 rfl (fun h hM => ?_)
  refine ev_iload_n dX3_displacement_5 rfl ?_
  refine ev_callSE dX3_displacement_6 cs_X3_214 ce_X3_isDancer rfl rfl (k_isDancer (d := d - 1) (by omega) (by omega)) (by omega) (Nat.le_of_ble_eq_true rfl) ?_
  refine ev_if_neB (tgt := 18) dX3_displacement_9 (by decide) (fun cc => ?_) (fun cc => ?_)
  · have cx : 0 ≤ x ∧ x ≤ 7 := by simpa using cc
    cases hp : σ.1.2.2.2 with
    | none =>
      refine ev_aload_n dX3_displacement_18 rfl ?_
      refine ev_iconstZ dX3_displacement_19 ?_
      refine mx_callP dX3_displacement_20 cv_X3_305_X3 ce_X3_hasNoPiece hM rfl rfl (k_hasNo0 (code := 2) hM (hT.thrown 0) hO hp (d := d - 1) (by omega)) (by omega) (Nat.le_of_ble_eq_true rfl) (fun v s' h hP hM => ?_)
      obtain ⟨rfl, hP⟩ := hP
      refine ev_if_eqZ (tgt := 30) dX3_displacement_23 (by decide) (by decide) (fun c => absurd c (by decide)) (fun _ => ?_)
      refine ev_iconstZ dX3_displacement_26 ?_
      refine ev_goto (tgt := 40) dX3_displacement_27 (by decide) ?_
      refine ev_ireturn dX3_displacement_40 rfl ?_
      refine ⟨_, _, rfl, ?_, hM⟩
      unfold opDisp
      rw [if_pos cx, withP_none hp]
      exact ⟨hP.1, hP.2, rfl⟩
    | some l =>
      refine ev_aload_n dX3_displacement_18 rfl ?_
      refine ev_iconstZ dX3_displacement_19 ?_
      refine mx_callP dX3_displacement_20 cv_X3_305_X3 ce_X3_hasNoPiece hM rfl rfl (k_hasNo1 (code := 2) hM (hT.thrown 0) hO hp (d := d - 1) (by omega)) (by omega) (Nat.le_of_ble_eq_true rfl) (fun v s' h hP hM => ?_)
      obtain ⟨rfl, hz, hT1, g14, hk1, hf1⟩ := hP
      obtain ⟨k15, kpt, kok⟩ := hk1.ok
      have k17 := kpt.1
      have k18 := kpt.2.1
      have k19 := kpt.2.2.1
      have k20 := kpt.2.2.2.1
      obtain ⟨b1, b2, b3⟩ := dn_some hT1.1 hp
      obtain ⟨hok, hsm⟩ := hO.1.2.2.2.2.2.2 l hp
      have hdb : (mean l).1.2.2.1 ≤ 81 := kok.2.2.1
      have hsb := kok.1
      have hub := kok.2.1
      have hcb := kok.2.2.2.1
      refine ev_if_eqZ (tgt := 30) dX3_displacement_23 (by decide) (by decide) (fun _ => ?_) (fun c => absurd c (by decide))
      refine ev_aload_n dX3_displacement_30 rfl ?_
      refine ev_iload_n dX3_displacement_31 rfl ?_
      refine ev_to (b := ((x.toNat : Nat) : Int)) (by omega) ?_
      refine ev_aload_n dX3_displacement_32 rfl ?_
      refine mx_getI hM dX3_displacement_33 gf_X3_141_X3 rfl ?_
      try simp only [uS_1, uA_1, uF_1, uS_2, uA_2a, uF_2a, Nat.reduceEqDiff, reduceIte, Int.reduceToNat, Int.toNat_natCast]
      rw [k17]
      refine ev_iload_n dX3_displacement_36 rfl ?_
      refine mx_call dX3_displacement_37 cv_X3_332_X3 ce_X3_moved hM rfl rfl (k_moved (P := mean l) (e := x.toNat) (n := (mean l).1.1) (row := row) hM hk1 (by omega) (by omega) (d := d - 1) (by omega)) (by omega) (Nat.le_of_ble_eq_true rfl) (fun h hM => ?_)
      refine ev_ireturn dX3_displacement_40 rfl ?_
      refine ⟨_, _, rfl, ?_, hM⟩
      unfold opDisp
      rw [if_pos cx, withP_some hp]
      exact ⟨hz, hT1, rfl⟩
  · refine ev_aload_n dX3_displacement_12 rfl ?_
    refine ev_iconstZ dX3_displacement_13 ?_
    refine mx_call dX3_displacement_14 cv_X3_117_X3 ce_X3_fails hM rfl rfl (k_fails (d := d - 1) (by omega) hM) (by omega) (Nat.le_of_ble_eq_true rfl) (fun h hM => ?_)
    refine ev_ireturn dX3_displacement_17 rfl ?_
    refine ⟨_, _, rfl, ?_, hM⟩
    unfold opDisp
    rw [if_neg (by simp at cc; omega)]
    exact ⟨rfl, hT, rfl⟩
set_option maxRecDepth 100000 in
set_option maxHeartbeats 4000000 in
theorem k_position {x k : Int} {row : Bool} {σ : Sp} (hM : MX g ad o h0 s h) (hT : TI s σ) (hO : spOk σ) (hr : inR x ∧ inR k) (hd : 9 ≤ d) : Kc g mX3_position d 0 0 [.ref o, vz x, vz k, vz (bI row)] h (mP g ad o h0 (mRs (opPos σ x k row))) := by
  refine Kc.of (ls := [some (.ref o), some (vz x), some (vz k), some (vz (bI row))]) (by decide +kernel) (Nat.le_of_ble_eq_true rfl) rfl ?_
  refine ev_aload_n dX3_position_0 rfl ?_
  refine ev_iconstZ dX3_position_1 ?_
  refine mx_putI hM dX3_position_2 gf_X3_111_X3 rfl (fun h hM => ?_)
  refine ev_iload_n dX3_position_5 rfl ?_
  refine ev_callSE dX3_position_6 cs_X3_214 ce_X3_isDancer rfl rfl (k_isDancer (d := d - 1) (by omega) (by omega)) (by omega) (Nat.le_of_ble_eq_true rfl) ?_
  refine ev_if_neB (tgt := 18) dX3_position_9 (by decide) (fun cc => ?_) (fun cc => ?_)
  · have cx : 0 ≤ x ∧ x ≤ 7 := by simpa using cc
    cases hp : σ.1.2.2.2 with
    | none =>
      refine ev_aload_n dX3_position_18 rfl ?_
      refine ev_iconstZ dX3_position_19 ?_
      refine mx_callP dX3_position_20 cv_X3_305_X3 ce_X3_hasNoPiece hM rfl rfl (k_hasNo0 (code := 2) hM (hT.thrown 0) hO hp (d := d - 1) (by omega)) (by omega) (Nat.le_of_ble_eq_true rfl) (fun v s' h hP hM => ?_)
      obtain ⟨rfl, hP⟩ := hP
      refine ev_if_eqZ (tgt := 28) dX3_position_23 (by decide) (by decide) (fun c => absurd c (by decide)) (fun _ => ?_)
      refine ev_iconstZ dX3_position_26 ?_
      refine ev_ireturn dX3_position_27 rfl ?_
      refine ⟨_, _, rfl, ?_, hM⟩
      unfold opPos
      rw [if_pos cx, withP_none hp]
      exact ⟨hP.1, hP.2, rfl⟩
    | some l =>
      refine ev_aload_n dX3_position_18 rfl ?_
      refine ev_iconstZ dX3_position_19 ?_
      refine mx_callP dX3_position_20 cv_X3_305_X3 ce_X3_hasNoPiece hM rfl rfl (k_hasNo1 (code := 2) hM (hT.thrown 0) hO hp (d := d - 1) (by omega)) (by omega) (Nat.le_of_ble_eq_true rfl) (fun v s' h hP hM => ?_)
      obtain ⟨rfl, hz, hT1, g14, hk1, hf1⟩ := hP
      obtain ⟨k15, kpt, kok⟩ := hk1.ok
      have k17 := kpt.1
      have k18 := kpt.2.1
      have k19 := kpt.2.2.1
      have k20 := kpt.2.2.2.1
      obtain ⟨b1, b2, b3⟩ := dn_some hT1.1 hp
      obtain ⟨hok, hsm⟩ := hO.1.2.2.2.2.2.2 l hp
      have hdb : (mean l).1.2.2.1 ≤ 81 := kok.2.2.1
      have hsb := kok.1
      have hub := kok.2.1
      have hcb := kok.2.2.2.1
      refine ev_if_eqZ (tgt := 28) dX3_position_23 (by decide) (by decide) (fun _ => ?_) (fun c => absurd c (by decide))
      refine ev_iload_n dX3_position_28 rfl ?_
      refine ev_iconstZ dX3_position_29 ?_
      refine ev_aload_n dX3_position_30 rfl ?_
      refine mx_getI hM dX3_position_31 gf_X3_141_X3 rfl ?_
      try simp only [uS_1, uA_1, uF_1, uS_2, uA_2a, uF_2a, Nat.reduceEqDiff, reduceIte, Int.reduceToNat, Int.toNat_natCast]
      rw [k17]
      refine ev_callSE dX3_position_34 cs_X3_121 ce_X3_in rfl rfl (k_in (d := d - 1) (by omega) (by omega)) (by omega) (Nat.le_of_ble_eq_true rfl) ?_
      refine ev_if_eqB (tgt := 48) dX3_position_37 (by decide) (fun c37 => ?_) (fun c37 => ?_)
      · refine ev_aload_n dX3_position_48 rfl ?_
        refine ev_iconstZ dX3_position_49 ?_
        refine mx_call dX3_position_50 cv_X3_117_X3 ce_X3_fails hM rfl rfl (k_fails (d := d - 1) (by omega) hM) (by omega) (Nat.le_of_ble_eq_true rfl) (fun h hM => ?_)
        refine ev_ireturn dX3_position_53 rfl ?_
        refine ⟨_, _, rfl, ?_, hM⟩
        unfold opPos
        rw [if_pos cx, withP_some hp]
        rw [if_neg (by first | (simp at c37; omega) | (simp [tkB] at c45; exact fun q => q.2 c45))]
        exact ⟨rfl, hT1, rfl⟩
      · refine ev_aload_n dX3_position_40 rfl ?_
        refine ev_iload_n dX3_position_41 rfl ?_
        refine ev_to (b := ((x.toNat : Nat) : Int)) (by omega) ?_
        refine mx_call dX3_position_42 cv_X3_336_X3 ce_X3_takesPart hM rfl rfl (k_takesPart (D := σ.1) (e := x.toNat) (d := d - 1) hM hT1.1 hO.1 (by omega) (by omega)) (by omega) (Nat.le_of_ble_eq_true rfl) (fun h hM => ?_)
        refine ev_if_neB (tgt := 54) dX3_position_45 (by decide) (fun c45 => ?_) (fun c45 => ?_)
        · refine ev_iload_n dX3_position_54 rfl ?_
          refine ev_if_eqB (tgt := 67) dX3_position_55 (by decide) (fun c55 => ?_) (fun c55 => ?_)
          · refine ev_aload_n dX3_position_67 rfl ?_
            refine ev_iload_n dX3_position_68 rfl ?_
            refine ev_to (b := ((x.toNat : Nat) : Int)) (by omega) ?_
            refine ev_iload_n dX3_position_69 rfl ?_
            have cc2 : 0 ≤ k ∧ k ≤ (mean l).1.1 := by simpa using c37
            refine ev_to (b := ((k.toNat : Nat) : Int)) (by omega) ?_
            refine mx_call dX3_position_70 cv_X3_342_X3 ce_X3_column hM rfl rfl (k_column (D := σ.1) (P := mean l) (e := x.toNat) (n := k.toNat) hM hT1.1 hO.1 hk1 (by omega) (by omega) (by simpa [tkB] using c45) (d := d - 1) (by omega)) (by omega) (Nat.le_of_ble_eq_true rfl) (fun h hM => ?_)
            refine ev_ireturn dX3_position_73 rfl ?_
            refine ⟨_, _, rfl, ?_, hM⟩
            unfold opPos
            rw [if_pos cx, withP_some hp]
            subst c55
            rw [if_pos ⟨cc2, by simpa [tkB] using c45⟩]
            exact ⟨hz, hT1, rfl⟩
          · refine ev_aload_n dX3_position_58 rfl ?_
            refine ev_iload_n dX3_position_59 rfl ?_
            refine ev_to (b := ((x.toNat : Nat) : Int)) (by omega) ?_
            refine ev_iload_n dX3_position_60 rfl ?_
            have cc2 : 0 ≤ k ∧ k ≤ (mean l).1.1 := by simpa using c37
            refine ev_to (b := ((k.toNat : Nat) : Int)) (by omega) ?_
            refine mx_call dX3_position_61 cv_X3_339_X3 ce_X3_row hM rfl rfl (k_row (D := σ.1) (P := mean l) (e := x.toNat) (n := k.toNat) hM hT1.1 hO.1 hk1 (by omega) (by omega) (by simpa [tkB] using c45) (d := d - 1) (by omega)) (by omega) (Nat.le_of_ble_eq_true rfl) (fun h hM => ?_)
            refine ev_goto (tgt := 73) dX3_position_64 (by decide) ?_
            refine ev_ireturn dX3_position_73 rfl ?_
            refine ⟨_, _, rfl, ?_, hM⟩
            unfold opPos
            rw [if_pos cx, withP_some hp]
            subst c55
            rw [if_pos ⟨cc2, by simpa [tkB] using c45⟩]
            exact ⟨hz, hT1, rfl⟩
        · refine ev_aload_n dX3_position_48 rfl ?_
          refine ev_iconstZ dX3_position_49 ?_
          refine mx_call dX3_position_50 cv_X3_117_X3 ce_X3_fails hM rfl rfl (k_fails (d := d - 1) (by omega) hM) (by omega) (Nat.le_of_ble_eq_true rfl) (fun h hM => ?_)
          refine ev_ireturn dX3_position_53 rfl ?_
          refine ⟨_, _, rfl, ?_, hM⟩
          unfold opPos
          rw [if_pos cx, withP_some hp]
          rw [if_neg (by first | (simp at c37; omega) | (simp [tkB] at c45; exact fun q => q.2 c45))]
          exact ⟨rfl, hT1, rfl⟩
  · refine ev_aload_n dX3_position_12 rfl ?_
    refine ev_iconstZ dX3_position_13 ?_
    refine mx_call dX3_position_14 cv_X3_117_X3 ce_X3_fails hM rfl rfl (k_fails (d := d - 1) (by omega) hM) (by omega) (Nat.le_of_ble_eq_true rfl) (fun h hM => ?_)
    refine ev_ireturn dX3_position_17 rfl ?_
    refine ⟨_, _, rfl, ?_, hM⟩
    unfold opPos
    rw [if_neg (by simp at cc; omega)]
    exact ⟨rfl, hT, rfl⟩
def opCue (σ : Sp) (i : Int) : Rs := withP σ 1 (fun l => if i = -1 then (0, ((mean l).1.2.2.2 : Nat), σ) else if 0 ≤ i ∧ i ≤ (mean l).1.2.2.2 - 1 then (0, (cueF (mean l).2.2 100 0 i.toNat : Nat), σ) else (2, 0, σ))
theorem cueF_lt {c : Nat → Nat} {f k left : Nat} (h : ¬ c k ≤ left) : cueF c (f + 1) k left = k := by show (if _ then _ else _) = _; rw [if_neg h]
theorem cueF_ge {c : Nat → Nat} {f k left : Nat} (h : c k ≤ left) : cueF c (f + 1) k left = cueF c f (k + 1) (left - c k) := by show (if _ then _ else _) = _; rw [if_pos h]
theorem sumN_le (f : Nat → Nat) {k n : Nat} (h : k < n) : f k ≤ sumN f n := by
  induction n with
  | zero => omega
  | succ n ih =>
    show f k ≤ sumN f n + f n
    by_cases c : k = n
    · subst c; omega
    · have := ih (by omega); omega
set_option maxRecDepth 100000 in
set_option maxHeartbeats 4000000 in
theorem k_cue {i : Int} {σ : Sp} (hM : MX g ad o h0 s h) (hT : TI s σ) (hO : spOk σ) (hr : inR i) (hd : 9 ≤ d) : Kc g mX3_cue d 0 0 [.ref o, vz i] h (mP g ad o h0 (mRs (opCue σ i))) := by
  refine Kc.of (ls := [some (.ref o), some (vz i), none, none]) (by decide +kernel) (Nat.le_of_ble_eq_true rfl) rfl ?_
  cases hp : σ.1.2.2.2 with
  | none =>
    refine ev_aload_n dX3_cue_0 rfl ?_
    refine ev_iconstZ dX3_cue_1 ?_
    refine mx_callP dX3_cue_2 cv_X3_305_X3 ce_X3_hasNoPiece hM rfl rfl (k_hasNo0 (code := 1) hM hT hO hp (d := d - 1) (by omega)) (by omega) (Nat.le_of_ble_eq_true rfl) (fun v s' h hP hM => ?_)
    obtain ⟨rfl, hP⟩ := hP
    refine ev_if_eqZ (tgt := 10) dX3_cue_5 (by decide) (by decide) (fun c => absurd c (by decide)) (fun _ => ?_)
    refine ev_iconstZ dX3_cue_8 ?_
    refine ev_ireturn dX3_cue_9 rfl ?_
    refine ⟨_, _, rfl, ?_, hM⟩
    unfold opCue
    rw [withP_none hp]
    exact ⟨hP.1, hP.2, rfl⟩
  | some l =>
    refine ev_aload_n dX3_cue_0 rfl ?_
    refine ev_iconstZ dX3_cue_1 ?_
    refine mx_callP dX3_cue_2 cv_X3_305_X3 ce_X3_hasNoPiece hM rfl rfl (k_hasNo1 (code := 1) hM hT hO hp (d := d - 1) (by omega)) (by omega) (Nat.le_of_ble_eq_true rfl) (fun v s' h hP hM => ?_)
    obtain ⟨rfl, hz, hT1, g14, hk1, hf1⟩ := hP
    obtain ⟨k15, kpt, kok⟩ := hk1.ok
    have k17 := kpt.1
    have k18 := kpt.2.1
    have k19 := kpt.2.2.1
    have k20 := kpt.2.2.2.1
    obtain ⟨b1, b2, b3⟩ := dn_some hT1.1 hp
    obtain ⟨hok, hsm⟩ := hO.1.2.2.2.2.2.2 l hp
    have hdb : (mean l).1.2.2.1 ≤ 81 := kok.2.2.1
    have hsb := kok.1
    have hub := kok.2.1
    have hcb := kok.2.2.2.1
    have hnr := nr_mean hok hsm
    refine ev_if_eqZ (tgt := 10) dX3_cue_5 (by decide) (by decide) (fun _ => ?_) (fun c => absurd c (by decide))
    refine ev_iload_n dX3_cue_10 rfl ?_
    refine ev_iconstZ dX3_cue_11 ?_
    refine ev_icmp_neZ (tgt := 20) dX3_cue_12 (by decide) (by omega) (by omega) (fun c12 => ?_) (fun c12 => ?_)
    · refine ev_iload_n dX3_cue_20 rfl ?_
      refine ev_iconstZ dX3_cue_21 ?_
      refine ev_aload_n dX3_cue_22 rfl ?_
      refine mx_getI hM dX3_cue_23 gf_X3_150_X3 rfl ?_
      try simp only [uS_1, uA_1, uF_1, uS_2, uA_2a, uF_2a, Nat.reduceEqDiff, reduceIte, Int.reduceToNat, Int.toNat_natCast]
      rw [k20]
      refine ev_iconstZ dX3_cue_26 ?_
      refine ev_isubZ dX3_cue_27 ?_
      refine ev_callSE dX3_cue_28 cs_X3_121 ce_X3_in rfl rfl (k_in (d := d - 1) (by omega) (by omega)) (by omega) (Nat.le_of_ble_eq_true rfl) ?_
      refine ev_if_neB (tgt := 40) dX3_cue_31 (by decide) (fun c31 => ?_) (fun c31 => ?_)
      · refine ev_iconstZ dX3_cue_40 ?_
        refine ev_istore_n dX3_cue_41 (by decide) rfl ?_
        dsimp only [List.set]
        refine ev_iload_n dX3_cue_42 rfl ?_
        have cc3 : 0 ≤ i ∧ i ≤ (mean l).1.2.2.2 - 1 := by simpa using c31
        refine ev_to (b := ((i.toNat : Nat) : Int)) (by omega) ?_
        refine ev_istore_n dX3_cue_43 (by decide) rfl ?_
        dsimp only [List.set]
        refine ev_while (fun x : Nat × Nat => 100 - x.1) (fun x h => MX g ad o h0 s' h ∧ x.1 ≤ (mean l).1.1 ∧ sumN (mean l).2.2 x.1 + x.2 = i.toNat ∧ cueF (mean l).2.2 (100 - x.1) x.1 x.2 = cueF (mean l).2.2 100 0 i.toNat) (fun x => [some (.ref o), some (vz i), some (vz (x.1 : Int)), some (vz (x.2 : Int))]) (0, i.toNat) ⟨hM, Nat.zero_le _, by simp [sumN], rfl⟩ (by repeat' first | exact rfl | exact trivial | exact vz_eq (by omega) | refine And.intro ?_ ?_) (fun x h hX hN => ?_)
        · clear hM
          obtain ⟨hM, i1, i2, i3⟩ := hX
          have hk2 := hk1.cu (show x.1 < 100 by omega)
          have hs2 : sumN (mean l).2.2 (x.1 + 1) = sumN (mean l).2.2 x.1 + (mean l).2.2 x.1 := rfl
          have hxs : x.1 = (mean l).1.1 → sumN (mean l).2.2 (x.1 + 1) = (mean l).1.2.2.2 := fun q => by rw [q]; exact hnr.1.2
          have hcb2 : (mean l).2.2 x.1 ≤ 100000 := by have := hk1.ok.2.2; by_cases q : (mean l).2.2 x.1 ≤ 100000; exact q; exfalso; have := sumN_le (mean l).2.2 (show x.1 < (mean l).1.1 + 1 by omega); have := hnr.1.2; omega
          refine ev_iload_n dX3_cue_44 rfl ?_
          refine ev_aload_n dX3_cue_45 rfl ?_
          refine mx_getA hM dX3_cue_46 gf_X3_39_X3 rfl ?_
          refine ev_iload_n dX3_cue_49 rfl ?_
          refine mx_iald hM rfl dX3_cue_50 (by omega) ?_
          try simp only [uS_1, uA_1, uF_1, uS_2, uA_2a, uF_2a, Nat.reduceEqDiff, reduceIte, Int.reduceToNat, Int.toNat_natCast]
          rw [hk2]
          refine ev_icmp_ltZ (tgt := 69) dX3_cue_51 (by decide) (by omega) (by omega) (fun c51 => ?_) (fun c51 => ?_)
          · refine ev_iload_n dX3_cue_69 rfl ?_
            refine ev_ireturn dX3_cue_70 rfl ?_
            refine ⟨_, _, rfl, ?_, hM⟩
            unfold opCue
            rw [withP_some hp, if_neg c12, if_pos cc3]
            refine ⟨hz, hT1, ?_⟩
            rw [← i3, show 100 - x.1 = (99 - x.1) + 1 by omega, cueF_lt (by omega)]
          · have hge : (mean l).2.2 x.1 ≤ x.2 := by omega
            refine ev_iload_n dX3_cue_54 rfl ?_
            refine ev_aload_n dX3_cue_55 rfl ?_
            refine mx_getA hM dX3_cue_56 gf_X3_39_X3 rfl ?_
            refine ev_iload_n dX3_cue_59 rfl ?_
            refine mx_iald hM rfl dX3_cue_60 (by omega) ?_
            try simp only [uS_1, uA_1, uF_1, uS_2, uA_2a, uF_2a, Nat.reduceEqDiff, reduceIte, Int.reduceToNat, Int.toNat_natCast]
            rw [hk2]
            refine ev_isubZ dX3_cue_61 ?_
            refine ev_to (b := ((x.2 - (mean l).2.2 x.1 : Nat) : Int)) (by omega) ?_
            refine ev_istore_n dX3_cue_62 (by decide) rfl ?_
            dsimp only [List.set]
            refine ev_iincZ dX3_cue_63 rfl (by decide) rfl ?_
            dsimp only [List.set]
            refine ev_goto (tgt := 44) dX3_cue_66 (by decide) ?_
            have hlt : x.1 < (mean l).1.1 := by rcases Nat.lt_or_ge x.1 (mean l).1.1 with q | q; exact q; exfalso; have := hxs (by omega); omega
            exact hN (x.1 + 1, x.2 - (mean l).2.2 x.1) _ _ (by show 100 - (x.1 + 1) < 100 - x.1; omega) ⟨rfl, rfl, rfl, rfl, trivial⟩ ⟨hM, by show x.1 + 1 ≤ _; omega, by show sumN (mean l).2.2 (x.1 + 1) + (x.2 - (mean l).2.2 x.1) = _; omega, by rw [← i3]; show cueF _ (100 - (x.1 + 1)) _ _ = _; rw [show 100 - x.1 = (100 - (x.1 + 1)) + 1 by omega, cueF_ge hge]⟩
      · refine ev_aload_n dX3_cue_34 rfl ?_
        refine ev_iconstZ dX3_cue_35 ?_
        refine mx_call dX3_cue_36 cv_X3_117_X3 ce_X3_fails hM rfl rfl (k_fails (d := d - 1) (by omega) hM) (by omega) (Nat.le_of_ble_eq_true rfl) (fun h hM => ?_)
        refine ev_ireturn dX3_cue_39 rfl ?_
        refine ⟨_, _, rfl, ?_, hM⟩
        unfold opCue
        rw [withP_some hp]
        rw [if_neg c12, if_neg (by simp at c31; omega)]
        exact ⟨rfl, hT1, rfl⟩
    · refine ev_aload_n dX3_cue_15 rfl ?_
      refine mx_getI hM dX3_cue_16 gf_X3_150_X3 rfl ?_
      try simp only [uS_1, uA_1, uF_1, uS_2, uA_2a, uF_2a, Nat.reduceEqDiff, reduceIte, Int.reduceToNat, Int.toNat_natCast]
      rw [k20]
      refine ev_ireturn dX3_cue_19 rfl ?_
      refine ⟨_, _, rfl, ?_, hM⟩
      unfold opCue
      rw [withP_some hp]
      rw [if_pos c12]
      exact ⟨hz, hT1, rfl⟩
end P7

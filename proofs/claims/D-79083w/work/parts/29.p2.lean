/-! the reference: calls (printed by gen) -/
section P2
variable {g : GB} {M : MI} {d c k : Nat} {Q : RS → HM → Prop} {pc : Nat} {ls : List (Option Value)} {st : List Value} {h : HM} {a b : Int} {ad : Nat → Nat} {o : Nat} {h0 : HM} {s : MSt}
theorem tk_t {f : Nat → Int} {x p : Int} {i : Nat} (h : takB f x p i = true ∨ ((i : Int) ≠ x ∧ p ≠ -1 ∧ f i = p)) : takB f x p (i + 1) = true := by
  unfold takB
  rcases h with h | ⟨a, b, c⟩
  · rw [h]; rfl
  · simp [a, b, c]
theorem tk_f {f : Nat → Int} {x p : Int} {i : Nat} (h : takB f x p i = false) (h2 : ¬ ((i : Int) ≠ x ∧ p ≠ -1 ∧ f i = p)) : takB f x p (i + 1) = false := by
  unfold takB
  rw [h]
  simp only [Bool.false_or, Bool.and_eq_false_iff, decide_eq_false_iff_not]
  by_cases a : (i : Int) ≠ x
  · by_cases b : p ≠ -1
    · exact Or.inr (Or.inr (fun c => h2 ⟨a, b, c⟩))
    · exact Or.inr (Or.inl b)
  · exact Or.inl a
set_option maxRecDepth 100000 in
set_option maxHeartbeats 4000000 in
theorem k_isTaken {p0 : Nat} {f : Nat → Int} {x p : Int} (hM : MX g ad o h0 s h) (hp0 : p0 ≤ 100) (hf : ∀ e : Nat, e < 8 → s.2 1 (p0 + e) = f e) (hb : ∀ e : Nat, e < 8 → -1 ≤ f e ∧ f e < 100) (hx : inR x ∧ inR p) (hd : 1 ≤ d) : Kc g mX3_isTaken d 0 0 [.ref o, vz (p0 : Int), vz x, vz p] h (mR g ad o h0 (some (vz (bI (takB f x p 8)))) s) := by
  refine Kc.of (ls := [some (.ref o), some (vz (p0 : Int)), some (vz x), some (vz p), none, none]) (by decide +kernel) (Nat.le_of_ble_eq_true rfl) rfl ?_
  refine ev_iconstZ dX3_isTaken_0 ?_
  refine ev_istore dX3_isTaken_1 (by decide) rfl ?_
  dsimp only [List.set]
  refine ev_iconstZ dX3_isTaken_3 ?_
  refine ev_istore dX3_isTaken_4 (by decide) rfl ?_
  dsimp only [List.set]
  refine ev_for 8 (fun i h => MX g ad o h0 s h) (fun i => [some (.ref o), some (vz (p0 : Int)), some (vz x), some (vz p), some (vz (bI (takB f x p i))), some (vz (i : Int))]) 0 (by omega) hM (by repeat' first | exact rfl | exact trivial | exact vz_eq (by omega) | refine And.intro ?_ ?_) (fun i h hi1 hi2 hX hN => ?_) (fun h hX => ?_)
  · clear hM
    have hM : MX g ad o h0 s h := hX
    refine ev_iload dX3_isTaken_6 rfl ?_
    refine ev_bipushZ dX3_isTaken_8 rfl ?_
    refine ev_icmp_geZ (tgt := 55) dX3_isTaken_10 (by decide) (by omega) (by omega) (fun c => absurd c (by omega)) (fun _ => ?_)
    refine ev_iload dX3_isTaken_13 rfl ?_
    refine ev_if_neB (tgt := 42) dX3_isTaken_15 (by decide) (fun c15 => ?_) (fun c15 => ?_)
    · refine ev_iconstZ dX3_isTaken_42 ?_
      refine ev_goto (tgt := 47) dX3_isTaken_43 (by decide) ?_
      refine ev_istore dX3_isTaken_47 (by decide) rfl ?_
      dsimp only [List.set]
      refine ev_iincZ dX3_isTaken_49 rfl (by decide) rfl ?_
      dsimp only [List.set]
      refine ev_goto (tgt := 6) dX3_isTaken_52 (by decide) ?_
      first
        | exact hN _ _ (by rw [tk_t (Or.inl c15)]; exact ⟨rfl, rfl, rfl, rfl, rfl, rfl, trivial⟩) hM
        | exact hN _ _ (by rw [tk_t (Or.inr ⟨by omega, by omega, by omega⟩)]; exact ⟨rfl, rfl, rfl, rfl, rfl, rfl, trivial⟩) hM
        | exact hN _ _ (by rw [tk_f c15 (by omega)]; exact ⟨rfl, rfl, rfl, rfl, rfl, rfl, trivial⟩) hM
    · refine ev_iload dX3_isTaken_18 rfl ?_
      refine ev_iload_n dX3_isTaken_20 rfl ?_
      refine ev_icmp_eqZ (tgt := 46) dX3_isTaken_21 (by decide) (by omega) (by omega) (fun c21 => ?_) (fun c21 => ?_)
      · refine ev_iconstZ dX3_isTaken_46 ?_
        refine ev_istore dX3_isTaken_47 (by decide) rfl ?_
        dsimp only [List.set]
        refine ev_iincZ dX3_isTaken_49 rfl (by decide) rfl ?_
        dsimp only [List.set]
        refine ev_goto (tgt := 6) dX3_isTaken_52 (by decide) ?_
        first
          | exact hN _ _ (by rw [tk_t (Or.inl c15)]; exact ⟨rfl, rfl, rfl, rfl, rfl, rfl, trivial⟩) hM
          | exact hN _ _ (by rw [tk_t (Or.inr ⟨by omega, by omega, by omega⟩)]; exact ⟨rfl, rfl, rfl, rfl, rfl, rfl, trivial⟩) hM
          | exact hN _ _ (by rw [tk_f c15 (by omega)]; exact ⟨rfl, rfl, rfl, rfl, rfl, rfl, trivial⟩) hM
      · refine ev_iload_n dX3_isTaken_24 rfl ?_
        refine ev_iconstZ dX3_isTaken_25 ?_
        refine ev_icmp_eqZ (tgt := 46) dX3_isTaken_26 (by decide) (by omega) (by omega) (fun c26 => ?_) (fun c26 => ?_)
        · refine ev_iconstZ dX3_isTaken_46 ?_
          refine ev_istore dX3_isTaken_47 (by decide) rfl ?_
          dsimp only [List.set]
          refine ev_iincZ dX3_isTaken_49 rfl (by decide) rfl ?_
          dsimp only [List.set]
          refine ev_goto (tgt := 6) dX3_isTaken_52 (by decide) ?_
          first
            | exact hN _ _ (by rw [tk_t (Or.inl c15)]; exact ⟨rfl, rfl, rfl, rfl, rfl, rfl, trivial⟩) hM
            | exact hN _ _ (by rw [tk_t (Or.inr ⟨by omega, by omega, by omega⟩)]; exact ⟨rfl, rfl, rfl, rfl, rfl, rfl, trivial⟩) hM
            | exact hN _ _ (by rw [tk_f c15 (by omega)]; exact ⟨rfl, rfl, rfl, rfl, rfl, rfl, trivial⟩) hM
        · refine ev_aload_n dX3_isTaken_29 rfl ?_
          refine mx_getA hM dX3_isTaken_30 gf_X3_7_X3 rfl ?_
          refine ev_iload_n dX3_isTaken_33 rfl ?_
          refine ev_iload dX3_isTaken_34 rfl ?_
          refine ev_iaddZ dX3_isTaken_36 ?_
          refine ev_to (b := ((p0 + i : Nat) : Int)) (by omega) ?_
          refine mx_iald hM rfl dX3_isTaken_37 (by omega) ?_
          try simp only [uS_1, uA_1, uF_1, uS_2, uA_2a, uF_2a, Nat.reduceEqDiff, reduceIte, Int.reduceToNat, Int.toNat_natCast]
          rw [hf i hi2]
          have hbi := hb i hi2
          refine ev_iload_n dX3_isTaken_38 rfl ?_
          refine ev_icmp_neZ (tgt := 46) dX3_isTaken_39 (by decide) (by omega) (by omega) (fun c39 => ?_) (fun c39 => ?_)
          · refine ev_iconstZ dX3_isTaken_46 ?_
            refine ev_istore dX3_isTaken_47 (by decide) rfl ?_
            dsimp only [List.set]
            refine ev_iincZ dX3_isTaken_49 rfl (by decide) rfl ?_
            dsimp only [List.set]
            refine ev_goto (tgt := 6) dX3_isTaken_52 (by decide) ?_
            first
              | exact hN _ _ (by rw [tk_t (Or.inl c15)]; exact ⟨rfl, rfl, rfl, rfl, rfl, rfl, trivial⟩) hM
              | exact hN _ _ (by rw [tk_t (Or.inr ⟨by omega, by omega, by omega⟩)]; exact ⟨rfl, rfl, rfl, rfl, rfl, rfl, trivial⟩) hM
              | exact hN _ _ (by rw [tk_f c15 (by omega)]; exact ⟨rfl, rfl, rfl, rfl, rfl, rfl, trivial⟩) hM
          · refine ev_iconstZ dX3_isTaken_42 ?_
            refine ev_goto (tgt := 47) dX3_isTaken_43 (by decide) ?_
            refine ev_istore dX3_isTaken_47 (by decide) rfl ?_
            dsimp only [List.set]
            refine ev_iincZ dX3_isTaken_49 rfl (by decide) rfl ?_
            dsimp only [List.set]
            refine ev_goto (tgt := 6) dX3_isTaken_52 (by decide) ?_
            first
              | exact hN _ _ (by rw [tk_t (Or.inl c15)]; exact ⟨rfl, rfl, rfl, rfl, rfl, rfl, trivial⟩) hM
              | exact hN _ _ (by rw [tk_t (Or.inr ⟨by omega, by omega, by omega⟩)]; exact ⟨rfl, rfl, rfl, rfl, rfl, rfl, trivial⟩) hM
              | exact hN _ _ (by rw [tk_f c15 (by omega)]; exact ⟨rfl, rfl, rfl, rfl, rfl, rfl, trivial⟩) hM
  · clear hM
    have hM : MX g ad o h0 s h := hX
    refine ev_iload dX3_isTaken_6 rfl ?_
    refine ev_bipushZ dX3_isTaken_8 rfl ?_
    refine ev_icmp_geZ (tgt := 55) dX3_isTaken_10 (by decide) (by omega) (by omega) (fun _ => ?_) (fun c => absurd (by omega) c)
    refine ev_iload dX3_isTaken_55 rfl ?_
    refine ev_zreturn dX3_isTaken_57 rfl (narrow_zb (bI_o _)) ?_
    exact ⟨rfl, hM⟩
theorem knAt.A {s : MSt} {v : Me} {k i : Nat} {x : Int} (h : knAt s v) (hk : ([21, 22].contains k = false)) : knAt (uA s k i x) v := by
  have e21 : (uA s k i x).2 21 = s.2 21 := by rw [uA_2, if_neg (fun q => by subst q; simp at hk)]
  have e22 : (uA s k i x).2 22 = s.2 22 := by rw [uA_2, if_neg (fun q => by subst q; simp at hk)]
  unfold knAt
  cases v with
  | error e' => exact h
  | ok P =>
    have h' : s.1 15 = 0 ∧ ptAt s P ∧ okPt P 0 := h
    refine ⟨h'.1, ?_, h'.2.2⟩
    have q := h'.2.1
    unfold ptAt at q ⊢
    rw [e21, e22]
    exact q
theorem fr.thr {s : MSt} (x : Int) : fr s (uS s 0 x) [0] [] := fr.S (fr.refl _ _ _) rfl
set_option maxRecDepth 100000 in
set_option maxHeartbeats 4000000 in
theorem k_sets {p0 x0 : Nat} {f : Nat → Int} {p : Int} {σ : Sp} {D1 : Dn} (hM : MX g ad o h0 s h) (hT : TI s σ) (h00 : s.1 0 = 0) (hp0 : p0 ≤ 50) (hx0 : x0 < 8) (hf : ∀ e : Nat, e < 8 → s.2 1 (p0 + e) = f e) (hb : ∀ e : Nat, e < 8 → -1 ≤ f e ∧ f e < 100) (hx : inR p) (hD : dnAt (uz (s.2 1) (p0 + x0) p) D1) (hd : 2 ≤ d) : Kc g mX3_sets d 0 0 [.ref o, vz (p0 : Int), vz (x0 : Int), vz p] h (mP g ad o h0 (mRs (if takB f x0 p 8 then (2, 0, σ) else (0, f x0, keepSp σ D1)))) := by
  refine Kc.of (ls := [some (.ref o), some (vz (p0 : Int)), some (vz (x0 : Int)), some (vz p), none]) (by decide +kernel) (Nat.le_of_ble_eq_true rfl) rfl ?_
  refine ev_aload_n dX3_sets_0 rfl ?_
  refine ev_iload_n dX3_sets_1 rfl ?_
  refine ev_iload_n dX3_sets_2 rfl ?_
  refine ev_iload_n dX3_sets_3 rfl ?_
  refine mx_call dX3_sets_4 cv_X3_205_X3 ce_X3_isTaken hM rfl rfl (k_isTaken (p0 := p0) (f := f) (x := (x0 : Int)) (p := p) (d := d - 1) hM (by omega) hf hb ⟨by omega, hx⟩ (by omega)) (by omega) (Nat.le_of_ble_eq_true rfl) (fun h hM => ?_)
  refine ev_if_eqB (tgt := 16) dX3_sets_7 (by decide) (fun c7 => ?_) (fun c7 => ?_)
  · refine ev_aload_n dX3_sets_16 rfl ?_
    refine mx_callv dX3_sets_17 cv_X3_208_X3 ce_X3_frames hM rfl rfl (k_frames (d := d - 1) (by omega) hM) (by omega) (Nat.le_of_ble_eq_true rfl) (fun h hM => ?_)
    refine ev_aload_n dX3_sets_20 rfl ?_
    refine mx_getA hM dX3_sets_21 gf_X3_7_X3 rfl ?_
    refine ev_iload_n dX3_sets_24 rfl ?_
    refine ev_iload_n dX3_sets_25 rfl ?_
    refine ev_iaddZ dX3_sets_26 ?_
    refine ev_to (b := ((p0 + x0 : Nat) : Int)) (by omega) ?_
    refine mx_iald hM rfl dX3_sets_27 (by omega) ?_
    try simp only [uS_1, uA_1, uF_1, uS_2, uA_2a, uF_2a, Nat.reduceEqDiff, reduceIte, Int.reduceToNat, Int.toNat_natCast]
    rw [hf x0 hx0]
    refine ev_istore dX3_sets_28 (by decide) rfl ?_
    dsimp only [List.set]
    refine ev_aload_n dX3_sets_30 rfl ?_
    refine mx_getA hM dX3_sets_31 gf_X3_7_X3 rfl ?_
    refine ev_iload_n dX3_sets_34 rfl ?_
    refine ev_iload_n dX3_sets_35 rfl ?_
    refine ev_iaddZ dX3_sets_36 ?_
    refine ev_to (b := ((p0 + x0 : Nat) : Int)) (by omega) ?_
    refine ev_iload_n dX3_sets_37 rfl ?_
    refine mx_iast hM rfl dX3_sets_38 (by omega) (fun h hM => ?_)
    refine ev_aload_n dX3_sets_39 rfl ?_
    refine mx_callv dX3_sets_40 cv_X3_211_X3 ce_X3_keeps hM rfl rfl (k_keeps (d := d - 1) (by omega) hM (by simp only [uA_1, uF_1]; have := hT.2.1; omega)) (by omega) (Nat.le_of_ble_eq_true rfl) (fun h hM => ?_)
    refine ev_iload dX3_sets_43 rfl ?_
    refine ev_ireturn dX3_sets_45 rfl ?_
    refine ⟨_, _, rfl, ?_, hM⟩
    rw [if_neg (by rw [c7]; decide)]
    refine ⟨h00, TI.keep hT (fr.A (fr.F (fr.refl _ _ _) rfl) rfl) (fun j hj => by simp only [uS_1, uA_1, uF_1, uS_2, uA_2a, uF_2a, Nat.reduceEqDiff, reduceIte, Int.reduceToNat, Int.toNat_natCast]) ?_, rfl⟩
    refine dnAt.congr (fun j hj => ?_) hD
    simp only [uS_1, uA_1, uF_1, uS_2, uA_2a, uF_2a, Nat.reduceEqDiff, reduceIte, Int.reduceToNat, Int.toNat_natCast]
    rfl
  · refine ev_aload_n dX3_sets_10 rfl ?_
    refine ev_iconstZ dX3_sets_11 ?_
    refine mx_call dX3_sets_12 cv_X3_117_X3 ce_X3_fails hM rfl rfl (k_fails (d := d - 1) (by omega) hM) (by omega) (Nat.le_of_ble_eq_true rfl) (fun h hM => ?_)
    refine ev_ireturn dX3_sets_15 rfl ?_
    exact ⟨_, _, rfl, by rw [if_pos c7]; exact ⟨rfl, hT.thrown 2, rfl⟩, hM⟩
set_option maxRecDepth 100000 in
set_option maxHeartbeats 4000000 in
theorem k_stage {c1 r1 : Int} {σ : Sp} (hM : MX g ad o h0 s h) (hT : TI s σ) (hr : inR c1 ∧ inR r1) (hd : 2 ≤ d) : Kc g mX3_stage d 0 0 [.ref o, vz c1, vz r1] h (mP g ad o h0 (mRs (opStage σ c1 r1))) := by
  refine Kc.of (ls := [some (.ref o), some (vz c1), some (vz r1)]) (by decide +kernel) (Nat.le_of_ble_eq_true rfl) rfl ?_
  refine ev_aload_n dX3_stage_0 rfl ?_
  refine ev_iconstZ dX3_stage_1 ?_
  refine mx_putI hM dX3_stage_2 gf_X3_111_X3 rfl (fun h hM => ?_)
  refine ev_iload_n dX3_stage_5 rfl ?_
  refine ev_iconstZ dX3_stage_6 ?_
  refine ev_bipushZ dX3_stage_7 rfl ?_
  refine ev_callSE dX3_stage_9 cs_X3_121 ce_X3_in rfl rfl (k_in (d := d - 1) (by omega) (by omega)) (by omega) (Nat.le_of_ble_eq_true rfl) ?_
  refine ev_if_eqB (tgt := 25) dX3_stage_12 (by decide) (fun c12 => ?_) (fun c12 => ?_)
  · refine ev_aload_n dX3_stage_25 rfl ?_
    refine ev_iconstZ dX3_stage_26 ?_
    refine mx_call dX3_stage_27 cv_X3_117_X3 ce_X3_fails hM rfl rfl (k_fails (d := d - 1) (by omega) hM) (by omega) (Nat.le_of_ble_eq_true rfl) (fun h hM => ?_)
    refine ev_ireturn dX3_stage_30 rfl ?_
    refine ⟨_, _, rfl, ?_, hM⟩
    unfold opStage
    simp at *
    rw [if_neg (by omega)]
    exact ⟨rfl, hT, rfl⟩
  · refine ev_iload_n dX3_stage_15 rfl ?_
    refine ev_iconstZ dX3_stage_16 ?_
    refine ev_bipushZ dX3_stage_17 rfl ?_
    refine ev_callSE dX3_stage_19 cs_X3_121 ce_X3_in rfl rfl (k_in (d := d - 1) (by omega) (by omega)) (by omega) (Nat.le_of_ble_eq_true rfl) ?_
    refine ev_if_neB (tgt := 31) dX3_stage_22 (by decide) (fun c22 => ?_) (fun c22 => ?_)
    · refine ev_aload_n dX3_stage_31 rfl ?_
      refine ev_iload_n dX3_stage_32 rfl ?_
      refine ev_iload_n dX3_stage_33 rfl ?_
      refine mx_callv dX3_stage_34 cv_X3_107_X3 ce_X3_begins hM rfl rfl (k_begins (d := d - 1) (by omega) hM) (by omega) (Nat.le_of_ble_eq_true rfl) (fun h hM => ?_)
      refine ev_iload_n dX3_stage_37 rfl ?_
      refine ev_iload_n dX3_stage_38 rfl ?_
      refine ev_imulZ dX3_stage_39 ?_
      refine ev_ireturn dX3_stage_40 rfl ?_
      refine ⟨_, _, rfl, ?_, hM⟩
      unfold opStage
      simp at c12 c22
      rw [if_pos (by omega)]
      refine ⟨rfl, ⟨⟨?_, ?_, fun e he => ?_, fun f e hf he => ?_, ?_⟩, ⟨rfl, Nat.zero_le _, fun i D hi => by simp at hi⟩, hT.2.2.1, hT.2.2.2.1, hT.2.2.2.2.1, hT.2.2.2.2.2.1, Or.inl rfl, fun q => by cases q⟩, rfl⟩
      · show _ = ((c1.toNat : Nat) : Int); simp only [uS_1, uA_1, uF_1, uS_2, uA_2a, uF_2a, Nat.reduceEqDiff, reduceIte, Int.reduceToNat, Int.toNat_natCast]; unfold begA; simp; omega
      · show _ = ((r1.toNat : Nat) : Int); simp only [uS_1, uA_1, uF_1, uS_2, uA_2a, uF_2a, Nat.reduceEqDiff, reduceIte, Int.reduceToNat, Int.toNat_natCast]; unfold begA; simp; omega
      · simp only [uS_1, uA_1, uF_1, uS_2, uA_2a, uF_2a, Nat.reduceEqDiff, reduceIte, Int.reduceToNat, Int.toNat_natCast]; unfold begA; rw [if_neg (by omega), if_neg (by omega), if_pos (by omega)]
      · simp only [uS_1, uA_1, uF_1, uS_2, uA_2a, uF_2a, Nat.reduceEqDiff, reduceIte, Int.reduceToNat, Int.toNat_natCast]; unfold begA; rw [if_neg (by omega), if_neg (by omega), if_pos (by omega)]
      · show _ = _; simp only [uS_1, uA_1, uF_1, uS_2, uA_2a, uF_2a, Nat.reduceEqDiff, reduceIte, Int.reduceToNat, Int.toNat_natCast]; unfold begA; rfl
    · refine ev_aload_n dX3_stage_25 rfl ?_
      refine ev_iconstZ dX3_stage_26 ?_
      refine mx_call dX3_stage_27 cv_X3_117_X3 ce_X3_fails hM rfl rfl (k_fails (d := d - 1) (by omega) hM) (by omega) (Nat.le_of_ble_eq_true rfl) (fun h hM => ?_)
      refine ev_ireturn dX3_stage_30 rfl ?_
      refine ⟨_, _, rfl, ?_, hM⟩
      unfold opStage
      simp at *
      rw [if_neg (by omega)]
      exact ⟨rfl, hT, rfl⟩
set_option maxRecDepth 100000 in
set_option maxHeartbeats 4000000 in
theorem k_isPlaceD {D : Dn} {p : Int} (hd : 2 ≤ d) (hM : MX g ad o h0 s h) (hD : dnAt (s.2 1) D) (hO : dnOk D) (hr : inR p) : Kc g mX3_isPlace d 0 0 [.ref o, vz p] h (mR g ad o h0 (some (vz (bI (decide (0 ≤ p ∧ p ≤ D.1.1 * D.1.2 - 1))))) s) := by
  have q1 := hO.1; have q2 := hO.2.1; have q3 := hO.2.2.1; have q4 := hO.2.2.2.1
  have e := k_isPlace (v := p) hd hM (by rw [hD.1, hD.2.1]; omega)
  simp only [hD.1, hD.2.1] at e
  exact e
theorem pl_st {σ : Sp} (hO : spOk σ) : ∀ e : Nat, e < 8 → -1 ≤ σ.1.2.1 e ∧ σ.1.2.1 e < 100 := by
  intro e he
  have h := hO.1.2.2.2.2.1.1 e he
  have hcr : (σ.1.1.1 : Int) * σ.1.1.2 ≤ 9 * 9 := Int.mul_le_mul (by have := hO.1.2.1; omega) (by have := hO.1.2.2.2.1; omega) (by omega) (by omega)
  omega
theorem pl_fo {σ : Sp} (hO : spOk σ) {f : Nat} (hf : f < 4) : ∀ e : Nat, e < 8 → -1 ≤ σ.1.2.2.1 f e ∧ σ.1.2.2.1 f e < 100 := by
  intro e he
  have h := (hO.1.2.2.2.2.2.1 f hf).1 e he
  have hcr : (σ.1.1.1 : Int) * σ.1.1.2 ≤ 9 * 9 := Int.mul_le_mul (by have := hO.1.2.1; omega) (by have := hO.1.2.2.2.1; omega) (by omega) (by omega)
  omega
theorem pc_out {A B : Nat → Int} {l : List Nd} (h : ∀ j, 42 ≤ j → B j = A j) (hp : pcAt A l) : pcAt B l := by
  obtain ⟨q2, q3, q4⟩ := hp
  refine ⟨by rw [h _ (by omega), q2], q3, fun i nd hi => ?_⟩
  obtain ⟨h1, h2, h3, h4⟩ := q4 i nd hi
  refine ⟨by rw [h _ (by omega), h1], by rw [h _ (by omega), h2], by rw [h _ (by omega), h3], fun hk => ?_⟩
  obtain ⟨p, p1, p2, p3, p4, p5, p6⟩ := h4 hk
  exact ⟨p, by rw [h _ (by omega), p1], by rw [h _ (by omega), p2], by rw [h _ (by omega), p3], p4, fun i hi => by rw [h _ (by omega), p5 i hi], fun i hi => by rw [h _ (by omega), p6 i hi]⟩
theorem dt_out {A B : Nat → Int} {l : List Nd} (h : ∀ j, 42 ≤ j → B j = A j) (hp : dtAt A l) : dtAt B l := by
  obtain ⟨m, m1, m2, m3, m4⟩ := hp
  refine ⟨m, by rw [h _ (by omega), m1], m2, fun i nd hi hk => ?_, fun i j nd nd' hij hi hj hk hk' => ?_⟩
  · rw [h _ (by omega)]
    exact m3 i nd hi hk
  · rw [h _ (by omega), h _ (by omega)]
    exact m4 i j nd nd' hij hi hj hk hk'
theorem dn_place {A : Nat → Int} {D : Dn} (h : dnAt A D) {x : Nat} (hx : x < 8) (p : Int) : dnAt (uz A (2 + x) p) (D.1, setAt D.2.1 (x : Int) p, D.2.2) := by
  obtain ⟨h1, h2, h3, h4, h5⟩ := h
  have q : ∀ j, j ≠ 2 + x → uz A (2 + x) p j = A j := fun j hj => if_neg hj
  refine ⟨by rw [q _ (by omega)]; exact h1, by rw [q _ (by omega)]; exact h2, fun e he => ?_, fun f e hf he => by rw [q _ (by omega)]; exact h4 f e hf he, ?_⟩
  · show uz A (2 + x) p (2 + e) = if (e : Int) = (x : Int) then p else D.2.1 e
    unfold uz
    by_cases c : e = x
    · rw [if_pos (by omega), if_pos (by omega)]
    · rw [if_neg (by omega), if_neg (by omega), h3 e he]
  · show match D.2.2.2 with
      | none => uz A (2 + x) p 42 = 0
      | some l => uz A (2 + x) p 42 = 1 ∧ pcAt (uz A (2 + x) p) l ∧ dtAt (uz A (2 + x) p) l
    cases hp : D.2.2.2 with
    | none => rw [hp] at h5; exact (q 42 (by omega)).trans h5
    | some l => rw [hp] at h5; exact ⟨(q 42 (by omega)).trans h5.1, pc_out (fun j hj => q j (by omega)) h5.2.1, dt_out (fun j hj => q j (by omega)) h5.2.2⟩
theorem dn_form {A : Nat → Int} {D : Dn} (h : dnAt A D) {f x : Nat} (hf : f < 4) (hx : x < 8) (p : Int) : dnAt (uz A (10 + 8 * f + x) p) (D.1, D.2.1, (fun f' => if f' = f then setAt (D.2.2.1 f') (x : Int) p else D.2.2.1 f'), D.2.2.2) := by
  obtain ⟨h1, h2, h3, h4, h5⟩ := h
  have q : ∀ j, j ≠ 10 + 8 * f + x → uz A (10 + 8 * f + x) p j = A j := fun j hj => if_neg hj
  refine ⟨by rw [q _ (by omega)]; exact h1, by rw [q _ (by omega)]; exact h2, fun e he => by rw [q _ (by omega)]; exact h3 e he, fun f' e hf' he => ?_, ?_⟩
  · show uz A (10 + 8 * f + x) p (10 + 8 * f' + e) = (if f' = f then setAt (D.2.2.1 f') (x : Int) p else D.2.2.1 f') e
    unfold uz setAt
    by_cases c : f' = f
    · rw [if_pos c]
      by_cases c2 : e = x
      · rw [if_pos (by omega), if_pos (by omega)]
      · rw [if_neg (by omega), if_neg (by omega), h4 f' e hf' he]
    · rw [if_neg c, if_neg (by omega), h4 f' e hf' he]
  · show match D.2.2.2 with
      | none => uz A (10 + 8 * f + x) p 42 = 0
      | some l => uz A (10 + 8 * f + x) p 42 = 1 ∧ pcAt (uz A (10 + 8 * f + x) p) l ∧ dtAt (uz A (10 + 8 * f + x) p) l
    cases hp : D.2.2.2 with
    | none => rw [hp] at h5; exact (q 42 (by omega)).trans h5
    | some l => rw [hp] at h5; exact ⟨(q 42 (by omega)).trans h5.1, pc_out (fun j hj => q j (by omega)) h5.2.1, dt_out (fun j hj => q j (by omega)) h5.2.2⟩
set_option maxRecDepth 100000 in
set_option maxHeartbeats 4000000 in
theorem k_place {x p : Int} {σ : Sp} (hM : MX g ad o h0 s h) (hT : TI s σ) (hO : spOk σ) (hr : inR x ∧ inR p) (hd : 3 ≤ d) : Kc g mX3_place d 0 0 [.ref o, vz x, vz p] h (mP g ad o h0 (mRs (opPlace σ x p))) := by
  refine Kc.of (ls := [some (.ref o), some (vz x), some (vz p)]) (by decide +kernel) (Nat.le_of_ble_eq_true rfl) rfl ?_
  refine ev_aload_n dX3_place_0 rfl ?_
  refine ev_iconstZ dX3_place_1 ?_
  refine mx_putI hM dX3_place_2 gf_X3_111_X3 rfl (fun h hM => ?_)
  refine ev_iload_n dX3_place_5 rfl ?_
  refine ev_callSE dX3_place_6 cs_X3_214 ce_X3_isDancer rfl rfl (k_isDancer (d := d - 1) (by omega) (by omega)) (by omega) (Nat.le_of_ble_eq_true rfl) ?_
  refine ev_if_eqB (tgt := 25) dX3_place_9 (by decide) (fun c9 => ?_) (fun c9 => ?_)
  · refine ev_aload_n dX3_place_25 rfl ?_
    refine ev_iconstZ dX3_place_26 ?_
    refine mx_call dX3_place_27 cv_X3_117_X3 ce_X3_fails hM rfl rfl (k_fails (d := d - 1) (by omega) hM) (by omega) (Nat.le_of_ble_eq_true rfl) (fun h hM => ?_)
    refine ev_ireturn dX3_place_30 rfl ?_
    refine ⟨_, _, rfl, ?_, hM⟩
    unfold opPlace
    rw [if_neg]
    · exact ⟨rfl, hT, rfl⟩
    simp at *
    omega
  · refine ev_iload_n dX3_place_12 rfl ?_
    refine ev_iconstZ dX3_place_13 ?_
    refine ev_icmp_eqZ (tgt := 31) dX3_place_14 (by decide) (by omega) (by omega) (fun c14 => ?_) (fun c14 => ?_)
    · refine ev_aload_n dX3_place_31 rfl ?_
      refine ev_iconstZ dX3_place_32 ?_
      refine ev_iload_n dX3_place_33 rfl ?_
      have hx0 : 0 ≤ x ∧ x ≤ 7 := by simpa using c9
      refine ev_to (b := ((x.toNat : Nat) : Int)) (by omega) ?_
      refine ev_iload_n dX3_place_34 rfl ?_
      refine mx_callP dX3_place_35 cv_X3_221_X3 ce_X3_sets hM rfl rfl (k_sets (p0 := 2) (x0 := x.toNat) (f := σ.1.2.1) (p := p) (σ := σ) (D1 := (σ.1.1, setAt σ.1.2.1 (x.toNat : Int) p, σ.1.2.2)) (d := d - 1) hM (hT.thrown 0) rfl (by omega) (by omega) hT.1.2.2.1 (pl_st hO) hr.2 (dn_place hT.1 (by omega) p) (by omega)) (by omega) (Nat.le_of_ble_eq_true rfl) (fun v s' h hP hM => ?_)
      obtain ⟨e1, e2, rfl⟩ := hP
      refine ev_ireturn dX3_place_38 rfl ?_
      refine ⟨_, _, rfl, ?_, hM⟩
      have hxx : ((x.toNat : Nat) : Int) = x := by omega
      have hpp : p = -1 ∨ (0 ≤ p ∧ p ≤ σ.1.1.1 * σ.1.1.2 - 1) := by first | exact Or.inl (by omega) | (right; simpa using c22)
      unfold opPlace
      rw [if_pos ⟨hx0, hpp⟩]
      rw [hxx] at e1 e2
      exact ⟨e1, e2, by rw [hxx]⟩
    · refine ev_aload_n dX3_place_17 rfl ?_
      refine ev_iload_n dX3_place_18 rfl ?_
      refine mx_call dX3_place_19 cv_X3_218_X3 ce_X3_isPlace hM rfl rfl (k_isPlaceD (D := σ.1) (p := p) (d := d - 1) (by omega) hM hT.1 hO.1 hr.2) (by omega) (Nat.le_of_ble_eq_true rfl) (fun h hM => ?_)
      refine ev_if_neB (tgt := 31) dX3_place_22 (by decide) (fun c22 => ?_) (fun c22 => ?_)
      · refine ev_aload_n dX3_place_31 rfl ?_
        refine ev_iconstZ dX3_place_32 ?_
        refine ev_iload_n dX3_place_33 rfl ?_
        have hx0 : 0 ≤ x ∧ x ≤ 7 := by simpa using c9
        refine ev_to (b := ((x.toNat : Nat) : Int)) (by omega) ?_
        refine ev_iload_n dX3_place_34 rfl ?_
        refine mx_callP dX3_place_35 cv_X3_221_X3 ce_X3_sets hM rfl rfl (k_sets (p0 := 2) (x0 := x.toNat) (f := σ.1.2.1) (p := p) (σ := σ) (D1 := (σ.1.1, setAt σ.1.2.1 (x.toNat : Int) p, σ.1.2.2)) (d := d - 1) hM (hT.thrown 0) rfl (by omega) (by omega) hT.1.2.2.1 (pl_st hO) hr.2 (dn_place hT.1 (by omega) p) (by omega)) (by omega) (Nat.le_of_ble_eq_true rfl) (fun v s' h hP hM => ?_)
        obtain ⟨e1, e2, rfl⟩ := hP
        refine ev_ireturn dX3_place_38 rfl ?_
        refine ⟨_, _, rfl, ?_, hM⟩
        have hxx : ((x.toNat : Nat) : Int) = x := by omega
        have hpp : p = -1 ∨ (0 ≤ p ∧ p ≤ σ.1.1.1 * σ.1.1.2 - 1) := by first | exact Or.inl (by omega) | (right; simpa using c22)
        unfold opPlace
        rw [if_pos ⟨hx0, hpp⟩]
        rw [hxx] at e1 e2
        exact ⟨e1, e2, by rw [hxx]⟩
      · refine ev_aload_n dX3_place_25 rfl ?_
        refine ev_iconstZ dX3_place_26 ?_
        refine mx_call dX3_place_27 cv_X3_117_X3 ce_X3_fails hM rfl rfl (k_fails (d := d - 1) (by omega) hM) (by omega) (Nat.le_of_ble_eq_true rfl) (fun h hM => ?_)
        refine ev_ireturn dX3_place_30 rfl ?_
        refine ⟨_, _, rfl, ?_, hM⟩
        unfold opPlace
        rw [if_neg]
        · exact ⟨rfl, hT, rfl⟩
        simp at *
        omega
set_option maxRecDepth 100000 in
set_option maxHeartbeats 4000000 in
theorem k_setFormation {f x p : Int} {σ : Sp} (hM : MX g ad o h0 s h) (hT : TI s σ) (hO : spOk σ) (hr : inR f ∧ inR x ∧ inR p) (hd : 3 ≤ d) : Kc g mX3_setFormation d 0 0 [.ref o, vz f, vz x, vz p] h (mP g ad o h0 (mRs (opForm σ f x p))) := by
  refine Kc.of (ls := [some (.ref o), some (vz f), some (vz x), some (vz p)]) (by decide +kernel) (Nat.le_of_ble_eq_true rfl) rfl ?_
  refine ev_aload_n dX3_setFormation_0 rfl ?_
  refine ev_iconstZ dX3_setFormation_1 ?_
  refine mx_putI hM dX3_setFormation_2 gf_X3_111_X3 rfl (fun h hM => ?_)
  refine ev_iload_n dX3_setFormation_5 rfl ?_
  refine ev_iconstZ dX3_setFormation_6 ?_
  refine ev_iconstZ dX3_setFormation_7 ?_
  refine ev_callSE dX3_setFormation_8 cs_X3_121 ce_X3_in rfl rfl (k_in (d := d - 1) (by omega) (by omega)) (by omega) (Nat.le_of_ble_eq_true rfl) ?_
  refine ev_if_eqB (tgt := 34) dX3_setFormation_11 (by decide) (fun c11 => ?_) (fun c11 => ?_)
  · refine ev_aload_n dX3_setFormation_34 rfl ?_
    refine ev_iconstZ dX3_setFormation_35 ?_
    refine mx_call dX3_setFormation_36 cv_X3_117_X3 ce_X3_fails hM rfl rfl (k_fails (d := d - 1) (by omega) hM) (by omega) (Nat.le_of_ble_eq_true rfl) (fun h hM => ?_)
    refine ev_ireturn dX3_setFormation_39 rfl ?_
    refine ⟨_, _, rfl, ?_, hM⟩
    unfold opForm
    rw [if_neg]
    · exact ⟨rfl, hT, rfl⟩
    simp at *
    omega
  · refine ev_iload_n dX3_setFormation_14 rfl ?_
    refine ev_callSE dX3_setFormation_15 cs_X3_214 ce_X3_isDancer rfl rfl (k_isDancer (d := d - 1) (by omega) (by omega)) (by omega) (Nat.le_of_ble_eq_true rfl) ?_
    refine ev_if_eqB (tgt := 34) dX3_setFormation_18 (by decide) (fun c18 => ?_) (fun c18 => ?_)
    · refine ev_aload_n dX3_setFormation_34 rfl ?_
      refine ev_iconstZ dX3_setFormation_35 ?_
      refine mx_call dX3_setFormation_36 cv_X3_117_X3 ce_X3_fails hM rfl rfl (k_fails (d := d - 1) (by omega) hM) (by omega) (Nat.le_of_ble_eq_true rfl) (fun h hM => ?_)
      refine ev_ireturn dX3_setFormation_39 rfl ?_
      refine ⟨_, _, rfl, ?_, hM⟩
      unfold opForm
      rw [if_neg]
      · exact ⟨rfl, hT, rfl⟩
      simp at *
      omega
    · refine ev_iload_n dX3_setFormation_21 rfl ?_
      refine ev_iconstZ dX3_setFormation_22 ?_
      refine ev_icmp_eqZ (tgt := 40) dX3_setFormation_23 (by decide) (by omega) (by omega) (fun c23 => ?_) (fun c23 => ?_)
      · refine ev_aload_n dX3_setFormation_40 rfl ?_
        refine ev_bipushZ dX3_setFormation_41 rfl ?_
        refine ev_bipushZ dX3_setFormation_43 rfl ?_
        refine ev_iload_n dX3_setFormation_45 rfl ?_
        refine ev_imulZ dX3_setFormation_46 ?_
        refine ev_iaddZ dX3_setFormation_47 ?_
        have hx0 : 0 ≤ x ∧ x ≤ 7 := by simpa using c18
        have hf0 : 0 ≤ f ∧ f ≤ 3 := by simpa using c11
        refine ev_to (b := ((10 + 8 * f.toNat : Nat) : Int)) (by omega) ?_
        refine ev_iload_n dX3_setFormation_48 rfl ?_
        refine ev_to (b := ((x.toNat : Nat) : Int)) (by omega) ?_
        refine ev_iload_n dX3_setFormation_49 rfl ?_
        refine mx_callP dX3_setFormation_50 cv_X3_221_X3 ce_X3_sets hM rfl rfl (k_sets (p0 := 10 + 8 * f.toNat) (x0 := x.toNat) (f := σ.1.2.2.1 f.toNat) (p := p) (σ := σ) (D1 := (σ.1.1, σ.1.2.1, (fun f' => if f' = f.toNat then setAt (σ.1.2.2.1 f') (x.toNat : Int) p else σ.1.2.2.1 f'), σ.1.2.2.2)) (d := d - 1) hM (hT.thrown 0) rfl (by omega) (by omega) (fun e he => hT.1.2.2.2.1 f.toNat e (by omega) he) (pl_fo hO (by omega)) hr.2.2 (dn_form hT.1 (by omega) (by omega) p) (by omega)) (by omega) (Nat.le_of_ble_eq_true rfl) (fun v s' h hP hM => ?_)
        obtain ⟨e1, e2, rfl⟩ := hP
        refine ev_ireturn dX3_setFormation_53 rfl ?_
        refine ⟨_, _, rfl, ?_, hM⟩
        have hxx : ((x.toNat : Nat) : Int) = x := by omega
        have hpp : p = -1 ∨ (0 ≤ p ∧ p ≤ σ.1.1.1 * σ.1.1.2 - 1) := by first | exact Or.inl (by omega) | (right; simpa using c31)
        unfold opForm
        rw [if_pos ⟨hf0, hx0, hpp⟩]
        rw [hxx] at e1 e2
        exact ⟨e1, e2, by rw [hxx]⟩
      · refine ev_aload_n dX3_setFormation_26 rfl ?_
        refine ev_iload_n dX3_setFormation_27 rfl ?_
        refine mx_call dX3_setFormation_28 cv_X3_218_X3 ce_X3_isPlace hM rfl rfl (k_isPlaceD (D := σ.1) (p := p) (d := d - 1) (by omega) hM hT.1 hO.1 hr.2.2) (by omega) (Nat.le_of_ble_eq_true rfl) (fun h hM => ?_)
        refine ev_if_neB (tgt := 40) dX3_setFormation_31 (by decide) (fun c31 => ?_) (fun c31 => ?_)
        · refine ev_aload_n dX3_setFormation_40 rfl ?_
          refine ev_bipushZ dX3_setFormation_41 rfl ?_
          refine ev_bipushZ dX3_setFormation_43 rfl ?_
          refine ev_iload_n dX3_setFormation_45 rfl ?_
          refine ev_imulZ dX3_setFormation_46 ?_
          refine ev_iaddZ dX3_setFormation_47 ?_
          have hx0 : 0 ≤ x ∧ x ≤ 7 := by simpa using c18
          have hf0 : 0 ≤ f ∧ f ≤ 3 := by simpa using c11
          refine ev_to (b := ((10 + 8 * f.toNat : Nat) : Int)) (by omega) ?_
          refine ev_iload_n dX3_setFormation_48 rfl ?_
          refine ev_to (b := ((x.toNat : Nat) : Int)) (by omega) ?_
          refine ev_iload_n dX3_setFormation_49 rfl ?_
          refine mx_callP dX3_setFormation_50 cv_X3_221_X3 ce_X3_sets hM rfl rfl (k_sets (p0 := 10 + 8 * f.toNat) (x0 := x.toNat) (f := σ.1.2.2.1 f.toNat) (p := p) (σ := σ) (D1 := (σ.1.1, σ.1.2.1, (fun f' => if f' = f.toNat then setAt (σ.1.2.2.1 f') (x.toNat : Int) p else σ.1.2.2.1 f'), σ.1.2.2.2)) (d := d - 1) hM (hT.thrown 0) rfl (by omega) (by omega) (fun e he => hT.1.2.2.2.1 f.toNat e (by omega) he) (pl_fo hO (by omega)) hr.2.2 (dn_form hT.1 (by omega) (by omega) p) (by omega)) (by omega) (Nat.le_of_ble_eq_true rfl) (fun v s' h hP hM => ?_)
          obtain ⟨e1, e2, rfl⟩ := hP
          refine ev_ireturn dX3_setFormation_53 rfl ?_
          refine ⟨_, _, rfl, ?_, hM⟩
          have hxx : ((x.toNat : Nat) : Int) = x := by omega
          have hpp : p = -1 ∨ (0 ≤ p ∧ p ≤ σ.1.1.1 * σ.1.1.2 - 1) := by first | exact Or.inl (by omega) | (right; simpa using c31)
          unfold opForm
          rw [if_pos ⟨hf0, hx0, hpp⟩]
          rw [hxx] at e1 e2
          exact ⟨e1, e2, by rw [hxx]⟩
        · refine ev_aload_n dX3_setFormation_34 rfl ?_
          refine ev_iconstZ dX3_setFormation_35 ?_
          refine mx_call dX3_setFormation_36 cv_X3_117_X3 ce_X3_fails hM rfl rfl (k_fails (d := d - 1) (by omega) hM) (by omega) (Nat.le_of_ble_eq_true rfl) (fun h hM => ?_)
          refine ev_ireturn dX3_setFormation_39 rfl ?_
          refine ⟨_, _, rfl, ?_, hM⟩
          unfold opForm
          rw [if_neg]
          · exact ⟨rfl, hT, rfl⟩
          simp at *
          omega
set_option maxRecDepth 100000 in
set_option maxHeartbeats 4000000 in
theorem k_append {x : Nat} {σ : Sp} (hM : MX g ad o h0 s h) (hT : TI s σ) (hO : spOk σ) (hr : x < 65536) (hd : 2 ≤ d) : Kc g mX3_append d 0 0 [.ref o, vz (x : Int)] h (mP g ad o h0 (mRs (opAppend σ x))) := by
  refine Kc.of (ls := [some (.ref o), some (vz (x : Int))]) (by decide +kernel) (Nat.le_of_ble_eq_true rfl) rfl ?_
  refine ev_aload_n dX3_append_0 rfl ?_
  refine ev_iconstZ dX3_append_1 ?_
  refine mx_putI hM dX3_append_2 gf_X3_111_X3 rfl (fun h hM => ?_)
  refine ev_iload_n dX3_append_5 rfl ?_
  refine ev_bipushZ dX3_append_6 rfl ?_
  refine ev_bipushZ dX3_append_8 rfl ?_
  refine ev_callSE dX3_append_10 cs_X3_121 ce_X3_in rfl rfl (k_in (d := d - 1) (by omega) (by omega)) (by omega) (Nat.le_of_ble_eq_true rfl) ?_
  refine ev_if_neB (tgt := 22) dX3_append_13 (by decide) (fun c13 => ?_) (fun c13 => ?_)
  · refine ev_aload_n dX3_append_22 rfl ?_
    refine mx_getI hM dX3_append_23 gf_X3_225_X3 rfl ?_
    try simp only [uS_1, uA_1, uF_1, uS_2, uA_2a, uF_2a, Nat.reduceEqDiff, reduceIte, Int.reduceToNat, Int.toNat_natCast]
    rw [hT.2.2.2.1.1]
    refine ev_bipushZ dX3_append_26 rfl ?_
    refine ev_icmp_neZ (tgt := 37) dX3_append_28 (by decide) (by have := hT.2.2.2.1.2.1; omega) (by have := hT.2.2.2.1.2.1; omega) (fun c28 => ?_) (fun c28 => ?_)
    · refine ev_aload_n dX3_append_37 rfl ?_
      refine mx_getA hM dX3_append_38 gf_X3_27_X3 rfl ?_
      refine ev_aload_n dX3_append_41 rfl ?_
      refine mx_getI hM dX3_append_42 gf_X3_225_X3 rfl ?_
      try simp only [uS_1, uA_1, uF_1, uS_2, uA_2a, uF_2a, Nat.reduceEqDiff, reduceIte, Int.reduceToNat, Int.toNat_natCast]
      rw [hT.2.2.2.1.1]
      refine ev_iload_n dX3_append_45 rfl ?_
      refine mx_iast hM rfl dX3_append_46 (by have := hT.2.2.2.1.2.1; omega) (fun h hM => ?_)
      refine ev_aload_n dX3_append_47 rfl ?_
      refine ev_dup dX3_append_48 rfl ?_
      refine mx_getI hM dX3_append_49 gf_X3_225_X3 rfl ?_
      try simp only [uS_1, uA_1, uF_1, uS_2, uA_2a, uF_2a, Nat.reduceEqDiff, reduceIte, Int.reduceToNat, Int.toNat_natCast]
      rw [hT.2.2.2.1.1]
      refine ev_iconstZ dX3_append_52 ?_
      refine ev_iaddZ dX3_append_53 ?_
      refine mx_putI hM dX3_append_54 gf_X3_225_X3 rfl (fun h hM => ?_)
      refine ev_aload_n dX3_append_57 rfl ?_
      refine mx_getI hM dX3_append_58 gf_X3_225_X3 rfl ?_
      try simp only [uS_1, uA_1, uF_1, uS_2, uA_2a, uF_2a, Nat.reduceEqDiff, reduceIte, Int.reduceToNat, Int.toNat_natCast]
      refine ev_ireturn dX3_append_61 rfl ?_
      refine ⟨_, _, rfl, ?_, hM⟩
      unfold opAppend
      have c13b : (32 : Int) ≤ x ∧ (x : Int) ≤ 126 := by simpa using c13
      rw [if_pos c13b, if_neg (by omega)]
      refine ⟨rfl, ⟨hT.1, hT.2.1, hT.2.2.1, ⟨?_, ?_, fun i y hi => ?_⟩, hT.2.2.2.2.1, hT.2.2.2.2.2.1, hT.2.2.2.2.2.2.1, fun e l hl => ?_⟩, ?_⟩
      · show _ = (((σ.2.2.2.1.1 ++ [(x : Int).toNat]).length : Nat) : Int); simp only [uS_1, uA_1, uF_1, uS_2, uA_2a, uF_2a, Nat.reduceEqDiff, reduceIte, Int.reduceToNat, Int.toNat_natCast]; simp
      · show (σ.2.2.2.1.1 ++ [(x : Int).toNat]).length ≤ 100; have := hT.2.2.2.1.2.1; simp; omega
      · have hi2 : (σ.2.2.2.1.1 ++ [(x : Int).toNat])[i]? = some y := hi
        simp only [uS_1, uA_1, uF_1, uS_2, uA_2a, uF_2a, Nat.reduceEqDiff, reduceIte, Int.reduceToNat, Int.toNat_natCast]
        by_cases c : i < σ.2.2.2.1.1.length
        · rw [List.getElem?_append_left c] at hi2; rw [if_neg (by omega)]; exact hT.2.2.2.1.2.2 i y hi2
        · have hil := lt_of_getE hi2
          simp at hil
          rw [List.getElem?_append_right (by omega), show i - σ.2.2.2.1.1.length = 0 by omega] at hi2
          simp at hi2
          rw [if_pos (by omega)]
          omega
      · have hk := hT.2.2.2.2.2.2.2 e l hl
        exact ((hk.S (k := 0) (x := 0) rfl).A (by decide)).S (k := 10) rfl
      · simp
    · refine ev_aload_n dX3_append_31 rfl ?_
      refine ev_iconstZ dX3_append_32 ?_
      refine mx_call dX3_append_33 cv_X3_117_X3 ce_X3_fails hM rfl rfl (k_fails (d := d - 1) (by omega) hM) (by omega) (Nat.le_of_ble_eq_true rfl) (fun h hM => ?_)
      refine ev_ireturn dX3_append_36 rfl ?_
      refine ⟨_, _, rfl, ?_, hM⟩
      unfold opAppend
      rw [if_pos (by simpa using c13), if_pos (by omega)]
      exact ⟨rfl, hT, rfl⟩
  · refine ev_aload_n dX3_append_16 rfl ?_
    refine ev_iconstZ dX3_append_17 ?_
    refine mx_call dX3_append_18 cv_X3_117_X3 ce_X3_fails hM rfl rfl (k_fails (d := d - 1) (by omega) hM) (by omega) (Nat.le_of_ble_eq_true rfl) (fun h hM => ?_)
    refine ev_ireturn dX3_append_21 rfl ?_
    refine ⟨_, _, rfl, ?_, hM⟩
    unfold opAppend
    rw [if_neg (by simp at c13; omega)]
    exact ⟨rfl, hT, rfl⟩
end P2

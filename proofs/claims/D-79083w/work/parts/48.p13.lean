/-! the reference: it writes a piece (printed by gen) -/
section P13
variable {g : GB} {M : MI} {d c k : Nat} {Q : RS → HM → Prop} {pc : Nat} {ls : List (Option Value)} {st : List Value} {h : HM} {a b : Int} {ad : Nat → Nat} {o : Nat} {h0 : HM} {s : MSt}
set_option maxRecDepth 100000 in
set_option maxHeartbeats 4000000 in
theorem k_writesEnds {σ : List Wo} {u : List Nat} (hM : MX g ad o h0 s h) (h23 : s.1 23 = σ.length) (hw : wkAt s σ) (h80 : σ.length ≤ 80) (hu : ouAt s u) (hB : (u ++ (endW σ).1).length ≤ 12000) (hd : 2 ≤ d) : Kc g mX3_writesEnds d 0 0 [.ref o] h (mP g ad o h0 (fun v s' => v = none ∧ fr s s' [13, 23] [12, 26] ∧ ouAt s' (u ++ (endW σ).1) ∧ s'.1 23 = ((endW σ).2.length : Nat) ∧ wkAt s' (endW σ).2)) := by
  refine Kc.of (ls := [some (.ref o)]) (by decide +kernel) (Nat.le_of_ble_eq_true rfl) rfl ?_
  have key : ∀ (τ : List Wo) (w : List Nat) (s1 : MSt) (h : HM), MX g ad o h0 s1 h → fr s s1 [13, 23] [12, 26] → s1.1 23 = τ.length → wkAt s1 τ → τ.length ≤ 80 → ouAt s1 w → w ++ (endW τ).1 = u ++ (endW σ).1 → (endW τ).2 = (endW σ).2 → Ev g mX3_writesEnds d 0 0 (mP g ad o h0 (fun v s' => v = none ∧ fr s s' [13, 23] [12, 26] ∧ ouAt s' (u ++ (endW σ).1) ∧ s'.1 23 = ((endW σ).2.length : Nat) ∧ wkAt s' (endW σ).2)) 0 [some (.ref o)] [] h := by
    intro τ
    induction τ with
    | nil =>
      intro w s1 h hM hf h23 hw hl hu hE1 hE2
      refine ev_aload_n dX3_writesEnds_0 rfl ?_
      refine mx_getI hM dX3_writesEnds_1 gf_X3_174_X3 rfl ?_
      try simp only [uS_1, uA_1, uF_1, uS_2, uA_2a, uF_2a, Nat.reduceEqDiff, reduceIte, Int.reduceToNat, Int.toNat_natCast]
      rw [h23]
      refine ev_if_leZ (tgt := 100) dX3_writesEnds_4 (by decide) (by decide) (fun _ => ?_) (fun c => absurd (by decide) c)
      refine ev_return dX3_writesEnds_100 rfl ?_
      refine ⟨none, _, rfl, ?_, hM⟩
      rw [← hE1, ← hE2]
      exact ⟨rfl, hf, by rw [show (endW []).1 = [] from rfl, List.append_nil]; exact hu, h23, trivial⟩
    | cons O τ ih =>
      intro w s1 h hM hf h23 hw hl hu hE1 hE2
      have hlb : τ.length + 1 ≤ 80 := hl
      have hO7 := hw.2.1.2.1
      refine ev_aload_n dX3_writesEnds_0 rfl ?_
      refine mx_getI hM dX3_writesEnds_1 gf_X3_174_X3 rfl ?_
      try simp only [uS_1, uA_1, uF_1, uS_2, uA_2a, uF_2a, Nat.reduceEqDiff, reduceIte, Int.reduceToNat, Int.toNat_natCast]
      rw [h23]
      refine ev_if_leZ (tgt := 100) dX3_writesEnds_4 (by decide) (by simp only [List.length_cons]; omega) (fun c => absurd c (by simp only [List.length_cons]; omega)) (fun _ => ?_)
      refine ev_aload_n dX3_writesEnds_7 rfl ?_
      refine mx_getA hM dX3_writesEnds_8 gf_X3_48_X3 rfl ?_
      refine ev_aload_n dX3_writesEnds_11 rfl ?_
      refine mx_getI hM dX3_writesEnds_12 gf_X3_174_X3 rfl ?_
      try simp only [uS_1, uA_1, uF_1, uS_2, uA_2a, uF_2a, Nat.reduceEqDiff, reduceIte, Int.reduceToNat, Int.toNat_natCast]
      rw [h23]
      refine ev_iconstZ dX3_writesEnds_15 ?_
      refine ev_isubZ dX3_writesEnds_16 ?_
      refine ev_to (b := ((τ.length : Nat) : Int)) (by simp only [List.length_cons]; omega) ?_
      refine ev_dup2 dX3_writesEnds_17 rfl rfl ?_
      refine mx_iald hM rfl dX3_writesEnds_18 (by omega) ?_
      try simp only [uS_1, uA_1, uF_1, uS_2, uA_2a, uF_2a, Nat.reduceEqDiff, reduceIte, Int.reduceToNat, Int.toNat_natCast]
      rw [hw.1.2.1]
      refine ev_iconstZ dX3_writesEnds_19 ?_
      refine ev_isubZ dX3_writesEnds_20 ?_
      refine mx_iast hM rfl dX3_writesEnds_21 (by omega) (fun h hM => ?_)
      refine ev_aload_n dX3_writesEnds_22 rfl ?_
      refine mx_getA hM dX3_writesEnds_23 gf_X3_48_X3 rfl ?_
      refine ev_aload_n dX3_writesEnds_26 rfl ?_
      refine mx_getI hM dX3_writesEnds_27 gf_X3_174_X3 rfl ?_
      try simp only [uS_1, uA_1, uF_1, uS_2, uA_2a, uF_2a, Nat.reduceEqDiff, reduceIte, Int.reduceToNat, Int.toNat_natCast]
      rw [h23]
      refine ev_iconstZ dX3_writesEnds_30 ?_
      refine ev_isubZ dX3_writesEnds_31 ?_
      refine ev_to (b := ((τ.length : Nat) : Int)) (by simp only [List.length_cons]; omega) ?_
      refine mx_iald hM rfl dX3_writesEnds_32 (by omega) ?_
      try simp only [uS_1, uA_1, uF_1, uS_2, uA_2a, uF_2a, Nat.reduceEqDiff, reduceIte, Int.reduceToNat, Int.toNat_natCast]
      refine ev_if_leZ (tgt := 37) dX3_writesEnds_33 (by decide) (by have := hw.2.1.2.2.1; omega) (fun c33 => ?_) (fun c33 => ?_)
      · have ee : endW (O :: τ) = (tailT O.1 ++ rp O.2.2.2 ++ (endW τ).1, (endW τ).2) := by show (if 0 < O.2.1 - 1 then _ else _) = _; rw [if_neg (by omega)]
        rw [ee] at hE1 hE2
        refine ev_aload_n dX3_writesEnds_37 rfl ?_
        refine ev_dup dX3_writesEnds_38 rfl ?_
        refine mx_getI hM dX3_writesEnds_39 gf_X3_174_X3 rfl ?_
        try simp only [uS_1, uA_1, uF_1, uS_2, uA_2a, uF_2a, Nat.reduceEqDiff, reduceIte, Int.reduceToNat, Int.toNat_natCast]
        rw [h23]
        refine ev_iconstZ dX3_writesEnds_42 ?_
        refine ev_isubZ dX3_writesEnds_43 ?_
        refine ev_to (b := ((τ.length : Nat) : Int)) (by simp only [List.length_cons]; omega) ?_
        refine mx_putI hM dX3_writesEnds_44 gf_X3_174_X3 rfl (fun h hM => ?_)
        obtain ⟨s2, hs2, hM⟩ := MX.nm hM
        have hf2 : fr s s2 [13, 23] [12, 26] := by subst hs2; exact fr.S (fr.A hf rfl) rfl
        have g23 : s2.1 23 = τ.length := by subst hs2; rfl
        have g24 : s2.2 24 τ.length = O.1 := by subst hs2; exact hw.1.1
        have g32 : s2.2 32 τ.length = bI O.2.2.2 := by subst hs2; exact hw.1.2.2.2
        have hw2 : wkAt s2 τ := by subst hs2; refine wkAt.low (n := τ.length) (fun i hi => ?_) (Nat.le_refl _) hw.2.2; refine ⟨?_, ?_, ?_, ?_⟩ <;> (try simp only [uS_1, uA_1, uF_1, uS_2, uA_2a, uF_2a, Nat.reduceEqDiff, reduceIte, Int.reduceToNat, Int.toNat_natCast]) <;> (try rw [if_neg (by omega)])
        have hu' : ouAt s2 w := by subst hs2; exact hu.fr (fr.S (fr.A (fr.refl _ [23] [26]) rfl) rfl) rfl rfl
        clear hs2 hu
        have hu := hu'
        have T79 : ∀ (s3 : MSt) (h : HM), MX g ad o h0 s3 h → fr s s3 [13, 23] [12, 26] → s3.1 23 = τ.length → wkAt s3 τ → s3.2 32 τ.length = bI O.2.2.2 → ouAt s3 (w ++ tailT O.1) → Ev g mX3_writesEnds d 0 0 (mP g ad o h0 (fun v s' => v = none ∧ fr s s' [13, 23] [12, 26] ∧ ouAt s' (u ++ (endW σ).1) ∧ s'.1 23 = ((endW σ).2.length : Nat) ∧ wkAt s' (endW σ).2)) 79 [some (.ref o)] [] h := by
          intro s3 h hM hf3 g23 hw3 g32 hu2
          refine ev_aload_n dX3_writesEnds_79 rfl ?_
          refine mx_getA hM dX3_writesEnds_80 gf_X3_66_X3 rfl ?_
          refine ev_aload_n dX3_writesEnds_83 rfl ?_
          refine mx_getI hM dX3_writesEnds_84 gf_X3_174_X3 rfl ?_
          try simp only [uS_1, uA_1, uF_1, uS_2, uA_2a, uF_2a, Nat.reduceEqDiff, reduceIte, Int.reduceToNat, Int.toNat_natCast]
          rw [g23]
          refine mx_zald hM rfl dX3_writesEnds_87 (by omega) ?_
          try simp only [uS_1, uA_1, uF_1, uS_2, uA_2a, uF_2a, Nat.reduceEqDiff, reduceIte, Int.reduceToNat, Int.toNat_natCast]
          rw [g32]
          refine ev_if_eqB (tgt := 0) dX3_writesEnds_88 (by decide) (fun c88 => ?_) (fun c88 => ?_)
          · exact ih _ s3 h hM hf3 g23 hw3 (by omega) hu2 (by rw [← hE1, c88]; simp [rp]) hE2
          · refine ev_aload_n dX3_writesEnds_91 rfl ?_
            refine ev_bipushZ dX3_writesEnds_92 rfl ?_
            refine mx_callP dX3_writesEnds_94 cv_X3_291_X3 ce_X3_writes hM rfl rfl (k_writes (u := w ++ tailT O.1) (c1 := 41) hM hu2 (by have := hB; rw [← hE1, c88] at this; simp [rp] at this ⊢; omega) (by omega) (d := d - 1) (by omega)) (by omega) (Nat.le_of_ble_eq_true rfl) (fun v s4 h hP hM => ?_)
            obtain ⟨rfl, f3, hu3⟩ := hP
            refine ev_goto (tgt := 0) dX3_writesEnds_97 (by decide) ?_
            exact ih _ s4 h hM (hf3.trans (f3.more rfl rfl)) ((f3.1 23 (by decide)).trans g23) (hw3.fr f3 rfl) (by omega) hu3 (by rw [← hE1, c88]; simp [rp]) hE2
        rcases (show O.1 = 4 ∨ O.1 = 5 ∨ (O.1 ≠ 4 ∧ O.1 ≠ 5) by omega) with hk | hk | hk
        · have et : tailT O.1 = [41] := by unfold tailT; rw [if_pos (by omega)]
          refine ev_aload_n dX3_writesEnds_47 rfl ?_
          refine mx_getA hM dX3_writesEnds_48 gf_X3_42_X3 rfl ?_
          refine ev_aload_n dX3_writesEnds_51 rfl ?_
          refine mx_getI hM dX3_writesEnds_52 gf_X3_174_X3 rfl ?_
          try simp only [uS_1, uA_1, uF_1, uS_2, uA_2a, uF_2a, Nat.reduceEqDiff, reduceIte, Int.reduceToNat, Int.toNat_natCast]
          rw [g23]
          refine mx_iald hM rfl dX3_writesEnds_55 (by omega) ?_
          try simp only [uS_1, uA_1, uF_1, uS_2, uA_2a, uF_2a, Nat.reduceEqDiff, reduceIte, Int.reduceToNat, Int.toNat_natCast]
          rw [g24]
          refine ev_iconstZ dX3_writesEnds_56 ?_
          refine ev_icmp_eqZ (tgt := 73) dX3_writesEnds_57 (by decide) (by omega) (by omega) (fun _ => ?_) (fun c => absurd (by omega) c)
          refine ev_aload_n dX3_writesEnds_73 rfl ?_
          refine ev_bipushZ dX3_writesEnds_74 rfl ?_
          refine mx_callP dX3_writesEnds_76 cv_X3_291_X3 ce_X3_writes hM rfl rfl (k_writes (u := w) (c1 := 41) hM hu (by have := hB; rw [← hE1, et] at this; simp at this ⊢; omega) (by omega) (d := d - 1) (by omega)) (by omega) (Nat.le_of_ble_eq_true rfl) (fun v s3 h hP hM => ?_)
          obtain ⟨rfl, f3, hu3⟩ := hP
          exact T79 s3 h hM (hf2.trans (f3.more rfl rfl)) ((f3.1 23 (by decide)).trans g23) (hw2.fr f3 rfl) (by rw [f3.2 32 (by decide)]; exact g32) (by rw [et]; exact hu3)
        · have et : tailT O.1 = [41] := by unfold tailT; rw [if_pos (by omega)]
          refine ev_aload_n dX3_writesEnds_47 rfl ?_
          refine mx_getA hM dX3_writesEnds_48 gf_X3_42_X3 rfl ?_
          refine ev_aload_n dX3_writesEnds_51 rfl ?_
          refine mx_getI hM dX3_writesEnds_52 gf_X3_174_X3 rfl ?_
          try simp only [uS_1, uA_1, uF_1, uS_2, uA_2a, uF_2a, Nat.reduceEqDiff, reduceIte, Int.reduceToNat, Int.toNat_natCast]
          rw [g23]
          refine mx_iald hM rfl dX3_writesEnds_55 (by omega) ?_
          try simp only [uS_1, uA_1, uF_1, uS_2, uA_2a, uF_2a, Nat.reduceEqDiff, reduceIte, Int.reduceToNat, Int.toNat_natCast]
          rw [g24]
          refine ev_iconstZ dX3_writesEnds_56 ?_
          refine ev_icmp_eqZ (tgt := 73) dX3_writesEnds_57 (by decide) (by omega) (by omega) (fun c => absurd c (by omega)) (fun _ => ?_)
          refine ev_aload_n dX3_writesEnds_60 rfl ?_
          refine mx_getA hM dX3_writesEnds_61 gf_X3_42_X3 rfl ?_
          refine ev_aload_n dX3_writesEnds_64 rfl ?_
          refine mx_getI hM dX3_writesEnds_65 gf_X3_174_X3 rfl ?_
          try simp only [uS_1, uA_1, uF_1, uS_2, uA_2a, uF_2a, Nat.reduceEqDiff, reduceIte, Int.reduceToNat, Int.toNat_natCast]
          rw [g23]
          refine mx_iald hM rfl dX3_writesEnds_68 (by omega) ?_
          try simp only [uS_1, uA_1, uF_1, uS_2, uA_2a, uF_2a, Nat.reduceEqDiff, reduceIte, Int.reduceToNat, Int.toNat_natCast]
          rw [g24]
          refine ev_iconstZ dX3_writesEnds_69 ?_
          refine ev_icmp_neZ (tgt := 79) dX3_writesEnds_70 (by decide) (by omega) (by omega) (fun c => absurd (by omega) c) (fun _ => ?_)
          refine ev_aload_n dX3_writesEnds_73 rfl ?_
          refine ev_bipushZ dX3_writesEnds_74 rfl ?_
          refine mx_callP dX3_writesEnds_76 cv_X3_291_X3 ce_X3_writes hM rfl rfl (k_writes (u := w) (c1 := 41) hM hu (by have := hB; rw [← hE1, et] at this; simp at this ⊢; omega) (by omega) (d := d - 1) (by omega)) (by omega) (Nat.le_of_ble_eq_true rfl) (fun v s3 h hP hM => ?_)
          obtain ⟨rfl, f3, hu3⟩ := hP
          exact T79 s3 h hM (hf2.trans (f3.more rfl rfl)) ((f3.1 23 (by decide)).trans g23) (hw2.fr f3 rfl) (by rw [f3.2 32 (by decide)]; exact g32) (by rw [et]; exact hu3)
        · have et : tailT O.1 = [] := by unfold tailT; rw [if_neg (by omega)]
          refine ev_aload_n dX3_writesEnds_47 rfl ?_
          refine mx_getA hM dX3_writesEnds_48 gf_X3_42_X3 rfl ?_
          refine ev_aload_n dX3_writesEnds_51 rfl ?_
          refine mx_getI hM dX3_writesEnds_52 gf_X3_174_X3 rfl ?_
          try simp only [uS_1, uA_1, uF_1, uS_2, uA_2a, uF_2a, Nat.reduceEqDiff, reduceIte, Int.reduceToNat, Int.toNat_natCast]
          rw [g23]
          refine mx_iald hM rfl dX3_writesEnds_55 (by omega) ?_
          try simp only [uS_1, uA_1, uF_1, uS_2, uA_2a, uF_2a, Nat.reduceEqDiff, reduceIte, Int.reduceToNat, Int.toNat_natCast]
          rw [g24]
          refine ev_iconstZ dX3_writesEnds_56 ?_
          refine ev_icmp_eqZ (tgt := 73) dX3_writesEnds_57 (by decide) (by omega) (by omega) (fun c => absurd c (by omega)) (fun _ => ?_)
          refine ev_aload_n dX3_writesEnds_60 rfl ?_
          refine mx_getA hM dX3_writesEnds_61 gf_X3_42_X3 rfl ?_
          refine ev_aload_n dX3_writesEnds_64 rfl ?_
          refine mx_getI hM dX3_writesEnds_65 gf_X3_174_X3 rfl ?_
          try simp only [uS_1, uA_1, uF_1, uS_2, uA_2a, uF_2a, Nat.reduceEqDiff, reduceIte, Int.reduceToNat, Int.toNat_natCast]
          rw [g23]
          refine mx_iald hM rfl dX3_writesEnds_68 (by omega) ?_
          try simp only [uS_1, uA_1, uF_1, uS_2, uA_2a, uF_2a, Nat.reduceEqDiff, reduceIte, Int.reduceToNat, Int.toNat_natCast]
          rw [g24]
          refine ev_iconstZ dX3_writesEnds_69 ?_
          refine ev_icmp_neZ (tgt := 79) dX3_writesEnds_70 (by decide) (by omega) (by omega) (fun _ => ?_) (fun c => absurd c (by omega))
          exact T79 s2 h hM hf2 g23 hw2 g32 (by rw [et, List.append_nil]; exact hu)
      · refine ev_return dX3_writesEnds_36 rfl ?_
        have ee : endW (O :: τ) = ([], (O.1, O.2.1 - 1, O.2.2.1, O.2.2.2) :: τ) := by show (if 0 < O.2.1 - 1 then _ else _) = _; rw [if_pos (by omega)]
        rw [ee] at hE1 hE2
        rw [Int.toNat_natCast] at hM
        refine ⟨none, _, rfl, ?_, hM⟩
        rw [← hE1, ← hE2]
        obtain ⟨⟨w1, w2, w3, w4⟩, w5, w6⟩ := hw
        refine ⟨rfl, fr.A hf rfl, by rw [List.append_nil]; exact hu.fr (fr.A (fr.refl _ [] [26]) rfl) rfl rfl, h23, ⟨w1, ?_, w3, w4⟩, ⟨w5.1, w5.2.1, ?_, ?_⟩, ?_⟩
        · simp only [uS_1, uA_1, uF_1, uS_2, uA_2a, uF_2a, Nat.reduceEqDiff, reduceIte, Int.reduceToNat, Int.toNat_natCast]; show _ = ((O.2.1 - 1 : Nat) : Int); omega
        · show O.2.1 - 1 ≤ 1100; have := w5.2.2.1; omega
        · show O.2.2.1 + (O.2.1 - 1) ≤ 1100; have := w5.2.2.2; omega
        · refine wkAt.low (n := τ.length) (fun i hi => ?_) (Nat.le_refl _) w6; refine ⟨?_, ?_, ?_, ?_⟩ <;> (try simp only [uS_1, uA_1, uF_1, uS_2, uA_2a, uF_2a, Nat.reduceEqDiff, reduceIte, Int.reduceToNat, Int.toNat_natCast]) <;> (try rw [if_neg (by omega)])
  exact key σ u s h hM (fr.refl _ _ _) h23 hw h80 hu rfl rfl
end P13

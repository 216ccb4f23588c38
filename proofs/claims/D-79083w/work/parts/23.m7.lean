/-! the reference: closes (printed by gen) -/
section M7
variable {g : GB} {M : MI} {d c k : Nat} {Q : RS → HM → Prop} {pc : Nat} {ls : List (Option Value)} {st : List Value} {h : HM} {a b : Int} {ad : Nat → Nat} {o : Nat} {h0 : HM} {s : MSt}
set_option maxRecDepth 100000 in
set_option maxHeartbeats 4000000 in
theorem k_closes {o1 : Nat} {O : Op} (hM : MX g ad o h0 s h) (ho : o1 < 80) (h23 : s.1 23 = (o1 : Int) + 1) (hO : opAt s o1 O) (hw : s.1 15 = 0) (hb : O.1.1 ≤ 7 ∧ O.1.2.1 ≤ 9 ∧ 1 ≤ cTimes O ∧ O.2.1.1 ≤ 99 ∧ O.2.1.2.1 < 256 ∧ O.2.1.2.2.2 ≤ 2000000 ∧ O.2.2.1.1 < 256 ∧ O.2.1.2.2.1 < 100000) (hs4 : ∀ e q : Nat, e < 8 → q < 100 → O.2.2.2.1 e q ≤ 4) (hd : 3 ≤ d) : Kc g mX3_closes d 0 0 [.ref o] h ((mP g ad o h0 (fun v s' => v = none ∧ fr s s' [15, 16, 17, 18, 19, 20, 23] [21, 22] ∧ s'.1 23 = (o1 : Int) ∧ meAt s' (closeE O)))) := by
  refine Kc.of (ls := [some (.ref o), none, none, none]) (by decide +kernel) (Nat.le_of_ble_eq_true rfl) rfl ?_
  obtain ⟨o24, o25, o26, o27, o28, o29, o30, o31, o32, o33, o34⟩ := id hO
  have ht9 : cTimes O ≤ 9 := by unfold cTimes; split <;> omega
  have hm1 : O.2.1.1 * cTimes O ≤ 99 * 9 := Nat.mul_le_mul (by omega) ht9
  have hm2 : O.2.1.2.2.2 * cTimes O ≤ 2000000 * 9 := Nat.mul_le_mul (by omega) ht9
  have TE : ∀ (s2 : MSt) (h : HM), MX g ad o h0 s2 h → fr s s2 [15, 16, 17, 18, 19, 20, 23] [21, 22] → s2.1 23 = (o1 : Int) → (s2.1 15 = 1 ∨ s2.1 15 = 2) → (∀ P, closeE O ≠ .ok P) → meAt s2 (closeE O) → Ev g mX3_closes d 0 0 (mP g ad o h0 (fun v s' => v = none ∧ fr s s' [15, 16, 17, 18, 19, 20, 23] [21, 22] ∧ s'.1 23 = (o1 : Int) ∧ meAt s' (closeE O))) 121 [some (.ref o), some (vz (o1 : Int)), some (vz ((cTimes O : Nat) : Int)), none] [] h := by
    intro s2 h hM hfr2 h23b hy hne hme
    have hO2 : opAt s2 o1 O := hO.fr hfr2 rfl
    obtain ⟨o24, o25, o26, o27, o28, o29, o30, o31, o32, o33, o34⟩ := hO2
    refine ev_aload_n dX3_closes_121 rfl ?_
    refine ev_aload_n dX3_closes_122 rfl ?_
    refine mx_getA hM dX3_closes_123 gf_X3_54_X3 rfl ?_
    refine ev_iload_n dX3_closes_126 rfl ?_
    refine mx_iald hM rfl dX3_closes_127 (by omega) ?_
    try simp only [uS_1, uA_1, uF_1, uS_2, uA_2a, uF_2a, Nat.reduceEqDiff, reduceIte, Int.reduceToNat, Int.toNat_natCast]
    rw [o28]
    refine mx_putI hM dX3_closes_128 gf_X3_144_X3 rfl (fun h hM => ?_)
    refine ev_aload_n dX3_closes_131 rfl ?_
    refine ev_aload_n dX3_closes_132 rfl ?_
    refine mx_getA hM dX3_closes_133 gf_X3_57_X3 rfl ?_
    refine ev_iload_n dX3_closes_136 rfl ?_
    refine mx_iald hM rfl dX3_closes_137 (by omega) ?_
    try simp only [uS_1, uA_1, uF_1, uS_2, uA_2a, uF_2a, Nat.reduceEqDiff, reduceIte, Int.reduceToNat, Int.toNat_natCast]
    rw [o29]
    refine ev_iconstZ dX3_closes_138 ?_
    refine ev_iaddZ dX3_closes_139 ?_
    refine mx_putI hM dX3_closes_140 gf_X3_147_X3 rfl (fun h hM => ?_)
    refine ev_iconstZ dX3_closes_143 ?_
    refine ev_istore_n dX3_closes_144 (by decide) rfl ?_
    dsimp only [List.set]
    refine ev_iload_n dX3_closes_145 rfl ?_
    refine ev_iload_n dX3_closes_146 rfl ?_
    refine ev_icmp_geZ (tgt := 176) dX3_closes_147 (by decide) (by omega) (by omega) (fun c => absurd c (by omega)) (fun _ => ?_)
    refine ev_aload_n dX3_closes_150 rfl ?_
    refine mx_getI hM dX3_closes_151 gf_X3_153_X3 rfl ?_
    try simp only [uS_1, uA_1, uF_1, uS_2, uA_2a, uF_2a, Nat.reduceEqDiff, reduceIte, Int.reduceToNat, Int.toNat_natCast]
    refine ev_if_neZ (tgt := 176) dX3_closes_154 (by decide) (by omega) (fun _ => ?_) (fun c => absurd c (by omega))
    refine ev_return dX3_closes_176 rfl ?_
    refine ⟨none, _, rfl, ?_, hM⟩
    refine ⟨rfl, fr.S (fr.S hfr2 rfl) rfl, h23b, ?_⟩
    cases hc : closeE O with
    | error e => rw [hc] at hme; exact hme
    | ok P => exact absurd hc (hne P)
  have T121 : ∀ (s2 : MSt) (h : HM), MX g ad o h0 s2 h → fr s s2 [15, 16, 17, 18, 19, 20, 23] [21, 22] → s2.1 23 = (o1 : Int) → s2.1 15 = 0 → O.2.2.1.1 = 0 → ¬ (O.2.2.1.2 = true ∨ O.2.1.1 * cTimes O > 99 ∨ O.2.1.2.2.2 * cTimes O > 999) → s2.1 17 = ((O.2.1.1 * cTimes O : Nat) : Int) → s2.1 20 = ((O.2.1.2.2.2 * cTimes O : Nat) : Int) → (∀ e q : Nat, e < 8 → q < 100 → s2.2 21 (100 * e + q) = 0) → (∀ q : Nat, q < 100 → s2.2 22 q = 0) → Ev g mX3_closes d 0 0 (mP g ad o h0 (fun v s' => v = none ∧ fr s s' [15, 16, 17, 18, 19, 20, 23] [21, 22] ∧ s'.1 23 = (o1 : Int) ∧ meAt s' (closeE O))) 121 [some (.ref o), some (vz (o1 : Int)), some (vz ((cTimes O : Nat) : Int)), none] [] h := by
    intro s2 h hM hfr2 h23b hy htw hbad hz17 hz20 hz21 hz22
    have hO2 : opAt s2 o1 O := hO.fr hfr2 rfl
    obtain ⟨o24, o25, o26, o27, o28, o29, o30, o31, o32, o33, o34⟩ := hO2
    have hcl : closeE O = .ok ((O.2.1.1 * cTimes O, O.2.1.2.1, O.2.1.2.2.1 + 1, O.2.1.2.2.2 * cTimes O), timesS O (cTimes O), timesC O (cTimes O)) := by unfold closeE; rw [if_neg (by omega), if_neg hbad]
    have hszt : O.2.1.1 * cTimes O ≤ 99 := Nat.le_of_not_lt (fun q => hbad (Or.inr (Or.inl q)))
    refine ev_aload_n dX3_closes_121 rfl ?_
    refine ev_aload_n dX3_closes_122 rfl ?_
    refine mx_getA hM dX3_closes_123 gf_X3_54_X3 rfl ?_
    refine ev_iload_n dX3_closes_126 rfl ?_
    refine mx_iald hM rfl dX3_closes_127 (by omega) ?_
    try simp only [uS_1, uA_1, uF_1, uS_2, uA_2a, uF_2a, Nat.reduceEqDiff, reduceIte, Int.reduceToNat, Int.toNat_natCast]
    rw [o28]
    refine mx_putI hM dX3_closes_128 gf_X3_144_X3 rfl (fun h hM => ?_)
    refine ev_aload_n dX3_closes_131 rfl ?_
    refine ev_aload_n dX3_closes_132 rfl ?_
    refine mx_getA hM dX3_closes_133 gf_X3_57_X3 rfl ?_
    refine ev_iload_n dX3_closes_136 rfl ?_
    refine mx_iald hM rfl dX3_closes_137 (by omega) ?_
    try simp only [uS_1, uA_1, uF_1, uS_2, uA_2a, uF_2a, Nat.reduceEqDiff, reduceIte, Int.reduceToNat, Int.toNat_natCast]
    rw [o29]
    refine ev_iconstZ dX3_closes_138 ?_
    refine ev_iaddZ dX3_closes_139 ?_
    refine mx_putI hM dX3_closes_140 gf_X3_147_X3 rfl (fun h hM => ?_)
    refine ev_iconstZ dX3_closes_143 ?_
    refine ev_istore_n dX3_closes_144 (by decide) rfl ?_
    dsimp only [List.set]
    refine ev_for (cTimes O) (fun i h => ∃ s' : MSt, MX g ad o h0 s' h ∧ fr s2 s' [18, 19] [21, 22] ∧ s'.1 18 = (O.2.1.2.1 : Int) ∧ s'.1 19 = (O.2.1.2.2.1 : Int) + 1 ∧ (∀ e q : Nat, e < 8 → q < 100 → s'.2 21 (100 * e + q) = ((timesS O i e q : Nat) : Int)) ∧ ∀ q : Nat, q < 100 → s'.2 22 q = ((timesC O i q : Nat) : Int)) (fun i => [some (.ref o), some (vz (o1 : Int)), some (vz ((cTimes O : Nat) : Int)), some (vz (i : Int))]) 0 (by omega) ⟨_, hM, fr.S (fr.S (fr.refl _ _ _) rfl) rfl, rfl, rfl, fun e q he hq => hz21 e q he hq, fun q hq => hz22 q hq⟩ (by repeat' first | exact rfl | exact trivial | exact vz_eq (by omega) | refine And.intro ?_ ?_) (fun i h hi1 hi2 hX hN => ?_) (fun h hX => ?_)
    · clear hM
      obtain ⟨s', hM, hf, g18, g19, gA, gB⟩ := hX
      have hfr3 : fr s s' [15, 16, 17, 18, 19, 20, 23] [21, 22] := hfr2.trans (hf.more rfl rfl)
      have hO3 : opAt s' o1 O := hO.fr hfr3 rfl
      have w15 : s'.1 15 = 0 := (hf.1 15 (by decide)).trans hy
      have w27 : s'.2 27 o1 = O.2.1.1 := hO3.2.2.2.1
      have hmi : O.2.1.1 * (i + 1) ≤ O.2.1.1 * cTimes O := Nat.mul_le_mul_left _ (by omega)
      rw [Nat.mul_succ] at hmi
      refine ev_iload_n dX3_closes_145 rfl ?_
      refine ev_iload_n dX3_closes_146 rfl ?_
      refine ev_icmp_geZ (tgt := 176) dX3_closes_147 (by decide) (by omega) (by omega) (fun c => absurd c (by omega)) (fun _ => ?_)
      refine ev_aload_n dX3_closes_150 rfl ?_
      refine mx_getI hM dX3_closes_151 gf_X3_153_X3 rfl ?_
      try simp only [uS_1, uA_1, uF_1, uS_2, uA_2a, uF_2a, Nat.reduceEqDiff, reduceIte, Int.reduceToNat, Int.toNat_natCast]
      refine ev_if_neZ (tgt := 176) dX3_closes_154 (by decide) (by omega) (fun c => absurd w15 c) (fun _ => ?_)
      refine ev_aload_n dX3_closes_157 rfl ?_
      refine ev_iload_n dX3_closes_158 rfl ?_
      refine ev_aload_n dX3_closes_159 rfl ?_
      refine mx_getA hM dX3_closes_160 gf_X3_51_X3 rfl ?_
      refine ev_iload_n dX3_closes_163 rfl ?_
      refine mx_iald hM rfl dX3_closes_164 (by omega) ?_
      try simp only [uS_1, uA_1, uF_1, uS_2, uA_2a, uF_2a, Nat.reduceEqDiff, reduceIte, Int.reduceToNat, Int.toNat_natCast]
      rw [w27]
      refine ev_iload_n dX3_closes_165 rfl ?_
      refine ev_imulZ dX3_closes_166 ?_
      refine ev_to (b := ((O.2.1.1 * i : Nat) : Int)) (by push_cast; rfl) ?_
      refine mx_callP dX3_closes_167 cv_X3_177_X3 ce_X3_copies hM rfl rfl (k_copies (o1 := o1) (F := O.2.1.1 * i) (O := O) (d := d - 1) hM ho hO3 ⟨by omega, by omega⟩ hs4 (by omega)) (by omega) (Nat.le_of_ble_eq_true rfl) (fun v s' h hP hM => ?_)
      obtain ⟨rfl, pf, pA, pB⟩ := hP
      refine ev_iincZ dX3_closes_170 rfl (by decide) rfl ?_
      dsimp only [List.set]
      refine ev_goto (tgt := 145) dX3_closes_173 (by decide) ?_
      refine hN _ _ (by repeat' first | exact rfl | exact trivial | exact vz_eq (by omega) | refine And.intro ?_ ?_) ⟨_, hM, hf.trans (pf.more rfl rfl), ?_, ?_, fun e q he hq => ?_, fun q hq => ?_⟩
      · rw [pf.1 18 (by decide)]; exact g18
      · rw [pf.1 19 (by decide)]; exact g19
      · rw [pA e q he hq, gA e q he hq]
        show _ = ((if O.2.1.1 * i ≤ q ∧ q < O.2.1.1 * i + O.2.1.1 then onceS O e (q - O.2.1.1 * i) else timesS O i e q : Nat) : Int)
        by_cases c : O.2.1.1 * i ≤ q ∧ q < O.2.1.1 * i + O.2.1.1
        · rw [if_pos c, if_pos c]
        · rw [if_neg c, if_neg c]
      · rw [pB q hq, gB q hq]
        show _ = ((timesC O i q + (if O.2.1.1 * i ≤ q ∧ q ≤ O.2.1.1 * i + O.2.1.1 then onceC O (q - O.2.1.1 * i) else 0) : Nat) : Int)
        by_cases c : O.2.1.1 * i ≤ q ∧ q ≤ O.2.1.1 * i + O.2.1.1
        · rw [if_pos c, if_pos c]; push_cast; rfl
        · rw [if_neg c, if_neg c]; simp
    · clear hM
      obtain ⟨s', hM, hf, g18, g19, gA, gB⟩ := hX
      have hfr3 : fr s s' [15, 16, 17, 18, 19, 20, 23] [21, 22] := hfr2.trans (hf.more rfl rfl)
      have hO3 : opAt s' o1 O := hO.fr hfr3 rfl
      have w15 : s'.1 15 = 0 := (hf.1 15 (by decide)).trans hy
      have w27 : s'.2 27 o1 = O.2.1.1 := hO3.2.2.2.1
      refine ev_iload_n dX3_closes_145 rfl ?_
      refine ev_iload_n dX3_closes_146 rfl ?_
      refine ev_icmp_geZ (tgt := 176) dX3_closes_147 (by decide) (by omega) (by omega) (fun _ => ?_) (fun c => absurd (by omega) c)
      refine ev_return dX3_closes_176 rfl ?_
      refine ⟨none, _, rfl, ⟨rfl, hfr3, (hf.1 23 (by decide)).trans h23b, ?_⟩, hM⟩
      rw [hcl]
      refine ⟨w15, ?_, g18, ?_, ?_, gA, gB⟩
      · exact (hf.1 17 (by decide)).trans hz17
      · rw [g19]; rfl
      · exact (hf.1 20 (by decide)).trans hz20
  have T115 : ∀ (s2 : MSt) (h : HM), MX g ad o h0 s2 h → fr s s2 [15, 16, 17, 18, 19, 20, 23] [21, 22] → s2.1 23 = (o1 : Int) → (O.2.2.1.1 = 0 → s2.1 15 = 0) → (O.2.2.1.1 ≠ 0 → s2.1 15 = 1 ∧ s2.1 16 = (low O.2.2.1.1 : Nat)) → (O.2.2.1.2 = true ∨ O.2.1.1 * cTimes O > 99 ∨ O.2.1.2.2.2 * cTimes O > 999) → Ev g mX3_closes d 0 0 (mP g ad o h0 (fun v s' => v = none ∧ fr s s' [15, 16, 17, 18, 19, 20, 23] [21, 22] ∧ s'.1 23 = (o1 : Int) ∧ meAt s' (closeE O))) 115 [some (.ref o), some (vz (o1 : Int)), some (vz ((cTimes O : Nat) : Int)), none] [] h := by
    intro s2 h hM hfr2 h23b hy0 hy1 hbad
    refine ev_aload_n dX3_closes_115 rfl ?_
    refine ev_iconstZ dX3_closes_116 ?_
    refine ev_iconstZ dX3_closes_117 ?_
    refine mx_callv dX3_closes_118 cv_X3_171_X3 ce_X3_refuses hM rfl rfl (k_refuses (d := d - 1) (by omega) hM (by by_cases q : O.2.2.1.1 = 0 <;> grind)) (by omega) (Nat.le_of_ble_eq_true rfl) (fun h hM => ?_)
    by_cases htw : O.2.2.1.1 = 0
    · rw [refS, if_neg (by have := hy0 htw; omega)] at hM
      have hcl : closeE O = .error (2, -1) := by unfold closeE; rw [if_neg (by omega), if_pos hbad]
      exact TE _ h hM (fr.S (fr.S hfr2 rfl) rfl) h23b (Or.inr rfl) (by rw [hcl]; intro P q; cases q) (by rw [hcl]; exact ⟨rfl, rfl⟩)
    · rw [refS, if_pos (by have := (hy1 htw).1; omega)] at hM
      have hcl : closeE O = .error (1, (low O.2.2.1.1 : Nat)) := by unfold closeE; rw [if_pos htw]
      exact TE _ h hM hfr2 h23b (Or.inl (hy1 htw).1) (by rw [hcl]; intro P q; cases q) (by rw [hcl]; exact hy1 htw)
  have T63 : ∀ (s2 : MSt) (h : HM), MX g ad o h0 s2 h → fr s s2 [15, 16, 17, 18, 19, 20, 23] [21, 22] → s2.1 23 = (o1 : Int) → (O.2.2.1.1 = 0 → s2.1 15 = 0) → (O.2.2.1.1 ≠ 0 → s2.1 15 = 1 ∧ s2.1 16 = (low O.2.2.1.1 : Nat)) → (∀ e q : Nat, e < 8 → q < 100 → s2.2 21 (100 * e + q) = 0) → (∀ q : Nat, q < 100 → s2.2 22 q = 0) → Ev g mX3_closes d 0 0 (mP g ad o h0 (fun v s' => v = none ∧ fr s s' [15, 16, 17, 18, 19, 20, 23] [21, 22] ∧ s'.1 23 = (o1 : Int) ∧ meAt s' (closeE O))) 63 [some (.ref o), some (vz (o1 : Int)), some (vz ((cTimes O : Nat) : Int)), none] [] h := by
    intro s2 h hM hfr2 h23b hy0 hy1 hz21 hz22
    have hO2 : opAt s2 o1 O := hO.fr hfr2 rfl
    obtain ⟨o24, o25, o26, o27, o28, o29, o30, o31, o32, o33, o34⟩ := hO2
    refine ev_aload_n dX3_closes_63 rfl ?_
    refine ev_aload_n dX3_closes_64 rfl ?_
    refine mx_getA hM dX3_closes_65 gf_X3_51_X3 rfl ?_
    refine ev_iload_n dX3_closes_68 rfl ?_
    refine mx_iald hM rfl dX3_closes_69 (by omega) ?_
    try simp only [uS_1, uA_1, uF_1, uS_2, uA_2a, uF_2a, Nat.reduceEqDiff, reduceIte, Int.reduceToNat, Int.toNat_natCast]
    rw [o27]
    refine ev_iload_n dX3_closes_70 rfl ?_
    refine ev_imulZ dX3_closes_71 ?_
    refine ev_to (b := ((O.2.1.1 * cTimes O : Nat) : Int)) (by push_cast; rfl) ?_
    refine mx_putI hM dX3_closes_72 gf_X3_141_X3 rfl (fun h hM => ?_)
    refine ev_aload_n dX3_closes_75 rfl ?_
    refine ev_aload_n dX3_closes_76 rfl ?_
    refine mx_getA hM dX3_closes_77 gf_X3_60_X3 rfl ?_
    refine ev_iload_n dX3_closes_80 rfl ?_
    refine mx_iald hM rfl dX3_closes_81 (by omega) ?_
    try simp only [uS_1, uA_1, uF_1, uS_2, uA_2a, uF_2a, Nat.reduceEqDiff, reduceIte, Int.reduceToNat, Int.toNat_natCast]
    rw [o30]
    refine ev_iload_n dX3_closes_82 rfl ?_
    refine ev_imulZ dX3_closes_83 ?_
    refine ev_to (b := ((O.2.1.2.2.2 * cTimes O : Nat) : Int)) (by push_cast; rfl) ?_
    refine mx_putI hM dX3_closes_84 gf_X3_150_X3 rfl (fun h hM => ?_)
    refine ev_aload_n dX3_closes_87 rfl ?_
    refine mx_getA hM dX3_closes_88 gf_X3_66_X3 rfl ?_
    refine ev_iload_n dX3_closes_91 rfl ?_
    refine mx_zald hM rfl dX3_closes_92 (by omega) ?_
    try simp only [uS_1, uA_1, uF_1, uS_2, uA_2a, uF_2a, Nat.reduceEqDiff, reduceIte, Int.reduceToNat, Int.toNat_natCast]
    rw [o32]
    refine ev_if_neB (tgt := 115) dX3_closes_93 (by decide) (fun c93 => ?_) (fun c93 => ?_)
    · refine Ev.forget (T115 _ h hM (fr.S (fr.S hfr2 rfl) rfl) h23b hy0 hy1 (Or.inl c93)) (by repeat' first | exact rfl | exact trivial | exact vz_eq (by omega) | refine And.intro ?_ ?_)
    · refine ev_aload_n dX3_closes_96 rfl ?_
      refine mx_getI hM dX3_closes_97 gf_X3_141_X3 rfl ?_
      try simp only [uS_1, uA_1, uF_1, uS_2, uA_2a, uF_2a, Nat.reduceEqDiff, reduceIte, Int.reduceToNat, Int.toNat_natCast]
      refine ev_bipushZ dX3_closes_100 rfl ?_
      refine ev_icmp_gtZ (tgt := 115) dX3_closes_102 (by decide) (by omega) (by omega) (fun c102 => ?_) (fun c102 => ?_)
      · refine Ev.forget (T115 _ h hM (fr.S (fr.S hfr2 rfl) rfl) h23b hy0 hy1 (Or.inr (Or.inl (by omega)))) (by repeat' first | exact rfl | exact trivial | exact vz_eq (by omega) | refine And.intro ?_ ?_)
      · refine ev_aload_n dX3_closes_105 rfl ?_
        refine mx_getI hM dX3_closes_106 gf_X3_150_X3 rfl ?_
        try simp only [uS_1, uA_1, uF_1, uS_2, uA_2a, uF_2a, Nat.reduceEqDiff, reduceIte, Int.reduceToNat, Int.toNat_natCast]
        refine ev_sipushZ dX3_closes_109 rfl ?_
        refine ev_icmp_leZ (tgt := 121) dX3_closes_112 (by decide) (by omega) (by omega) (fun c112 => ?_) (fun c112 => ?_)
        · by_cases htw : O.2.2.1.1 = 0
          · refine T121 _ h hM (fr.S (fr.S hfr2 rfl) rfl) h23b ?_ htw (by rw [c93]; simp; omega) ?_ ?_ hz21 hz22
            · exact hy0 htw
            · rfl
            · rfl
          · have hcl : closeE O = .error (1, (low O.2.2.1.1 : Nat)) := by unfold closeE; rw [if_pos htw]
            exact TE _ h hM (fr.S (fr.S hfr2 rfl) rfl) h23b (Or.inl (hy1 htw).1) (by rw [hcl]; intro P q; cases q) (by rw [hcl]; exact hy1 htw)
        · refine Ev.forget (T115 _ h hM (fr.S (fr.S hfr2 rfl) rfl) h23b hy0 hy1 (Or.inr (Or.inr (by omega)))) (by repeat' first | exact rfl | exact trivial | exact vz_eq (by omega) | refine And.intro ?_ ?_)
  have T36 : ∀ (h : HM), MX g ad o h0 (uS s 23 (o1 : Int)) h → Ev g mX3_closes d 0 0 (mP g ad o h0 (fun v s' => v = none ∧ fr s s' [15, 16, 17, 18, 19, 20, 23] [21, 22] ∧ s'.1 23 = (o1 : Int) ∧ meAt s' (closeE O))) 36 [some (.ref o), some (vz (o1 : Int)), some (vz ((cTimes O : Nat) : Int)), none] [] h := by
    intro h hM
    refine ev_aload_n dX3_closes_36 rfl ?_
    refine mx_callv dX3_closes_37 cv_X3_159_X3 ce_X3_empties hM rfl rfl (k_empties (d := d - 1) (by omega) hM) (by omega) (Nat.le_of_ble_eq_true rfl) (fun h hM => ?_)
    obtain ⟨s2, hs1, hM⟩ := MX.nm hM
    have hfr2 : fr s s2 [15, 16, 17, 18, 19, 20, 23] [21, 22] := by subst hs1; unfold empS; exact fr.F (fr.F (fr.S (fr.S (fr.S (fr.S (fr.S (fr.refl _ _ _) rfl) rfl) rfl) rfl) rfl) rfl) rfl
    have hw1 : s2.1 15 = 0 := by subst hs1; exact hw
    have h23b : s2.1 23 = (o1 : Int) := by subst hs1; rfl
    have hz21 : ∀ e q : Nat, e < 8 → q < 100 → s2.2 21 (100 * e + q) = 0 := by subst hs1; intro e q _ _; rfl
    have hz22 : ∀ q : Nat, q < 100 → s2.2 22 q = 0 := by subst hs1; intro q _; rfl
    clear hs1
    have hO2 : opAt s2 o1 O := hO.fr hfr2 rfl
    obtain ⟨o24, o25, o26, o27, o28, o29, o30, o31, o32, o33, o34⟩ := hO2
    refine ev_aload_n dX3_closes_40 rfl ?_
    refine mx_getA hM dX3_closes_41 gf_X3_63_X3 rfl ?_
    refine ev_iload_n dX3_closes_44 rfl ?_
    refine mx_iald hM rfl dX3_closes_45 (by omega) ?_
    try simp only [uS_1, uA_1, uF_1, uS_2, uA_2a, uF_2a, Nat.reduceEqDiff, reduceIte, Int.reduceToNat, Int.toNat_natCast]
    rw [o31]
    refine ev_if_eqZ (tgt := 63) dX3_closes_46 (by decide) (by omega) (fun c46 => ?_) (fun c46 => ?_)
    · exact Ev.forget (T63 _ h hM hfr2 h23b (fun _ => hw1) (fun q => absurd (by omega) q) hz21 hz22) (by repeat' first | exact rfl | exact trivial | exact vz_eq (by omega) | refine And.intro ?_ ?_)
    · refine ev_aload_n dX3_closes_49 rfl ?_
      refine ev_iconstZ dX3_closes_50 ?_
      refine ev_aload_n dX3_closes_51 rfl ?_
      refine mx_getA hM dX3_closes_52 gf_X3_63_X3 rfl ?_
      refine ev_iload_n dX3_closes_55 rfl ?_
      refine mx_iald hM rfl dX3_closes_56 (by omega) ?_
      try simp only [uS_1, uA_1, uF_1, uS_2, uA_2a, uF_2a, Nat.reduceEqDiff, reduceIte, Int.reduceToNat, Int.toNat_natCast]
      rw [o31]
      refine ev_callSE dX3_closes_57 cs_X3_168 ce_X3_lowest rfl rfl (k_lowest (n := O.2.2.1.1) (by omega) (fun q => c46 (by omega)) (d := d - 1) (by omega)) (by omega) (Nat.le_of_ble_eq_true rfl) ?_
      refine mx_callv dX3_closes_60 cv_X3_171_X3 ce_X3_refuses hM rfl rfl (k_refuses (d := d - 1) (by omega) hM (by omega)) (by omega) (Nat.le_of_ble_eq_true rfl) (fun h hM => ?_)
      rw [refS, if_neg (by omega)] at hM
      exact Ev.forget (T63 _ h hM (fr.S (fr.S hfr2 rfl) rfl) h23b (fun q => absurd (by omega) c46) (fun _ => ⟨rfl, rfl⟩) hz21 hz22) (by repeat' first | exact rfl | exact trivial | exact vz_eq (by omega) | refine And.intro ?_ ?_)
  refine ev_aload_n dX3_closes_0 rfl ?_
  refine ev_dup dX3_closes_1 rfl ?_
  refine mx_getI hM dX3_closes_2 gf_X3_174_X3 rfl ?_
  refine ev_iconstZ dX3_closes_5 ?_
  refine ev_isubZ dX3_closes_6 ?_
  refine ev_to (b := (o1 : Int)) (by omega) ?_
  refine mx_putI hM dX3_closes_7 gf_X3_174_X3 rfl (fun h hM => ?_)
  refine ev_aload_n dX3_closes_10 rfl ?_
  refine mx_getI hM dX3_closes_11 gf_X3_174_X3 rfl ?_
  try simp only [uS_1, uA_1, uF_1, uS_2, uA_2a, uF_2a, Nat.reduceEqDiff, reduceIte, Int.reduceToNat, Int.toNat_natCast]
  refine ev_istore_n dX3_closes_14 (by decide) rfl ?_
  dsimp only [List.set]
  refine ev_aload_n dX3_closes_15 rfl ?_
  refine mx_getA hM dX3_closes_16 gf_X3_42_X3 rfl ?_
  refine ev_iload_n dX3_closes_19 rfl ?_
  refine mx_iald hM rfl dX3_closes_20 (by omega) ?_
  try simp only [uS_1, uA_1, uF_1, uS_2, uA_2a, uF_2a, Nat.reduceEqDiff, reduceIte, Int.reduceToNat, Int.toNat_natCast]
  rw [o24]
  refine ev_iconstZ dX3_closes_21 ?_
  refine ev_icmp_neZ (tgt := 34) dX3_closes_22 (by decide) (by omega) (by omega) (fun c22 => ?_) (fun c22 => ?_)
  · refine ev_iconstZ dX3_closes_34 ?_
    refine ev_to (b := ((cTimes O : Nat) : Int)) (by unfold cTimes; rw [if_neg (by omega)]; rfl) ?_
    refine ev_istore_n dX3_closes_35 (by decide) rfl ?_
    dsimp only [List.set]
    exact T36 h hM
  · refine ev_aload_n dX3_closes_25 rfl ?_
    refine mx_getA hM dX3_closes_26 gf_X3_45_X3 rfl ?_
    refine ev_iload_n dX3_closes_29 rfl ?_
    refine mx_iald hM rfl dX3_closes_30 (by omega) ?_
    try simp only [uS_1, uA_1, uF_1, uS_2, uA_2a, uF_2a, Nat.reduceEqDiff, reduceIte, Int.reduceToNat, Int.toNat_natCast]
    rw [o25]
    refine ev_to (b := ((cTimes O : Nat) : Int)) (by unfold cTimes; rw [if_pos (by omega)]) ?_
    refine ev_goto (tgt := 35) dX3_closes_31 (by decide) ?_
    refine ev_istore_n dX3_closes_35 (by decide) rfl ?_
    dsimp only [List.set]
    exact T36 h hM
end M7

/-! the reference: copies, closes (printed by gen) -/
section M6
variable {g : GB} {M : MI} {d c k : Nat} {Q : RS → HM → Prop} {pc : Nat} {ls : List (Option Value)} {st : List Value} {h : HM} {a b : Int} {ad : Nat → Nat} {o : Nat} {h0 : HM} {s : MSt}
theorem opp_N (x : Nat) : opp (x : Int) = ((oppN x : Nat) : Int) := by
  unfold opp oppN
  by_cases h : x = 0
  · subst h; rfl
  · rw [if_neg (by omega), if_neg h]
    by_cases h2 : x % 2 = 1
    · rw [if_pos (by omega), if_pos h2]; rfl
    · rw [if_neg (by omega), if_neg h2]; omega
theorem onceS_5 {O : Op} {e k : Nat} (h : O.1.1 = 5) : onceS O e k = oppN (O.2.2.2.1 e (O.2.1.1 - 1 - k)) := by unfold onceS; rw [if_pos h]
theorem onceS_4 {O : Op} {e k : Nat} (h5 : ¬ O.1.1 = 5) (h : O.1.1 = 4) (h2 : O.2.2.2.1 e k > 2) : onceS O e k = oppN (O.2.2.2.1 e k) := by unfold onceS; rw [if_neg h5, if_pos ⟨h, h2⟩]
theorem onceS_0 {O : Op} {e k : Nat} (h5 : ¬ O.1.1 = 5) (h : ¬ (O.1.1 = 4 ∧ O.2.2.2.1 e k > 2)) : onceS O e k = O.2.2.2.1 e k := by unfold onceS; rw [if_neg h5, if_neg h]
theorem onceC_5 {O : Op} {k : Nat} (h : O.1.1 = 5) : onceC O k = O.2.2.2.2 (O.2.1.1 - k) := by unfold onceC; rw [if_pos h]
theorem onceC_0 {O : Op} {k : Nat} (h : ¬ O.1.1 = 5) : onceC O k = O.2.2.2.2 k := by unfold onceC; rw [if_neg h]
theorem cpy_in {A B : Nat → Int} {F i j n x : Nat} {f : Nat → Nat → Nat} (hA : ∀ e q : Nat, e < 8 → q < 100 → A (100 * e + q) = if (e < i ∧ F ≤ q ∧ q < F + n) ∨ (e = i ∧ F ≤ q ∧ q < F + j) then ((f e (q - F) : Nat) : Int) else B (100 * e + q)) (hj : F + j < 100) (hjn : j < n) (hx : f i j = x) : ∀ e q : Nat, e < 8 → q < 100 → uz A (100 * i + F + j) (x : Int) (100 * e + q) = if (e < i ∧ F ≤ q ∧ q < F + n) ∨ (e = i ∧ F ≤ q ∧ q < F + (j + 1)) then ((f e (q - F) : Nat) : Int) else B (100 * e + q) := by
  intro e q he hq
  have h := hA e q he hq
  unfold uz
  by_cases hc : e = i ∧ q = F + j
  · obtain ⟨rfl, rfl⟩ := hc
    rw [if_pos (by omega), if_pos (by omega), Nat.add_sub_cancel_left, hx]
  · rw [if_neg (by omega), h]
    by_cases h2 : (e < i ∧ F ≤ q ∧ q < F + n) ∨ (e = i ∧ F ≤ q ∧ q < F + j)
    · rw [if_pos h2, if_pos (by omega)]
    · rw [if_neg h2, if_neg (by omega)]
theorem cpy_b {A B : Nat → Int} {F i n : Nat} {f : Nat → Nat → Nat} (hA : ∀ e q : Nat, e < 8 → q < 100 → A (100 * e + q) = if e < i ∧ F ≤ q ∧ q < F + n then ((f e (q - F) : Nat) : Int) else B (100 * e + q)) : ∀ e q : Nat, e < 8 → q < 100 → A (100 * e + q) = if (e < i ∧ F ≤ q ∧ q < F + n) ∨ (e = i ∧ F ≤ q ∧ q < F + 0) then ((f e (q - F) : Nat) : Int) else B (100 * e + q) := by
  intro e q he hq
  rw [hA e q he hq]
  by_cases h2 : e < i ∧ F ≤ q ∧ q < F + n
  · rw [if_pos h2, if_pos (by omega)]
  · rw [if_neg h2, if_neg (by omega)]
theorem cpy_e {A B : Nat → Int} {F i n : Nat} {f : Nat → Nat → Nat} (hA : ∀ e q : Nat, e < 8 → q < 100 → A (100 * e + q) = if (e < i ∧ F ≤ q ∧ q < F + n) ∨ (e = i ∧ F ≤ q ∧ q < F + n) then ((f e (q - F) : Nat) : Int) else B (100 * e + q)) : ∀ e q : Nat, e < 8 → q < 100 → A (100 * e + q) = if e < i + 1 ∧ F ≤ q ∧ q < F + n then ((f e (q - F) : Nat) : Int) else B (100 * e + q) := by
  intro e q he hq
  rw [hA e q he hq]
  by_cases h2 : e < i + 1 ∧ F ≤ q ∧ q < F + n
  · rw [if_pos h2, if_pos (by omega)]
  · rw [if_neg h2, if_neg (by omega)]
theorem cpc_in {B C : Nat → Int} {F i : Nat} {f : Nat → Nat} {x : Int} (hB : ∀ q : Nat, q < 100 → B q = if F ≤ q ∧ q < F + i then C q + ((f (q - F) : Nat) : Int) else C q) (hx : x = C (F + i) + (f i : Int)) : ∀ q : Nat, q < 100 → uz B (F + i) x q = if F ≤ q ∧ q < F + (i + 1) then C q + ((f (q - F) : Nat) : Int) else C q := by
  intro q hq
  have h := hB q hq
  unfold uz
  by_cases hc : q = F + i
  · subst hc
    rw [if_pos rfl, if_pos (by omega), hx, Nat.add_sub_cancel_left]
  · rw [if_neg hc, h]
    by_cases h2 : F ≤ q ∧ q < F + i
    · rw [if_pos h2, if_pos (by omega)]
    · rw [if_neg h2, if_neg (by omega)]
set_option maxRecDepth 100000 in
set_option maxHeartbeats 4000000 in
theorem k_copies {o1 F : Nat} {O : Op} (hM : MX g ad o h0 s h) (ho : o1 < 80) (hO : opAt s o1 O) (hb : O.1.1 ≤ 7 ∧ F + O.2.1.1 ≤ 99) (hs4 : ∀ e q : Nat, e < 8 → q < 100 → O.2.2.2.1 e q ≤ 4) (hd : 2 ≤ d) : Kc g mX3_copies d 0 0 [.ref o, vz (o1 : Int), vz (F : Int)] h ((mP g ad o h0 (fun v s' => v = none ∧ fr s s' [] [21, 22] ∧ (∀ e q : Nat, e < 8 → q < 100 → s'.2 21 (100 * e + q) = if F ≤ q ∧ q < F + O.2.1.1 then ((onceS O e (q - F) : Nat) : Int) else s.2 21 (100 * e + q)) ∧ ∀ q : Nat, q < 100 → s'.2 22 q = if F ≤ q ∧ q ≤ F + O.2.1.1 then s.2 22 q + ((onceC O (q - F) : Nat) : Int) else s.2 22 q))) := by
  refine Kc.of (ls := [some (.ref o), some (vz (o1 : Int)), some (vz (F : Int)), none, none, none, none, none]) (by decide +kernel) (Nat.le_of_ble_eq_true rfl) rfl ?_
  obtain ⟨o24, o25, o26, o27, o28, o29, o30, o31, o32, o33, o34⟩ := hO
  refine ev_aload_n dX3_copies_0 rfl ?_
  refine mx_getA hM dX3_copies_1 gf_X3_51_X3 rfl ?_
  refine ev_iload_n dX3_copies_4 rfl ?_
  refine mx_iald hM rfl dX3_copies_5 (by omega) ?_
  try simp only [uS_1, uA_1, uF_1, uS_2, uA_2a, uF_2a, Nat.reduceEqDiff, reduceIte, Int.reduceToNat, Int.toNat_natCast]
  rw [o27]
  refine ev_istore_n dX3_copies_6 (by decide) rfl ?_
  dsimp only [List.set]
  refine ev_iconstZ dX3_copies_7 ?_
  refine ev_istore dX3_copies_8 (by decide) rfl ?_
  dsimp only [List.set]
  refine ev_for 8 (fun i h => ∃ A : Nat → Int, MX g ad o h0 (uF s 21 A) h ∧ ∀ e q : Nat, e < 8 → q < 100 → A (100 * e + q) = if e < i ∧ F ≤ q ∧ q < F + O.2.1.1 then ((onceS O e (q - F) : Nat) : Int) else s.2 21 (100 * e + q)) (fun i => [some (.ref o), some (vz (o1 : Int)), some (vz (F : Int)), some (vz (O.2.1.1 : Int)), some (vz (i : Int)), none, none, none]) 0 (by omega) ⟨s.2 21, by rw [uF_self]; exact hM, fun e q he hq => by rw [if_neg (by omega)]⟩ (by repeat' first | exact rfl | exact trivial | exact vz_eq (by omega) | refine And.intro ?_ ?_) (fun i h hi1 hi2 hX hN => ?_) (fun h hX => ?_)
  · clear hM
    obtain ⟨A, hM, hA⟩ := hX
    refine ev_iload dX3_copies_10 rfl ?_
    refine ev_bipushZ dX3_copies_12 rfl ?_
    refine ev_icmp_geZ (tgt := 141) dX3_copies_14 (by decide) (by omega) (by omega) (fun c => absurd c (by omega)) (fun _ => ?_)
    refine ev_iconstZ dX3_copies_17 ?_
    refine ev_istore dX3_copies_18 (by decide) rfl ?_
    dsimp only [List.set]
    refine ev_for O.2.1.1 (fun j h => ∃ A : Nat → Int, MX g ad o h0 (uF s 21 A) h ∧ ∀ e q : Nat, e < 8 → q < 100 → A (100 * e + q) = if (e < i ∧ F ≤ q ∧ q < F + O.2.1.1) ∨ (e = i ∧ F ≤ q ∧ q < F + j) then ((onceS O e (q - F) : Nat) : Int) else s.2 21 (100 * e + q)) (fun j => [some (.ref o), some (vz (o1 : Int)), some (vz (F : Int)), some (vz (O.2.1.1 : Int)), some (vz (i : Int)), some (vz (j : Int)), none, none]) 0 (by omega) ⟨A, hM, cpy_b (B := s.2 21) hA⟩ (by repeat' first | exact rfl | exact trivial | exact vz_eq (by omega) | refine And.intro ?_ ?_) (fun j h hj1 hj2 hX hN2 => ?_) (fun h hX => ?_)
    · clear hM hA
      obtain ⟨A, hM, hA⟩ := hX
      by_cases h5 : O.1.1 = 5
      · have hst := hs4 i (O.2.1.1 - 1 - j) (by omega) (by omega)
        refine ev_iload dX3_copies_20 rfl ?_
        refine ev_iload_n dX3_copies_22 rfl ?_
        refine ev_icmp_geZ (tgt := 135) dX3_copies_23 (by decide) (by omega) (by omega) (fun c => absurd c (by omega)) (fun c23 => ?_)
        refine ev_aload_n dX3_copies_26 rfl ?_
        refine mx_getA hM dX3_copies_27 gf_X3_71_X3 rfl ?_
        refine ev_sipushZ dX3_copies_30 rfl ?_
        refine ev_iload_n dX3_copies_33 rfl ?_
        refine ev_imulZ dX3_copies_34 ?_
        refine ev_bipushZ dX3_copies_35 rfl ?_
        refine ev_iload dX3_copies_37 rfl ?_
        refine ev_imulZ dX3_copies_39 ?_
        refine ev_iaddZ dX3_copies_40 ?_
        refine ev_aload_n dX3_copies_41 rfl ?_
        refine mx_getA hM dX3_copies_42 gf_X3_42_X3 rfl ?_
        refine ev_iload_n dX3_copies_45 rfl ?_
        refine mx_iald hM rfl dX3_copies_46 (by omega) ?_
        try simp only [uS_1, uA_1, uF_1, uS_2, uA_2a, uF_2a, Nat.reduceEqDiff, reduceIte, Int.reduceToNat, Int.toNat_natCast]
        rw [o24]
        refine ev_iconstZ dX3_copies_47 ?_
        refine ev_icmp_neZ (tgt := 60) dX3_copies_48 (by decide) (by omega) (by omega) (fun c => absurd (by omega) c) (fun _ => ?_)
        refine ev_iload_n dX3_copies_51 rfl ?_
        refine ev_iconstZ dX3_copies_52 ?_
        refine ev_isubZ dX3_copies_53 ?_
        refine ev_iload dX3_copies_54 rfl ?_
        refine ev_isubZ dX3_copies_56 ?_
        refine ev_to (b := ((O.2.1.1 - 1 - j : Nat) : Int)) (by omega) ?_
        refine ev_goto (tgt := 62) dX3_copies_57 (by decide) ?_
        refine ev_iaddZ dX3_copies_62 ?_
        refine ev_to (b := ((800 * o1 + 100 * i + (O.2.1.1 - 1 - j) : Nat) : Int)) (by omega) ?_
        refine mx_iald hM rfl dX3_copies_63 (by omega) ?_
        try simp only [uS_1, uA_1, uF_1, uS_2, uA_2a, uF_2a, Nat.reduceEqDiff, reduceIte, Int.reduceToNat, Int.toNat_natCast]
        rw [o33 i (O.2.1.1 - 1 - j) (by omega) (by omega)]
        refine ev_istore dX3_copies_64 (by decide) rfl ?_
        dsimp only [List.set]
        refine ev_aload_n dX3_copies_66 rfl ?_
        refine mx_getA hM dX3_copies_67 gf_X3_42_X3 rfl ?_
        refine ev_iload_n dX3_copies_70 rfl ?_
        refine mx_iald hM rfl dX3_copies_71 (by omega) ?_
        try simp only [uS_1, uA_1, uF_1, uS_2, uA_2a, uF_2a, Nat.reduceEqDiff, reduceIte, Int.reduceToNat, Int.toNat_natCast]
        rw [o24]
        refine ev_iconstZ dX3_copies_72 ?_
        refine ev_icmp_eqZ (tgt := 92) dX3_copies_73 (by decide) (by omega) (by omega) (fun _ => ?_) (fun c => absurd (by omega) c)
        refine ev_iconstZ dX3_copies_92 ?_
        refine ev_goto (tgt := 97) dX3_copies_93 (by decide) ?_
        refine ev_istore dX3_copies_97 (by decide) rfl ?_
        dsimp only [List.set]
        refine ev_aload_n dX3_copies_99 rfl ?_
        refine mx_getA hM dX3_copies_100 gf_X3_36_X3 rfl ?_
        refine ev_bipushZ dX3_copies_103 rfl ?_
        refine ev_iload dX3_copies_105 rfl ?_
        refine ev_imulZ dX3_copies_107 ?_
        refine ev_iload_n dX3_copies_108 rfl ?_
        refine ev_iaddZ dX3_copies_109 ?_
        refine ev_iload dX3_copies_110 rfl ?_
        refine ev_iaddZ dX3_copies_112 ?_
        refine ev_to (b := ((100 * i + F + j : Nat) : Int)) (by omega) ?_
        refine ev_iload dX3_copies_113 rfl ?_
        refine ev_if_eqZ (tgt := 126) dX3_copies_115 (by decide) (by decide) (fun c => absurd c (by decide)) (fun _ => ?_)
        refine ev_iload dX3_copies_118 rfl ?_
        refine ev_callSE dX3_copies_120 cs_X3_180 ce_X3_opposite rfl rfl (k_opposite (d := d - 1) (v := ((O.2.2.2.1 i (O.2.1.1 - 1 - j) : Nat) : Int)) (by omega) (by omega)) (by omega) (Nat.le_of_ble_eq_true rfl) ?_
        rw [opp_N]
        refine ev_goto (tgt := 128) dX3_copies_123 (by decide) ?_
        refine mx_iast hM rfl dX3_copies_128 (by omega) (fun h hM => ?_)
        rw [uA_uF, Int.toNat_natCast] at hM
        refine ev_iincZ dX3_copies_129 rfl (by decide) rfl ?_
        dsimp only [List.set]
        refine ev_goto (tgt := 20) dX3_copies_132 (by decide) ?_
        exact hN2 _ _ (by repeat' first | exact rfl | exact trivial | exact vz_eq (by omega) | refine And.intro ?_ ?_) ⟨_, hM, cpy_in (B := s.2 21) hA (by omega) hj2 (onceS_5 h5)⟩
      · have hst := hs4 i j (by omega) (by omega)
        by_cases h4 : O.1.1 = 4 ∧ O.2.2.2.1 i j > 2
        · refine ev_iload dX3_copies_20 rfl ?_
          refine ev_iload_n dX3_copies_22 rfl ?_
          refine ev_icmp_geZ (tgt := 135) dX3_copies_23 (by decide) (by omega) (by omega) (fun c => absurd c (by omega)) (fun c23 => ?_)
          refine ev_aload_n dX3_copies_26 rfl ?_
          refine mx_getA hM dX3_copies_27 gf_X3_71_X3 rfl ?_
          refine ev_sipushZ dX3_copies_30 rfl ?_
          refine ev_iload_n dX3_copies_33 rfl ?_
          refine ev_imulZ dX3_copies_34 ?_
          refine ev_bipushZ dX3_copies_35 rfl ?_
          refine ev_iload dX3_copies_37 rfl ?_
          refine ev_imulZ dX3_copies_39 ?_
          refine ev_iaddZ dX3_copies_40 ?_
          refine ev_aload_n dX3_copies_41 rfl ?_
          refine mx_getA hM dX3_copies_42 gf_X3_42_X3 rfl ?_
          refine ev_iload_n dX3_copies_45 rfl ?_
          refine mx_iald hM rfl dX3_copies_46 (by omega) ?_
          try simp only [uS_1, uA_1, uF_1, uS_2, uA_2a, uF_2a, Nat.reduceEqDiff, reduceIte, Int.reduceToNat, Int.toNat_natCast]
          rw [o24]
          refine ev_iconstZ dX3_copies_47 ?_
          refine ev_icmp_neZ (tgt := 60) dX3_copies_48 (by decide) (by omega) (by omega) (fun _ => ?_) (fun c => absurd (by omega) h5)
          refine ev_iload dX3_copies_60 rfl ?_
          refine ev_iaddZ dX3_copies_62 ?_
          refine ev_to (b := ((800 * o1 + 100 * i + j : Nat) : Int)) (by omega) ?_
          refine mx_iald hM rfl dX3_copies_63 (by omega) ?_
          try simp only [uS_1, uA_1, uF_1, uS_2, uA_2a, uF_2a, Nat.reduceEqDiff, reduceIte, Int.reduceToNat, Int.toNat_natCast]
          rw [o33 i j (by omega) (by omega)]
          refine ev_istore dX3_copies_64 (by decide) rfl ?_
          dsimp only [List.set]
          refine ev_aload_n dX3_copies_66 rfl ?_
          refine mx_getA hM dX3_copies_67 gf_X3_42_X3 rfl ?_
          refine ev_iload_n dX3_copies_70 rfl ?_
          refine mx_iald hM rfl dX3_copies_71 (by omega) ?_
          try simp only [uS_1, uA_1, uF_1, uS_2, uA_2a, uF_2a, Nat.reduceEqDiff, reduceIte, Int.reduceToNat, Int.toNat_natCast]
          rw [o24]
          refine ev_iconstZ dX3_copies_72 ?_
          refine ev_icmp_eqZ (tgt := 92) dX3_copies_73 (by decide) (by omega) (by omega) (fun c => absurd (by omega) h5) (fun _ => ?_)
          refine ev_aload_n dX3_copies_76 rfl ?_
          refine mx_getA hM dX3_copies_77 gf_X3_42_X3 rfl ?_
          refine ev_iload_n dX3_copies_80 rfl ?_
          refine mx_iald hM rfl dX3_copies_81 (by omega) ?_
          try simp only [uS_1, uA_1, uF_1, uS_2, uA_2a, uF_2a, Nat.reduceEqDiff, reduceIte, Int.reduceToNat, Int.toNat_natCast]
          rw [o24]
          refine ev_iconstZ dX3_copies_82 ?_
          refine ev_icmp_neZ (tgt := 96) dX3_copies_83 (by decide) (by omega) (by omega) (fun c => absurd (by omega) c) (fun _ => ?_)
          refine ev_iload dX3_copies_86 rfl ?_
          refine ev_iconstZ dX3_copies_88 ?_
          refine ev_icmp_leZ (tgt := 96) dX3_copies_89 (by decide) (by omega) (by omega) (fun c => absurd c (by omega)) (fun _ => ?_)
          refine ev_iconstZ dX3_copies_92 ?_
          refine ev_goto (tgt := 97) dX3_copies_93 (by decide) ?_
          refine ev_istore dX3_copies_97 (by decide) rfl ?_
          dsimp only [List.set]
          refine ev_aload_n dX3_copies_99 rfl ?_
          refine mx_getA hM dX3_copies_100 gf_X3_36_X3 rfl ?_
          refine ev_bipushZ dX3_copies_103 rfl ?_
          refine ev_iload dX3_copies_105 rfl ?_
          refine ev_imulZ dX3_copies_107 ?_
          refine ev_iload_n dX3_copies_108 rfl ?_
          refine ev_iaddZ dX3_copies_109 ?_
          refine ev_iload dX3_copies_110 rfl ?_
          refine ev_iaddZ dX3_copies_112 ?_
          refine ev_to (b := ((100 * i + F + j : Nat) : Int)) (by omega) ?_
          refine ev_iload dX3_copies_113 rfl ?_
          refine ev_if_eqZ (tgt := 126) dX3_copies_115 (by decide) (by decide) (fun c => absurd c (by decide)) (fun _ => ?_)
          refine ev_iload dX3_copies_118 rfl ?_
          refine ev_callSE dX3_copies_120 cs_X3_180 ce_X3_opposite rfl rfl (k_opposite (d := d - 1) (v := ((O.2.2.2.1 i j : Nat) : Int)) (by omega) (by omega)) (by omega) (Nat.le_of_ble_eq_true rfl) ?_
          rw [opp_N]
          refine ev_goto (tgt := 128) dX3_copies_123 (by decide) ?_
          refine mx_iast hM rfl dX3_copies_128 (by omega) (fun h hM => ?_)
          rw [uA_uF, Int.toNat_natCast] at hM
          refine ev_iincZ dX3_copies_129 rfl (by decide) rfl ?_
          dsimp only [List.set]
          refine ev_goto (tgt := 20) dX3_copies_132 (by decide) ?_
          exact hN2 _ _ (by repeat' first | exact rfl | exact trivial | exact vz_eq (by omega) | refine And.intro ?_ ?_) ⟨_, hM, cpy_in (B := s.2 21) hA (by omega) hj2 (onceS_4 h5 h4.1 h4.2)⟩
        · refine ev_iload dX3_copies_20 rfl ?_
          refine ev_iload_n dX3_copies_22 rfl ?_
          refine ev_icmp_geZ (tgt := 135) dX3_copies_23 (by decide) (by omega) (by omega) (fun c => absurd c (by omega)) (fun c23 => ?_)
          refine ev_aload_n dX3_copies_26 rfl ?_
          refine mx_getA hM dX3_copies_27 gf_X3_71_X3 rfl ?_
          refine ev_sipushZ dX3_copies_30 rfl ?_
          refine ev_iload_n dX3_copies_33 rfl ?_
          refine ev_imulZ dX3_copies_34 ?_
          refine ev_bipushZ dX3_copies_35 rfl ?_
          refine ev_iload dX3_copies_37 rfl ?_
          refine ev_imulZ dX3_copies_39 ?_
          refine ev_iaddZ dX3_copies_40 ?_
          refine ev_aload_n dX3_copies_41 rfl ?_
          refine mx_getA hM dX3_copies_42 gf_X3_42_X3 rfl ?_
          refine ev_iload_n dX3_copies_45 rfl ?_
          refine mx_iald hM rfl dX3_copies_46 (by omega) ?_
          try simp only [uS_1, uA_1, uF_1, uS_2, uA_2a, uF_2a, Nat.reduceEqDiff, reduceIte, Int.reduceToNat, Int.toNat_natCast]
          rw [o24]
          refine ev_iconstZ dX3_copies_47 ?_
          refine ev_icmp_neZ (tgt := 60) dX3_copies_48 (by decide) (by omega) (by omega) (fun _ => ?_) (fun c => absurd (by omega) h5)
          refine ev_iload dX3_copies_60 rfl ?_
          refine ev_iaddZ dX3_copies_62 ?_
          refine ev_to (b := ((800 * o1 + 100 * i + j : Nat) : Int)) (by omega) ?_
          refine mx_iald hM rfl dX3_copies_63 (by omega) ?_
          try simp only [uS_1, uA_1, uF_1, uS_2, uA_2a, uF_2a, Nat.reduceEqDiff, reduceIte, Int.reduceToNat, Int.toNat_natCast]
          rw [o33 i j (by omega) (by omega)]
          refine ev_istore dX3_copies_64 (by decide) rfl ?_
          dsimp only [List.set]
          refine ev_aload_n dX3_copies_66 rfl ?_
          refine mx_getA hM dX3_copies_67 gf_X3_42_X3 rfl ?_
          refine ev_iload_n dX3_copies_70 rfl ?_
          refine mx_iald hM rfl dX3_copies_71 (by omega) ?_
          try simp only [uS_1, uA_1, uF_1, uS_2, uA_2a, uF_2a, Nat.reduceEqDiff, reduceIte, Int.reduceToNat, Int.toNat_natCast]
          rw [o24]
          refine ev_iconstZ dX3_copies_72 ?_
          refine ev_icmp_eqZ (tgt := 92) dX3_copies_73 (by decide) (by omega) (by omega) (fun c => absurd (by omega) h5) (fun _ => ?_)
          refine ev_aload_n dX3_copies_76 rfl ?_
          refine mx_getA hM dX3_copies_77 gf_X3_42_X3 rfl ?_
          refine ev_iload_n dX3_copies_80 rfl ?_
          refine mx_iald hM rfl dX3_copies_81 (by omega) ?_
          try simp only [uS_1, uA_1, uF_1, uS_2, uA_2a, uF_2a, Nat.reduceEqDiff, reduceIte, Int.reduceToNat, Int.toNat_natCast]
          rw [o24]
          refine ev_iconstZ dX3_copies_82 ?_
          refine ev_icmp_neZ (tgt := 96) dX3_copies_83 (by decide) (by omega) (by omega) (fun c83 => ?_) (fun c83 => ?_)
          · refine ev_iconstZ dX3_copies_96 ?_
            refine ev_istore dX3_copies_97 (by decide) rfl ?_
            dsimp only [List.set]
            refine ev_aload_n dX3_copies_99 rfl ?_
            refine mx_getA hM dX3_copies_100 gf_X3_36_X3 rfl ?_
            refine ev_bipushZ dX3_copies_103 rfl ?_
            refine ev_iload dX3_copies_105 rfl ?_
            refine ev_imulZ dX3_copies_107 ?_
            refine ev_iload_n dX3_copies_108 rfl ?_
            refine ev_iaddZ dX3_copies_109 ?_
            refine ev_iload dX3_copies_110 rfl ?_
            refine ev_iaddZ dX3_copies_112 ?_
            refine ev_to (b := ((100 * i + F + j : Nat) : Int)) (by omega) ?_
            refine ev_iload dX3_copies_113 rfl ?_
            refine ev_if_eqZ (tgt := 126) dX3_copies_115 (by decide) (by decide) (fun _ => ?_) (fun c => absurd rfl c)
            refine ev_iload dX3_copies_126 rfl ?_
            refine mx_iast hM rfl dX3_copies_128 (by omega) (fun h hM => ?_)
            rw [uA_uF, Int.toNat_natCast] at hM
            refine ev_iincZ dX3_copies_129 rfl (by decide) rfl ?_
            dsimp only [List.set]
            refine ev_goto (tgt := 20) dX3_copies_132 (by decide) ?_
            exact hN2 _ _ (by repeat' first | exact rfl | exact trivial | exact vz_eq (by omega) | refine And.intro ?_ ?_) ⟨_, hM, cpy_in (B := s.2 21) hA (by omega) hj2 (onceS_0 h5 h4)⟩
          · refine ev_iload dX3_copies_86 rfl ?_
            refine ev_iconstZ dX3_copies_88 ?_
            refine ev_icmp_leZ (tgt := 96) dX3_copies_89 (by decide) (by omega) (by omega) (fun _ => ?_) (fun c => absurd ⟨by omega, by omega⟩ h4)
            refine ev_iconstZ dX3_copies_96 ?_
            refine ev_istore dX3_copies_97 (by decide) rfl ?_
            dsimp only [List.set]
            refine ev_aload_n dX3_copies_99 rfl ?_
            refine mx_getA hM dX3_copies_100 gf_X3_36_X3 rfl ?_
            refine ev_bipushZ dX3_copies_103 rfl ?_
            refine ev_iload dX3_copies_105 rfl ?_
            refine ev_imulZ dX3_copies_107 ?_
            refine ev_iload_n dX3_copies_108 rfl ?_
            refine ev_iaddZ dX3_copies_109 ?_
            refine ev_iload dX3_copies_110 rfl ?_
            refine ev_iaddZ dX3_copies_112 ?_
            refine ev_to (b := ((100 * i + F + j : Nat) : Int)) (by omega) ?_
            refine ev_iload dX3_copies_113 rfl ?_
            refine ev_if_eqZ (tgt := 126) dX3_copies_115 (by decide) (by decide) (fun _ => ?_) (fun c => absurd rfl c)
            refine ev_iload dX3_copies_126 rfl ?_
            refine mx_iast hM rfl dX3_copies_128 (by omega) (fun h hM => ?_)
            rw [uA_uF, Int.toNat_natCast] at hM
            refine ev_iincZ dX3_copies_129 rfl (by decide) rfl ?_
            dsimp only [List.set]
            refine ev_goto (tgt := 20) dX3_copies_132 (by decide) ?_
            exact hN2 _ _ (by repeat' first | exact rfl | exact trivial | exact vz_eq (by omega) | refine And.intro ?_ ?_) ⟨_, hM, cpy_in (B := s.2 21) hA (by omega) hj2 (onceS_0 h5 h4)⟩
    · clear hM hA
      obtain ⟨A, hM, hA⟩ := hX
      refine ev_iload dX3_copies_20 rfl ?_
      refine ev_iload_n dX3_copies_22 rfl ?_
      refine ev_icmp_geZ (tgt := 135) dX3_copies_23 (by decide) (by omega) (by omega) (fun _ => ?_) (fun c => absurd (by omega) c)
      refine ev_iincZ dX3_copies_135 rfl (by decide) rfl ?_
      dsimp only [List.set]
      refine ev_goto (tgt := 10) dX3_copies_138 (by decide) ?_
      exact hN _ _ (by repeat' first | exact rfl | exact trivial | exact vz_eq (by omega) | refine And.intro ?_ ?_) ⟨_, hM, cpy_e (B := s.2 21) hA⟩
  · clear hM
    obtain ⟨A, hM, hA⟩ := hX
    refine ev_iload dX3_copies_10 rfl ?_
    refine ev_bipushZ dX3_copies_12 rfl ?_
    refine ev_icmp_geZ (tgt := 141) dX3_copies_14 (by decide) (by omega) (by omega) (fun _ => ?_) (fun c => absurd (by omega) c)
    refine ev_iconstZ dX3_copies_141 ?_
    refine ev_istore dX3_copies_142 (by decide) rfl ?_
    dsimp only [List.set]
    refine ev_for (O.2.1.1 + 1) (fun i h => ∃ B : Nat → Int, MX g ad o h0 (uF (uF s 21 A) 22 B) h ∧ ∀ q : Nat, q < 100 → B q = if F ≤ q ∧ q < F + i then s.2 22 q + ((onceC O (q - F) : Nat) : Int) else s.2 22 q) (fun i => [some (.ref o), some (vz (o1 : Int)), some (vz (F : Int)), some (vz (O.2.1.1 : Int)), some (vz (i : Int)), none, none, none]) 0 (by omega) (by refine ⟨s.2 22, by exact MX.congr2 hM (by intro j _ _; rfl) (by intro j i hj; simp only [uS_1, uA_1, uF_1, uS_2, uA_2a, uF_2a, Nat.reduceEqDiff, reduceIte, Int.reduceToNat, Int.toNat_natCast]; grind), fun q hq => ?_⟩; rw [if_neg (by omega)]) (by repeat' first | exact rfl | exact trivial | exact vz_eq (by omega) | refine And.intro ?_ ?_) (fun i h hi1 hi2 hX hN => ?_) (fun h hX => ?_)
    · clear hM
      obtain ⟨B, hM, hB⟩ := hX
      by_cases h5 : O.1.1 = 5
      · refine ev_iload dX3_copies_144 rfl ?_
        refine ev_iload_n dX3_copies_146 rfl ?_
        refine ev_icmp_gtZ (tgt := 197) dX3_copies_147 (by decide) (by omega) (by omega) (fun c => absurd c (by omega)) (fun _ => ?_)
        refine ev_aload_n dX3_copies_150 rfl ?_
        refine mx_getA hM dX3_copies_151 gf_X3_39_X3 rfl ?_
        refine ev_iload_n dX3_copies_154 rfl ?_
        refine ev_iload dX3_copies_155 rfl ?_
        refine ev_iaddZ dX3_copies_157 ?_
        refine ev_to (b := ((F + i : Nat) : Int)) (by omega) ?_
        refine ev_dup2 dX3_copies_158 rfl rfl ?_
        refine mx_iald hM rfl dX3_copies_159 (by omega) ?_
        try simp only [uS_1, uA_1, uF_1, uS_2, uA_2a, uF_2a, Nat.reduceEqDiff, reduceIte, Int.reduceToNat, Int.toNat_natCast]
        rw [hB (F + i) (by omega), if_neg (by omega)]
        refine ev_aload_n dX3_copies_160 rfl ?_
        refine mx_getA hM dX3_copies_161 gf_X3_74_X3 rfl ?_
        refine ev_bipushZ dX3_copies_164 rfl ?_
        refine ev_iload_n dX3_copies_166 rfl ?_
        refine ev_imulZ dX3_copies_167 ?_
        refine ev_aload_n dX3_copies_168 rfl ?_
        refine mx_getA hM dX3_copies_169 gf_X3_42_X3 rfl ?_
        refine ev_iload_n dX3_copies_172 rfl ?_
        refine mx_iald hM rfl dX3_copies_173 (by omega) ?_
        try simp only [uS_1, uA_1, uF_1, uS_2, uA_2a, uF_2a, Nat.reduceEqDiff, reduceIte, Int.reduceToNat, Int.toNat_natCast]
        rw [o24]
        refine ev_iconstZ dX3_copies_174 ?_
        refine ev_icmp_neZ (tgt := 185) dX3_copies_175 (by decide) (by omega) (by omega) (fun c => absurd (by omega) c) (fun _ => ?_)
        refine ev_iload_n dX3_copies_178 rfl ?_
        refine ev_iload dX3_copies_179 rfl ?_
        refine ev_isubZ dX3_copies_181 ?_
        refine ev_to (b := ((O.2.1.1 - i : Nat) : Int)) (by omega) ?_
        refine ev_goto (tgt := 187) dX3_copies_182 (by decide) ?_
        refine ev_iaddZ dX3_copies_187 ?_
        refine ev_to (b := ((100 * o1 + (O.2.1.1 - i) : Nat) : Int)) (by omega) ?_
        refine mx_iald hM rfl dX3_copies_188 (by omega) ?_
        try simp only [uS_1, uA_1, uF_1, uS_2, uA_2a, uF_2a, Nat.reduceEqDiff, reduceIte, Int.reduceToNat, Int.toNat_natCast]
        rw [o34 (O.2.1.1 - i) (by omega)]
        refine ev_iaddZ dX3_copies_189 ?_
        refine mx_iast hM rfl dX3_copies_190 (by omega) (fun h hM => ?_)
        rw [uA_uF, Int.toNat_natCast] at hM
        refine ev_iincZ dX3_copies_191 rfl (by decide) rfl ?_
        dsimp only [List.set]
        refine ev_goto (tgt := 144) dX3_copies_194 (by decide) ?_
        exact hN _ _ (by repeat' first | exact rfl | exact trivial | exact vz_eq (by omega) | refine And.intro ?_ ?_) ⟨_, hM, cpc_in (C := s.2 22) hB (by rw [onceC_5 h5])⟩
      · refine ev_iload dX3_copies_144 rfl ?_
        refine ev_iload_n dX3_copies_146 rfl ?_
        refine ev_icmp_gtZ (tgt := 197) dX3_copies_147 (by decide) (by omega) (by omega) (fun c => absurd c (by omega)) (fun _ => ?_)
        refine ev_aload_n dX3_copies_150 rfl ?_
        refine mx_getA hM dX3_copies_151 gf_X3_39_X3 rfl ?_
        refine ev_iload_n dX3_copies_154 rfl ?_
        refine ev_iload dX3_copies_155 rfl ?_
        refine ev_iaddZ dX3_copies_157 ?_
        refine ev_to (b := ((F + i : Nat) : Int)) (by omega) ?_
        refine ev_dup2 dX3_copies_158 rfl rfl ?_
        refine mx_iald hM rfl dX3_copies_159 (by omega) ?_
        try simp only [uS_1, uA_1, uF_1, uS_2, uA_2a, uF_2a, Nat.reduceEqDiff, reduceIte, Int.reduceToNat, Int.toNat_natCast]
        rw [hB (F + i) (by omega), if_neg (by omega)]
        refine ev_aload_n dX3_copies_160 rfl ?_
        refine mx_getA hM dX3_copies_161 gf_X3_74_X3 rfl ?_
        refine ev_bipushZ dX3_copies_164 rfl ?_
        refine ev_iload_n dX3_copies_166 rfl ?_
        refine ev_imulZ dX3_copies_167 ?_
        refine ev_aload_n dX3_copies_168 rfl ?_
        refine mx_getA hM dX3_copies_169 gf_X3_42_X3 rfl ?_
        refine ev_iload_n dX3_copies_172 rfl ?_
        refine mx_iald hM rfl dX3_copies_173 (by omega) ?_
        try simp only [uS_1, uA_1, uF_1, uS_2, uA_2a, uF_2a, Nat.reduceEqDiff, reduceIte, Int.reduceToNat, Int.toNat_natCast]
        rw [o24]
        refine ev_iconstZ dX3_copies_174 ?_
        refine ev_icmp_neZ (tgt := 185) dX3_copies_175 (by decide) (by omega) (by omega) (fun _ => ?_) (fun c => absurd (by omega) h5)
        refine ev_iload dX3_copies_185 rfl ?_
        refine ev_iaddZ dX3_copies_187 ?_
        refine ev_to (b := ((100 * o1 + i : Nat) : Int)) (by omega) ?_
        refine mx_iald hM rfl dX3_copies_188 (by omega) ?_
        try simp only [uS_1, uA_1, uF_1, uS_2, uA_2a, uF_2a, Nat.reduceEqDiff, reduceIte, Int.reduceToNat, Int.toNat_natCast]
        rw [o34 i (by omega)]
        refine ev_iaddZ dX3_copies_189 ?_
        refine mx_iast hM rfl dX3_copies_190 (by omega) (fun h hM => ?_)
        rw [uA_uF, Int.toNat_natCast] at hM
        refine ev_iincZ dX3_copies_191 rfl (by decide) rfl ?_
        dsimp only [List.set]
        refine ev_goto (tgt := 144) dX3_copies_194 (by decide) ?_
        exact hN _ _ (by repeat' first | exact rfl | exact trivial | exact vz_eq (by omega) | refine And.intro ?_ ?_) ⟨_, hM, cpc_in (C := s.2 22) hB (by rw [onceC_0 h5])⟩
    · clear hM
      obtain ⟨B, hM, hB⟩ := hX
      refine ev_iload dX3_copies_144 rfl ?_
      refine ev_iload_n dX3_copies_146 rfl ?_
      refine ev_icmp_gtZ (tgt := 197) dX3_copies_147 (by decide) (by omega) (by omega) (fun _ => ?_) (fun c => absurd (by omega) c)
      refine ev_return dX3_copies_197 rfl ?_
      refine ⟨none, _, rfl, ⟨rfl, fr.F (fr.F (fr.refl _ _ _) rfl) rfl, fun e q he hq => ?_, fun q hq => ?_⟩, hM⟩
      · simp only [uS_1, uA_1, uF_1, uS_2, uA_2a, uF_2a, Nat.reduceEqDiff, reduceIte, Int.reduceToNat, Int.toNat_natCast]; rw [hA e q he hq]; by_cases c : F ≤ q ∧ q < F + O.2.1.1
        · rw [if_pos c, if_pos (by omega)]
        · rw [if_neg c, if_neg (by omega)]
      · simp only [uS_1, uA_1, uF_1, uS_2, uA_2a, uF_2a, Nat.reduceEqDiff, reduceIte, Int.reduceToNat, Int.toNat_natCast]; rw [hB q hq]; by_cases c : F ≤ q ∧ q ≤ F + O.2.1.1
        · rw [if_pos c, if_pos (by omega)]
        · rw [if_neg c, if_neg (by omega)]
end M6

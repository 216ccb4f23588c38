/-! the reference reads: what follows a part, and all (printed by gen) -/
section RA
variable {L1 : Nat → Int} {g : GB} {M : MI} {d c k : Nat} {Q : RS → HM → Prop} {pc : Nat} {ls : List (Option Value)} {st : List Value} {h : HM} {a b : Int} {ad : Nat → Nat} {o : Nat} {h0 : HM} {s : MSt}
theorem folM_ctl (c : List Nat) (p : Nat) (ns : List Nd) (lv : List (Nat × Nat)) : (folM c p ns lv).1 ≤ 3 := by
  unfold folM
  repeat' split
  all_goals (dsimp only; omega)
theorem phrM_ctl (c : List Nat) (k v p : Nat) (b : Bool) (ns : List Nd) (lv : List (Nat × Nat)) : (phrM c k v p b ns lv).1 = 1 ∨ (phrM c k v p b ns lv).1 = 3 := by
  unfold phrM
  cases (phrF c p b).1
  · exact Or.inr rfl
  · exact Or.inl rfl
theorem opnM_ctl (c : List Nat) (p : Nat) (ns : List Nd) (lv : List (Nat × Nat)) : (opnM c p ns lv).1 = 0 ∨ (opnM c p ns lv).1 = 3 := by
  unfold opnM
  split
  · exact Or.inl rfl
  · exact Or.inr rfl
theorem untM_ctl (c : List Nat) (p : Nat) (ns : List Nd) (lv : List (Nat × Nat)) : (untM c p ns lv).1 ≠ 2 ∧ (untM c p ns lv).1 ≤ 3 := by
  unfold untM
  have h1 : ∀ k v p b ns lv, (phrM c k v p b ns lv).1 ≠ 2 ∧ (phrM c k v p b ns lv).1 ≤ 3 := fun k v p b ns lv => by have := phrM_ctl c k v p b ns lv; omega
  have h2 : ∀ p ns lv, (opnM c p ns lv).1 ≠ 2 ∧ (opnM c p ns lv).1 ≤ 3 := fun p ns lv => by have := opnM_ctl c p ns lv; omega
  split
  · exact ⟨by show (1 : Nat) ≠ 2; decide, by show (1 : Nat) ≤ 3; decide⟩
  · split
    · split
      · exact h1 _ _ _ _ _ _
      · exact h1 _ _ _ _ _ _
    · split
      · split
        · exact h2 _ _ _
        · exact ⟨by show (3 : Nat) ≠ 2; decide, by show (3 : Nat) ≤ 3; decide⟩
      · split
        · exact h2 _ _ _
        · exact h1 _ _ _ _ _ _
theorem begM_ctl (c : List Nat) (p : Nat) (ns : List Nd) (lv : List (Nat × Nat)) : (begM c p ns lv).1 ≠ 2 ∧ (begM c p ns lv).1 ≤ 3 := by
  unfold begM
  split
  · exact untM_ctl _ _ _ _
  · exact untM_ctl _ _ _ _
theorem itM_fin (c : List Nat) {S : Rm} (h : 2 ≤ S.1) : ∀ n, itM c n S = S := by
  intro n
  induction n with
  | zero => rfl
  | succ n ih =>
    show itM c n (stpM c S) = S
    rw [show stpM c S = S by unfold stpM; rw [if_neg (by omega), if_neg (by omega)]]
    exact ih
theorem rch_fin {c : List Nat} {S R R' : Rm} (h : rch c S R) (h' : rch c S R') (hR : 2 ≤ R.1) (hR' : 2 ≤ R'.1) : R = R' := by
  obtain ⟨n, rfl⟩ := h
  obtain ⟨m, rfl⟩ := h'
  rcases Nat.le_total n m with q | q
  · obtain ⟨k, rfl⟩ := Nat.exists_eq_add_of_le q
    rw [itM_add, itM_fin c hR]
  · obtain ⟨k, rfl⟩ := Nat.exists_eq_add_of_le q
    rw [itM_add, itM_fin c hR']
def rmAtL (L : Nat → Int) (s : MSt) (c : List Nat) (S : Rm) : Prop := rmAt L s c S
/-- where a reading stands between two parts *-/
def rmGo (c : List Nat) (S : Rm) : Prop := (S.1 = 0 ∧ rmOk c S.2.1 S.2.2.1 S.2.2.2) ∨ (S.1 = 2 ∧ rmOk c S.2.1 S.2.2.1 S.2.2.2) ∨ (S.1 = 3 ∧ S.2.1 ≤ c.length)
set_option maxRecDepth 100000 in
set_option maxHeartbeats 4000000 in
theorem k_follows {c1 : List Nat} {p : Nat} {ns : List Nd} {lv : List (Nat × Nat)} (hM : MX g ad o h0 s h) (hps : psAt L1 s c1 p true ns lv) (hok : rmOk c1 p ns lv) (hd : 5 ≤ d) : Kc g mX3_follows d 0 0 [.ref o] h (mP g ad o h0 (fun v1 s' => ∃ R : Rm, v1 = some (vz (bI (decide (R.1 = 0)))) ∧ fr s s' [35, 36, 37] [1, 38, 39] ∧ rmAt L1 s' c1 R ∧ rch c1 (1, p, ns, lv) R ∧ rmGo c1 R ∧ (R.1 = 0 → p < R.2.1))) := by
  refine Kc.of (ls := [some (.ref o)]) (by decide +kernel) (Nat.le_of_ble_eq_true rfl) rfl ?_
  have T47 : ∀ (s1 : MSt) (h : HM) (p1 : Nat) (ns1 : List Nd) (lv1 : List (Nat × Nat)), MX g ad o h0 s1 h → fr s s1 [35, 36, 37] [1, 38, 39] → psAt L1 s1 c1 p1 true ns1 lv1 → rmOk c1 p1 ns1 lv1 → rch c1 (1, p, ns, lv) (1, p1, ns1, lv1) → p ≤ p1 → ¬ (1 < lv1.length ∧ hrV c1 p1 = 41) → Ev g mX3_follows d 0 0 (mP g ad o h0 (fun v1 s' => ∃ R : Rm, v1 = some (vz (bI (decide (R.1 = 0)))) ∧ fr s s' [35, 36, 37] [1, 38, 39] ∧ rmAt L1 s' c1 R ∧ rch c1 (1, p, ns, lv) R ∧ rmGo c1 R ∧ (R.1 = 0 → p < R.2.1))) 47 [some (.ref o)] [] h := by
    intro s1 h p1 ns1 lv1 hM hfr hps hok1 hrc hpp hne
    obtain ⟨hp1, hn1, hd1, hl1, hl11, htops⟩ := id hok1
    have hv := hrV_lt hps.1
    have hc100 := hps.1.2.2.1
    obtain ⟨x0, lvt, elv⟩ : ∃ x0 lvt, lv1 = x0 :: lvt := by cases lv1 with | nil => simp at hl1 | cons x l => exact ⟨x, l, rfl⟩
    have hx0 : x0.1 < ns1.length := (htops x0 (by rw [elv]; simp)).1
    have hlvs : s1.2 38 lvt.length = x0.1 ∧ s1.2 39 lvt.length = x0.2 ∧ lvAt s1 lvt := by have q := hps.2.2.2; rw [elv] at q; exact q
    have hlv1 := hlvs.1
    have hlvt := hlvs.2.2
    refine ev_aload_n dX3_follows_47 rfl ?_
    refine mx_call dX3_follows_48 cv_X3_234_X3 ce_X3_here hM rfl rfl (k_here hM hps.1 (by omega) (d := d - 1) (by omega)) (by omega) (Nat.le_of_ble_eq_true rfl) (fun h hM => ?_)
    refine ev_bipushZ dX3_follows_51 rfl ?_
    refine ev_icmp_neZ (tgt := 75) dX3_follows_53 (by decide) (by omega) (by omega) (fun c53 => ?_) (fun c53 => ?_)
    · refine ev_aload_n dX3_follows_75 rfl ?_
      refine mx_call dX3_follows_76 cv_X3_234_X3 ce_X3_here hM rfl rfl (k_here hM hps.1 (by omega) (d := d - 1) (by omega)) (by omega) (Nat.le_of_ble_eq_true rfl) (fun h hM => ?_)
      refine ev_bipushZ dX3_follows_79 rfl ?_
      refine ev_icmp_neZ (tgt := 99) dX3_follows_81 (by decide) (by omega) (by omega) (fun c81 => ?_) (fun c81 => ?_)
      · have e99 : folM c1 p1 ns1 lv1 = (if lv1.length = 1 ∧ p1 = c1.length then (2, p1, ns1, lv1) else (3, p1, ns1, lv1)) := by unfold folM; rw [if_neg hne, if_neg (by omega), if_neg (by omega)]
        have T131 : ∀ (h : HM), MX g ad o h0 s1 h → ∀ b3 : Bool, b3 = decide (lv1.length = 1 ∧ p1 = c1.length) → Ev g mX3_follows d 0 0 (mP g ad o h0 (fun v1 s' => ∃ R : Rm, v1 = some (vz (bI (decide (R.1 = 0)))) ∧ fr s s' [35, 36, 37] [1, 38, 39] ∧ rmAt L1 s' c1 R ∧ rch c1 (1, p, ns, lv) R ∧ rmGo c1 R ∧ (R.1 = 0 → p < R.2.1))) 131 [some (.ref o)] [vz (bI b3), .ref o] h := by
          intro h hM b3 eb
          refine mx_putB hM dX3_follows_131 gf_X3_231_X3 rfl (bI_o _) (fun h hM => ?_)
          refine ev_iconstZ dX3_follows_134 ?_
          refine ev_zreturn dX3_follows_135 rfl rfl ?_
          have hq := hps.right b3
          have hgo := rmS_fol hok1
          rw [e99] at hgo
          subst eb
          by_cases q : lv1.length = 1 ∧ p1 = c1.length
          · rw [if_pos q] at e99 hgo
            rw [decide_eq_true q] at hq hM
            exact ⟨_, _, rfl, ⟨(2, p1, ns1, lv1), rfl, fr.S hfr rfl, hq, hrc.trans (rch.step e99), Or.inr (Or.inl ⟨rfl, hok1⟩), fun h => by cases h⟩, hM⟩
          · rw [if_neg q] at e99 hgo
            rw [decide_eq_false q] at hq hM
            exact ⟨_, _, rfl, ⟨(3, p1, ns1, lv1), rfl, fr.S hfr rfl, hq, hrc.trans (rch.step e99), Or.inr (Or.inr ⟨rfl, hok1.1⟩), fun h => by cases h⟩, hM⟩
        refine ev_aload_n dX3_follows_99 rfl ?_
        refine ev_aload_n dX3_follows_100 rfl ?_
        refine mx_getI hM dX3_follows_101 gf_X3_231_X3 rfl ?_
        try simp only [uS_1, uA_1, uF_1, uS_2, uA_2a, uF_2a, Nat.reduceEqDiff, reduceIte, Int.reduceToNat, Int.toNat_natCast]
        rw [hps.1.2.2.2.1]
        refine ev_if_eqB (tgt := 130) dX3_follows_104 (by decide) (fun c104 => by cases c104) (fun c104 => ?_)
        refine ev_aload_n dX3_follows_107 rfl ?_
        refine mx_getI hM dX3_follows_108 gf_X3_238_X3 rfl ?_
        try simp only [uS_1, uA_1, uF_1, uS_2, uA_2a, uF_2a, Nat.reduceEqDiff, reduceIte, Int.reduceToNat, Int.toNat_natCast]
        rw [hps.2.2.1]
        refine ev_iconstZ dX3_follows_111 ?_
        refine ev_icmp_neZ (tgt := 130) dX3_follows_112 (by decide) (by omega) (by omega) (fun c112 => ?_) (fun c112 => ?_)
        · refine ev_iconstZ dX3_follows_130 ?_
          exact T131 h hM false (by rw [decide_eq_false (fun q => by omega)])
        · refine ev_aload_n dX3_follows_115 rfl ?_
          refine mx_getI hM dX3_follows_116 gf_X3_228_X3 rfl ?_
          try simp only [uS_1, uA_1, uF_1, uS_2, uA_2a, uF_2a, Nat.reduceEqDiff, reduceIte, Int.reduceToNat, Int.toNat_natCast]
          rw [hps.1.1]
          refine ev_aload_n dX3_follows_119 rfl ?_
          refine mx_getI hM dX3_follows_120 gf_X3_225_X3 rfl ?_
          try simp only [uS_1, uA_1, uF_1, uS_2, uA_2a, uF_2a, Nat.reduceEqDiff, reduceIte, Int.reduceToNat, Int.toNat_natCast]
          rw [hps.1.2.1]
          refine ev_icmp_neZ (tgt := 130) dX3_follows_123 (by decide) (by omega) (by omega) (fun c123 => ?_) (fun c123 => ?_)
          · refine ev_iconstZ dX3_follows_130 ?_
            exact T131 h hM false (by rw [decide_eq_false (fun q => by omega)])
          · refine ev_iconstZ dX3_follows_126 ?_
            refine ev_goto (tgt := 131) dX3_follows_127 (by decide) ?_
            exact T131 h hM true (by rw [decide_eq_true (by omega)])
      · have hlt := hrV_in c81 (by decide)
        have hgo := rmS_fol hok1
        have e124 : folM c1 p1 ns1 lv1 = (0, p1 + 1, ns1, lv1) := by unfold folM; rw [if_neg hne, if_neg (by omega), if_pos c81]
        rw [e124] at hgo
        refine ev_aload_n dX3_follows_84 rfl ?_
        refine ev_dup dX3_follows_85 rfl ?_
        refine mx_getI hM dX3_follows_86 gf_X3_228_X3 rfl ?_
        try simp only [uS_1, uA_1, uF_1, uS_2, uA_2a, uF_2a, Nat.reduceEqDiff, reduceIte, Int.reduceToNat, Int.toNat_natCast]
        rw [hps.1.1]
        refine ev_iconstZ dX3_follows_89 ?_
        refine ev_iaddZ dX3_follows_90 ?_
        refine ev_to (b := ((p1 + 1 : Nat) : Int)) (by omega) ?_
        refine mx_putI hM dX3_follows_91 gf_X3_228_X3 rfl (fun h hM => ?_)
        refine ev_aload_n dX3_follows_94 rfl ?_
        refine mx_getI hM dX3_follows_95 gf_X3_231_X3 rfl ?_
        try simp only [uS_1, uA_1, uF_1, uS_2, uA_2a, uF_2a, Nat.reduceEqDiff, reduceIte, Int.reduceToNat, Int.toNat_natCast]
        rw [hps.1.2.2.2.1]
        refine ev_zreturn dX3_follows_98 rfl (narrow_zb (bI_o _)) ?_
        refine ⟨_, _, rfl, ⟨(0, p1 + 1, ns1, lv1), rfl, fr.S hfr rfl, hps.spot (p1 + 1), hrc.trans (rch.step e124), Or.inl ⟨rfl, (hgo.2.1 (Nat.le_of_ble_eq_true rfl)).2⟩, fun _ => by show p < p1 + 1; omega⟩, hM⟩
    · have hlt := hrV_in c53 (by decide)
      have hgo := rmS_fol hok1
      have e59 : folM c1 p1 ns1 lv1 = (0, p1 + 1, incB 1 ns1 x0.1 ++ [(6, 0, 0, [], [])], (x0.1, ns1.length) :: lvt) := by unfold folM; rw [if_neg hne, if_pos c53, elv]; rfl
      rw [e59] at hgo
      refine ev_aload_n dX3_follows_56 rfl ?_
      refine ev_dup dX3_follows_57 rfl ?_
      refine mx_getI hM dX3_follows_58 gf_X3_228_X3 rfl ?_
      try simp only [uS_1, uA_1, uF_1, uS_2, uA_2a, uF_2a, Nat.reduceEqDiff, reduceIte, Int.reduceToNat, Int.toNat_natCast]
      rw [hps.1.1]
      refine ev_iconstZ dX3_follows_61 ?_
      refine ev_iaddZ dX3_follows_62 ?_
      refine ev_to (b := ((p1 + 1 : Nat) : Int)) (by omega) ?_
      refine mx_putI hM dX3_follows_63 gf_X3_228_X3 rfl (fun h hM => ?_)
      refine ev_aload_n dX3_follows_66 rfl ?_
      refine mx_callP dX3_follows_67 cv_X3_244_X3 ce_X3_beginsLayer hM rfl rfl (k_beginsLayer (c1 := c1) (p := p1 + 1) (b1 := true) (ns := ns1) (lv := lvt) (si := x0.1) (nd := ns1.getD x0.1 noNd) hM (hps.1.spot (p1 + 1)) hps.2.1 (by show s1.1 37 = _; rw [hps.2.2.1, elv]; rfl) hlv1 (hlvt.same rfl rfl) (by rw [List.getD_eq_getElem?_getD, List.getElem?_eq_getElem hx0]; rfl) (by omega) (by omega) (by rw [elv] at hl11; simp at hl11; omega) (d := d - 1) (by omega)) (by omega) (Nat.le_of_ble_eq_true rfl) (fun v s' h hP hM => ?_)
      obtain ⟨rfl, f2, q2⟩ := hP
      refine ev_aload_n dX3_follows_70 rfl ?_
      refine mx_getI hM dX3_follows_71 gf_X3_231_X3 rfl ?_
      try simp only [uS_1, uA_1, uF_1, uS_2, uA_2a, uF_2a, Nat.reduceEqDiff, reduceIte, Int.reduceToNat, Int.toNat_natCast]
      rw [q2.1.2.2.2.1]
      refine ev_zreturn dX3_follows_74 rfl (narrow_zb (bI_o _)) ?_
      refine ⟨_, _, rfl, ⟨(0, p1 + 1, incB 1 ns1 x0.1 ++ [(6, 0, 0, [], [])], (x0.1, ns1.length) :: lvt), rfl, (fr.S hfr rfl).trans (f2.more rfl rfl), q2, hrc.trans (rch.step e59), Or.inl ⟨rfl, (hgo.2.1 (Nat.le_of_ble_eq_true rfl)).2⟩, fun _ => by show p < p1 + 1; omega⟩, hM⟩
  refine ev_while (X := Nat × List Nd × List (Nat × Nat)) (fun x => c1.length - x.1) (fun x h => ∃ s1 : MSt, (fr s s1 [35, 36, 37] [1, 38, 39] ∧ psAt L1 s1 c1 x.1 true x.2.1 x.2.2 ∧ rmOk c1 x.1 x.2.1 x.2.2 ∧ rch c1 (1, p, ns, lv) (1, x.1, x.2.1, x.2.2) ∧ p ≤ x.1) ∧ MX g ad o h0 s1 h) (fun _ => [some (.ref o)]) (p, ns, lv) ⟨s, ⟨fr.refl _ _ _, hps, hok, rch.refl _ _, Nat.le_refl _⟩, hM⟩ (by repeat' first | exact rfl | exact trivial | exact vz_eq (by omega) | refine And.intro ?_ ?_) (fun x h hX hN => ?_)
  clear hM hps hok
  obtain ⟨p1, ns1, lv1⟩ := x
  obtain ⟨s1, ⟨hfr, hps, hok1, hrc, hpp⟩, hM⟩ := hX
  dsimp only at hps hok1 hrc hpp
  obtain ⟨hp1, hn1, hd1, hl1, hl11, htops⟩ := id hok1
  have hv := hrV_lt hps.1
  have hc100 := hps.1.2.2.1
  refine ev_aload_n dX3_follows_0 rfl ?_
  refine mx_getI hM dX3_follows_1 gf_X3_231_X3 rfl ?_
  try simp only [uS_1, uA_1, uF_1, uS_2, uA_2a, uF_2a, Nat.reduceEqDiff, reduceIte, Int.reduceToNat, Int.toNat_natCast]
  rw [hps.1.2.2.2.1]
  refine ev_if_eqB (tgt := 47) dX3_follows_4 (by decide) (fun c4 => by cases c4) (fun c4 => ?_)
  refine ev_aload_n dX3_follows_7 rfl ?_
  refine mx_getI hM dX3_follows_8 gf_X3_238_X3 rfl ?_
  try simp only [uS_1, uA_1, uF_1, uS_2, uA_2a, uF_2a, Nat.reduceEqDiff, reduceIte, Int.reduceToNat, Int.toNat_natCast]
  rw [hps.2.2.1]
  refine ev_iconstZ dX3_follows_11 ?_
  refine ev_icmp_leZ (tgt := 47) dX3_follows_12 (by decide) (by omega) (by omega) (fun c12 => ?_) (fun c12 => ?_)
  · exact T47 _ h p1 ns1 lv1 hM hfr hps hok1 hrc hpp (fun q => by omega)
  · refine ev_aload_n dX3_follows_15 rfl ?_
    refine mx_call dX3_follows_16 cv_X3_234_X3 ce_X3_here hM rfl rfl (k_here hM hps.1 (by omega) (d := d - 1) (by omega)) (by omega) (Nat.le_of_ble_eq_true rfl) (fun h hM => ?_)
    refine ev_bipushZ dX3_follows_19 rfl ?_
    refine ev_icmp_neZ (tgt := 47) dX3_follows_21 (by decide) (by omega) (by omega) (fun c21 => ?_) (fun c21 => ?_)
    · exact T47 _ h p1 ns1 lv1 hM hfr hps hok1 hrc hpp (fun q => by omega)
    · have hlt := hrV_in c21 (by decide)
      have hgo := rmS_fol hok1
      have e41 : folM c1 p1 ns1 lv1 = (1, p1 + 1, ns1, lv1.tail) := by unfold folM; rw [if_pos ⟨by omega, c21⟩]
      rw [e41] at hgo
      refine ev_aload_n dX3_follows_24 rfl ?_
      refine ev_dup dX3_follows_25 rfl ?_
      refine mx_getI hM dX3_follows_26 gf_X3_228_X3 rfl ?_
      try simp only [uS_1, uA_1, uF_1, uS_2, uA_2a, uF_2a, Nat.reduceEqDiff, reduceIte, Int.reduceToNat, Int.toNat_natCast]
      rw [hps.1.1]
      refine ev_iconstZ dX3_follows_29 ?_
      refine ev_iaddZ dX3_follows_30 ?_
      refine ev_to (b := ((p1 + 1 : Nat) : Int)) (by omega) ?_
      refine mx_putI hM dX3_follows_31 gf_X3_228_X3 rfl (fun h hM => ?_)
      refine ev_aload_n dX3_follows_34 rfl ?_
      refine ev_dup dX3_follows_35 rfl ?_
      refine mx_getI hM dX3_follows_36 gf_X3_238_X3 rfl ?_
      try simp only [uS_1, uA_1, uF_1, uS_2, uA_2a, uF_2a, Nat.reduceEqDiff, reduceIte, Int.reduceToNat, Int.toNat_natCast]
      rw [hps.2.2.1]
      refine ev_iconstZ dX3_follows_39 ?_
      refine ev_isubZ dX3_follows_40 ?_
      refine ev_to (b := ((lv1.tail.length : Nat) : Int)) (by rw [List.length_tail]; omega) ?_
      refine mx_putI hM dX3_follows_41 gf_X3_238_X3 rfl (fun h hM => ?_)
      refine ev_goto (tgt := 0) dX3_follows_44 (by decide) ?_
      refine hN (p1 + 1, ns1, lv1.tail) _ _ (by show c1.length - (p1 + 1) < c1.length - p1; omega) (by repeat' first | exact rfl | exact trivial | exact vz_eq (by omega) | refine And.intro ?_ ?_) ⟨_, ⟨fr.S (fr.S hfr rfl) rfl, ?_, (hgo.2.1 (Nat.le_of_ble_eq_true rfl)).2, hrc.trans (rch.step e41), by show p ≤ p1 + 1; omega⟩, hM⟩
      obtain ⟨x0, lvt, elv⟩ : ∃ x0 lvt, lv1 = x0 :: lvt := by cases lv1 with | nil => simp at hl1 | cons x l => exact ⟨x, l, rfl⟩
      refine ⟨(hps.1.spot (p1 + 1)).fr (fr.S (fr.refl _ [37] []) rfl) rfl rfl, hps.2.1, rfl, ?_⟩
      have q := hps.2.2.2
      rw [elv] at q ⊢
      exact q.2.2.same rfl rfl
set_option maxRecDepth 100000 in
set_option maxHeartbeats 4000000 in
theorem k_isText {c1 : List Nat} (hM : MX g ad o h0 s h) (hin : s.1 10 = c1.length ∧ c1.length ≤ 100 ∧ ∀ i x : Nat, c1[i]? = some x → s.2 9 i = x ∧ x < 256) (hd : 9 ≤ d) : Kc g mX3_isText d 0 0 [.ref o] h (mP g ad o h0 (fun v1 s' => ∃ R : Rm, v1 = some (vz (bI (decide (R.1 ≠ 3)))) ∧ fr s s' [35, 36, 37] [1, 38, 39] ∧ rmAtL (uz (s.2 1) 42 1) s' c1 R ∧ rch c1 begR R ∧ ((R.1 = 2 ∧ rmOk c1 R.2.1 R.2.2.1 R.2.2.2) ∨ (R.1 = 3 ∧ R.2.1 ≤ c1.length)))) := by
  refine Kc.of (ls := [some (.ref o), none]) (by decide +kernel) (Nat.le_of_ble_eq_true rfl) rfl ?_
  refine ev_aload_n dX3_isText_0 rfl ?_
  refine ev_iconstZ dX3_isText_1 ?_
  refine mx_putI hM dX3_isText_2 gf_X3_228_X3 rfl (fun h hM => ?_)
  refine ev_aload_n dX3_isText_5 rfl ?_
  refine ev_iconstZ dX3_isText_6 ?_
  refine mx_putB hM dX3_isText_7 gf_X3_231_X3 rfl (by omega) (fun h hM => ?_)
  refine ev_aload_n dX3_isText_10 rfl ?_
  refine ev_iconstZ dX3_isText_11 ?_
  refine mx_putI hM dX3_isText_12 gf_X3_238_X3 rfl (fun h hM => ?_)
  refine ev_aload_n dX3_isText_15 rfl ?_
  refine mx_getA hM dX3_isText_16 gf_X3_7_X3 rfl ?_
  refine ev_bipushZ dX3_isText_19 rfl ?_
  refine ev_iconstZ dX3_isText_21 ?_
  refine mx_iast hM rfl dX3_isText_22 (by omega) (fun h hM => ?_)
  refine ev_aload_n dX3_isText_23 rfl ?_
  refine mx_getA hM dX3_isText_24 gf_X3_7_X3 rfl ?_
  refine ev_bipushZ dX3_isText_27 rfl ?_
  refine ev_iconstZ dX3_isText_29 ?_
  refine mx_iast hM rfl dX3_isText_30 (by omega) (fun h hM => ?_)
  refine ev_aload_n dX3_isText_31 rfl ?_
  refine mx_getA hM dX3_isText_32 gf_X3_7_X3 rfl ?_
  refine ev_bipushZ dX3_isText_35 rfl ?_
  refine ev_iconstZ dX3_isText_37 ?_
  refine mx_iast hM rfl dX3_isText_38 (by omega) (fun h hM => ?_)
  refine ev_aload_n dX3_isText_39 rfl ?_
  refine mx_callP dX3_isText_40 cv_X3_263_X3 ce_X3_beginsSeries hM rfl rfl (k_beginsSeries (L1 := uz (s.2 1) 42 1) (c1 := c1) (p := 0) (b1 := true) (ns := []) (lv := []) hM ⟨⟨rfl, hin.1, hin.2.1, rfl, hin.2.2⟩, ⟨rfl, rfl, fun i nd h => by simp at h, fun j hj => by simp only [uS_1, uA_1, uF_1, uS_2, uA_2a, uF_2a, Nat.reduceEqDiff, reduceIte, Int.reduceToNat, Int.toNat_natCast]; unfold uz; by_cases q : j = 42; rw [if_neg (by omega), if_neg (by omega), if_pos q]; rw [if_neg (by omega), if_neg (by omega), if_neg q]⟩, rfl, trivial⟩ (by decide) (by decide) (by decide) (d := d - 1) (by omega)) (by omega) (Nat.le_of_ble_eq_true rfl) (fun v s' h hP hM => ?_)
  obtain ⟨rfl, f2, hps0⟩ := hP
  have hfr0 : fr s s' [35, 36, 37] [1, 38, 39] := (fr.A (fr.A (fr.A (fr.S (fr.S (fr.S (fr.refl s [35, 36, 37] [1, 38, 39]) rfl) rfl) rfl) rfl) rfl) rfl).trans (f2.more rfl rfl)
  refine ev_iconstZ dX3_isText_43 ?_
  refine ev_istore_n dX3_isText_44 (by decide) rfl ?_
  dsimp only [List.set]
  refine ev_while (X := Rm) (fun x => if x.1 = 0 then c1.length + 1 - x.2.1 else 0) (fun x h => ∃ s1 : MSt, (fr s s1 [35, 36, 37] [1, 38, 39] ∧ rmAtL (uz (s.2 1) 42 1) s1 c1 x ∧ rch c1 begR x ∧ rmGo c1 x) ∧ MX g ad o h0 s1 h) (fun x => [some (.ref o), some (vz (bI (decide (x.1 = 0))))]) begR ⟨_, ⟨hfr0, hps0, rch.refl _ _, Or.inl ⟨rfl, by show (0 : Nat) ≤ _; omega, by show (serN []).length ≤ _; decide, by show dsum (serN []) ≤ _; decide, by show 1 ≤ ([(0, 1)] : List (Nat × Nat)).length; decide, by show ([(0, 1)] : List (Nat × Nat)).length ≤ 11; decide, by show ∀ x ∈ ([(0, 1)] : List (Nat × Nat)), x.1 < (serN []).length ∧ x.2 < (serN []).length; decide⟩⟩, hM⟩ (by repeat' first | exact rfl | exact trivial | exact vz_eq (by omega) | refine And.intro ?_ ?_) (fun x h hX hN => ?_)
  clear hM hps0 hfr0
  obtain ⟨s1, ⟨hfr, hat, hrc, hgo⟩, hM⟩ := hX
  refine ev_iload_n dX3_isText_45 rfl ?_
  refine ev_if_eqB (tgt := 86) dX3_isText_46 (by decide) (fun c46 => ?_) (fun c46 => ?_)
  · have c46 : x.1 ≠ 0 := by simpa using c46
    refine ev_aload_n dX3_isText_86 rfl ?_
    refine mx_getI hM dX3_isText_87 gf_X3_231_X3 rfl ?_
    try simp only [uS_1, uA_1, uF_1, uS_2, uA_2a, uF_2a, Nat.reduceEqDiff, reduceIte, Int.reduceToNat, Int.toNat_natCast]
    rw [hat.1.2.2.2.1]
    refine ev_zreturn dX3_isText_90 rfl (narrow_zb (bI_o _)) ?_
    refine ⟨_, _, rfl, ⟨x, rfl, hfr, hat, hrc, ?_⟩, hM⟩
    rcases hgo with q | q | q
    · exact absurd q.1 c46
    · exact Or.inl q
    · exact Or.inr q
  · have c46 : x.1 = 0 := by simpa using c46
    have hok1 : rmOk c1 x.2.1 x.2.2.1 x.2.2.2 := by rcases hgo with q | q | q; exact q.2; exact q.2; exact absurd q.1 (by omega)
    have hps : psAt (uz (s.2 1) 42 1) s1 c1 x.2.1 true x.2.2.1 x.2.2.2 := by have q := hat; (try unfold rmAtL at q); unfold rmAt at q; rw [decide_eq_true (show x.1 ≠ 3 by omega)] at q; exact q
    have hxl := hok1.1
    have T82 : ∀ {bv : Int} (h : HM) (R : Rm) (s1 : MSt), MX g ad o h0 s1 h → ∀ hv : bv = bI (decide (R.1 = 0)), fr s s1 [35, 36, 37] [1, 38, 39] → rmAtL (uz (s.2 1) 42 1) s1 c1 R → rch c1 begR R → rmGo c1 R → (R.1 ≠ 0 ∨ x.2.1 < R.2.1) → Ev g mX3_isText d 0 0 (mP g ad o h0 (fun v1 s' => ∃ R : Rm, v1 = some (vz (bI (decide (R.1 ≠ 3)))) ∧ fr s s' [35, 36, 37] [1, 38, 39] ∧ rmAtL (uz (s.2 1) 42 1) s' c1 R ∧ rch c1 begR R ∧ ((R.1 = 2 ∧ rmOk c1 R.2.1 R.2.2.1 R.2.2.2) ∨ (R.1 = 3 ∧ R.2.1 ≤ c1.length)))) 82 [some (.ref o), some (vz (bI (decide (x.1 = 0))))] [vz bv] h := by
      intro bv h R s1 hM hv hfr hat hrc hgo hlt
      refine ev_istore_n dX3_isText_82 (by decide) rfl ?_
      dsimp only [List.set]
      refine ev_goto (tgt := 45) dX3_isText_83 (by decide) ?_
      refine hN R _ _ ?_ (by rw [hv]; exact ⟨rfl, rfl, trivial⟩) ⟨s1, ⟨hfr, hat, hrc, hgo⟩, hM⟩
      rw [if_pos c46]
      rcases hlt with q | q
      · rw [if_neg q]; omega
      · split <;> omega
    refine ev_aload_n dX3_isText_49 rfl ?_
    refine mx_getI hM dX3_isText_50 gf_X3_231_X3 rfl ?_
    try simp only [uS_1, uA_1, uF_1, uS_2, uA_2a, uF_2a, Nat.reduceEqDiff, reduceIte, Int.reduceToNat, Int.toNat_natCast]
    rw [hps.1.2.2.2.1]
    refine ev_if_eqB (tgt := 86) dX3_isText_53 (by decide) (fun c => by cases c) (fun _ => ?_)
    refine ev_aload_n dX3_isText_56 rfl ?_
    refine mx_callP dX3_isText_57 cv_X3_272_X3 ce_X3_begun hM rfl rfl (k_begun hM hps hok1 (d := d - 1) (by omega)) (by omega) (Nat.le_of_ble_eq_true rfl) (fun v s' h hP hM => ?_)
    obtain ⟨rfl, f2, q2⟩ := hP
    have hb := rmS_beg hok1
    have hct := begM_ctl c1 x.2.1 x.2.2.1 x.2.2.2
    have hrc2 := hrc.trans (rch.step (S' := begM c1 x.2.1 x.2.2.1 x.2.2.2) (by unfold stpM; rw [if_pos c46]))
    obtain ⟨R, eR⟩ : ∃ R, R = begM c1 x.2.1 x.2.2.1 x.2.2.2 := ⟨_, rfl⟩
    rw [← eR] at q2 hb hct hrc2 ⊢
    refine ev_if_neB (tgt := 77) dX3_isText_60 (by decide) (fun c60 => ?_) (fun c60 => ?_)
    · have c60 : R.1 = 0 := by simpa using c60
      refine ev_iconstZ dX3_isText_77 ?_
      refine ev_goto (tgt := 82) dX3_isText_78 (by decide) ?_
      exact T82 h R _ hM (by rw [c60]; rfl) (hfr.trans f2) q2 hrc2 (Or.inl ⟨c60, (hb.2 (by omega)).2⟩) (Or.inr (hb.2 (by omega)).1)
    · have c60 : R.1 ≠ 0 := by simpa using c60
      refine ev_aload_n dX3_isText_63 rfl ?_
      refine mx_getI hM dX3_isText_64 gf_X3_231_X3 rfl ?_
      try simp only [uS_1, uA_1, uF_1, uS_2, uA_2a, uF_2a, Nat.reduceEqDiff, reduceIte, Int.reduceToNat, Int.toNat_natCast]
      rw [q2.1.2.2.2.1]
      refine ev_if_eqB (tgt := 81) dX3_isText_67 (by decide) (fun c67 => ?_) (fun c67 => ?_)
      · refine ev_iconstZ dX3_isText_81 ?_
        have c67 : R.1 = 3 := by simpa using c67
        exact T82 h R _ hM (by rw [c67]; rfl) (hfr.trans f2) q2 hrc2 (Or.inr (Or.inr ⟨c67, hb.1⟩)) (Or.inl (by rw [c67]; decide))
      · have c67 : R.1 ≠ 3 := by simpa using c67
        have hR1 : R.1 = 1 := by omega
        have hokR := (hb.2 c67).2
        have q2b : psAt (uz (s.2 1) 42 1) s' c1 R.2.1 true R.2.2.1 R.2.2.2 := by have q := q2; (try unfold rmAtL at q); unfold rmAt at q; rw [decide_eq_true c67] at q; exact q
        have hrc2b : rch c1 begR (1, R.2.1, R.2.2.1, R.2.2.2) := by rw [show ((1, R.2.1, R.2.2.1, R.2.2.2) : Rm) = R by rw [← hR1]]; exact hrc2
        refine ev_aload_n dX3_isText_70 rfl ?_
        refine mx_callP dX3_isText_71 cv_X3_276_X3 ce_X3_follows hM rfl rfl (k_follows hM q2b hokR (d := d - 1) (by omega)) (by omega) (Nat.le_of_ble_eq_true rfl) (fun v s' h hP hM => ?_)
        obtain ⟨R2, rfl, f3, q3, hrc3, hgo3, hp3⟩ := hP
        refine ev_if_eqB (tgt := 81) dX3_isText_74 (by decide) (fun c74 => ?_) (fun c74 => ?_)
        · refine ev_iconstZ dX3_isText_81 ?_
          have c74 : R2.1 ≠ 0 := by simpa using c74
          exact T82 h R2 _ hM (by rw [decide_eq_false c74]; rfl) ((hfr.trans f2).trans f3) q3 (hrc2b.trans hrc3) hgo3 (Or.inl c74)
        · refine ev_iconstZ dX3_isText_77 ?_
          refine ev_goto (tgt := 82) dX3_isText_78 (by decide) ?_
          have c74 : R2.1 = 0 := by simpa using c74
          exact T82 h R2 _ hM (by rw [c74]; rfl) ((hfr.trans f2).trans f3) q3 (hrc2b.trans hrc3) hgo3 (Or.inr (by have := hp3 c74; have := (hb.2 c67).1; omega))
end RA

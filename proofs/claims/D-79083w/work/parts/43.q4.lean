/-! the reference: problems, 3 (printed by gen) -/
section Q4
variable {g : GB} {M : MI} {d c k : Nat} {Q : RS → HM → Prop} {pc : Nat} {ls : List (Option Value)} {st : List Value} {h : HM} {a b : Int} {ad : Nat → Nat} {o : Nat} {h0 : HM} {s : MSt}
set_option maxRecDepth 100000 in
set_option maxHeartbeats 4000000 in
theorem k_searches {D : Dn} {P : Pt} (hM : MX g ad o h0 s h) (hD0 : dnAt (s.2 1) D) (hO : dnOk D) (hk0 : knAt s (.ok P)) {kd : Nat} {ix : Int} (hkd : kd ≤ 4) (hix : inR ix) (hd : 5 ≤ d) : Kc g mX3_searches d 0 0 [.ref o, vz (kd : Int), vz ix] h (mP g ad o h0 (fun v s' => v = none ∧ fr s s' [42, 43, 44, 45, 46] [40, 41] ∧ plAt s' D P ∧ fdAt s' ix (srK D P kd (P.1.1 + 1)))) := by
  refine Kc.of (ls := [some (.ref o), some (vz (kd : Int)), some (vz ix), none, none]) (by decide +kernel) (Nat.le_of_ble_eq_true rfl) rfl ?_
  have hsb := hk0.ok.2.2.1
  refine ev_aload_n dX3_searches_0 rfl ?_
  refine mx_callP dX3_searches_1 cv_X3_349_X3 ce_X3_places hM rfl rfl (k_places hM hD0 hO hk0 (d := d - 1) (by omega)) (by omega) (Nat.le_of_ble_eq_true rfl) (fun v s' h hP hM => ?_)
  obtain ⟨rfl, pf, pp⟩ := hP
  refine ev_aload_n dX3_searches_4 rfl ?_
  refine ev_iconstZ dX3_searches_5 ?_
  refine mx_putI hM dX3_searches_6 gf_X3_352_X3 rfl (fun h hM => ?_)
  refine ev_iconstZ dX3_searches_9 ?_
  refine ev_istore_n dX3_searches_10 (by decide) rfl ?_
  dsimp only [List.set]
  refine ev_for (P.1.1 + 1) (fun i h => ∃ s1 : MSt, MX g ad o h0 s1 h ∧ fr s s1 [42, 43, 44, 45, 46] [40, 41] ∧ plAt s1 D P ∧ fdAt s1 ix (srK D P kd i)) (fun i => [some (.ref o), some (vz (kd : Int)), some (vz ix), some (vz (i : Int)), none]) 0 (by omega) ⟨_, hM, fr.S (pf.more rfl rfl) rfl, pp, rfl, fun i x _ hx => by simp [srK] at hx⟩ (by repeat' first | exact rfl | exact trivial | exact vz_eq (by omega) | refine And.intro ?_ ?_) (fun i h hi1 hi2 hX hN => ?_) (fun h hX => ?_)
  · clear hM
    obtain ⟨s1, hM, hf1, hp1, hfd⟩ := hX
    have hD1 := hf1.dn rfl hD0
    have hk1 := hk0.frr hf1 rfl rfl
    have k17 := hk1.ok.2.1.1
    refine ev_iload_n dX3_searches_11 rfl ?_
    refine ev_aload_n dX3_searches_12 rfl ?_
    refine mx_getI hM dX3_searches_13 gf_X3_141_X3 rfl ?_
    try simp only [uS_1, uA_1, uF_1, uS_2, uA_2a, uF_2a, Nat.reduceEqDiff, reduceIte, Int.reduceToNat, Int.toNat_natCast]
    rw [k17]
    refine ev_icmp_gtZ (tgt := 58) dX3_searches_16 (by decide) (by omega) (by omega) (fun c => absurd c (by omega)) (fun _ => ?_)
    refine ev_iconstZ dX3_searches_19 ?_
    refine ev_istore dX3_searches_20 (by decide) rfl ?_
    dsimp only [List.set]
    refine ev_for 4 (fun n h => ∃ s1 : MSt, MX g ad o h0 s1 h ∧ fr s s1 [42, 43, 44, 45, 46] [40, 41] ∧ plAt s1 D P ∧ fdAt s1 ix (srK D P kd i ++ srQ D P kd i n)) (fun n => [some (.ref o), some (vz (kd : Int)), some (vz ix), some (vz (i : Int)), some (vz ((n + 1 : Nat) : Int))]) 0 (by omega) ⟨s1, hM, hf1, hp1, by rw [show srQ D P kd i 0 = [] from rfl, List.append_nil]; exact hfd⟩ (by repeat' first | exact rfl | exact trivial | exact vz_eq (by omega) | refine And.intro ?_ ?_) (fun n h hj1 hj2 hX hN2 => ?_) (fun h hX => ?_)
    · clear hM hf1 hp1 hfd hD1 hk1 k17
      obtain ⟨s1, hM, hf1, hp1, hfd⟩ := hX
      have hD1 := hf1.dn rfl hD0
      have hk1 := hk0.frr hf1 rfl rfl
      have k17 := hk1.ok.2.1.1
      refine ev_iload dX3_searches_22 rfl ?_
      refine ev_iconstZ dX3_searches_24 ?_
      refine ev_icmp_gtZ (tgt := 52) dX3_searches_25 (by decide) (by omega) (by omega) (fun c => absurd c (by omega)) (fun _ => ?_)
      refine ev_iload_n dX3_searches_28 rfl ?_
      refine ev_if_eqZ (tgt := 38) dX3_searches_29 (by decide) (by omega) (fun c29 => ?_) (fun c29 => ?_)
      · refine ev_aload_n dX3_searches_38 rfl ?_
        refine ev_iload_n dX3_searches_39 rfl ?_
        refine ev_iload dX3_searches_40 rfl ?_
        refine ev_iload_n dX3_searches_42 rfl ?_
        refine mx_callP dX3_searches_43 cv_X3_355_X3 ce_X3_looks hM rfl rfl (k_looks (k1 := i) (q := n + 1) (ix := ix) (L := srK D P kd i ++ srQ D P kd i n) hM hD1 hO hp1 hk1 (by omega) (by omega) hix hfd (by have a := srK_le D P kd i; have b := srQ_le D P kd i n; rw [List.length_append]; omega) (d := d - 1) (by omega)) (by omega) (Nat.le_of_ble_eq_true rfl) (fun v s' h hP hM => ?_)
        obtain ⟨rfl, f2, hfd2⟩ := hP
        refine ev_iincZ dX3_searches_46 rfl (by decide) rfl ?_
        dsimp only [List.set]
        refine ev_goto (tgt := 22) dX3_searches_49 (by decide) ?_
        have e7 : srQ D P kd i (n + 1) = srQ D P kd i n ++ (if kd = 0 ∨ kd = n + 1 then lkD D P i (n + 1) 8 else []) := rfl
        first
          | (rw [if_neg (by omega)] at e7; exact hN2 _ _ (by repeat' first | exact rfl | exact trivial | exact vz_eq (by omega) | refine And.intro ?_ ?_) ⟨s1, hM, hf1, hp1, by rw [e7, List.append_nil]; exact hfd⟩)
          | (rw [if_pos (by omega)] at e7; exact hN2 _ _ (by repeat' first | exact rfl | exact trivial | exact vz_eq (by omega) | refine And.intro ?_ ?_) ⟨_, hM, hf1.trans (f2.more rfl rfl), hp1.fr f2 rfl, by rw [e7, ← List.append_assoc]; exact hfd2⟩)
      · refine ev_iload_n dX3_searches_32 rfl ?_
        refine ev_iload dX3_searches_33 rfl ?_
        refine ev_icmp_neZ (tgt := 46) dX3_searches_35 (by decide) (by omega) (by omega) (fun c35 => ?_) (fun c35 => ?_)
        · refine ev_iincZ dX3_searches_46 rfl (by decide) rfl ?_
          dsimp only [List.set]
          refine ev_goto (tgt := 22) dX3_searches_49 (by decide) ?_
          have e7 : srQ D P kd i (n + 1) = srQ D P kd i n ++ (if kd = 0 ∨ kd = n + 1 then lkD D P i (n + 1) 8 else []) := rfl
          first
            | (rw [if_neg (by omega)] at e7; exact hN2 _ _ (by repeat' first | exact rfl | exact trivial | exact vz_eq (by omega) | refine And.intro ?_ ?_) ⟨s1, hM, hf1, hp1, by rw [e7, List.append_nil]; exact hfd⟩)
            | (rw [if_pos (by omega)] at e7; exact hN2 _ _ (by repeat' first | exact rfl | exact trivial | exact vz_eq (by omega) | refine And.intro ?_ ?_) ⟨_, hM, hf1.trans (f2.more rfl rfl), hp1.fr f2 rfl, by rw [e7, ← List.append_assoc]; exact hfd2⟩)
        · refine ev_aload_n dX3_searches_38 rfl ?_
          refine ev_iload_n dX3_searches_39 rfl ?_
          refine ev_iload dX3_searches_40 rfl ?_
          refine ev_iload_n dX3_searches_42 rfl ?_
          refine mx_callP dX3_searches_43 cv_X3_355_X3 ce_X3_looks hM rfl rfl (k_looks (k1 := i) (q := n + 1) (ix := ix) (L := srK D P kd i ++ srQ D P kd i n) hM hD1 hO hp1 hk1 (by omega) (by omega) hix hfd (by have a := srK_le D P kd i; have b := srQ_le D P kd i n; rw [List.length_append]; omega) (d := d - 1) (by omega)) (by omega) (Nat.le_of_ble_eq_true rfl) (fun v s' h hP hM => ?_)
          obtain ⟨rfl, f2, hfd2⟩ := hP
          refine ev_iincZ dX3_searches_46 rfl (by decide) rfl ?_
          dsimp only [List.set]
          refine ev_goto (tgt := 22) dX3_searches_49 (by decide) ?_
          have e7 : srQ D P kd i (n + 1) = srQ D P kd i n ++ (if kd = 0 ∨ kd = n + 1 then lkD D P i (n + 1) 8 else []) := rfl
          first
            | (rw [if_neg (by omega)] at e7; exact hN2 _ _ (by repeat' first | exact rfl | exact trivial | exact vz_eq (by omega) | refine And.intro ?_ ?_) ⟨s1, hM, hf1, hp1, by rw [e7, List.append_nil]; exact hfd⟩)
            | (rw [if_pos (by omega)] at e7; exact hN2 _ _ (by repeat' first | exact rfl | exact trivial | exact vz_eq (by omega) | refine And.intro ?_ ?_) ⟨_, hM, hf1.trans (f2.more rfl rfl), hp1.fr f2 rfl, by rw [e7, ← List.append_assoc]; exact hfd2⟩)
    · clear hM hf1 hp1 hfd hD1 hk1 k17
      obtain ⟨s1, hM, hf1, hp1, hfd⟩ := hX
      have hD1 := hf1.dn rfl hD0
      have hk1 := hk0.frr hf1 rfl rfl
      have k17 := hk1.ok.2.1.1
      refine ev_iload dX3_searches_22 rfl ?_
      refine ev_iconstZ dX3_searches_24 ?_
      refine ev_icmp_gtZ (tgt := 52) dX3_searches_25 (by decide) (by omega) (by omega) (fun _ => ?_) (fun c => absurd (by omega) c)
      refine ev_iincZ dX3_searches_52 rfl (by decide) rfl ?_
      dsimp only [List.set]
      refine ev_goto (tgt := 11) dX3_searches_55 (by decide) ?_
      have e8 : srK D P kd (i + 1) = srK D P kd i ++ srQ D P kd i 4 := rfl
      exact hN _ _ (by repeat' first | exact rfl | exact trivial | exact vz_eq (by omega) | refine And.intro ?_ ?_) ⟨s1, hM, hf1, hp1, by rw [e8]; exact hfd⟩
  · clear hM
    obtain ⟨s1, hM, hf1, hp1, hfd⟩ := hX
    have hD1 := hf1.dn rfl hD0
    have hk1 := hk0.frr hf1 rfl rfl
    have k17 := hk1.ok.2.1.1
    refine ev_iload_n dX3_searches_11 rfl ?_
    refine ev_aload_n dX3_searches_12 rfl ?_
    refine mx_getI hM dX3_searches_13 gf_X3_141_X3 rfl ?_
    try simp only [uS_1, uA_1, uF_1, uS_2, uA_2a, uF_2a, Nat.reduceEqDiff, reduceIte, Int.reduceToNat, Int.toNat_natCast]
    rw [k17]
    refine ev_icmp_gtZ (tgt := 58) dX3_searches_16 (by decide) (by omega) (by omega) (fun _ => ?_) (fun c => absurd (by omega) c)
    refine ev_return dX3_searches_58 rfl ?_
    exact ⟨none, _, rfl, ⟨rfl, hf1, hp1, hfd⟩, hM⟩
def noPr : Pr := (0, 0, 0, 0)
def prL (D : Dn) (P : Pt) (kd : Nat) : List Pr := srK D P kd (P.1.1 + 1)
def prV (x : Pr) (w : Int) : Int := if w = 0 then x.1 else if w = 1 then x.2.1 else if w = 2 then x.2.2.1 else x.2.2.2
def opPrCount (σ : Sp) (kd : Int) : Rs := if 0 ≤ kd ∧ kd ≤ 4 then withP σ 2 (fun l => (0, ((prL σ.1 (mean l) kd.toNat).length : Nat), σ)) else (1, 0, σ)
def opProblem (σ : Sp) (ix w : Int) : Rs := if 0 ≤ w ∧ w ≤ 3 then withP σ 2 (fun l => if 0 ≤ ix ∧ ix ≤ (prL σ.1 (mean l) 0).length - 1 then (0, prV ((prL σ.1 (mean l) 0).getD ix.toNat noPr) w, σ) else (3, 0, σ)) else (1, 0, σ)
theorem TI.pl {s1 : MSt} {σ : Sp} {J : List Nat} (hT : TI s σ) (hf : fr s s1 [42, 43, 44, 45, 46] J) (hJ : [1, 2, 4, 9, 12, 21, 22].all (fun x => ! J.contains x) = true) : TI s1 σ := by
  have h1 : [1, 2, 4, 9, 12].all (fun x => ! J.contains x) = true := by
    rw [List.all_eq_true] at hJ ⊢
    intro x hx
    exact hJ x (by simp at hx ⊢; omega)
  have h2 : [21, 22].all (fun x => ! J.contains x) = true := by
    rw [List.all_eq_true] at hJ ⊢
    intro x hx
    exact hJ x (by simp at hx ⊢; omega)
  refine hT.move hf rfl h1 ⟨?_, fun e l hl => ?_⟩
  · rw [hf.1 14 (by decide)]; exact hT.2.2.2.2.2.2.1
  · rw [hf.1 14 (by decide)] at e
    exact (hT.2.2.2.2.2.2.2 e l hl).frr hf rfl h2
set_option maxRecDepth 100000 in
set_option maxHeartbeats 4000000 in
theorem k_problemCount {kd : Int} {σ : Sp} (hM : MX g ad o h0 s h) (hT : TI s σ) (hO : spOk σ) (hr : inR kd) (hd : 9 ≤ d) : Kc g mX3_problemCount d 0 0 [.ref o, vz kd] h (mP g ad o h0 (mRs (opPrCount σ kd))) := by
  refine Kc.of (ls := [some (.ref o), some (vz kd)]) (by decide +kernel) (Nat.le_of_ble_eq_true rfl) rfl ?_
  refine ev_aload_n dX3_problemCount_0 rfl ?_
  refine ev_iconstZ dX3_problemCount_1 ?_
  refine mx_putI hM dX3_problemCount_2 gf_X3_111_X3 rfl (fun h hM => ?_)
  refine ev_iload_n dX3_problemCount_5 rfl ?_
  refine ev_iconstZ dX3_problemCount_6 ?_
  refine ev_iconstZ dX3_problemCount_7 ?_
  refine ev_callSE dX3_problemCount_8 cs_X3_121 ce_X3_in rfl rfl (k_in (d := d - 1) (by omega) (by omega)) (by omega) (Nat.le_of_ble_eq_true rfl) ?_
  refine ev_if_neB (tgt := 20) dX3_problemCount_11 (by decide) (fun cc => ?_) (fun cc => ?_)
  · have cx : 0 ≤ kd ∧ kd ≤ 4 := by simpa using cc
    cases hp : σ.1.2.2.2 with
    | none =>
      refine ev_aload_n dX3_problemCount_20 rfl ?_
      refine ev_iconstZ dX3_problemCount_21 ?_
      refine mx_callP dX3_problemCount_22 cv_X3_305_X3 ce_X3_hasNoPiece hM rfl rfl (k_hasNo0 (code := 2) hM (hT.thrown 0) hO hp (d := d - 1) (by omega)) (by omega) (Nat.le_of_ble_eq_true rfl) (fun v s' h hP hM => ?_)
      obtain ⟨rfl, hP⟩ := hP
      refine ev_if_eqZ (tgt := 30) dX3_problemCount_25 (by decide) (by decide) (fun c => absurd c (by decide)) (fun _ => ?_)
      refine ev_iconstZ dX3_problemCount_28 ?_
      refine ev_ireturn dX3_problemCount_29 rfl ?_
      refine ⟨_, _, rfl, ?_, hM⟩
      unfold opPrCount
      rw [if_pos cx, withP_none hp]
      exact ⟨hP.1, hP.2, rfl⟩
    | some l =>
      refine ev_aload_n dX3_problemCount_20 rfl ?_
      refine ev_iconstZ dX3_problemCount_21 ?_
      refine mx_callP dX3_problemCount_22 cv_X3_305_X3 ce_X3_hasNoPiece hM rfl rfl (k_hasNo1 (code := 2) hM (hT.thrown 0) hO hp (d := d - 1) (by omega)) (by omega) (Nat.le_of_ble_eq_true rfl) (fun v s' h hP hM => ?_)
      obtain ⟨rfl, hz, hT1, g14, hk1, hf1⟩ := hP
      obtain ⟨k15, kpt, kok⟩ := hk1.ok
      have k17 := kpt.1
      have k18 := kpt.2.1
      have k19 := kpt.2.2.1
      have k20 := kpt.2.2.2.1
      obtain ⟨b1, b2, b3⟩ := dn_some hT1.1 hp
      obtain ⟨hok, hsm⟩ := hO.1.2.2.2.2.2.2 l hp
      have hdb : (mean l).1.2.2.1 ≤ 81 := kok.2.2.1
      have hsb := kok.1
      have hub := kok.2.1
      have hcb := kok.2.2.2.1
      refine ev_if_eqZ (tgt := 30) dX3_problemCount_25 (by decide) (by decide) (fun _ => ?_) (fun c => absurd c (by decide))
      refine ev_aload_n dX3_problemCount_30 rfl ?_
      refine ev_iload_n dX3_problemCount_31 rfl ?_
      refine ev_to (b := ((kd.toNat : Nat) : Int)) (by omega) ?_
      refine ev_iconstZ dX3_problemCount_32 ?_
      refine mx_callP dX3_problemCount_33 cv_X3_373_X3 ce_X3_searches hM rfl rfl (k_searches (D := σ.1) (P := mean l) (kd := kd.toNat) (ix := -1) hM hT1.1 hO.1 hk1 (by omega) (by omega) (d := d - 1) (by omega)) (by omega) (Nat.le_of_ble_eq_true rfl) (fun v s' h hP hM => ?_)
      obtain ⟨rfl, f2, pp2, fd2⟩ := hP
      have hT2 := hT1.pl f2 rfl
      have hz2 := (f2.1 0 (by decide)).trans hz
      have hlb := srK_le σ.1 (mean l)
      refine ev_aload_n dX3_problemCount_36 rfl ?_
      refine mx_getI hM dX3_problemCount_37 gf_X3_352_X3 rfl ?_
      try simp only [uS_1, uA_1, uF_1, uS_2, uA_2a, uF_2a, Nat.reduceEqDiff, reduceIte, Int.reduceToNat, Int.toNat_natCast]
      rw [fd2.1]
      refine ev_ireturn dX3_problemCount_40 rfl ?_
      refine ⟨_, _, rfl, ?_, hM⟩
      unfold opPrCount
      rw [if_pos cx, withP_some hp]
      exact ⟨hz2, hT2, rfl⟩
  · refine ev_aload_n dX3_problemCount_14 rfl ?_
    refine ev_iconstZ dX3_problemCount_15 ?_
    refine mx_call dX3_problemCount_16 cv_X3_117_X3 ce_X3_fails hM rfl rfl (k_fails (d := d - 1) (by omega) hM) (by omega) (Nat.le_of_ble_eq_true rfl) (fun h hM => ?_)
    refine ev_ireturn dX3_problemCount_19 rfl ?_
    refine ⟨_, _, rfl, ?_, hM⟩
    unfold opPrCount
    rw [if_neg (by simp at cc; omega)]
    exact ⟨rfl, hT, rfl⟩
set_option maxRecDepth 100000 in
set_option maxHeartbeats 4000000 in
theorem k_problem {ix w : Int} {σ : Sp} (hM : MX g ad o h0 s h) (hT : TI s σ) (hO : spOk σ) (hr : inR ix ∧ inR w) (hd : 9 ≤ d) : Kc g mX3_problem d 0 0 [.ref o, vz ix, vz w] h (mP g ad o h0 (mRs (opProblem σ ix w))) := by
  refine Kc.of (ls := [some (.ref o), some (vz ix), some (vz w)]) (by decide +kernel) (Nat.le_of_ble_eq_true rfl) rfl ?_
  refine ev_aload_n dX3_problem_0 rfl ?_
  refine ev_iconstZ dX3_problem_1 ?_
  refine mx_putI hM dX3_problem_2 gf_X3_111_X3 rfl (fun h hM => ?_)
  refine ev_iload_n dX3_problem_5 rfl ?_
  refine ev_iconstZ dX3_problem_6 ?_
  refine ev_iconstZ dX3_problem_7 ?_
  refine ev_callSE dX3_problem_8 cs_X3_121 ce_X3_in rfl rfl (k_in (d := d - 1) (by omega) (by omega)) (by omega) (Nat.le_of_ble_eq_true rfl) ?_
  refine ev_if_neB (tgt := 20) dX3_problem_11 (by decide) (fun cc => ?_) (fun cc => ?_)
  · have cx : 0 ≤ w ∧ w ≤ 3 := by simpa using cc
    cases hp : σ.1.2.2.2 with
    | none =>
      refine ev_aload_n dX3_problem_20 rfl ?_
      refine ev_iconstZ dX3_problem_21 ?_
      refine mx_callP dX3_problem_22 cv_X3_305_X3 ce_X3_hasNoPiece hM rfl rfl (k_hasNo0 (code := 2) hM (hT.thrown 0) hO hp (d := d - 1) (by omega)) (by omega) (Nat.le_of_ble_eq_true rfl) (fun v s' h hP hM => ?_)
      obtain ⟨rfl, hP⟩ := hP
      refine ev_if_eqZ (tgt := 30) dX3_problem_25 (by decide) (by decide) (fun c => absurd c (by decide)) (fun _ => ?_)
      refine ev_iconstZ dX3_problem_28 ?_
      refine ev_ireturn dX3_problem_29 rfl ?_
      refine ⟨_, _, rfl, ?_, hM⟩
      unfold opProblem
      rw [if_pos cx, withP_none hp]
      exact ⟨hP.1, hP.2, rfl⟩
    | some l =>
      refine ev_aload_n dX3_problem_20 rfl ?_
      refine ev_iconstZ dX3_problem_21 ?_
      refine mx_callP dX3_problem_22 cv_X3_305_X3 ce_X3_hasNoPiece hM rfl rfl (k_hasNo1 (code := 2) hM (hT.thrown 0) hO hp (d := d - 1) (by omega)) (by omega) (Nat.le_of_ble_eq_true rfl) (fun v s' h hP hM => ?_)
      obtain ⟨rfl, hz, hT1, g14, hk1, hf1⟩ := hP
      obtain ⟨k15, kpt, kok⟩ := hk1.ok
      have k17 := kpt.1
      have k18 := kpt.2.1
      have k19 := kpt.2.2.1
      have k20 := kpt.2.2.2.1
      obtain ⟨b1, b2, b3⟩ := dn_some hT1.1 hp
      obtain ⟨hok, hsm⟩ := hO.1.2.2.2.2.2.2 l hp
      have hdb : (mean l).1.2.2.1 ≤ 81 := kok.2.2.1
      have hsb := kok.1
      have hub := kok.2.1
      have hcb := kok.2.2.2.1
      refine ev_if_eqZ (tgt := 30) dX3_problem_25 (by decide) (by decide) (fun _ => ?_) (fun c => absurd c (by decide))
      refine ev_aload_n dX3_problem_30 rfl ?_
      refine ev_iconstZ dX3_problem_31 ?_
      refine ev_to (b := ((0 : Nat) : Int)) rfl ?_
      refine ev_iload_n dX3_problem_32 rfl ?_
      refine mx_callP dX3_problem_33 cv_X3_373_X3 ce_X3_searches hM rfl rfl (k_searches (D := σ.1) (P := mean l) (kd := 0) (ix := ix) hM hT1.1 hO.1 hk1 (by omega) (by omega) (d := d - 1) (by omega)) (by omega) (Nat.le_of_ble_eq_true rfl) (fun v s' h hP hM => ?_)
      obtain ⟨rfl, f2, pp2, fd2⟩ := hP
      have hT2 := hT1.pl f2 rfl
      have hz2 := (f2.1 0 (by decide)).trans hz
      have hlb := srK_le σ.1 (mean l)
      have hlb0 := hlb 0 ((mean l).1.1 + 1)
      refine ev_iload_n dX3_problem_36 rfl ?_
      refine ev_iconstZ dX3_problem_37 ?_
      refine ev_aload_n dX3_problem_38 rfl ?_
      refine mx_getI hM dX3_problem_39 gf_X3_352_X3 rfl ?_
      try simp only [uS_1, uA_1, uF_1, uS_2, uA_2a, uF_2a, Nat.reduceEqDiff, reduceIte, Int.reduceToNat, Int.toNat_natCast]
      rw [fd2.1]
      refine ev_iconstZ dX3_problem_42 ?_
      refine ev_isubZ dX3_problem_43 ?_
      refine ev_callSE dX3_problem_44 cs_X3_121 ce_X3_in rfl rfl (k_in (d := d - 1) (by omega) (by omega)) (by omega) (Nat.le_of_ble_eq_true rfl) ?_
      refine ev_if_neB (tgt := 56) dX3_problem_47 (by decide) (fun c47 => ?_) (fun c47 => ?_)
      · have c47b : 0 ≤ ix ∧ ix ≤ (prL σ.1 (mean l) 0).length - 1 := by unfold prL; simpa using c47
        have hgx : (prL σ.1 (mean l) 0)[ix.toNat]? = some ((prL σ.1 (mean l) 0).getD ix.toNat noPr) := by rw [List.getD_eq_getElem?_getD, List.getElem?_eq_getElem (by omega)]; rfl
        obtain ⟨g43, g44, g45, g46⟩ := fd2.2 ix.toNat _ (by omega) hgx
        refine ev_iload_n dX3_problem_56 rfl ?_
        refine ev_if_neZ (tgt := 67) dX3_problem_57 (by decide) (by omega) (fun c57 => ?_) (fun c57 => ?_)
        · refine ev_iload_n dX3_problem_67 rfl ?_
          refine ev_iconstZ dX3_problem_68 ?_
          refine ev_icmp_neZ (tgt := 79) dX3_problem_69 (by decide) (by omega) (by omega) (fun c69 => ?_) (fun c69 => ?_)
          · refine ev_iload_n dX3_problem_79 rfl ?_
            refine ev_iconstZ dX3_problem_80 ?_
            refine ev_icmp_neZ (tgt := 91) dX3_problem_81 (by decide) (by omega) (by omega) (fun c81 => ?_) (fun c81 => ?_)
            · refine ev_aload_n dX3_problem_91 rfl ?_
              refine mx_getI hM dX3_problem_92 gf_X3_370_X3 rfl ?_
              try simp only [uS_1, uA_1, uF_1, uS_2, uA_2a, uF_2a, Nat.reduceEqDiff, reduceIte, Int.reduceToNat, Int.toNat_natCast]
              refine ev_ireturn dX3_problem_95 rfl ?_
              refine ⟨_, _, rfl, ?_, hM⟩
              unfold opProblem
              rw [if_pos cx, withP_some hp]
              rw [if_pos c47b]
              refine ⟨hz2, hT2, ?_⟩
              first | (rw [g43]; exact congrArg (fun z => some (vz z)) (by unfold prV; rw [if_pos (by omega)])) | (rw [g44]; exact congrArg (fun z => some (vz z)) (by unfold prV; rw [if_neg (by omega), if_pos (by omega)])) | (rw [g45]; exact congrArg (fun z => some (vz z)) (by unfold prV; rw [if_neg (by omega), if_neg (by omega), if_pos (by omega)])) | (rw [g46]; exact congrArg (fun z => some (vz z)) (by unfold prV; rw [if_neg (by omega), if_neg (by omega), if_neg (by omega)]))
            · refine ev_aload_n dX3_problem_84 rfl ?_
              refine mx_getI hM dX3_problem_85 gf_X3_367_X3 rfl ?_
              try simp only [uS_1, uA_1, uF_1, uS_2, uA_2a, uF_2a, Nat.reduceEqDiff, reduceIte, Int.reduceToNat, Int.toNat_natCast]
              refine ev_goto (tgt := 95) dX3_problem_88 (by decide) ?_
              refine ev_ireturn dX3_problem_95 rfl ?_
              refine ⟨_, _, rfl, ?_, hM⟩
              unfold opProblem
              rw [if_pos cx, withP_some hp]
              rw [if_pos c47b]
              refine ⟨hz2, hT2, ?_⟩
              first | (rw [g43]; exact congrArg (fun z => some (vz z)) (by unfold prV; rw [if_pos (by omega)])) | (rw [g44]; exact congrArg (fun z => some (vz z)) (by unfold prV; rw [if_neg (by omega), if_pos (by omega)])) | (rw [g45]; exact congrArg (fun z => some (vz z)) (by unfold prV; rw [if_neg (by omega), if_neg (by omega), if_pos (by omega)])) | (rw [g46]; exact congrArg (fun z => some (vz z)) (by unfold prV; rw [if_neg (by omega), if_neg (by omega), if_neg (by omega)]))
          · refine ev_aload_n dX3_problem_72 rfl ?_
            refine mx_getI hM dX3_problem_73 gf_X3_364_X3 rfl ?_
            try simp only [uS_1, uA_1, uF_1, uS_2, uA_2a, uF_2a, Nat.reduceEqDiff, reduceIte, Int.reduceToNat, Int.toNat_natCast]
            refine ev_goto (tgt := 95) dX3_problem_76 (by decide) ?_
            refine ev_ireturn dX3_problem_95 rfl ?_
            refine ⟨_, _, rfl, ?_, hM⟩
            unfold opProblem
            rw [if_pos cx, withP_some hp]
            rw [if_pos c47b]
            refine ⟨hz2, hT2, ?_⟩
            first | (rw [g43]; exact congrArg (fun z => some (vz z)) (by unfold prV; rw [if_pos (by omega)])) | (rw [g44]; exact congrArg (fun z => some (vz z)) (by unfold prV; rw [if_neg (by omega), if_pos (by omega)])) | (rw [g45]; exact congrArg (fun z => some (vz z)) (by unfold prV; rw [if_neg (by omega), if_neg (by omega), if_pos (by omega)])) | (rw [g46]; exact congrArg (fun z => some (vz z)) (by unfold prV; rw [if_neg (by omega), if_neg (by omega), if_neg (by omega)]))
        · refine ev_aload_n dX3_problem_60 rfl ?_
          refine mx_getI hM dX3_problem_61 gf_X3_361_X3 rfl ?_
          try simp only [uS_1, uA_1, uF_1, uS_2, uA_2a, uF_2a, Nat.reduceEqDiff, reduceIte, Int.reduceToNat, Int.toNat_natCast]
          refine ev_goto (tgt := 95) dX3_problem_64 (by decide) ?_
          refine ev_ireturn dX3_problem_95 rfl ?_
          refine ⟨_, _, rfl, ?_, hM⟩
          unfold opProblem
          rw [if_pos cx, withP_some hp]
          rw [if_pos c47b]
          refine ⟨hz2, hT2, ?_⟩
          first | (rw [g43]; exact congrArg (fun z => some (vz z)) (by unfold prV; rw [if_pos (by omega)])) | (rw [g44]; exact congrArg (fun z => some (vz z)) (by unfold prV; rw [if_neg (by omega), if_pos (by omega)])) | (rw [g45]; exact congrArg (fun z => some (vz z)) (by unfold prV; rw [if_neg (by omega), if_neg (by omega), if_pos (by omega)])) | (rw [g46]; exact congrArg (fun z => some (vz z)) (by unfold prV; rw [if_neg (by omega), if_neg (by omega), if_neg (by omega)]))
      · refine ev_aload_n dX3_problem_50 rfl ?_
        refine ev_iconstZ dX3_problem_51 ?_
        refine mx_call dX3_problem_52 cv_X3_117_X3 ce_X3_fails hM rfl rfl (k_fails (d := d - 1) (by omega) hM) (by omega) (Nat.le_of_ble_eq_true rfl) (fun h hM => ?_)
        refine ev_ireturn dX3_problem_55 rfl ?_
        refine ⟨_, _, rfl, ?_, hM⟩
        unfold opProblem
        rw [if_pos cx, withP_some hp]
        rw [if_neg (by intro q; have : decide (0 ≤ ix ∧ ix ≤ ((prL σ.1 (mean l) 0).length : Int) - 1) = true := decide_eq_true q; exact absurd (this.symm.trans c47) (by decide))]
        exact ⟨rfl, hT2, rfl⟩
  · refine ev_aload_n dX3_problem_14 rfl ?_
    refine ev_iconstZ dX3_problem_15 ?_
    refine mx_call dX3_problem_16 cv_X3_117_X3 ce_X3_fails hM rfl rfl (k_fails (d := d - 1) (by omega) hM) (by omega) (Nat.le_of_ble_eq_true rfl) (fun h hM => ?_)
    refine ev_ireturn dX3_problem_19 rfl ?_
    refine ⟨_, _, rfl, ?_, hM⟩
    unfold opProblem
    rw [if_neg (by simp at cc; omega)]
    exact ⟨rfl, hT, rfl⟩
def inB (D : Dn) (f e : Nat) : Bool := decide (D.2.2.1 f e ≠ -1) && tkB D e
theorem fo_lt {D : Dn} (hO : dnOk D) {f e : Nat} (hf : f < 4) (he : e < 8) : -1 ≤ D.2.2.1 f e ∧ D.2.2.1 f e < 100 := by
  have h := (hO.2.2.2.2.2.1 f hf).1 e he
  have hcr : (D.1.1 : Int) * D.1.2 ≤ 9 * 9 := Int.mul_le_mul (by have := hO.2.1; omega) (by have := hO.2.2.2.1; omega) (by omega) (by omega)
  omega
def dsN (D : Dn) (P : Pt) (f k : Nat) : Nat → Int
  | 0 => 0
  | e + 1 => dsN D P f k e + (if inB D f e then amt (posC D P e k - D.2.2.1 f e % D.1.1) + amt (posR D P e k - D.2.2.1 f e / D.1.1) else 0)
def opDist (σ : Sp) (f k : Int) : Rs := if 0 ≤ f ∧ f ≤ 3 then withP σ 2 (fun l => if 0 ≤ k ∧ k ≤ (mean l).1.1 then (0, dsN σ.1 (mean l) f.toNat k.toNat 8, σ) else (3, 0, σ)) else (1, 0, σ)
set_option maxRecDepth 100000 in
set_option maxHeartbeats 4000000 in
theorem k_formed {D : Dn} {f e : Nat} (hM : MX g ad o h0 s h) (hD : dnAt (s.2 1) D) (hO : dnOk D) (hf : f < 4) (he : e < 8) (hd : 1 ≤ d) : Kc g mX3_formed d 0 0 [.ref o, vz (f : Int), vz (e : Int)] h (mR g ad o h0 (some (vz (D.2.2.1 f e))) s) := by
  refine Kc.of (ls := [some (.ref o), some (vz (f : Int)), some (vz (e : Int))]) (by decide +kernel) (Nat.le_of_ble_eq_true rfl) rfl ?_
  refine ev_aload_n dX3_formed_0 rfl ?_
  refine mx_getA hM dX3_formed_1 gf_X3_7_X3 rfl ?_
  refine ev_bipushZ dX3_formed_4 rfl ?_
  refine ev_bipushZ dX3_formed_6 rfl ?_
  refine ev_iload_n dX3_formed_8 rfl ?_
  refine ev_imulZ dX3_formed_9 ?_
  refine ev_iaddZ dX3_formed_10 ?_
  refine ev_iload_n dX3_formed_11 rfl ?_
  refine ev_iaddZ dX3_formed_12 ?_
  refine ev_to (b := ((10 + 8 * f + e : Nat) : Int)) (by omega) ?_
  refine mx_iald hM rfl dX3_formed_13 (by omega) ?_
  try simp only [uS_1, uA_1, uF_1, uS_2, uA_2a, uF_2a, Nat.reduceEqDiff, reduceIte, Int.reduceToNat, Int.toNat_natCast]
  rw [hD.2.2.2.1 f e hf he]
  refine ev_ireturn dX3_formed_14 rfl ?_
  exact ⟨rfl, hM⟩
set_option maxRecDepth 100000 in
set_option maxHeartbeats 4000000 in
theorem k_isIn {D : Dn} {f e : Nat} (hM : MX g ad o h0 s h) (hD : dnAt (s.2 1) D) (hO : dnOk D) (hf : f < 4) (he : e < 8) (hd : 2 ≤ d) : Kc g mX3_isIn d 0 0 [.ref o, vz (f : Int), vz (e : Int)] h (mR g ad o h0 (some (vz (bI (inB D f e)))) s) := by
  refine Kc.of (ls := [some (.ref o), some (vz (f : Int)), some (vz (e : Int))]) (by decide +kernel) (Nat.le_of_ble_eq_true rfl) rfl ?_
  have hfl := fo_lt hO hf he
  refine ev_aload_n dX3_isIn_0 rfl ?_
  refine ev_iload_n dX3_isIn_1 rfl ?_
  refine ev_iload_n dX3_isIn_2 rfl ?_
  refine mx_call dX3_isIn_3 cv_X3_379_X3 ce_X3_formed hM rfl rfl (k_formed (D := D) (f := f) (e := e) hM hD hO hf he (d := d - 1) (by omega)) (by omega) (Nat.le_of_ble_eq_true rfl) (fun h hM => ?_)
  refine ev_iconstZ dX3_isIn_6 ?_
  refine ev_icmp_eqZ (tgt := 22) dX3_isIn_7 (by decide) (by omega) (by omega) (fun c7 => ?_) (fun c7 => ?_)
  · refine ev_iconstZ dX3_isIn_22 ?_
    refine ev_zreturn dX3_isIn_23 rfl (by decide) ?_
    refine ⟨?_, hM⟩
    unfold inB
    first
      | (rw [c15, Bool.and_false]; rfl)
      | (have hh : decide (D.2.2.1 f e ≠ -1) = true := decide_eq_true (by omega)
         rw [hh, c15]; rfl)
      | (have hh : decide (D.2.2.1 f e ≠ -1) = false := decide_eq_false (by omega)
         rw [hh]; rfl)
  · refine ev_aload_n dX3_isIn_10 rfl ?_
    refine ev_iload_n dX3_isIn_11 rfl ?_
    refine mx_call dX3_isIn_12 cv_X3_336_X3 ce_X3_takesPart hM rfl rfl (k_takesPart (D := D) (e := e) hM hD hO he (d := d - 1) (by omega)) (by omega) (Nat.le_of_ble_eq_true rfl) (fun h hM => ?_)
    refine ev_if_eqB (tgt := 22) dX3_isIn_15 (by decide) (fun c15 => ?_) (fun c15 => ?_)
    · refine ev_iconstZ dX3_isIn_22 ?_
      refine ev_zreturn dX3_isIn_23 rfl (by decide) ?_
      refine ⟨?_, hM⟩
      unfold inB
      first
        | (rw [c15, Bool.and_false]; rfl)
        | (have hh : decide (D.2.2.1 f e ≠ -1) = true := decide_eq_true (by omega)
           rw [hh, c15]; rfl)
        | (have hh : decide (D.2.2.1 f e ≠ -1) = false := decide_eq_false (by omega)
           rw [hh]; rfl)
    · refine ev_iconstZ dX3_isIn_18 ?_
      refine ev_goto (tgt := 23) dX3_isIn_19 (by decide) ?_
      refine ev_zreturn dX3_isIn_23 rfl (by decide) ?_
      refine ⟨?_, hM⟩
      unfold inB
      first
        | (rw [c15, Bool.and_false]; rfl)
        | (have hh : decide (D.2.2.1 f e ≠ -1) = true := decide_eq_true (by omega)
           rw [hh, c15]; rfl)
        | (have hh : decide (D.2.2.1 f e ≠ -1) = false := decide_eq_false (by omega)
           rw [hh]; rfl)
set_option maxRecDepth 100000 in
set_option maxHeartbeats 4000000 in
theorem k_distance {f k : Int} {σ : Sp} (hM : MX g ad o h0 s h) (hT : TI s σ) (hO : spOk σ) (hr : inR f ∧ inR k) (hd : 9 ≤ d) : Kc g mX3_distance d 0 0 [.ref o, vz f, vz k] h (mP g ad o h0 (mRs (opDist σ f k))) := by
  refine Kc.of (ls := [some (.ref o), some (vz f), some (vz k), none, none, none]) (by decide +kernel) (Nat.le_of_ble_eq_true rfl) rfl ?_
  refine ev_aload_n dX3_distance_0 rfl ?_
  refine ev_iconstZ dX3_distance_1 ?_
  refine mx_putI hM dX3_distance_2 gf_X3_111_X3 rfl (fun h hM => ?_)
  refine ev_iload_n dX3_distance_5 rfl ?_
  refine ev_iconstZ dX3_distance_6 ?_
  refine ev_iconstZ dX3_distance_7 ?_
  refine ev_callSE dX3_distance_8 cs_X3_121 ce_X3_in rfl rfl (k_in (d := d - 1) (by omega) (by omega)) (by omega) (Nat.le_of_ble_eq_true rfl) ?_
  refine ev_if_neB (tgt := 20) dX3_distance_11 (by decide) (fun cc => ?_) (fun cc => ?_)
  · have cx : 0 ≤ f ∧ f ≤ 3 := by simpa using cc
    cases hp : σ.1.2.2.2 with
    | none =>
      refine ev_aload_n dX3_distance_20 rfl ?_
      refine ev_iconstZ dX3_distance_21 ?_
      refine mx_callP dX3_distance_22 cv_X3_305_X3 ce_X3_hasNoPiece hM rfl rfl (k_hasNo0 (code := 2) hM (hT.thrown 0) hO hp (d := d - 1) (by omega)) (by omega) (Nat.le_of_ble_eq_true rfl) (fun v s' h hP hM => ?_)
      obtain ⟨rfl, hP⟩ := hP
      refine ev_if_eqZ (tgt := 30) dX3_distance_25 (by decide) (by decide) (fun c => absurd c (by decide)) (fun _ => ?_)
      refine ev_iconstZ dX3_distance_28 ?_
      refine ev_ireturn dX3_distance_29 rfl ?_
      refine ⟨_, _, rfl, ?_, hM⟩
      unfold opDist
      rw [if_pos cx, withP_none hp]
      exact ⟨hP.1, hP.2, rfl⟩
    | some l =>
      refine ev_aload_n dX3_distance_20 rfl ?_
      refine ev_iconstZ dX3_distance_21 ?_
      refine mx_callP dX3_distance_22 cv_X3_305_X3 ce_X3_hasNoPiece hM rfl rfl (k_hasNo1 (code := 2) hM (hT.thrown 0) hO hp (d := d - 1) (by omega)) (by omega) (Nat.le_of_ble_eq_true rfl) (fun v s' h hP hM => ?_)
      obtain ⟨rfl, hz, hT1, g14, hk1, hf1⟩ := hP
      obtain ⟨k15, kpt, kok⟩ := hk1.ok
      have k17 := kpt.1
      have k18 := kpt.2.1
      have k19 := kpt.2.2.1
      have k20 := kpt.2.2.2.1
      obtain ⟨b1, b2, b3⟩ := dn_some hT1.1 hp
      obtain ⟨hok, hsm⟩ := hO.1.2.2.2.2.2.2 l hp
      have hdb : (mean l).1.2.2.1 ≤ 81 := kok.2.2.1
      have hsb := kok.1
      have hub := kok.2.1
      have hcb := kok.2.2.2.1
      refine ev_if_eqZ (tgt := 30) dX3_distance_25 (by decide) (by decide) (fun _ => ?_) (fun c => absurd c (by decide))
      refine ev_iload_n dX3_distance_30 rfl ?_
      refine ev_iconstZ dX3_distance_31 ?_
      refine ev_aload_n dX3_distance_32 rfl ?_
      refine mx_getI hM dX3_distance_33 gf_X3_141_X3 rfl ?_
      try simp only [uS_1, uA_1, uF_1, uS_2, uA_2a, uF_2a, Nat.reduceEqDiff, reduceIte, Int.reduceToNat, Int.toNat_natCast]
      rw [k17]
      refine ev_callSE dX3_distance_36 cs_X3_121 ce_X3_in rfl rfl (k_in (d := d - 1) (by omega) (by omega)) (by omega) (Nat.le_of_ble_eq_true rfl) ?_
      refine ev_if_neB (tgt := 48) dX3_distance_39 (by decide) (fun c39 => ?_) (fun c39 => ?_)
      · refine ev_aload_n dX3_distance_48 rfl ?_
        refine mx_callP dX3_distance_49 cv_X3_349_X3 ce_X3_places hM rfl rfl (k_places (D := σ.1) (P := mean l) hM hT1.1 hO.1 hk1 (d := d - 1) (by omega)) (by omega) (Nat.le_of_ble_eq_true rfl) (fun v s2 h hP hM => ?_)
        obtain ⟨rfl, f2, pp2⟩ := hP
        have hT2 := hT1.move (f2.more (K' := []) (J' := [40, 41]) rfl rfl) rfl rfl ⟨by rw [f2.1 14 (by decide)]; exact hT1.2.2.2.2.2.2.1, fun e l' hl' => (hT1.2.2.2.2.2.2.2 (by rw [← f2.1 14 (by decide)]; exact e) l' hl').frr f2 rfl rfl⟩
        have hz2 := (f2.1 0 (by decide)).trans hz
        have hD2 := hT2.1
        have hcc := hO.1.1
        have hcc9 := hO.1.2.1
        have c39b : 0 ≤ k ∧ k ≤ (mean l).1.1 := by simpa using c39
        refine ev_iconstZ dX3_distance_52 ?_
        refine ev_istore_n dX3_distance_53 (by decide) rfl ?_
        dsimp only [List.set]
        refine ev_iconstZ dX3_distance_54 ?_
        refine ev_istore dX3_distance_55 (by decide) rfl ?_
        dsimp only [List.set]
        refine ev_for 8 (fun i h => MX g ad o h0 s2 h) (fun i => [some (.ref o), some (vz (f.toNat : Int)), some (vz (k.toNat : Int)), some (vz (dsN σ.1 (mean l) f.toNat k.toNat i)), some (vz (i : Int)), none]) 0 (by omega) hM (by exact ⟨rfl, vz_eq (by omega), vz_eq (by omega), rfl, rfl, trivial⟩) (fun i h hi1 hi2 hX hN => ?_) (fun h hX => ?_)
        · clear hM
          have hM : MX g ad o h0 s2 h := hX
          have hfl := fo_lt hO.1 (show f.toNat < 4 by omega) hi2
          have hpl := pos_le hO.1 (mean l) hi2 (show k.toNat ≤ 100 by omega)
          have hmd := Int.emod_lt_of_pos (σ.1.2.2.1 f.toNat i) (b := (σ.1.1.1 : Int)) (by omega)
          have hmn := Int.emod_nonneg (σ.1.2.2.1 f.toNat i) (b := (σ.1.1.1 : Int)) (by omega)
          have hdl : σ.1.2.2.1 f.toNat i ≠ -1 → 0 ≤ σ.1.2.2.1 f.toNat i / σ.1.1.1 ∧ σ.1.2.2.1 f.toNat i / σ.1.1.1 ≤ σ.1.2.2.1 f.toNat i := fun q => ⟨Int.ediv_nonneg (by omega) (by omega), Int.ediv_le_self _ (by omega)⟩
          refine ev_iload dX3_distance_57 rfl ?_
          refine ev_bipushZ dX3_distance_59 rfl ?_
          refine ev_icmp_geZ (tgt := 143) dX3_distance_61 (by decide) (by omega) (by omega) (fun c => absurd c (by omega)) (fun _ => ?_)
          refine ev_aload_n dX3_distance_64 rfl ?_
          refine ev_iload_n dX3_distance_65 rfl ?_
          refine ev_iload dX3_distance_66 rfl ?_
          refine mx_call dX3_distance_68 cv_X3_382_X3 ce_X3_isIn hM rfl rfl (k_isIn (D := σ.1) (f := f.toNat) (e := i) hM hD2 hO.1 (by omega) hi2 (d := d - 1) (by omega)) (by omega) (Nat.le_of_ble_eq_true rfl) (fun h hM => ?_)
          refine ev_if_eqB (tgt := 137) dX3_distance_71 (by decide) (fun c71 => ?_) (fun c71 => ?_)
          · refine ev_iincZ dX3_distance_137 rfl (by decide) rfl ?_
            dsimp only [List.set]
            refine ev_goto (tgt := 57) dX3_distance_140 (by decide) ?_
            have e9 : dsN σ.1 (mean l) f.toNat k.toNat (i + 1) = dsN σ.1 (mean l) f.toNat k.toNat i + (if inB σ.1 f.toNat i then amt (posC σ.1 (mean l) i k.toNat - σ.1.2.2.1 f.toNat i % σ.1.1.1) + amt (posR σ.1 (mean l) i k.toNat - σ.1.2.2.1 f.toNat i / σ.1.1.1) else 0) := rfl
            first
              | (rw [if_neg (by rw [c71]; decide)] at e9; exact hN _ _ (by rw [e9]; exact ⟨rfl, rfl, rfl, vz_eq (by omega), rfl, trivial⟩) hM)
              | (rw [if_pos c71] at e9; exact hN _ _ (by rw [e9]; exact ⟨rfl, rfl, rfl, vz_eq (by omega), rfl, trivial⟩) hM)
          · have hne : σ.1.2.2.1 f.toNat i ≠ -1 := by unfold inB at c71; simp at c71; exact c71.1
            refine ev_aload_n dX3_distance_74 rfl ?_
            refine ev_iload_n dX3_distance_75 rfl ?_
            refine ev_iload dX3_distance_76 rfl ?_
            refine mx_call dX3_distance_78 cv_X3_379_X3 ce_X3_formed hM rfl rfl (k_formed (D := σ.1) (f := f.toNat) (e := i) hM hD2 hO.1 (by omega) hi2 (d := d - 1) (by omega)) (by omega) (Nat.le_of_ble_eq_true rfl) (fun h hM => ?_)
            refine ev_istore dX3_distance_81 (by decide) rfl ?_
            dsimp only [List.set]
            refine ev_iload_n dX3_distance_83 rfl ?_
            refine ev_aload_n dX3_distance_84 rfl ?_
            refine mx_getA hM dX3_distance_85 gf_X3_83_X3 rfl ?_
            refine ev_bipushZ dX3_distance_88 rfl ?_
            refine ev_iload dX3_distance_90 rfl ?_
            refine ev_imulZ dX3_distance_92 ?_
            refine ev_iload_n dX3_distance_93 rfl ?_
            refine ev_iaddZ dX3_distance_94 ?_
            refine ev_to (b := ((100 * i + k.toNat : Nat) : Int)) (by omega) ?_
            refine mx_iald hM rfl dX3_distance_95 (by omega) ?_
            try simp only [uS_1, uA_1, uF_1, uS_2, uA_2a, uF_2a, Nat.reduceEqDiff, reduceIte, Int.reduceToNat, Int.toNat_natCast]
            rw [(pp2 i k.toNat hi2 (by omega)).1]
            refine ev_iload dX3_distance_96 rfl ?_
            refine ev_aload_n dX3_distance_98 rfl ?_
            refine mx_getA hM dX3_distance_99 gf_X3_7_X3 rfl ?_
            refine ev_iconstZ dX3_distance_102 ?_
            refine mx_iald hM rfl dX3_distance_103 (by omega) ?_
            try simp only [uS_1, uA_1, uF_1, uS_2, uA_2a, uF_2a, Nat.reduceEqDiff, reduceIte, Int.reduceToNat, Int.toNat_natCast]
            rw [hD2.1]
            refine ev_iremZ dX3_distance_104 (by omega) (by omega) (by omega) (by omega) ?_
            refine ev_isubZ dX3_distance_105 ?_
            refine ev_callSE dX3_distance_106 cs_X3_385 ce_X3_amount rfl rfl (k_amount (d := d - 1) (by omega) (by omega)) (by omega) (Nat.le_of_ble_eq_true rfl) ?_
            refine ev_aload_n dX3_distance_109 rfl ?_
            refine mx_getA hM dX3_distance_110 gf_X3_86_X3 rfl ?_
            refine ev_bipushZ dX3_distance_113 rfl ?_
            refine ev_iload dX3_distance_115 rfl ?_
            refine ev_imulZ dX3_distance_117 ?_
            refine ev_iload_n dX3_distance_118 rfl ?_
            refine ev_iaddZ dX3_distance_119 ?_
            refine ev_to (b := ((100 * i + k.toNat : Nat) : Int)) (by omega) ?_
            refine mx_iald hM rfl dX3_distance_120 (by omega) ?_
            try simp only [uS_1, uA_1, uF_1, uS_2, uA_2a, uF_2a, Nat.reduceEqDiff, reduceIte, Int.reduceToNat, Int.toNat_natCast]
            rw [(pp2 i k.toNat hi2 (by omega)).2]
            refine ev_iload dX3_distance_121 rfl ?_
            refine ev_aload_n dX3_distance_123 rfl ?_
            refine mx_getA hM dX3_distance_124 gf_X3_7_X3 rfl ?_
            refine ev_iconstZ dX3_distance_127 ?_
            refine mx_iald hM rfl dX3_distance_128 (by omega) ?_
            try simp only [uS_1, uA_1, uF_1, uS_2, uA_2a, uF_2a, Nat.reduceEqDiff, reduceIte, Int.reduceToNat, Int.toNat_natCast]
            rw [hD2.1]
            refine ev_idivZ dX3_distance_129 (by omega) (by omega) (by omega) (by omega) ?_
            refine ev_isubZ dX3_distance_130 ?_
            refine ev_callSE dX3_distance_131 cs_X3_385 ce_X3_amount rfl rfl (k_amount (d := d - 1) (by omega) (by omega)) (by omega) (Nat.le_of_ble_eq_true rfl) ?_
            refine ev_iaddZ dX3_distance_134 ?_
            refine ev_iaddZ dX3_distance_135 ?_
            refine ev_istore_n dX3_distance_136 (by decide) rfl ?_
            dsimp only [List.set]
            refine ev_iincZ dX3_distance_137 rfl (by decide) rfl ?_
            dsimp only [List.set]
            refine ev_goto (tgt := 57) dX3_distance_140 (by decide) ?_
            have e9 : dsN σ.1 (mean l) f.toNat k.toNat (i + 1) = dsN σ.1 (mean l) f.toNat k.toNat i + (if inB σ.1 f.toNat i then amt (posC σ.1 (mean l) i k.toNat - σ.1.2.2.1 f.toNat i % σ.1.1.1) + amt (posR σ.1 (mean l) i k.toNat - σ.1.2.2.1 f.toNat i / σ.1.1.1) else 0) := rfl
            first
              | (rw [if_neg (by rw [c71]; decide)] at e9; exact hN _ _ (by rw [e9]; exact ⟨rfl, rfl, rfl, vz_eq (by omega), rfl, trivial⟩) hM)
              | (rw [if_pos c71] at e9; exact hN _ _ (by rw [e9]; exact ⟨rfl, rfl, rfl, vz_eq (by omega), rfl, trivial⟩) hM)
        · clear hM
          have hM : MX g ad o h0 s2 h := hX
          refine ev_iload dX3_distance_57 rfl ?_
          refine ev_bipushZ dX3_distance_59 rfl ?_
          refine ev_icmp_geZ (tgt := 143) dX3_distance_61 (by decide) (by omega) (by omega) (fun _ => ?_) (fun c => absurd (by omega) c)
          refine ev_iload_n dX3_distance_143 rfl ?_
          refine ev_ireturn dX3_distance_144 rfl ?_
          refine ⟨_, _, rfl, ?_, hM⟩
          unfold opDist
          rw [if_pos cx, withP_some hp]
          rw [if_pos c39b]
          exact ⟨hz2, hT2, rfl⟩
      · refine ev_aload_n dX3_distance_42 rfl ?_
        refine ev_iconstZ dX3_distance_43 ?_
        refine mx_call dX3_distance_44 cv_X3_117_X3 ce_X3_fails hM rfl rfl (k_fails (d := d - 1) (by omega) hM) (by omega) (Nat.le_of_ble_eq_true rfl) (fun h hM => ?_)
        refine ev_ireturn dX3_distance_47 rfl ?_
        refine ⟨_, _, rfl, ?_, hM⟩
        unfold opDist
        rw [if_pos cx, withP_some hp]
        rw [if_neg (by simp at c39; omega)]
        exact ⟨rfl, hT1, rfl⟩
  · refine ev_aload_n dX3_distance_14 rfl ?_
    refine ev_iconstZ dX3_distance_15 ?_
    refine mx_call dX3_distance_16 cv_X3_117_X3 ce_X3_fails hM rfl rfl (k_fails (d := d - 1) (by omega) hM) (by omega) (Nat.le_of_ble_eq_true rfl) (fun h hM => ?_)
    refine ev_ireturn dX3_distance_19 rfl ?_
    refine ⟨_, _, rfl, ?_, hM⟩
    unfold opDist
    rw [if_neg (by simp at cc; omega)]
    exact ⟨rfl, hT, rfl⟩
end Q4

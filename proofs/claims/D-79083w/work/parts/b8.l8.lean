/-! THE COMPONENT: score() of a tree; cueCount, cue (printed by gen) -/
section L8S
variable {g : GB} {M : MI} {d c k : Nat} {h : HM}
/-- the finished score of the part P -/
def ScP (g : GB) (h : HM) (sc : Nat) (P : Pt) (ss cu ru : Nat) : Prop := ScH g h sc P.1.1 ss cu ru (fun e k => ((sgN (P.2.1 e k) : Nat) : Int)) (fun k => ((P.2.2 k : Nat) : Int))
theorem ScH.fr {h h' : HM} {S : List Nat} {sc n ss cu ru : Nat} {X : Nat → Nat → Int} {Y : Nat → Int} (K : ScH g h sc n ss cu ru X Y) (F : Fr g h h' S) (h1 : gB g ≤ sc → sc ∉ S) (h2 : ss ∉ S) (h3 : cu ∉ S) (h4 : gB g ≤ ru → ru ∉ S) (h5 : ∀ e : Nat, e < 8 → ss + 1 + e ∉ S) : ScH g h' sc n ss cu ru X Y := by
  obtain ⟨A, B, ⟨k1, k2, k3, k4, k5, k6, k7⟩, hA, hB⟩ := K
  exact ⟨A, B, ⟨F.kp k1 h1, F.keep k2 h2, fun e he => F.keep (k3 e he) (h5 e he), F.keep k4 h3, F.kp k5 h4, k6, k7⟩, hA, hB⟩
theorem ScH.sub {I h : HM} {sc n ss cu ru : Nat} {X : Nat → Nat → Int} {Y : Nat → Int} (K : ScH g I sc n ss cu ru X Y) (hI : Sub I h) : ScH g h sc n ss cu ru X Y := by
  obtain ⟨A, B, ⟨k1, k2, k3, k4, k5, k6, k7⟩, hA, hB⟩ := K
  exact ⟨A, B, ⟨hI _ _ k1, hI _ _ k2, fun e he => hI _ _ (k3 e he), hI _ _ k4, hI _ _ k5, k6, k7⟩, hA, hB⟩
set_option maxRecDepth 100000 in
set_option maxHeartbeats 4000000 in
theorem k_score {n a : Nat} {l : List Nd} {I : HM} {P : Pt} (hG : GKx g) (hI : Sub I h) (hN : NodeAt I n a l) (hl : l.length < 1000000) (hok : ∀ nd ∈ l, ndOk2 nd) (hP : sem l = .ok P) (hd : 6 * n + 9 ≤ d ∧ 51 ≤ d) : Kc g mX8_score d (12) (9 * P.1.1 + 17) [.ref a] h (rR (fun v h' => ∃ sc ss cu ru : Nat, v = some (.ref sc) ∧ ScP g h' sc P ss cu ru ∧ Fr g h h' [] ∧ h sc = none ∧ h cu = none ∧ h ss = none ∧ h ru = none ∧ ∀ e : Nat, e < 8 → h (ss + 1 + e) = none)) := by
  refine Kc.of (ls := [some (.ref a), none]) (by decide +kernel) (Nat.le_of_ble_eq_true rfl) rfl ?_
  have hp99 := (len_ok n l hN.tree hok P hP).2
  have hnr := nrP_sem n l P hN.tree hok hP
  refine ev_newC (c' := 11) (k' := 9 * P.1.1 + 13) [vz 0, .null, .null, .null] dX8_score_0 cf_X5 q1113 q1114 q145 rfl (by omega) (by omega) (fun q1 hp_2 e3 B4 Hq1_5 f6 => ?_)
  have z7 := ((Fr.refl (g := g) _ [])).fresh e3
  have F8 := ((Fr.refl (g := g) _ [])).alloc (Or.inl ⟨_, Hq1_5⟩) f6 e3
  refine ev_dup dX8_score_3 rfl ?_
  refine ev_aload_n dX8_score_4 rfl ?_
  have hI5 := hI.fr0 F8
  have hlen := n_len hG n a l (hN.sub hI5) hl hok ⟨P, hP⟩
  rw [(len_ok n l hN.tree hok P hP).1] at hlen
  refine ev_callNE dX8_score_5 (nv_X8_24 hG) fe_length (hN.cls.imp (fun fs e => hI5 _ _ e)) rfl rfl hlen (by omega) (Nat.le_of_ble_eq_true rfl) ?_
  have hIn := hI.fr0 F8
  have zsc := z7
  refine ev_callVR dX8_score_8 ci_X8_27 ce_X5_init Hq1_5 rfl rfl rfl (k_initX5 (d := 50) hG Hq1_5 B4 hp99 (Nat.le_refl _)) (by omega) (by omega) (by omega) (Nat.le_of_ble_eq_true rfl) (fun v8 h8 P8 => ?_)
  obtain ⟨rfl, ss, cu, ru, K8, Gk8, z1, z2, z3, z4⟩ := P8
  obtain ⟨sc, hsc⟩ : ∃ x, x = q1 := ⟨_, rfl⟩
  rw [← hsc] at K8 Gk8 zsc ⊢
  have hI8 : Sub I h8 := hIn.fr Gk8 (fun x hx => Or.inl (by rw [List.mem_singleton.mp hx]; exact hI.none zsc))
  have FT := (F8).call Gk8 (fun x hx => Or.inr (Or.inl (by rw [List.mem_singleton.mp hx]; exact zsc)))
  have hSI : scI I ss cu := ⟨hIn.none z1, fun e he => hIn.none (z4 e he)⟩
  have y1 := (F8).fresh z1
  have y2 := (F8).fresh z2
  have y3 := (F8).fresh z3
  have y4 := fun e he => (F8).fresh (z4 e he)
  refine ev_astore_n dX8_score_11 (by decide) rfl ?_
  dsimp only [List.set]
  refine ev_aload_n dX8_score_12 rfl ?_
  refine ev_aload_n dX8_score_13 rfl ?_
  refine ev_iconstZ dX8_score_14 ?_
  refine ev_iconstZ dX8_score_15 ?_
  refine ev_iconstZ dX8_score_16 ?_
  refine ev_callNR dX8_score_17 (nv_X8_30 hG) fe_perform (hN.cls.imp (fun fs e => hI8 _ _ e)) rfl rfl (n_perform hG n a l hN hl hok P hP h8 sc P.1.1 ss cu ru _ _ 0 0 false hI8 hSI K8 (by decide) hp99 (by omega) (fun e _ _ k _ _ => rfl)) (by omega) (Nat.zero_le _) (Nat.zero_le _) (Nat.le_of_ble_eq_true rfl) (fun v9 h9 P9 => ?_)
  obtain ⟨rfl, K9, F9⟩ := P9
  refine ev_aload_n dX8_score_20 rfl ?_
  refine ev_areturn dX8_score_21 rfl (Or.inl ⟨_, rfl⟩) (Or.inr ⟨_, rfl⟩) ?_
  refine ⟨_, rfl, sc, ss, cu, ru, rfl, K9.congr (fun e k he hk => ?_) (fun k hk => ?_), FT.call F9 (fun x hx => Or.inr (Or.inl ?_)), zsc, y1, y2, y3, y4⟩
  · unfold pfS
    by_cases q : 0 ≤ k ∧ k < 0 + P.1.1 ∧ P.1.2.1.testBit e = true
    · rw [if_pos q, Nat.sub_zero]; rfl
    · rw [if_neg q, hnr.2 e k he (Or.inr (by
        cases hb : P.1.2.1.testBit e with
        | false => rfl
        | true => exact absurd ⟨Nat.zero_le _, by omega, hb⟩ q))]; rfl
  · unfold pfC
    rw [if_pos (by omega), Nat.sub_zero, if_neg (by decide)]; dsimp only; omega
  · rcases scS_mem hx with r | ⟨e, he, r⟩
    · rw [r]; exact y1
    · rw [r]; exact y4 e he
set_option maxRecDepth 100000 in
set_option maxHeartbeats 4000000 in
theorem k_cueCount {a ss cu ru : Nat} {P : Pt} (K : ScP g h a P ss cu ru) (hn : P.1.1 ≤ 99) (hnr : cOk P.1.1 P.1.2.2.2 P.2.2) : Kc g mX5_cueCount d (0) (0) [.ref a] h (sR (some (vz ((P.1.2.2.2 : Nat) : Int))) h) := by
  refine Kc.of (ls := [some (.ref a), none, none, none, none, none]) (by decide +kernel) (Nat.le_of_ble_eq_true rfl) rfl ?_
  obtain ⟨A, B, ⟨k1, k2, k3, k4, k5, k6, k7⟩, hA, hB⟩ := K
  refine ev_iconstZ dX5_cueCount_0 ?_
  refine ev_istore_n dX5_cueCount_1 (by decide) rfl ?_
  dsimp only [List.set]
  refine ev_aload_n dX5_cueCount_2 rfl ?_
  refine ev_getf dX5_cueCount_3 gf_X5_33_X5 k1 rfl ?_
  refine ev_astore_n dX5_cueCount_6 (by decide) rfl ?_
  dsimp only [List.set]
  refine ev_aload_n dX5_cueCount_7 rfl ?_
  refine ev_alenZ dX5_cueCount_8 k4 rfl ?_
  refine ev_istore_n dX5_cueCount_9 (by decide) rfl ?_
  dsimp only [List.set]
  refine ev_iconstZ dX5_cueCount_10 ?_
  refine ev_istore dX5_cueCount_11 (by decide) rfl ?_
  dsimp only [List.set]
  refine ev_for (st := []) (P.1.1 + 1) (fun i h1 => h1 = h) (fun i => [some (.ref a), some (vz ((sumN P.2.2 i : Nat) : Int)), some (.ref cu), some (vz ((P.1.1 + 1 : Nat) : Int)), some (vz ((i : Nat) : Int)), none]) 0 (Nat.zero_le _) rfl ⟨rfl, rfl, rfl, rfl, rfl, trivial⟩ (fun i h1 _ hi eh hK => ?_) (fun h1 eh => ?_)
  · subst eh
    refine ev_iload dX5_cueCount_13 rfl ?_
    refine ev_iload_n dX5_cueCount_15 rfl ?_
    refine ev_icmp_geZ (tgt := 36) dX5_cueCount_16 (by decide) (by omega) (by omega) (fun c16 => by omega) (fun c16 => ?_)
    refine ev_aload_n dX5_cueCount_19 rfl ?_
    refine ev_iload dX5_cueCount_20 rfl ?_
    refine ev_ialdY dX5_cueCount_22 k4 (by omega) ?_
    rw [Int.toNat_natCast, hB i (by omega)]
    refine ev_istore dX5_cueCount_23 (by decide) rfl ?_
    dsimp only [List.set]
    refine ev_iload_n dX5_cueCount_25 rfl ?_
    refine ev_iload dX5_cueCount_26 rfl ?_
    refine ev_iaddZ dX5_cueCount_28 ?_
    refine ev_istore_n dX5_cueCount_29 (by decide) rfl ?_
    dsimp only [List.set]
    refine ev_iincZ dX5_cueCount_30 rfl (by decide) rfl ?_
    dsimp only [List.set]
    refine ev_goto (tgt := 13) dX5_cueCount_33 (by decide) ?_
    exact hK _ _ ⟨rfl, vz_eq (by show _ = ((sumN P.2.2 i + P.2.2 i : Nat) : Int); omega), rfl, rfl, vz_eq (by omega), trivial⟩ rfl
  · subst eh
    refine ev_iload dX5_cueCount_13 rfl ?_
    refine ev_iload_n dX5_cueCount_15 rfl ?_
    refine ev_icmp_geZ (tgt := 36) dX5_cueCount_16 (by decide) (by omega) (by omega) (fun c16 => ?_) (fun c16 => by omega)
    refine ev_iload_n dX5_cueCount_36 rfl ?_
    refine ev_ireturn dX5_cueCount_37 rfl ?_
    exact ⟨congrArg Sum.inl (vz_eq (by rw [hnr.2])), rfl⟩
set_option maxRecDepth 100000 in
set_option maxHeartbeats 4000000 in
theorem k_cueX5 {a ss cu ru i : Nat} {P : Pt} (K : ScP g h a P ss cu ru) (hn : P.1.1 ≤ 99) (hnr : cOk P.1.1 P.1.2.2.2 P.2.2) (hi : i < P.1.2.2.2) (hc9 : P.1.2.2.2 ≤ 999) : Kc g mX5_cue d (0) (0) [.ref a, vz ((i : Nat) : Int)] h (sR (some (vz ((cueF P.2.2 100 0 i : Nat) : Int))) h) := by
  refine Kc.of (ls := [some (.ref a), some (vz ((i : Nat) : Int)), none, none]) (by decide +kernel) (Nat.le_of_ble_eq_true rfl) rfl ?_
  obtain ⟨A, B, ⟨k1, k2, k3, k4, k5, k6, k7⟩, hA, hB⟩ := K
  refine ev_iconstZ dX5_cue_0 ?_
  refine ev_istore_n dX5_cue_1 (by decide) rfl ?_
  dsimp only [List.set]
  refine ev_iload_n dX5_cue_2 rfl ?_
  refine ev_istore_n dX5_cue_3 (by decide) rfl ?_
  dsimp only [List.set]
  refine ev_while (st := []) (X := Nat × Nat) (fun x => 100 - x.1) (fun x h1 => h1 = h ∧ x.1 ≤ P.1.1 ∧ sumN P.2.2 x.1 + x.2 = i ∧ cueF P.2.2 (100 - x.1) x.1 x.2 = cueF P.2.2 100 0 i) (fun x => [some (.ref a), some (vz ((i : Nat) : Int)), some (vz ((x.1 : Nat) : Int)), some (vz ((x.2 : Nat) : Int))]) (0, i) ⟨rfl, Nat.zero_le _, by show 0 + i = i; omega, rfl⟩ ⟨rfl, rfl, rfl, rfl, trivial⟩ (fun x h1 hX hN => ?_)
  obtain ⟨rfl, i1, i2, i3⟩ := hX
  have hle : P.2.2 x.1 ≤ 999 := by have := sumN_le P.2.2 (k := x.1) (n := P.1.1 + 1) (by omega); rw [hnr.2] at this; omega
  refine ev_iload_n dX5_cue_4 rfl ?_
  refine ev_aload_n dX5_cue_5 rfl ?_
  refine ev_getf dX5_cue_6 gf_X5_33_X5 k1 rfl ?_
  refine ev_iload_n dX5_cue_9 rfl ?_
  refine ev_ialdY dX5_cue_10 k4 (by omega) ?_
  rw [Int.toNat_natCast, hB x.1 (by omega)]
  dsimp only
  refine ev_icmp_ltZ (tgt := 29) dX5_cue_11 (by decide) (by omega) (by omega) (fun c11 => ?_) (fun c11 => ?_)
  · refine ev_iload_n dX5_cue_29 rfl ?_
    refine ev_ireturn dX5_cue_30 rfl ?_
    refine ⟨congrArg Sum.inl (vz_eq ?_), rfl⟩
    rw [← i3, show 100 - x.1 = (99 - x.1) + 1 by omega, cueF_lt (by omega)]
  · have hge : P.2.2 x.1 ≤ x.2 := by omega
    have hlt : x.1 < P.1.1 := by
      rcases Nat.lt_or_ge x.1 P.1.1 with q | q
      · exact q
      · exfalso
        have e1 : x.1 = P.1.1 := by omega
        have e2 : sumN P.2.2 (P.1.1 + 1) = sumN P.2.2 P.1.1 + P.2.2 P.1.1 := rfl
        rw [hnr.2] at e2
        rw [e1] at i2 hge
        omega
    refine ev_iload_n dX5_cue_14 rfl ?_
    refine ev_aload_n dX5_cue_15 rfl ?_
    refine ev_getf dX5_cue_16 gf_X5_33_X5 k1 rfl ?_
    refine ev_iload_n dX5_cue_19 rfl ?_
    refine ev_ialdY dX5_cue_20 k4 (by omega) ?_
    rw [Int.toNat_natCast, hB x.1 (by omega)]
    dsimp only
    refine ev_isubZ dX5_cue_21 ?_
    refine ev_istore_n dX5_cue_22 (by decide) rfl ?_
    dsimp only [List.set]
    refine ev_iincZ dX5_cue_23 rfl (by decide) rfl ?_
    dsimp only [List.set]
    refine ev_goto (tgt := 4) dX5_cue_26 (by decide) ?_
    exact hN (x.1 + 1, x.2 - P.2.2 x.1) _ _ (by show 100 - (x.1 + 1) < 100 - x.1; omega) ⟨rfl, rfl, vz_eq (by omega), vz_eq (by show _ = ((x.2 - P.2.2 x.1 : Nat) : Int); omega), trivial⟩ ⟨rfl, by show x.1 + 1 ≤ _; omega, by show sumN P.2.2 x.1 + P.2.2 x.1 + (x.2 - P.2.2 x.1) = _; omega, by rw [← i3]; show cueF _ (100 - (x.1 + 1)) _ _ = _; rw [show 100 - x.1 = (100 - (x.1 + 1)) + 1 by omega, cueF_ge hge]⟩
end L8S

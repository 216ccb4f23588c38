/-! the reference: problems, 2 (printed by gen) -/
section Q3
variable {g : GB} {M : MI} {d c k : Nat} {Q : RS → HM → Prop} {pc : Nat} {ls : List (Option Value)} {st : List Value} {h : HM} {a b : Int} {ad : Nat → Nat} {o : Nat} {h0 : HM} {s : MSt}
theorem lkE_le (D : Dn) (P : Pt) (k q d e0 : Nat) : ∀ n, (lkE D P k q d e0 n).length ≤ n := by
  intro n
  induction n with
  | zero => exact Nat.le_refl _
  | succ n ih => show ((_ : List Pr) ++ _).length ≤ _; rw [List.length_append]; split <;> simp <;> omega
theorem lkD_le (D : Dn) (P : Pt) (k q : Nat) : ∀ d, d ≤ 8 → (lkD D P k q d).length ≤ 8 * d := by
  intro d
  induction d with
  | zero => intro _; exact Nat.le_refl _
  | succ d ih =>
    intro hd
    have a := ih (by omega)
    have b := lkE_le D P k q d (if isPair q then d + 1 else 0) (if isPair q then 7 - d else 1)
    show ((_ : List Pr) ++ _).length ≤ _
    rw [List.length_append]
    cases hq : isPair q <;> simp only [hq, if_true, if_false, Bool.false_eq_true, reduceIte] at b ⊢ <;> omega
theorem srQ_le (D : Dn) (P : Pt) (kd k : Nat) : ∀ q, (srQ D P kd k q).length ≤ 64 * q := by
  intro q
  induction q with
  | zero => exact Nat.le_refl _
  | succ q ih =>
    have a := lkD_le D P k (q + 1) 8 (Nat.le_refl _)
    show ((_ : List Pr) ++ _).length ≤ _
    rw [List.length_append]
    split
    · omega
    · simp; omega
theorem srK_le (D : Dn) (P : Pt) (kd : Nat) : ∀ k, (srK D P kd k).length ≤ 256 * k := by
  intro k
  induction k with
  | zero => exact Nat.le_refl _
  | succ k ih =>
    have a := srQ_le D P kd k 4
    show ((_ : List Pr) ++ _).length ≤ _
    rw [List.length_append]
    omega
theorem fr.dn {s s' : MSt} {K J : List Nat} {D : Dn} (hf : fr s s' K J) (hJ : J.contains 1 = false) (hD : dnAt (s.2 1) D) : dnAt (s'.2 1) D := by
  rw [hf.2 1 (fun q => by simp at hJ; exact hJ q)]
  exact hD
set_option maxRecDepth 100000 in
set_option maxHeartbeats 4000000 in
theorem k_looks {D : Dn} {P : Pt} (hM : MX g ad o h0 s h) (hD : dnAt (s.2 1) D) (hO : dnOk D) (hp : plAt s D P) (hk : knAt s (.ok P)) {k1 q : Nat} {ix : Int} {L : List Pr} (h1 : k1 ≤ P.1.1) (h2 : 1 ≤ q ∧ q ≤ 4) (hix : inR ix) (hfd0 : fdAt s ix L) (hL : L.length ≤ 100000) (hd : 4 ≤ d) : Kc g mX3_looks d 0 0 [.ref o, vz (k1 : Int), vz (q : Int), vz ix] h (mP g ad o h0 (fun v s' => v = none ∧ fr s s' [42, 43, 44, 45, 46] [] ∧ fdAt s' ix (L ++ lkD D P k1 q 8))) := by
  refine Kc.of (ls := [some (.ref o), some (vz (k1 : Int)), some (vz (q : Int)), some (vz ix), none, none, none]) (by decide +kernel) (Nat.le_of_ble_eq_true rfl) rfl ?_
  have T15 : ∀ (h : HM), MX g ad o h0 s h → Ev g mX3_looks d 0 0 (mP g ad o h0 (fun v s' => v = none ∧ fr s s' [42, 43, 44, 45, 46] [] ∧ fdAt s' ix (L ++ lkD D P k1 q 8))) 15 [some (.ref o), some (vz (k1 : Int)), some (vz (q : Int)), some (vz ix), none, none, none] [vz (bI (isPair q))] h := by
    intro h hM
    cases hpq : isPair q with
    | true =>
      rw [← hpq]
      refine ev_istore dX3_looks_15 (by decide) rfl ?_
      dsimp only [List.set]
      refine ev_iconstZ dX3_looks_17 ?_
      refine ev_istore dX3_looks_18 (by decide) rfl ?_
      dsimp only [List.set]
      refine ev_for 8 (fun i h => ∃ s1 : MSt, MX g ad o h0 s1 h ∧ fr s s1 [42, 43, 44, 45, 46] [] ∧ fdAt s1 ix (L ++ lkD D P k1 q i)) (fun i => [some (.ref o), some (vz (k1 : Int)), some (vz (q : Int)), some (vz ix), some (vz (bI (isPair q))), some (vz (i : Int)), none]) 0 (by omega) ⟨s, hM, fr.refl _ _ _, by rw [show lkD D P k1 q 0 = [] from rfl, List.append_nil]; exact hfd0⟩ (by repeat' first | exact rfl | exact trivial | exact vz_eq (by omega) | refine And.intro ?_ ?_) (fun i h hi1 hi2 hX hN => ?_) (fun h hX => ?_)
      · clear hM
        obtain ⟨s1, hM, hf1, hfd⟩ := hX
        have hD1 := hf1.dn rfl hD
        have hp1 := hp.fr hf1 rfl
        have hk1 := hk.frr hf1 rfl rfl
        refine ev_iload dX3_looks_20 rfl ?_
        refine ev_bipushZ dX3_looks_22 rfl ?_
        refine ev_icmp_geZ (tgt := 132) dX3_looks_24 (by decide) (by omega) (by omega) (fun c => absurd c (by omega)) (fun _ => ?_)
        refine ev_iload dX3_looks_27 rfl ?_
        refine ev_if_eqB (tgt := 39) dX3_looks_29 (by decide) (fun c => by rw [hpq] at c; cases c) (fun _ => ?_)
        refine ev_iload dX3_looks_32 rfl ?_
        refine ev_iconstZ dX3_looks_34 ?_
        refine ev_iaddZ dX3_looks_35 ?_
        refine ev_to (b := ((i + 1 + 0 : Nat) : Int)) (by omega) ?_
        refine ev_goto (tgt := 40) dX3_looks_36 (by decide) ?_
        refine ev_istore dX3_looks_40 (by decide) rfl ?_
        dsimp only [List.set]
        refine ev_for (7 - i) (fun n h => ∃ s1 : MSt, MX g ad o h0 s1 h ∧ fr s s1 [42, 43, 44, 45, 46] [] ∧ fdAt s1 ix (L ++ lkD D P k1 q i ++ lkE D P k1 q i (i + 1) n)) (fun n => [some (.ref o), some (vz (k1 : Int)), some (vz (q : Int)), some (vz ix), some (vz (bI (isPair q))), some (vz (i : Int)), some (vz (((i + 1) + n : Nat) : Int))]) 0 (by omega) ⟨s1, hM, hf1, by rw [show lkE D P k1 q i (i + 1) 0 = [] from rfl, List.append_nil]; exact hfd⟩ (by repeat' first | exact rfl | exact trivial | exact vz_eq (by omega) | refine And.intro ?_ ?_) (fun n h hj1 hj2 hX hN2 => ?_) (fun h hX => ?_)
        · clear hM hf1 hfd hD1 hp1 hk1
          obtain ⟨s2, hM, hf1, hfd⟩ := hX
          have hD1 := hf1.dn rfl hD
          have hp1 := hp.fr hf1 rfl
          have hk1 := hk.frr hf1 rfl rfl
          have hln : (L ++ lkD D P k1 q i ++ lkE D P k1 q i (i + 1) n).length < 200000 := by have a := lkD_le D P k1 q i (by omega); have b := lkE_le D P k1 q i (i + 1) n; simp only [List.length_append]; omega
          refine ev_iload dX3_looks_42 rfl ?_
          refine ev_iload dX3_looks_44 rfl ?_
          refine ev_if_eqB (tgt := 54) dX3_looks_46 (by decide) (fun c => by rw [hpq] at c; cases c) (fun _ => ?_)
          refine ev_bipushZ dX3_looks_49 rfl ?_
          refine ev_goto (tgt := 55) dX3_looks_51 (by decide) ?_
          refine ev_icmp_geZ (tgt := 126) dX3_looks_55 (by decide) (by omega) (by omega) (fun c => absurd c (by omega)) (fun _ => ?_)
          refine ev_aload_n dX3_looks_58 rfl ?_
          refine ev_iload_n dX3_looks_59 rfl ?_
          refine ev_iload_n dX3_looks_60 rfl ?_
          refine ev_iload dX3_looks_61 rfl ?_
          refine ev_iload dX3_looks_63 rfl ?_
          refine mx_call dX3_looks_65 cv_X3_358_X3 ce_X3_isProblem hM rfl rfl (k_isProblem hM hD1 hO hp1 hk1 h1 h2 (a1 := i) (a2 := (i + 1) + n) hi2 (by omega) (d := d - 1) (by omega)) (by omega) (Nat.le_of_ble_eq_true rfl) (fun h hM => ?_)
          refine ev_if_eqB (tgt := 120) dX3_looks_68 (by decide) (fun c68 => ?_) (fun c68 => ?_)
          · refine ev_iincZ dX3_looks_120 rfl (by decide) rfl ?_
            dsimp only [List.set]
            refine ev_goto (tgt := 42) dX3_looks_123 (by decide) ?_
            have e5 : lkE D P k1 q i (i + 1) (n + 1) = lkE D P k1 q i (i + 1) n ++ (if isPr D P k1 q i ((i + 1) + n) then [(k1, q, i, if isPair q then (((i + 1) + n : Nat) : Int) else -1)] else []) := rfl
            first
              | (rw [if_neg (by rw [c68]; decide)] at e5; exact hN2 _ _ (by repeat' first | exact rfl | exact trivial | exact vz_eq (by omega) | refine And.intro ?_ ?_) ⟨_, hM, hf1, by rw [e5, List.append_nil]; exact hfd⟩)
              | (rw [if_pos c68] at e5; exact hN2 _ _ (by repeat' first | exact rfl | exact trivial | exact vz_eq (by omega) | refine And.intro ?_ ?_) ⟨_, hM, fr.S (fr.S (fr.S (fr.S (fr.S hf1 rfl) rfl) rfl) rfl) rfl, by rw [e5, ← List.append_assoc]; refine hfd.hit (k1, q, i, if isPair q then (((i + 1) + n : Nat) : Int) else -1) c76 ?_; rw [hpq]; rfl⟩)
              | (rw [if_pos c68] at e5; exact hN2 _ _ (by repeat' first | exact rfl | exact trivial | exact vz_eq (by omega) | refine And.intro ?_ ?_) ⟨_, hM, fr.S hf1 rfl, by rw [e5, ← List.append_assoc]; exact hfd.miss (k1, q, i, if isPair q then (((i + 1) + n : Nat) : Int) else -1) c76⟩)
          · refine ev_aload_n dX3_looks_71 rfl ?_
            refine mx_getI hM dX3_looks_72 gf_X3_352_X3 rfl ?_
            try simp only [uS_1, uA_1, uF_1, uS_2, uA_2a, uF_2a, Nat.reduceEqDiff, reduceIte, Int.reduceToNat, Int.toNat_natCast]
            refine ev_iload_n dX3_looks_75 rfl ?_
            refine ev_icmp_neZ (tgt := 110) dX3_looks_76 (by decide) (by have := hfd.1; omega) hix (fun c76 => ?_) (fun c76 => ?_)
            · refine ev_aload_n dX3_looks_110 rfl ?_
              refine ev_dup dX3_looks_111 rfl ?_
              refine mx_getI hM dX3_looks_112 gf_X3_352_X3 rfl ?_
              try simp only [uS_1, uA_1, uF_1, uS_2, uA_2a, uF_2a, Nat.reduceEqDiff, reduceIte, Int.reduceToNat, Int.toNat_natCast]
              rw [hfd.1]
              refine ev_iconstZ dX3_looks_115 ?_
              refine ev_iaddZ dX3_looks_116 ?_
              refine mx_putI hM dX3_looks_117 gf_X3_352_X3 rfl (fun h hM => ?_)
              refine ev_iincZ dX3_looks_120 rfl (by decide) rfl ?_
              dsimp only [List.set]
              refine ev_goto (tgt := 42) dX3_looks_123 (by decide) ?_
              have e5 : lkE D P k1 q i (i + 1) (n + 1) = lkE D P k1 q i (i + 1) n ++ (if isPr D P k1 q i ((i + 1) + n) then [(k1, q, i, if isPair q then (((i + 1) + n : Nat) : Int) else -1)] else []) := rfl
              first
                | (rw [if_neg (by rw [c68]; decide)] at e5; exact hN2 _ _ (by repeat' first | exact rfl | exact trivial | exact vz_eq (by omega) | refine And.intro ?_ ?_) ⟨_, hM, hf1, by rw [e5, List.append_nil]; exact hfd⟩)
                | (rw [if_pos c68] at e5; exact hN2 _ _ (by repeat' first | exact rfl | exact trivial | exact vz_eq (by omega) | refine And.intro ?_ ?_) ⟨_, hM, fr.S (fr.S (fr.S (fr.S (fr.S hf1 rfl) rfl) rfl) rfl) rfl, by rw [e5, ← List.append_assoc]; refine hfd.hit (k1, q, i, if isPair q then (((i + 1) + n : Nat) : Int) else -1) c76 ?_; rw [hpq]; rfl⟩)
                | (rw [if_pos c68] at e5; exact hN2 _ _ (by repeat' first | exact rfl | exact trivial | exact vz_eq (by omega) | refine And.intro ?_ ?_) ⟨_, hM, fr.S hf1 rfl, by rw [e5, ← List.append_assoc]; exact hfd.miss (k1, q, i, if isPair q then (((i + 1) + n : Nat) : Int) else -1) c76⟩)
            · refine ev_aload_n dX3_looks_79 rfl ?_
              refine ev_iload_n dX3_looks_80 rfl ?_
              refine mx_putI hM dX3_looks_81 gf_X3_361_X3 rfl (fun h hM => ?_)
              refine ev_aload_n dX3_looks_84 rfl ?_
              refine ev_iload_n dX3_looks_85 rfl ?_
              refine mx_putI hM dX3_looks_86 gf_X3_364_X3 rfl (fun h hM => ?_)
              refine ev_aload_n dX3_looks_89 rfl ?_
              refine ev_iload dX3_looks_90 rfl ?_
              refine mx_putI hM dX3_looks_92 gf_X3_367_X3 rfl (fun h hM => ?_)
              refine ev_aload_n dX3_looks_95 rfl ?_
              refine ev_iload dX3_looks_96 rfl ?_
              refine ev_if_eqB (tgt := 106) dX3_looks_98 (by decide) (fun c => by rw [hpq] at c; cases c) (fun _ => ?_)
              refine ev_iload dX3_looks_101 rfl ?_
              refine ev_goto (tgt := 107) dX3_looks_103 (by decide) ?_
              refine mx_putI hM dX3_looks_107 gf_X3_370_X3 rfl (fun h hM => ?_)
              refine ev_aload_n dX3_looks_110 rfl ?_
              refine ev_dup dX3_looks_111 rfl ?_
              refine mx_getI hM dX3_looks_112 gf_X3_352_X3 rfl ?_
              try simp only [uS_1, uA_1, uF_1, uS_2, uA_2a, uF_2a, Nat.reduceEqDiff, reduceIte, Int.reduceToNat, Int.toNat_natCast]
              rw [hfd.1]
              refine ev_iconstZ dX3_looks_115 ?_
              refine ev_iaddZ dX3_looks_116 ?_
              refine mx_putI hM dX3_looks_117 gf_X3_352_X3 rfl (fun h hM => ?_)
              refine ev_iincZ dX3_looks_120 rfl (by decide) rfl ?_
              dsimp only [List.set]
              refine ev_goto (tgt := 42) dX3_looks_123 (by decide) ?_
              have e5 : lkE D P k1 q i (i + 1) (n + 1) = lkE D P k1 q i (i + 1) n ++ (if isPr D P k1 q i ((i + 1) + n) then [(k1, q, i, if isPair q then (((i + 1) + n : Nat) : Int) else -1)] else []) := rfl
              first
                | (rw [if_neg (by rw [c68]; decide)] at e5; exact hN2 _ _ (by repeat' first | exact rfl | exact trivial | exact vz_eq (by omega) | refine And.intro ?_ ?_) ⟨_, hM, hf1, by rw [e5, List.append_nil]; exact hfd⟩)
                | (rw [if_pos c68] at e5; exact hN2 _ _ (by repeat' first | exact rfl | exact trivial | exact vz_eq (by omega) | refine And.intro ?_ ?_) ⟨_, hM, fr.S (fr.S (fr.S (fr.S (fr.S hf1 rfl) rfl) rfl) rfl) rfl, by rw [e5, ← List.append_assoc]; refine hfd.hit (k1, q, i, if isPair q then (((i + 1) + n : Nat) : Int) else -1) c76 ?_; rw [hpq]; rfl⟩)
                | (rw [if_pos c68] at e5; exact hN2 _ _ (by repeat' first | exact rfl | exact trivial | exact vz_eq (by omega) | refine And.intro ?_ ?_) ⟨_, hM, fr.S hf1 rfl, by rw [e5, ← List.append_assoc]; exact hfd.miss (k1, q, i, if isPair q then (((i + 1) + n : Nat) : Int) else -1) c76⟩)
        · clear hM hf1 hfd hD1 hp1 hk1
          obtain ⟨s2, hM, hf1, hfd⟩ := hX
          refine ev_iload dX3_looks_42 rfl ?_
          refine ev_iload dX3_looks_44 rfl ?_
          refine ev_if_eqB (tgt := 54) dX3_looks_46 (by decide) (fun c => by rw [hpq] at c; cases c) (fun _ => ?_)
          refine ev_bipushZ dX3_looks_49 rfl ?_
          refine ev_goto (tgt := 55) dX3_looks_51 (by decide) ?_
          refine ev_icmp_geZ (tgt := 126) dX3_looks_55 (by decide) (by omega) (by omega) (fun _ => ?_) (fun c => absurd (by omega) c)
          refine ev_iincZ dX3_looks_126 rfl (by decide) rfl ?_
          dsimp only [List.set]
          refine ev_goto (tgt := 20) dX3_looks_129 (by decide) ?_
          have e6 : lkD D P k1 q (i + 1) = lkD D P k1 q i ++ lkE D P k1 q i (if isPair q then i + 1 else 0) (if isPair q then 7 - i else 1) := rfl
          rw [hpq] at e6
          simp only [if_true, if_false, Bool.false_eq_true] at e6
          exact hN _ _ (by repeat' first | exact rfl | exact trivial | exact vz_eq (by omega) | refine And.intro ?_ ?_) ⟨s2, hM, hf1, by rw [e6, ← List.append_assoc]; exact hfd⟩
      · clear hM
        obtain ⟨s1, hM, hf1, hfd⟩ := hX
        refine ev_iload dX3_looks_20 rfl ?_
        refine ev_bipushZ dX3_looks_22 rfl ?_
        refine ev_icmp_geZ (tgt := 132) dX3_looks_24 (by decide) (by omega) (by omega) (fun _ => ?_) (fun c => absurd (by omega) c)
        refine ev_return dX3_looks_132 rfl ?_
        exact ⟨none, _, rfl, ⟨rfl, hf1, hfd⟩, hM⟩
    | false =>
      rw [← hpq]
      refine ev_istore dX3_looks_15 (by decide) rfl ?_
      dsimp only [List.set]
      refine ev_iconstZ dX3_looks_17 ?_
      refine ev_istore dX3_looks_18 (by decide) rfl ?_
      dsimp only [List.set]
      refine ev_for 8 (fun i h => ∃ s1 : MSt, MX g ad o h0 s1 h ∧ fr s s1 [42, 43, 44, 45, 46] [] ∧ fdAt s1 ix (L ++ lkD D P k1 q i)) (fun i => [some (.ref o), some (vz (k1 : Int)), some (vz (q : Int)), some (vz ix), some (vz (bI (isPair q))), some (vz (i : Int)), none]) 0 (by omega) ⟨s, hM, fr.refl _ _ _, by rw [show lkD D P k1 q 0 = [] from rfl, List.append_nil]; exact hfd0⟩ (by repeat' first | exact rfl | exact trivial | exact vz_eq (by omega) | refine And.intro ?_ ?_) (fun i h hi1 hi2 hX hN => ?_) (fun h hX => ?_)
      · clear hM
        obtain ⟨s1, hM, hf1, hfd⟩ := hX
        have hD1 := hf1.dn rfl hD
        have hp1 := hp.fr hf1 rfl
        have hk1 := hk.frr hf1 rfl rfl
        refine ev_iload dX3_looks_20 rfl ?_
        refine ev_bipushZ dX3_looks_22 rfl ?_
        refine ev_icmp_geZ (tgt := 132) dX3_looks_24 (by decide) (by omega) (by omega) (fun c => absurd c (by omega)) (fun _ => ?_)
        refine ev_iload dX3_looks_27 rfl ?_
        refine ev_if_eqB (tgt := 39) dX3_looks_29 (by decide) (fun _ => ?_) (fun c => by rw [hpq] at c; cases c)
        refine ev_iconstZ dX3_looks_39 ?_
        refine ev_to (b := ((0 + 0 : Nat) : Int)) rfl ?_
        refine ev_istore dX3_looks_40 (by decide) rfl ?_
        dsimp only [List.set]
        refine ev_for 1 (fun n h => ∃ s1 : MSt, MX g ad o h0 s1 h ∧ fr s s1 [42, 43, 44, 45, 46] [] ∧ fdAt s1 ix (L ++ lkD D P k1 q i ++ lkE D P k1 q i 0 n)) (fun n => [some (.ref o), some (vz (k1 : Int)), some (vz (q : Int)), some (vz ix), some (vz (bI (isPair q))), some (vz (i : Int)), some (vz ((0 + n : Nat) : Int))]) 0 (by omega) ⟨s1, hM, hf1, by rw [show lkE D P k1 q i 0 0 = [] from rfl, List.append_nil]; exact hfd⟩ (by repeat' first | exact rfl | exact trivial | exact vz_eq (by omega) | refine And.intro ?_ ?_) (fun n h hj1 hj2 hX hN2 => ?_) (fun h hX => ?_)
        · clear hM hf1 hfd hD1 hp1 hk1
          obtain ⟨s2, hM, hf1, hfd⟩ := hX
          have hD1 := hf1.dn rfl hD
          have hp1 := hp.fr hf1 rfl
          have hk1 := hk.frr hf1 rfl rfl
          have hln : (L ++ lkD D P k1 q i ++ lkE D P k1 q i 0 n).length < 200000 := by have a := lkD_le D P k1 q i (by omega); have b := lkE_le D P k1 q i 0 n; simp only [List.length_append]; omega
          refine ev_iload dX3_looks_42 rfl ?_
          refine ev_iload dX3_looks_44 rfl ?_
          refine ev_if_eqB (tgt := 54) dX3_looks_46 (by decide) (fun _ => ?_) (fun c => by rw [hpq] at c; cases c)
          refine ev_iconstZ dX3_looks_54 ?_
          refine ev_icmp_geZ (tgt := 126) dX3_looks_55 (by decide) (by omega) (by omega) (fun c => absurd c (by omega)) (fun _ => ?_)
          refine ev_aload_n dX3_looks_58 rfl ?_
          refine ev_iload_n dX3_looks_59 rfl ?_
          refine ev_iload_n dX3_looks_60 rfl ?_
          refine ev_iload dX3_looks_61 rfl ?_
          refine ev_iload dX3_looks_63 rfl ?_
          refine mx_call dX3_looks_65 cv_X3_358_X3 ce_X3_isProblem hM rfl rfl (k_isProblem hM hD1 hO hp1 hk1 h1 h2 (a1 := i) (a2 := 0 + n) hi2 (by omega) (d := d - 1) (by omega)) (by omega) (Nat.le_of_ble_eq_true rfl) (fun h hM => ?_)
          refine ev_if_eqB (tgt := 120) dX3_looks_68 (by decide) (fun c68 => ?_) (fun c68 => ?_)
          · refine ev_iincZ dX3_looks_120 rfl (by decide) rfl ?_
            dsimp only [List.set]
            refine ev_goto (tgt := 42) dX3_looks_123 (by decide) ?_
            have e5 : lkE D P k1 q i 0 (n + 1) = lkE D P k1 q i 0 n ++ (if isPr D P k1 q i (0 + n) then [(k1, q, i, if isPair q then ((0 + n : Nat) : Int) else -1)] else []) := rfl
            first
              | (rw [if_neg (by rw [c68]; decide)] at e5; exact hN2 _ _ (by repeat' first | exact rfl | exact trivial | exact vz_eq (by omega) | refine And.intro ?_ ?_) ⟨_, hM, hf1, by rw [e5, List.append_nil]; exact hfd⟩)
              | (rw [if_pos c68] at e5; exact hN2 _ _ (by repeat' first | exact rfl | exact trivial | exact vz_eq (by omega) | refine And.intro ?_ ?_) ⟨_, hM, fr.S (fr.S (fr.S (fr.S (fr.S hf1 rfl) rfl) rfl) rfl) rfl, by rw [e5, ← List.append_assoc]; refine hfd.hit (k1, q, i, if isPair q then ((0 + n : Nat) : Int) else -1) c76 ?_; rw [hpq]; rfl⟩)
              | (rw [if_pos c68] at e5; exact hN2 _ _ (by repeat' first | exact rfl | exact trivial | exact vz_eq (by omega) | refine And.intro ?_ ?_) ⟨_, hM, fr.S hf1 rfl, by rw [e5, ← List.append_assoc]; exact hfd.miss (k1, q, i, if isPair q then ((0 + n : Nat) : Int) else -1) c76⟩)
          · refine ev_aload_n dX3_looks_71 rfl ?_
            refine mx_getI hM dX3_looks_72 gf_X3_352_X3 rfl ?_
            try simp only [uS_1, uA_1, uF_1, uS_2, uA_2a, uF_2a, Nat.reduceEqDiff, reduceIte, Int.reduceToNat, Int.toNat_natCast]
            refine ev_iload_n dX3_looks_75 rfl ?_
            refine ev_icmp_neZ (tgt := 110) dX3_looks_76 (by decide) (by have := hfd.1; omega) hix (fun c76 => ?_) (fun c76 => ?_)
            · refine ev_aload_n dX3_looks_110 rfl ?_
              refine ev_dup dX3_looks_111 rfl ?_
              refine mx_getI hM dX3_looks_112 gf_X3_352_X3 rfl ?_
              try simp only [uS_1, uA_1, uF_1, uS_2, uA_2a, uF_2a, Nat.reduceEqDiff, reduceIte, Int.reduceToNat, Int.toNat_natCast]
              rw [hfd.1]
              refine ev_iconstZ dX3_looks_115 ?_
              refine ev_iaddZ dX3_looks_116 ?_
              refine mx_putI hM dX3_looks_117 gf_X3_352_X3 rfl (fun h hM => ?_)
              refine ev_iincZ dX3_looks_120 rfl (by decide) rfl ?_
              dsimp only [List.set]
              refine ev_goto (tgt := 42) dX3_looks_123 (by decide) ?_
              have e5 : lkE D P k1 q i 0 (n + 1) = lkE D P k1 q i 0 n ++ (if isPr D P k1 q i (0 + n) then [(k1, q, i, if isPair q then ((0 + n : Nat) : Int) else -1)] else []) := rfl
              first
                | (rw [if_neg (by rw [c68]; decide)] at e5; exact hN2 _ _ (by repeat' first | exact rfl | exact trivial | exact vz_eq (by omega) | refine And.intro ?_ ?_) ⟨_, hM, hf1, by rw [e5, List.append_nil]; exact hfd⟩)
                | (rw [if_pos c68] at e5; exact hN2 _ _ (by repeat' first | exact rfl | exact trivial | exact vz_eq (by omega) | refine And.intro ?_ ?_) ⟨_, hM, fr.S (fr.S (fr.S (fr.S (fr.S hf1 rfl) rfl) rfl) rfl) rfl, by rw [e5, ← List.append_assoc]; refine hfd.hit (k1, q, i, if isPair q then ((0 + n : Nat) : Int) else -1) c76 ?_; rw [hpq]; rfl⟩)
                | (rw [if_pos c68] at e5; exact hN2 _ _ (by repeat' first | exact rfl | exact trivial | exact vz_eq (by omega) | refine And.intro ?_ ?_) ⟨_, hM, fr.S hf1 rfl, by rw [e5, ← List.append_assoc]; exact hfd.miss (k1, q, i, if isPair q then ((0 + n : Nat) : Int) else -1) c76⟩)
            · refine ev_aload_n dX3_looks_79 rfl ?_
              refine ev_iload_n dX3_looks_80 rfl ?_
              refine mx_putI hM dX3_looks_81 gf_X3_361_X3 rfl (fun h hM => ?_)
              refine ev_aload_n dX3_looks_84 rfl ?_
              refine ev_iload_n dX3_looks_85 rfl ?_
              refine mx_putI hM dX3_looks_86 gf_X3_364_X3 rfl (fun h hM => ?_)
              refine ev_aload_n dX3_looks_89 rfl ?_
              refine ev_iload dX3_looks_90 rfl ?_
              refine mx_putI hM dX3_looks_92 gf_X3_367_X3 rfl (fun h hM => ?_)
              refine ev_aload_n dX3_looks_95 rfl ?_
              refine ev_iload dX3_looks_96 rfl ?_
              refine ev_if_eqB (tgt := 106) dX3_looks_98 (by decide) (fun _ => ?_) (fun c => by rw [hpq] at c; cases c)
              refine ev_iconstZ dX3_looks_106 ?_
              refine mx_putI hM dX3_looks_107 gf_X3_370_X3 rfl (fun h hM => ?_)
              refine ev_aload_n dX3_looks_110 rfl ?_
              refine ev_dup dX3_looks_111 rfl ?_
              refine mx_getI hM dX3_looks_112 gf_X3_352_X3 rfl ?_
              try simp only [uS_1, uA_1, uF_1, uS_2, uA_2a, uF_2a, Nat.reduceEqDiff, reduceIte, Int.reduceToNat, Int.toNat_natCast]
              rw [hfd.1]
              refine ev_iconstZ dX3_looks_115 ?_
              refine ev_iaddZ dX3_looks_116 ?_
              refine mx_putI hM dX3_looks_117 gf_X3_352_X3 rfl (fun h hM => ?_)
              refine ev_iincZ dX3_looks_120 rfl (by decide) rfl ?_
              dsimp only [List.set]
              refine ev_goto (tgt := 42) dX3_looks_123 (by decide) ?_
              have e5 : lkE D P k1 q i 0 (n + 1) = lkE D P k1 q i 0 n ++ (if isPr D P k1 q i (0 + n) then [(k1, q, i, if isPair q then ((0 + n : Nat) : Int) else -1)] else []) := rfl
              first
                | (rw [if_neg (by rw [c68]; decide)] at e5; exact hN2 _ _ (by repeat' first | exact rfl | exact trivial | exact vz_eq (by omega) | refine And.intro ?_ ?_) ⟨_, hM, hf1, by rw [e5, List.append_nil]; exact hfd⟩)
                | (rw [if_pos c68] at e5; exact hN2 _ _ (by repeat' first | exact rfl | exact trivial | exact vz_eq (by omega) | refine And.intro ?_ ?_) ⟨_, hM, fr.S (fr.S (fr.S (fr.S (fr.S hf1 rfl) rfl) rfl) rfl) rfl, by rw [e5, ← List.append_assoc]; refine hfd.hit (k1, q, i, if isPair q then ((0 + n : Nat) : Int) else -1) c76 ?_; rw [hpq]; rfl⟩)
                | (rw [if_pos c68] at e5; exact hN2 _ _ (by repeat' first | exact rfl | exact trivial | exact vz_eq (by omega) | refine And.intro ?_ ?_) ⟨_, hM, fr.S hf1 rfl, by rw [e5, ← List.append_assoc]; exact hfd.miss (k1, q, i, if isPair q then ((0 + n : Nat) : Int) else -1) c76⟩)
        · clear hM hf1 hfd hD1 hp1 hk1
          obtain ⟨s2, hM, hf1, hfd⟩ := hX
          refine ev_iload dX3_looks_42 rfl ?_
          refine ev_iload dX3_looks_44 rfl ?_
          refine ev_if_eqB (tgt := 54) dX3_looks_46 (by decide) (fun _ => ?_) (fun c => by rw [hpq] at c; cases c)
          refine ev_iconstZ dX3_looks_54 ?_
          refine ev_icmp_geZ (tgt := 126) dX3_looks_55 (by decide) (by omega) (by omega) (fun _ => ?_) (fun c => absurd (by omega) c)
          refine ev_iincZ dX3_looks_126 rfl (by decide) rfl ?_
          dsimp only [List.set]
          refine ev_goto (tgt := 20) dX3_looks_129 (by decide) ?_
          have e6 : lkD D P k1 q (i + 1) = lkD D P k1 q i ++ lkE D P k1 q i (if isPair q then i + 1 else 0) (if isPair q then 7 - i else 1) := rfl
          rw [hpq] at e6
          simp only [if_true, if_false, Bool.false_eq_true] at e6
          exact hN _ _ (by repeat' first | exact rfl | exact trivial | exact vz_eq (by omega) | refine And.intro ?_ ?_) ⟨s2, hM, hf1, by rw [e6, ← List.append_assoc]; exact hfd⟩
      · clear hM
        obtain ⟨s1, hM, hf1, hfd⟩ := hX
        refine ev_iload dX3_looks_20 rfl ?_
        refine ev_bipushZ dX3_looks_22 rfl ?_
        refine ev_icmp_geZ (tgt := 132) dX3_looks_24 (by decide) (by omega) (by omega) (fun _ => ?_) (fun c => absurd (by omega) c)
        refine ev_return dX3_looks_132 rfl ?_
        exact ⟨none, _, rfl, ⟨rfl, hf1, hfd⟩, hM⟩
  refine ev_iload_n dX3_looks_0 rfl ?_
  refine ev_iconstZ dX3_looks_1 ?_
  refine ev_icmp_eqZ (tgt := 10) dX3_looks_2 (by decide) (by omega) (by omega) (fun c2 => ?_) (fun c2 => ?_)
  · refine ev_iconstZ dX3_looks_10 ?_
    have ep : isPair q = true := by unfold isPair; simp; omega
    refine ev_to (b := bI (isPair q)) (by rw [ep]; rfl) ?_
    refine ev_goto (tgt := 15) dX3_looks_11 (by decide) ?_
    exact T15 h hM
  · refine ev_iload_n dX3_looks_5 rfl ?_
    refine ev_iconstZ dX3_looks_6 ?_
    refine ev_icmp_neZ (tgt := 14) dX3_looks_7 (by decide) (by omega) (by omega) (fun c7 => ?_) (fun c7 => ?_)
    · refine ev_iconstZ dX3_looks_14 ?_
      have ep : isPair q = false := by unfold isPair; simp; omega
      refine ev_to (b := bI (isPair q)) (by rw [ep]; rfl) ?_
      exact T15 h hM
    · refine ev_iconstZ dX3_looks_10 ?_
      have ep : isPair q = true := by unfold isPair; simp; omega
      refine ev_to (b := bI (isPair q)) (by rw [ep]; rfl) ?_
      refine ev_goto (tgt := 15) dX3_looks_11 (by decide) ?_
      exact T15 h hM
end Q3

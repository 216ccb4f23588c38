/-! the reference: plan, 3 (printed by gen) -/
section Z6
variable {g : GB} {M : MI} {d c k : Nat} {Q : RS → HM → Prop} {pc : Nat} {ls : List (Option Value)} {st : List Value} {h : HM} {a b : Int} {ad : Nat → Nat} {o : Nat} {h0 : HM} {s : MSt}
theorem MX.self (hM : MX g ad o h0 s h) (k : Nat) : MX g ad o h0 (uF s k (s.2 k)) h := by rw [uF_self]; exact hM
theorem id5 : ∀ q, q < 5 → (fun q : Nat => q) q < 5 := fun _ h => h
theorem id5s : ∀ s, s < 5 → ∃ q, q < 5 ∧ (fun q : Nat => q) q = s := fun s h => ⟨s, h, rfl⟩
def rcF (D : Dn) (L : PL) (s0 k m j x : Nat) : Bool := rcS D.1.1 D.1.2 L s0 (fun q => q) k m j x
theorem nb_lt {D : Dn} (hO : dnOk D) {p q y : Nat} (h : nbP D.1.1 D.1.2 p q = some y) : y < D.1.1 * D.1.2 := nbP_lt (by have := hO.1; omega) h
set_option maxRecDepth 100000 in
set_option maxHeartbeats 4000000 in
theorem fd_inner {D : Dn} {P : Pt} {fm n : Nat} {L : PL} (hD : dnAt (s.2 1) D) (hO : dnOk D) (hs17 : s.1 17 = ((P.1.1 : Nat) : Int)) (h99 : P.1.1 ≤ 99) (hp : plAt s D P) (hE : endOk D P) (hpn : pnAt s D P fm n L) (hfm : fm < 4) {dn : Nat} (hdn : dn < 8) (hLd : L dn = none) (hL9 : ∀ (e : Nat) (f : Nat → Nat), e < 8 → L e = some f → ∀ k, k ≤ 20 → f k < 100) {s0 gl : Nat} {k p k9 : Nat} (hk : k < 20) (hpp : p < D.1.1 * D.1.2) (hrp : rcP D.1.1 D.1.2 L s0 k p = true) {A0 : Nat → Int} (hM : MX g ad o h0 (uF s 51 A0) h) (hA0 : ∀ j x : Nat, j < 21 → x < D.1.1 * D.1.2 → A0 (81 * j + x) = bI (rcF D L s0 k (5 * p + 0) j x)) (hd : 6 ≤ d) (hE9 : ∀ (h' : HM) (A : Nat → Int), MX g ad o h0 (uF s 51 A) h' → (∀ j x : Nat, j < 21 → x < D.1.1 * D.1.2 → A (81 * j + x) = bI (rcF D L s0 k (5 * p + 5) j x)) → Ev g mX3_finds d c k9 Q 152 [some (.ref o), some (vz (fm : Int)), some (vz (dn : Int)), some (vz (gl : Int)), some (vz ((D.1.1 * D.1.2 : Nat) : Int)), some (vz ((k : Nat) : Int)), some (vz ((p : Nat) : Int)), some (vz ((5 : Nat) : Int)), none, none] [] h') : Ev g mX3_finds d c k9 Q 81 [some (.ref o), some (vz (fm : Int)), some (vz (dn : Int)), some (vz (gl : Int)), some (vz ((D.1.1 * D.1.2 : Nat) : Int)), some (vz ((k : Nat) : Int)), some (vz ((p : Nat) : Int)), some (vz 0), none, none] [] h := by
  have hCR : D.1.1 * D.1.2 ≤ 81 := Nat.mul_le_mul hO.2.1 hO.2.2.2.1
  refine ev_for 5 (fun q h => ∃ A : Nat → Int, MX g ad o h0 (uF s 51 A) h ∧ ∀ j x : Nat, j < 21 → x < D.1.1 * D.1.2 → A (81 * j + x) = bI (rcF D L s0 (k) (5 * p + q) j x)) (fun q => [some (.ref o), some (vz (fm : Int)), some (vz (dn : Int)), some (vz (gl : Int)), some (vz ((D.1.1 * D.1.2 : Nat) : Int)), some (vz ((k : Nat) : Int)), some (vz ((p : Nat) : Int)), some (vz ((q : Nat) : Int)), none, none]) 0 (by omega) ⟨A0, hM, hA0⟩ ⟨rfl, rfl, rfl, rfl, rfl, rfl, rfl, vz_eq (by omega), trivial⟩ (fun q h hi1 hi2 hX hN => ?_) (fun h hX => ?_)
  · clear hM
    obtain ⟨A, hM, hA⟩ := hX
    have hq5 : q < 5 := hi2
    cases hnb : nbP D.1.1 D.1.2 p q with
    | none =>
      refine ev_iload dX3_finds_81 rfl ?_
      refine ev_iconstZ dX3_finds_83 ?_
      refine ev_icmp_geZ (tgt := 152) dX3_finds_84 (by decide) (by omega) (by omega) (fun c => absurd c (by omega)) (fun _ => ?_)
      refine ev_aload_n dX3_finds_87 rfl ?_
      refine mx_getA hM dX3_finds_88 gf_X3_101_X3 rfl ?_
      refine ev_bipushZ dX3_finds_91 rfl ?_
      refine ev_iload dX3_finds_93 rfl ?_
      refine ev_imulZ dX3_finds_95 ?_
      refine ev_iload dX3_finds_96 rfl ?_
      refine ev_iaddZ dX3_finds_98 ?_
      refine ev_to (b := ((81 * k + p : Nat) : Int)) (by omega) ?_
      refine mx_zald hM rfl dX3_finds_99 (by omega) ?_
      try simp only [uS_1, uA_1, uF_1, uS_2, uA_2a, uF_2a, Nat.reduceEqDiff, reduceIte, Int.reduceToNat, Int.toNat_natCast]
      rw [show A (81 * k + p) = bI (rcP D.1.1 D.1.2 L s0 k p) by rw [hA k p (by omega) hpp]; unfold rcF rcS; rw [if_pos (Nat.le_refl _)]]
      refine ev_if_eqB (tgt := 152) dX3_finds_100 (by decide) (fun c => by rw [hrp] at c; cases c) (fun _ => ?_)
      refine ev_aload_n dX3_finds_103 rfl ?_
      refine ev_iload_n dX3_finds_104 rfl ?_
      refine ev_iload_n dX3_finds_105 rfl ?_
      refine ev_iload dX3_finds_106 rfl ?_
      refine ev_iload dX3_finds_108 rfl ?_
      refine ev_aload_n dX3_finds_110 rfl ?_
      refine ev_iload dX3_finds_111 rfl ?_
      refine ev_iload dX3_finds_113 rfl ?_
      refine mx_call dX3_finds_115 cv_X3_394_X3 ce_X3_stepped hM rfl rfl (k_stepped (D := D) (p := p) (q := q) hM hD hO (by omega) (by omega) (d := d - 1) (by omega)) (by omega) (Nat.le_of_ble_eq_true rfl) (fun h hM => ?_)
      rw [show nbI D.1.1 D.1.2 p q = -1 by unfold nbI; rw [hnb]]
      refine mx_call dX3_finds_118 cv_X3_397_X3 ce_X3_canStep hM rfl rfl (k_canStepN (D := D) (P := P) (fm := fm) (n := n) (L := L) (dn := dn) (k := k) (p := p) hM hD hO hs17 h99 hp hE hpn hfm hdn (d := d - 1) (by omega)) (by omega) (Nat.le_of_ble_eq_true rfl) (fun h hM => ?_)
      refine ev_if_eqB (tgt := 146) dX3_finds_121 (by decide) (fun _ => ?_) (fun c => by cases c)
      refine ev_iincZ dX3_finds_146 rfl (by decide) rfl ?_
      dsimp only [List.set]
      refine ev_goto (tgt := 81) dX3_finds_149 (by decide) ?_
      refine hN _ _ ⟨rfl, rfl, rfl, rfl, rfl, rfl, rfl, vz_eq (by omega), trivial⟩ ⟨_, hM, fun j x hj hx => ?_⟩
      rw [hA j x hj hx]
      unfold rcF
      rw [rcS_put (to := none) (c := false) hq5 hrp hnb (fun y e => by cases e) (fun _ => rfl)]
      simp
    | some y =>
      have hy := nb_lt hO hnb
      cases hgo : goP L k p y with
      | false =>
        refine ev_iload dX3_finds_81 rfl ?_
        refine ev_iconstZ dX3_finds_83 ?_
        refine ev_icmp_geZ (tgt := 152) dX3_finds_84 (by decide) (by omega) (by omega) (fun c => absurd c (by omega)) (fun _ => ?_)
        refine ev_aload_n dX3_finds_87 rfl ?_
        refine mx_getA hM dX3_finds_88 gf_X3_101_X3 rfl ?_
        refine ev_bipushZ dX3_finds_91 rfl ?_
        refine ev_iload dX3_finds_93 rfl ?_
        refine ev_imulZ dX3_finds_95 ?_
        refine ev_iload dX3_finds_96 rfl ?_
        refine ev_iaddZ dX3_finds_98 ?_
        refine ev_to (b := ((81 * k + p : Nat) : Int)) (by omega) ?_
        refine mx_zald hM rfl dX3_finds_99 (by omega) ?_
        try simp only [uS_1, uA_1, uF_1, uS_2, uA_2a, uF_2a, Nat.reduceEqDiff, reduceIte, Int.reduceToNat, Int.toNat_natCast]
        rw [show A (81 * k + p) = bI (rcP D.1.1 D.1.2 L s0 k p) by rw [hA k p (by omega) hpp]; unfold rcF rcS; rw [if_pos (Nat.le_refl _)]]
        refine ev_if_eqB (tgt := 152) dX3_finds_100 (by decide) (fun c => by rw [hrp] at c; cases c) (fun _ => ?_)
        refine ev_aload_n dX3_finds_103 rfl ?_
        refine ev_iload_n dX3_finds_104 rfl ?_
        refine ev_iload_n dX3_finds_105 rfl ?_
        refine ev_iload dX3_finds_106 rfl ?_
        refine ev_iload dX3_finds_108 rfl ?_
        refine ev_aload_n dX3_finds_110 rfl ?_
        refine ev_iload dX3_finds_111 rfl ?_
        refine ev_iload dX3_finds_113 rfl ?_
        refine mx_call dX3_finds_115 cv_X3_394_X3 ce_X3_stepped hM rfl rfl (k_stepped (D := D) (p := p) (q := q) hM hD hO (by omega) (by omega) (d := d - 1) (by omega)) (by omega) (Nat.le_of_ble_eq_true rfl) (fun h hM => ?_)
        rw [show nbI D.1.1 D.1.2 p q = ((y : Nat) : Int) by unfold nbI; rw [hnb]]
        refine mx_call dX3_finds_118 cv_X3_397_X3 ce_X3_canStep hM rfl rfl (k_canStep (D := D) (P := P) (fm := fm) (n := n) (L := L) (dn := dn) (k := k) (p := p) (x := y) hM hD hO hs17 h99 hp hE hpn hfm hdn (by omega) (by omega) (by omega) hLd hL9 (d := d - 1) (by omega)) (by omega) (Nat.le_of_ble_eq_true rfl) (fun h hM => ?_)
        refine ev_if_eqB (tgt := 146) dX3_finds_121 (by decide) (fun _ => ?_) (fun c => by rw [hgo] at c; cases c)
        refine ev_iincZ dX3_finds_146 rfl (by decide) rfl ?_
        dsimp only [List.set]
        refine ev_goto (tgt := 81) dX3_finds_149 (by decide) ?_
        refine hN _ _ ⟨rfl, rfl, rfl, rfl, rfl, rfl, rfl, vz_eq (by omega), trivial⟩ ⟨_, hM, fun j x hj hx => ?_⟩
        rw [hA j x hj hx]
        unfold rcF
        rw [rcS_put (to := some y) (c := false) hq5 hrp hnb (fun y2 e => by cases e; exact hgo.symm) (fun e => by cases e)]
        simp
      | true =>
        refine ev_iload dX3_finds_81 rfl ?_
        refine ev_iconstZ dX3_finds_83 ?_
        refine ev_icmp_geZ (tgt := 152) dX3_finds_84 (by decide) (by omega) (by omega) (fun c => absurd c (by omega)) (fun _ => ?_)
        refine ev_aload_n dX3_finds_87 rfl ?_
        refine mx_getA hM dX3_finds_88 gf_X3_101_X3 rfl ?_
        refine ev_bipushZ dX3_finds_91 rfl ?_
        refine ev_iload dX3_finds_93 rfl ?_
        refine ev_imulZ dX3_finds_95 ?_
        refine ev_iload dX3_finds_96 rfl ?_
        refine ev_iaddZ dX3_finds_98 ?_
        refine ev_to (b := ((81 * k + p : Nat) : Int)) (by omega) ?_
        refine mx_zald hM rfl dX3_finds_99 (by omega) ?_
        try simp only [uS_1, uA_1, uF_1, uS_2, uA_2a, uF_2a, Nat.reduceEqDiff, reduceIte, Int.reduceToNat, Int.toNat_natCast]
        rw [show A (81 * k + p) = bI (rcP D.1.1 D.1.2 L s0 k p) by rw [hA k p (by omega) hpp]; unfold rcF rcS; rw [if_pos (Nat.le_refl _)]]
        refine ev_if_eqB (tgt := 152) dX3_finds_100 (by decide) (fun c => by rw [hrp] at c; cases c) (fun _ => ?_)
        refine ev_aload_n dX3_finds_103 rfl ?_
        refine ev_iload_n dX3_finds_104 rfl ?_
        refine ev_iload_n dX3_finds_105 rfl ?_
        refine ev_iload dX3_finds_106 rfl ?_
        refine ev_iload dX3_finds_108 rfl ?_
        refine ev_aload_n dX3_finds_110 rfl ?_
        refine ev_iload dX3_finds_111 rfl ?_
        refine ev_iload dX3_finds_113 rfl ?_
        refine mx_call dX3_finds_115 cv_X3_394_X3 ce_X3_stepped hM rfl rfl (k_stepped (D := D) (p := p) (q := q) hM hD hO (by omega) (by omega) (d := d - 1) (by omega)) (by omega) (Nat.le_of_ble_eq_true rfl) (fun h hM => ?_)
        rw [show nbI D.1.1 D.1.2 p q = ((y : Nat) : Int) by unfold nbI; rw [hnb]]
        refine mx_call dX3_finds_118 cv_X3_397_X3 ce_X3_canStep hM rfl rfl (k_canStep (D := D) (P := P) (fm := fm) (n := n) (L := L) (dn := dn) (k := k) (p := p) (x := y) hM hD hO hs17 h99 hp hE hpn hfm hdn (by omega) (by omega) (by omega) hLd hL9 (d := d - 1) (by omega)) (by omega) (Nat.le_of_ble_eq_true rfl) (fun h hM => ?_)
        refine ev_if_eqB (tgt := 146) dX3_finds_121 (by decide) (fun c => by rw [hgo] at c; cases c) (fun _ => ?_)
        refine ev_aload_n dX3_finds_124 rfl ?_
        refine mx_getA hM dX3_finds_125 gf_X3_101_X3 rfl ?_
        refine ev_bipushZ dX3_finds_128 rfl ?_
        refine ev_iload dX3_finds_130 rfl ?_
        refine ev_iconstZ dX3_finds_132 ?_
        refine ev_iaddZ dX3_finds_133 ?_
        refine ev_imulZ dX3_finds_134 ?_
        refine ev_aload_n dX3_finds_135 rfl ?_
        refine ev_iload dX3_finds_136 rfl ?_
        refine ev_iload dX3_finds_138 rfl ?_
        refine mx_call dX3_finds_140 cv_X3_394_X3 ce_X3_stepped hM rfl rfl (k_stepped (D := D) (p := p) (q := q) hM hD hO (by omega) (by omega) (d := d - 1) (by omega)) (by omega) (Nat.le_of_ble_eq_true rfl) (fun h hM => ?_)
        rw [show nbI D.1.1 D.1.2 p q = ((y : Nat) : Int) by unfold nbI; rw [hnb]]
        refine ev_iaddZ dX3_finds_143 ?_
        refine ev_to (b := ((81 * (k + 1) + y : Nat) : Int)) (by omega) ?_
        refine ev_iconstZ dX3_finds_144 ?_
        refine mx_zast hM rfl dX3_finds_145 (by omega) (by omega) (fun h hM => ?_)
        rw [Int.toNat_natCast, uA_uF] at hM
        refine ev_iincZ dX3_finds_146 rfl (by decide) rfl ?_
        dsimp only [List.set]
        refine ev_goto (tgt := 81) dX3_finds_149 (by decide) ?_
        refine hN _ _ ⟨rfl, rfl, rfl, rfl, rfl, rfl, rfl, vz_eq (by omega), trivial⟩ ⟨_, hM, fun j x hj hx => ?_⟩
        rw [uz_ap, hA j x hj hx]
        unfold rcF
        rw [rcS_put (to := some y) (c := true) hq5 hrp hnb (fun y2 e => by cases e; exact hgo.symm) (fun e => by cases e)]
        by_cases e : 81 * j + x = 81 * (k + 1) + y
        · rw [if_pos e, decide_eq_true (show j = k + 1 by omega), decide_eq_true (show some y = some x by rw [show y = x by omega]), Bool.true_and, Bool.true_and, Bool.or_true]; rfl
        · rw [if_neg e]
          by_cases e2 : j = k + 1
          · rw [decide_eq_false (show ¬ some y = some x from fun q9 => e (by cases q9; omega))]; simp
          · rw [decide_eq_false e2]; simp
  · clear hM
    obtain ⟨A, hM, hA⟩ := hX
    refine ev_iload dX3_finds_81 rfl ?_
    refine ev_iconstZ dX3_finds_83 ?_
    refine ev_icmp_geZ (tgt := 152) dX3_finds_84 (by decide) (by omega) (by omega) (fun _ => ?_) (fun c => absurd (by omega) c)
    exact hE9 _ _ hM hA
end Z6

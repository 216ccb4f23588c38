/-! the reference: plan, 4 (printed by gen) -/
section Z7
variable {g : GB} {M : MI} {d c k : Nat} {Q : RS → HM → Prop} {pc : Nat} {ls : List (Option Value)} {st : List Value} {h : HM} {a b : Int} {ad : Nat → Nat} {o : Nat} {h0 : HM} {s : MSt}
theorem rcF_no {D : Dn} {L : PL} {s0 k p j x : Nat} (h : rcP D.1.1 D.1.2 L s0 k p = false) : rcF D L s0 k (5 * (p + 1)) j x = rcF D L s0 k (5 * p) j x := by
  unfold rcF rcS
  rw [show 5 * (p + 1) = 5 * p + 5 by omega, rcU_no h x 5 (Nat.le_refl 5)]
theorem rcF_next {D : Dn} {L : PL} {s0 k j x : Nat} : rcF D L s0 k (5 * (D.1.1 * D.1.2)) j x = rcF D L s0 (k + 1) 0 j x := rcS_next id5 id5s
theorem rcF_0 {D : Dn} {L : PL} {s0 j x : Nat} : rcF D L s0 0 0 j x = (decide (j = 0) && decide (x = s0)) := by
  unfold rcF rcS
  by_cases h : j = 0
  · rw [if_pos (by omega), h]; rfl
  · rw [if_neg (by omega), decide_eq_false h, Bool.false_and]
    split
    · exact rcU_0 _ _ _ _ _ _ _
    · rfl
set_option maxRecDepth 100000 in
set_option maxHeartbeats 4000000 in
theorem fd_mid {D : Dn} {P : Pt} {fm n : Nat} {L : PL} (hD : dnAt (s.2 1) D) (hO : dnOk D) (hs17 : s.1 17 = ((P.1.1 : Nat) : Int)) (h99 : P.1.1 ≤ 99) (hp : plAt s D P) (hE : endOk D P) (hpn : pnAt s D P fm n L) (hfm : fm < 4) {dn : Nat} (hdn : dn < 8) (hLd : L dn = none) (hL9 : ∀ (e : Nat) (f : Nat → Nat), e < 8 → L e = some f → ∀ k, k ≤ 20 → f k < 100) {s0 gl : Nat} {k k9 : Nat} (hk : k < 20) {A0 : Nat → Int} (hM : MX g ad o h0 (uF s 51 A0) h) (hA0 : ∀ j x : Nat, j < 21 → x < D.1.1 * D.1.2 → A0 (81 * j + x) = bI (rcF D L s0 k (5 * 0) j x)) (hd : 6 ≤ d) (hE9 : ∀ (h' : HM) (A : Nat → Int), MX g ad o h0 (uF s 51 A) h' → (∀ j x : Nat, j < 21 → x < D.1.1 * D.1.2 → A (81 * j + x) = bI (rcF D L s0 (k) (5 * (D.1.1 * D.1.2)) j x)) → Ev g mX3_finds d c k9 Q 158 [some (.ref o), some (vz (fm : Int)), some (vz (dn : Int)), some (vz (gl : Int)), some (vz ((D.1.1 * D.1.2 : Nat) : Int)), some (vz ((k : Nat) : Int)), some (vz ((D.1.1 * D.1.2 : Nat) : Int)), none, none, none] [] h') : Ev g mX3_finds d c k9 Q 71 [some (.ref o), some (vz (fm : Int)), some (vz (dn : Int)), some (vz (gl : Int)), some (vz ((D.1.1 * D.1.2 : Nat) : Int)), some (vz ((k : Nat) : Int)), some (vz 0), none, none, none] [] h := by
  have hCR : D.1.1 * D.1.2 ≤ 81 := Nat.mul_le_mul hO.2.1 hO.2.2.2.1
  refine ev_for (D.1.1 * D.1.2) (fun p h => ∃ A : Nat → Int, MX g ad o h0 (uF s 51 A) h ∧ ∀ j x : Nat, j < 21 → x < D.1.1 * D.1.2 → A (81 * j + x) = bI (rcF D L s0 (k) (5 * p) j x)) (fun p => [some (.ref o), some (vz (fm : Int)), some (vz (dn : Int)), some (vz (gl : Int)), some (vz ((D.1.1 * D.1.2 : Nat) : Int)), some (vz ((k : Nat) : Int)), some (vz ((p : Nat) : Int)), none, none, none]) 0 (by omega) ⟨A0, hM, hA0⟩ ⟨rfl, rfl, rfl, rfl, rfl, rfl, vz_eq (by omega), trivial⟩ (fun p h hi1 hi2 hX hN => ?_) (fun h hX => ?_)
  · clear hM
    obtain ⟨A, hM, hA⟩ := hX
    have hpp : p < D.1.1 * D.1.2 := hi2
    cases hrp : rcP D.1.1 D.1.2 L s0 k p with
    | true =>
      refine ev_iload dX3_finds_71 rfl ?_
      refine ev_iload dX3_finds_73 rfl ?_
      refine ev_icmp_geZ (tgt := 158) dX3_finds_75 (by decide) (by omega) (by omega) (fun c => absurd c (by omega)) (fun _ => ?_)
      refine ev_iconstZ dX3_finds_78 ?_
      refine ev_istore dX3_finds_79 (by decide) rfl ?_
      dsimp only [List.set]
      refine fd_inner hD hO hs17 h99 hp hE hpn hfm hdn hLd hL9 hk hpp hrp hM hA hd (fun h A hM hA => ?_)
      refine ev_iincZ dX3_finds_152 rfl (by decide) rfl ?_
      dsimp only [List.set]
      refine ev_goto (tgt := 71) dX3_finds_155 (by decide) ?_
      refine hN _ _ ⟨rfl, rfl, rfl, rfl, rfl, rfl, vz_eq (by omega), trivial⟩ ⟨_, hM, fun j x hj hx => ?_⟩
      rw [hA j x hj hx]
      rw [show 5 * (p + 1) = 5 * p + 5 by omega]
    | false =>
      refine ev_iload dX3_finds_71 rfl ?_
      refine ev_iload dX3_finds_73 rfl ?_
      refine ev_icmp_geZ (tgt := 158) dX3_finds_75 (by decide) (by omega) (by omega) (fun c => absurd c (by omega)) (fun _ => ?_)
      refine ev_iconstZ dX3_finds_78 ?_
      refine ev_istore dX3_finds_79 (by decide) rfl ?_
      dsimp only [List.set]
      refine ev_iload dX3_finds_81 rfl ?_
      refine ev_iconstZ dX3_finds_83 ?_
      refine ev_icmp_geZ (tgt := 152) dX3_finds_84 (by decide) (by omega) (by omega) (fun c => absurd c (by omega)) (fun _ => ?_)
      refine ev_aload_n dX3_finds_87 rfl ?_
      refine mx_getA hM dX3_finds_88 gf_X3_101_X3 rfl ?_
      refine ev_bipushZ dX3_finds_91 rfl ?_
      refine ev_iload dX3_finds_93 rfl ?_
      refine ev_imulZ dX3_finds_95 ?_
      refine ev_iload dX3_finds_96 rfl ?_
      refine ev_iaddZ dX3_finds_98 ?_
      refine ev_to (b := ((81 * k + p : Nat) : Int)) (by omega) ?_
      refine mx_zald hM rfl dX3_finds_99 (by omega) ?_
      try simp only [uS_1, uA_1, uF_1, uS_2, uA_2a, uF_2a, Nat.reduceEqDiff, reduceIte, Int.reduceToNat, Int.toNat_natCast]
      rw [show A (81 * k + p) = bI (rcP D.1.1 D.1.2 L s0 k p) by rw [hA k p (by omega) hpp]; unfold rcF rcS; rw [if_pos (Nat.le_refl _)]]
      refine ev_if_eqB (tgt := 152) dX3_finds_100 (by decide) (fun _ => ?_) (fun c => by rw [hrp] at c; cases c)
      refine ev_iincZ dX3_finds_152 rfl (by decide) rfl ?_
      dsimp only [List.set]
      refine ev_goto (tgt := 71) dX3_finds_155 (by decide) ?_
      refine hN _ _ ⟨rfl, rfl, rfl, rfl, rfl, rfl, vz_eq (by omega), trivial⟩ ⟨_, hM, fun j x hj hx => ?_⟩
      rw [hA j x hj hx, rcF_no hrp]
  · clear hM
    obtain ⟨A, hM, hA⟩ := hX
    refine ev_iload dX3_finds_71 rfl ?_
    refine ev_iload dX3_finds_73 rfl ?_
    refine ev_icmp_geZ (tgt := 158) dX3_finds_75 (by decide) (by omega) (by omega) (fun _ => ?_) (fun c => absurd (by omega) c)
    exact hE9 _ _ hM hA
set_option maxRecDepth 100000 in
set_option maxHeartbeats 4000000 in
theorem fd_out {D : Dn} {P : Pt} {fm n : Nat} {L : PL} (hD : dnAt (s.2 1) D) (hO : dnOk D) (hs17 : s.1 17 = ((P.1.1 : Nat) : Int)) (h99 : P.1.1 ≤ 99) (hp : plAt s D P) (hE : endOk D P) (hpn : pnAt s D P fm n L) (hfm : fm < 4) {dn : Nat} (hdn : dn < 8) (hLd : L dn = none) (hL9 : ∀ (e : Nat) (f : Nat → Nat), e < 8 → L e = some f → ∀ k, k ≤ 20 → f k < 100) {s0 gl : Nat} {k9 : Nat} {A0 : Nat → Int} (hM : MX g ad o h0 (uF s 51 A0) h) (hA0 : ∀ j x : Nat, j < 21 → x < D.1.1 * D.1.2 → A0 (81 * j + x) = bI (rcF D L s0 0 0 j x)) (hd : 6 ≤ d) (hE9 : ∀ (h' : HM) (A : Nat → Int), MX g ad o h0 (uF s 51 A) h' → (∀ j x : Nat, j < 21 → x < D.1.1 * D.1.2 → A (81 * j + x) = bI (rcP D.1.1 D.1.2 L s0 j x)) → Ev g mX3_finds d c k9 Q 164 [some (.ref o), some (vz (fm : Int)), some (vz (dn : Int)), some (vz (gl : Int)), some (vz ((D.1.1 * D.1.2 : Nat) : Int)), some (vz ((20 : Nat) : Int)), none, none, none, none] [] h') : Ev g mX3_finds d c k9 Q 61 [some (.ref o), some (vz (fm : Int)), some (vz (dn : Int)), some (vz (gl : Int)), some (vz ((D.1.1 * D.1.2 : Nat) : Int)), some (vz 0), none, none, none, none] [] h := by
  have hCR : D.1.1 * D.1.2 ≤ 81 := Nat.mul_le_mul hO.2.1 hO.2.2.2.1
  refine ev_for 20 (fun k h => ∃ A : Nat → Int, MX g ad o h0 (uF s 51 A) h ∧ ∀ j x : Nat, j < 21 → x < D.1.1 * D.1.2 → A (81 * j + x) = bI (rcF D L s0 (k) (0) j x)) (fun k => [some (.ref o), some (vz (fm : Int)), some (vz (dn : Int)), some (vz (gl : Int)), some (vz ((D.1.1 * D.1.2 : Nat) : Int)), some (vz ((k : Nat) : Int)), none, none, none, none]) 0 (by omega) ⟨A0, hM, hA0⟩ ⟨rfl, rfl, rfl, rfl, rfl, vz_eq (by omega), trivial⟩ (fun k h hi1 hi2 hX hN => ?_) (fun h hX => ?_)
  · clear hM
    obtain ⟨A, hM, hA⟩ := hX
    refine ev_iload dX3_finds_61 rfl ?_
    refine ev_bipushZ dX3_finds_63 rfl ?_
    refine ev_icmp_geZ (tgt := 164) dX3_finds_65 (by decide) (by omega) (by omega) (fun c => absurd c (by omega)) (fun _ => ?_)
    refine ev_iconstZ dX3_finds_68 ?_
    refine ev_istore dX3_finds_69 (by decide) rfl ?_
    dsimp only [List.set]
    refine fd_mid hD hO hs17 h99 hp hE hpn hfm hdn hLd hL9 (show k < 20 from hi2) hM hA hd (fun h A hM hA => ?_)
    refine ev_iincZ dX3_finds_158 rfl (by decide) rfl ?_
    dsimp only [List.set]
    refine ev_goto (tgt := 61) dX3_finds_161 (by decide) ?_
    refine hN _ _ ⟨rfl, rfl, rfl, rfl, rfl, vz_eq (by omega), trivial⟩ ⟨_, hM, fun j x hj hx => ?_⟩
    rw [hA j x hj hx, rcF_next]
  · clear hM
    obtain ⟨A, hM, hA⟩ := hX
    refine ev_iload dX3_finds_61 rfl ?_
    refine ev_bipushZ dX3_finds_63 rfl ?_
    refine ev_icmp_geZ (tgt := 164) dX3_finds_65 (by decide) (by omega) (by omega) (fun _ => ?_) (fun c => absurd (by omega) c)
    refine hE9 _ _ hM (fun j x hj hx => ?_)
    rw [hA j x hj hx]
    unfold rcF rcS
    rw [if_pos (by omega)]
set_option maxRecDepth 100000 in
set_option maxHeartbeats 4000000 in
theorem fd_reach {D : Dn} {P : Pt} {fm n : Nat} {L : PL} (hD : dnAt (s.2 1) D) (hO : dnOk D) (hs17 : s.1 17 = ((P.1.1 : Nat) : Int)) (h99 : P.1.1 ≤ 99) (hp : plAt s D P) (hE : endOk D P) (hpn : pnAt s D P fm n L) (hfm : fm < 4) {dn : Nat} (hdn : dn < 8) (hLd : L dn = none) (hL9 : ∀ (e : Nat) (f : Nat → Nat), e < 8 → L e = some f → ∀ k, k ≤ 20 → f k < 100) {gl : Nat} {k9 : Nat} (ht : tkB D dn = true) (hM : MX g ad o h0 s h) (hd : 6 ≤ d) (hE9 : ∀ (h' : HM) (A : Nat → Int), MX g ad o h0 (uF s 51 A) h' → (∀ j x : Nat, j < 21 → x < D.1.1 * D.1.2 → A (81 * j + x) = bI (rcP D.1.1 D.1.2 L (dnE D P dn) j x)) → Ev g mX3_finds d c k9 Q 164 [some (.ref o), some (vz (fm : Int)), some (vz (dn : Int)), some (vz (gl : Int)), some (vz ((D.1.1 * D.1.2 : Nat) : Int)), some (vz ((20 : Nat) : Int)), none, none, none, none] [] h') : Ev g mX3_finds d c k9 Q 22 [some (.ref o), some (vz (fm : Int)), some (vz (dn : Int)), some (vz (gl : Int)), some (vz ((D.1.1 * D.1.2 : Nat) : Int)), none, none, none, none, none] [] h := by
  have hCR : D.1.1 * D.1.2 ≤ 81 := Nat.mul_le_mul hO.2.1 hO.2.2.2.1
  refine ev_iconstZ dX3_finds_22 ?_
  refine ev_istore dX3_finds_23 (by decide) rfl ?_
  dsimp only [List.set]
  refine ev_for 1701 (fun i h => ∃ A : Nat → Int, MX g ad o h0 (uF s 51 A) h ∧ ∀ j : Nat, j < i → A j = 0) (fun i => [some (.ref o), some (vz (fm : Int)), some (vz (dn : Int)), some (vz (gl : Int)), some (vz ((D.1.1 * D.1.2 : Nat) : Int)), some (vz ((i : Nat) : Int)), none, none, none, none]) 0 (by omega) ⟨_, MX.self hM 51, fun j hj => by omega⟩ ⟨rfl, rfl, rfl, rfl, rfl, vz_eq (by omega), trivial⟩ (fun i h hi1 hi2 hX hN => ?_) (fun h hX => ?_)
  · clear hM
    obtain ⟨A, hM, hA⟩ := hX
    refine ev_iload dX3_finds_25 rfl ?_
    refine ev_sipushZ dX3_finds_27 rfl ?_
    refine ev_icmp_geZ (tgt := 47) dX3_finds_30 (by decide) (by omega) (by omega) (fun c => absurd c (by omega)) (fun _ => ?_)
    refine ev_aload_n dX3_finds_33 rfl ?_
    refine mx_getA hM dX3_finds_34 gf_X3_101_X3 rfl ?_
    refine ev_iload dX3_finds_37 rfl ?_
    refine ev_iconstZ dX3_finds_39 ?_
    refine mx_zast hM rfl dX3_finds_40 (by omega) (by omega) (fun h hM => ?_)
    rw [Int.toNat_natCast, uA_uF] at hM
    refine ev_iincZ dX3_finds_41 rfl (by decide) rfl ?_
    dsimp only [List.set]
    refine ev_goto (tgt := 25) dX3_finds_44 (by decide) ?_
    refine hN _ _ ⟨rfl, rfl, rfl, rfl, rfl, vz_eq (by omega), trivial⟩ ⟨_, hM, fun j hj => ?_⟩
    rw [uz_ap]
    by_cases e : j = i
    · rw [if_pos e]
    · rw [if_neg e]; exact hA j (by omega)
  · clear hM
    obtain ⟨A, hM, hA⟩ := hX
    have hdl := dnE_lt hE hdn ht
    refine ev_iload dX3_finds_25 rfl ?_
    refine ev_sipushZ dX3_finds_27 rfl ?_
    refine ev_icmp_geZ (tgt := 47) dX3_finds_30 (by decide) (by omega) (by omega) (fun _ => ?_) (fun c => absurd (by omega) c)
    refine ev_aload_n dX3_finds_47 rfl ?_
    refine mx_getA hM dX3_finds_48 gf_X3_101_X3 rfl ?_
    refine ev_aload_n dX3_finds_51 rfl ?_
    refine ev_iload_n dX3_finds_52 rfl ?_
    refine mx_call dX3_finds_53 cv_X3_388_X3 ce_X3_endOf hM rfl rfl (k_endOf (D := D) (P := P) (e := dn) hM hD hO hs17 h99 hp hdn (d := d - 1) (by omega)) (by omega) (Nat.le_of_ble_eq_true rfl) (fun h hM => ?_)
    rw [dnE_val hE hdn ht]
    refine ev_iconstZ dX3_finds_56 ?_
    refine mx_zast hM rfl dX3_finds_57 (by omega) (by omega) (fun h hM => ?_)
    rw [Int.toNat_natCast, uA_uF] at hM
    refine ev_iconstZ dX3_finds_58 ?_
    refine ev_istore dX3_finds_59 (by decide) rfl ?_
    dsimp only [List.set]
    refine fd_out (s0 := dnE D P dn) hD hO hs17 h99 hp hE hpn hfm hdn hLd hL9 hM (fun j x hj hx => ?_) hd hE9
    rw [uz_ap, rcF_0]
    by_cases e : 81 * j + x = dnE D P dn
    · rw [if_pos e, decide_eq_true (show j = 0 by omega), decide_eq_true (show x = dnE D P dn by omega)]; rfl
    · rw [if_neg e, hA _ (by omega)]
      by_cases e2 : j = 0
      · rw [decide_eq_false (show ¬ x = dnE D P dn by omega), Bool.and_false]; rfl
      · rw [decide_eq_false e2, Bool.false_and]; rfl
end Z7

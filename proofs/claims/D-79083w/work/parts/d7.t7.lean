/-! THE COMPONENT: the inspector looks at pairs (printed by gen) -/
section T7S
variable {g : GB} {M : MI} {d c k : Nat} {h : HM}
def kP (n : Nat) : Nat := 4 * n + addK n
theorem addK_mono : ∀ {n m : Nat}, n ≤ m → addK n ≤ addK m := by
  intro n m h
  induction h with
  | refl => exact Nat.le_refl _
  | step _ ih => exact Nat.le_trans ih (Nat.le_add_right _ _)
theorem kP_mono {n m : Nat} (h : n ≤ m) : kP n ≤ kP m := by unfold kP; have := addK_mono h; omega
theorem kP_succ (n : Nat) : kP (n + 1) = kP n + (4 + (addK (n + 1) - addK n)) := by unfold kP; have := addK_mono (show n ≤ n + 1 by omega); omega
theorem lkE_mono (D : Dn) (P : Pt) (k q d e0 : Nat) {n m : Nat} (h : n ≤ m) : (lkE D P k q d e0 n).length ≤ (lkE D P k q d e0 m).length := by
  induction h with
  | refl => exact Nat.le_refl _
  | step _ ih => refine Nat.le_trans ih ?_; show _ ≤ (lkE D P k q d e0 _ ++ _).length; rw [List.length_append]; omega
theorem lkD_mono (D : Dn) (P : Pt) (k q : Nat) {n m : Nat} (h : n ≤ m) : (lkD D P k q n).length ≤ (lkD D P k q m).length := by
  induction h with
  | refl => exact Nat.le_refl _
  | step _ ih => refine Nat.le_trans ih ?_; show _ ≤ (lkD D P k q _ ++ _).length; rw [List.length_append]; omega
theorem isPr_2 {D : Dn} {P : Pt} {k x y : Nat} {R C : Nat → Int} (hx : R x = posR D P x k ∧ C x = posC D P x k) (hy : R y = posR D P y k ∧ C y = posC D P y k) : isPr D P k 2 x y = true ↔ tkB D x = true ∧ tkB D y = true ∧ (R x = R y ∧ C x = C y) := by
  unfold isPr same
  rw [hx.1, hx.2, hy.1, hy.2]
  simp
  intro _ _
  exact And.comm
theorem isPr_3 {D : Dn} {P : Pt} {k x y : Nat} {R C RB CB : Nat → Int} (hk : 1 ≤ k) (hx : R x = posR D P x k ∧ C x = posC D P x k) (hy : R y = posR D P y k ∧ C y = posC D P y k) (bx : RB x = posR D P x (k - 1) ∧ CB x = posC D P x (k - 1)) (by_ : RB y = posR D P y (k - 1) ∧ CB y = posC D P y (k - 1)) : isPr D P k 3 x y = true ↔ tkB D x = true ∧ tkB D y = true ∧ ((R x = RB y ∧ C x = CB y) ∧ (R y = RB x ∧ C y = CB x) ∧ ¬ (R x = R y ∧ C x = C y)) := by
  unfold isPr same
  rw [hx.1, hx.2, hy.1, hy.2, bx.1, bx.2, by_.1, by_.2]
  simp
  intro _ _
  constructor
  · rintro ⟨-, h1, ⟨h2, h3⟩, h4, h5⟩
    refine ⟨⟨h3, h2⟩, ⟨h5.symm, h4.symm⟩, fun h6 h7 => by omega⟩
  · rintro ⟨⟨h1, h2⟩, ⟨h3, h4⟩, h5⟩
    refine ⟨by omega, by omega, ⟨h2, h1⟩, by omega, by omega⟩
theorem InA.ns {h : HM} {o pl ro co rb cb a : Nat} {R C RB CB : Nat → Int} (K : InA h o pl ro co rb cb a R C RB CB) : ∀ x ∈ [ro, co, rb, cb], h x ≠ none := fun x hx => by
  obtain ⟨k1, k2, k3, k4, k5⟩ := K
  simp only [List.mem_cons, List.not_mem_nil, or_false] at hx
  rcases hx with e | e | e | e
  · rw [e, k2]; exact fun q => by cases q
  · rw [e, k3]; exact fun q => by cases q
  · rw [e, k4]; exact fun q => by cases q
  · rw [e, k5]; exact fun q => by cases q
set_option maxRecDepth 100000 in
set_option maxHeartbeats 4000000 in
theorem k_pairs2 {o pl ro co rb cb a : Nat} {R C RB CB : Nat → Int} (K : InA h o pl ro co rb cb a R C RB CB) {h0 I : HM} {st fo k0 : Nat} {D : Dn} {P : Pt} {L : List Pr} (hG : GKx g) (hKC : KC g h0) (hP : InP g h0 o pl ro co rb cb) (H0 : DnC g I h0 a st fo D) (HL : PrH g h0 h pl [ro, co, rb, cb] L) (FH : Fr g h0 h []) (hpos : ∀ e : Nat, e < 8 → R e = posR D P e k0 ∧ C e = posC D P e k0) (hr : ∀ e : Nat, e < 8 → inR (R e) ∧ inR (C e) ∧ inR (RB e) ∧ inR (CB e)) (hst : ∀ e : Nat, e < 8 → inR (D.2.1 e)) (hL : L.length < 80000) (hd : 8 ≤ d) (hc : 2 * (lkD D P k0 2 8).length ≤ c) (hk : kP (L.length + (lkD D P k0 2 8).length) - kP L.length ≤ k) : Kc g mX19_inspectPairs d (c) (k) [.ref o, vz ((k0 : Nat) : Int), vz 2] h (rR (fun v h' => v = none ∧ InA h' o pl ro co rb cb a R C RB CB ∧ PrH g h0 h' pl [ro, co, rb, cb] (L ++ lkD D P k0 2 8) ∧ Fr g h0 h' [])) := by
  refine Kc.of (ls := [some (.ref o), some (vz ((k0 : Nat) : Int)), some (vz 2), none, none, none]) (by decide +kernel) (Nat.le_of_ble_eq_true rfl) rfl ?_
  refine ev_iconstZ dX19_inspectPairs_0 ?_
  refine ev_istore_n dX19_inspectPairs_1 (by decide) rfl ?_
  dsimp only [List.set]
  have z0 : (L ++ lkD D P k0 2 0) = L := List.append_nil L
  refine ev_forB (st := []) 8 (fun i => 2 * (L.length + (lkD D P k0 2 8).length - (L ++ lkD D P k0 2 i).length)) (fun i => kP (L.length + (lkD D P k0 2 8).length) - kP (L ++ lkD D P k0 2 i).length) (fun i h1 => InA h1 o pl ro co rb cb a R C RB CB ∧ PrH g h0 h1 pl [ro, co, rb, cb] (L ++ lkD D P k0 2 i) ∧ Fr g h0 h1 []) (fun i => [some (.ref o), some (vz ((k0 : Nat) : Int)), some (vz 2), some (vz ((i : Nat) : Int)), none, none]) 0 (Nat.zero_le _) (by rw [z0]; exact ⟨K, HL, FH⟩) (by rw [z0]; omega) (by rw [z0]; omega) (by repeat' first | exact rfl | exact trivial | exact vz_eq (by omega) | refine And.intro ?_ ?_) (fun i h1 _ hi hP1 hO => ?_) (fun h1 hP1 => ?_)
  · refine ev_iload_n dX19_inspectPairs_2 rfl ?_
    refine ev_bipushZ dX19_inspectPairs_3 rfl ?_
    refine ev_icmp_geZ (tgt := 104) dX19_inspectPairs_5 (by decide) (by omega) (by omega) (fun c5 => by omega) (fun c5 => ?_)
    refine ev_iload_n dX19_inspectPairs_8 rfl ?_
    refine ev_iconstZ dX19_inspectPairs_9 ?_
    refine ev_iaddZ dX19_inspectPairs_10 ?_
    refine ev_istore dX19_inspectPairs_11 (by decide) rfl ?_
    dsimp only [List.set]
    have e0 : (L ++ lkD D P k0 2 i ++ lkE D P k0 2 i (i + 1) 0) = (L ++ lkD D P k0 2 i) := by show _ ++ [] = _; rw [List.append_nil]
    refine ev_forB (st := []) (7 - i) (fun n => 2 * (L.length + (lkD D P k0 2 8).length - (L ++ lkD D P k0 2 i ++ lkE D P k0 2 i (i + 1) n).length)) (fun n => kP (L.length + (lkD D P k0 2 8).length) - kP (L ++ lkD D P k0 2 i ++ lkE D P k0 2 i (i + 1) n).length) (fun n h2 => InA h2 o pl ro co rb cb a R C RB CB ∧ PrH g h0 h2 pl [ro, co, rb, cb] (L ++ lkD D P k0 2 i ++ lkE D P k0 2 i (i + 1) n) ∧ Fr g h0 h2 []) (fun n => [some (.ref o), some (vz ((k0 : Nat) : Int)), some (vz 2), some (vz ((i : Nat) : Int)), some (vz ((i + 1 + n : Nat) : Int)), none]) 0 (Nat.zero_le _) (by rw [e0]; exact hP1) (by rw [e0]; exact Nat.le_refl _) (by rw [e0]; exact Nat.le_refl _) (by repeat' first | exact rfl | exact trivial | exact vz_eq (by omega) | refine And.intro ?_ ?_) (fun n h2 _ hn hP2 hN => ?_) (fun h2 hP2 => ?_)
    · obtain ⟨K2, HL2, F2⟩ := hP2
      obtain ⟨LN, hLN⟩ : ∃ LN, (L ++ lkD D P k0 2 i ++ lkE D P k0 2 i (i + 1) n) = LN := ⟨_, rfl⟩
      rw [hLN] at HL2 ⊢
      have HD := H0.fr F2 (fun x hx => by cases hx)
      obtain ⟨A, B, pv, sv, KD, -⟩ := id HD
      have m1 := KD.1
      obtain ⟨i1, i2, i3, i4, i5⟩ := id K2
      have hn8 : i + 1 + n < 8 := by omega
      have hlen : LN.length + (if isPr D P k0 2 i (i + 1 + n) = true then 1 else 0) ≤ L.length + (lkD D P k0 2 8).length := by
        have q1 := lkD_mono D P k0 2 (show i + 1 ≤ 8 by omega)
        have q2 := lkE_mono D P k0 2 i (i + 1) (show n + 1 ≤ 7 - i by omega)
        have q3 : (lkD D P k0 2 (i + 1)).length = (lkD D P k0 2 i).length + (lkE D P k0 2 i (i + 1) (7 - i)).length := by rw [← List.length_append]; rfl
        have q4 : (lkE D P k0 2 i (i + 1) (n + 1)).length = (lkE D P k0 2 i (i + 1) n).length + (if isPr D P k0 2 i (i + 1 + n) = true then 1 else 0) := by rw [show lkE D P k0 2 i (i + 1) (n + 1) = lkE D P k0 2 i (i + 1) n ++ (if isPr D P k0 2 i (i + 1 + n) = true then [(k0, 2, i, if isPair 2 then ((i + 1 + n : Nat) : Int) else -1)] else []) from rfl, List.length_append]; split <;> rfl
        rw [← hLN, List.length_append, List.length_append]; omega
      have hl64 := lkD_le D P k0 2 8
      refine ev_iload dX19_inspectPairs_13 rfl ?_
      refine ev_bipushZ dX19_inspectPairs_15 rfl ?_
      refine ev_icmp_geZ (tgt := 98) dX19_inspectPairs_17 (by decide) (by omega) (by omega) (fun c17 => by omega) (fun c17 => ?_)
      refine ev_aload_n dX19_inspectPairs_20 rfl ?_
      refine ev_getf dX19_inspectPairs_21 gf_X19_3_X19 i1 rfl ?_
      refine ev_iload_n dX19_inspectPairs_24 rfl ?_
      refine ev_callVE dX19_inspectPairs_25 cv_X19_59_X2 ce_X2_takesPart m1 rfl rfl rfl (k_takesX2 (d := 0) HD hi (hst i hi)) (by omega) (Nat.le_of_ble_eq_true rfl) ?_
      refine ev_if_eqB (tgt := 47) dX19_inspectPairs_28 (by decide) (fun c28 => ?_) (fun c28 => ?_)
      · refine ev_iconstZ dX19_inspectPairs_47 ?_
        refine ev_istore dX19_inspectPairs_48 (by decide) rfl ?_
        dsimp only [List.set]
        refine ev_iload dX19_inspectPairs_50 rfl ?_
        refine ev_if_eqZ (tgt := 92) dX19_inspectPairs_52 (by decide) (by omega) (fun c52 => ?_) (fun c52 => by omega)
        refine ev_iincZ dX19_inspectPairs_92 rfl (by decide) rfl ?_
        dsimp only [List.set]
        refine ev_goto (tgt := 13) dX19_inspectPairs_95 (by decide) ?_
        have eP : ¬ isPr D P k0 2 i (i + 1 + n) = true := fun e => by
          have e9 := (isPr_2 (hpos i hi) (hpos _ hn8)).mp e
          first | exact absurd e9.1 (by rw [c28]; decide) | exact absurd e9.2.1 (by rw [c40]; decide) | exact d67 e9.2.2
        have eS : lkE D P k0 2 i (i + 1) (n + 1) = lkE D P k0 2 i (i + 1) n := by rw [show lkE D P k0 2 i (i + 1) (n + 1) = lkE D P k0 2 i (i + 1) n ++ (if isPr D P k0 2 i (i + 1 + n) = true then [(k0, 2, i, if isPair 2 then ((i + 1 + n : Nat) : Int) else -1)] else []) from rfl, if_neg eP, List.append_nil]
        rw [eS, hLN] at hN
        exact hN _ _ _ _ (Nat.le_refl _) (Nat.le_refl _) (by repeat' first | exact rfl | exact trivial | exact vz_eq (by omega) | refine And.intro ?_ ?_) ⟨K2, HL2, F2⟩
      · refine ev_aload_n dX19_inspectPairs_31 rfl ?_
        refine ev_getf dX19_inspectPairs_32 gf_X19_3_X19 i1 rfl ?_
        refine ev_iload dX19_inspectPairs_35 rfl ?_
        refine ev_callVE dX19_inspectPairs_37 cv_X19_59_X2 ce_X2_takesPart m1 rfl rfl rfl (k_takesX2 (d := 0) HD hn8 (hst _ hn8)) (by omega) (Nat.le_of_ble_eq_true rfl) ?_
        refine ev_if_eqB (tgt := 47) dX19_inspectPairs_40 (by decide) (fun c40 => ?_) (fun c40 => ?_)
        · refine ev_iconstZ dX19_inspectPairs_47 ?_
          refine ev_istore dX19_inspectPairs_48 (by decide) rfl ?_
          dsimp only [List.set]
          refine ev_iload dX19_inspectPairs_50 rfl ?_
          refine ev_if_eqZ (tgt := 92) dX19_inspectPairs_52 (by decide) (by omega) (fun c52 => ?_) (fun c52 => by omega)
          refine ev_iincZ dX19_inspectPairs_92 rfl (by decide) rfl ?_
          dsimp only [List.set]
          refine ev_goto (tgt := 13) dX19_inspectPairs_95 (by decide) ?_
          have eP : ¬ isPr D P k0 2 i (i + 1 + n) = true := fun e => by
            have e9 := (isPr_2 (hpos i hi) (hpos _ hn8)).mp e
            first | exact absurd e9.1 (by rw [c28]; decide) | exact absurd e9.2.1 (by rw [c40]; decide) | exact d67 e9.2.2
          have eS : lkE D P k0 2 i (i + 1) (n + 1) = lkE D P k0 2 i (i + 1) n := by rw [show lkE D P k0 2 i (i + 1) (n + 1) = lkE D P k0 2 i (i + 1) n ++ (if isPr D P k0 2 i (i + 1 + n) = true then [(k0, 2, i, if isPair 2 then ((i + 1 + n : Nat) : Int) else -1)] else []) from rfl, if_neg eP, List.append_nil]
          rw [eS, hLN] at hN
          exact hN _ _ _ _ (Nat.le_refl _) (Nat.le_refl _) (by repeat' first | exact rfl | exact trivial | exact vz_eq (by omega) | refine And.intro ?_ ?_) ⟨K2, HL2, F2⟩
        · refine ev_iconstZ dX19_inspectPairs_43 ?_
          refine ev_goto (tgt := 48) dX19_inspectPairs_44 (by decide) ?_
          refine ev_istore dX19_inspectPairs_48 (by decide) rfl ?_
          dsimp only [List.set]
          refine ev_iload dX19_inspectPairs_50 rfl ?_
          refine ev_if_eqZ (tgt := 92) dX19_inspectPairs_52 (by decide) (by omega) (fun c52 => by omega) (fun c52 => ?_)
          refine ev_iload_n dX19_inspectPairs_55 rfl ?_
          refine ev_iconstZ dX19_inspectPairs_56 ?_
          refine ev_icmp_neZ (tgt := 73) dX19_inspectPairs_57 (by decide) (by omega) (by omega) (fun c57 => by omega) (fun c57 => ?_)
          refine ev_aload_n dX19_inspectPairs_60 rfl ?_
          refine ev_iload_n dX19_inspectPairs_61 rfl ?_
          refine ev_iload dX19_inspectPairs_62 rfl ?_
          refine ev_callVE dX19_inspectPairs_64 cv_X19_56_X19 ce_X19_isTogether i1 rfl rfl rfl (k_isTog (d := 0) K2 hi hn8 hr) (by omega) (Nat.le_of_ble_eq_true rfl) ?_
          refine ev_if_eqB (tgt := 92) dX19_inspectPairs_67 (by decide) (fun c67 => ?_) (fun c67 => ?_)
          · have d67 := of_decide_eq_false c67
            refine ev_iincZ dX19_inspectPairs_92 rfl (by decide) rfl ?_
            dsimp only [List.set]
            refine ev_goto (tgt := 13) dX19_inspectPairs_95 (by decide) ?_
            have eP : ¬ isPr D P k0 2 i (i + 1 + n) = true := fun e => by
              have e9 := (isPr_2 (hpos i hi) (hpos _ hn8)).mp e
              first | exact absurd e9.1 (by rw [c28]; decide) | exact absurd e9.2.1 (by rw [c40]; decide) | exact d67 e9.2.2
            have eS : lkE D P k0 2 i (i + 1) (n + 1) = lkE D P k0 2 i (i + 1) n := by rw [show lkE D P k0 2 i (i + 1) (n + 1) = lkE D P k0 2 i (i + 1) n ++ (if isPr D P k0 2 i (i + 1 + n) = true then [(k0, 2, i, if isPair 2 then ((i + 1 + n : Nat) : Int) else -1)] else []) from rfl, if_neg eP, List.append_nil]
            rw [eS, hLN] at hN
            exact hN _ _ _ _ (Nat.le_refl _) (Nat.le_refl _) (by repeat' first | exact rfl | exact trivial | exact vz_eq (by omega) | refine And.intro ?_ ?_) ⟨K2, HL2, F2⟩
          · have d67 := of_decide_eq_true c67
            refine ev_goto (tgt := 83) dX19_inspectPairs_70 (by decide) ?_
            refine ev_aload_n dX19_inspectPairs_83 rfl ?_
            refine ev_iload_n dX19_inspectPairs_84 rfl ?_
            refine ev_iload_n dX19_inspectPairs_85 rfl ?_
            refine ev_iload_n dX19_inspectPairs_86 rfl ?_
            refine ev_iload dX19_inspectPairs_87 rfl ?_
            have eP : isPr D P k0 2 i (i + 1 + n) = true := (isPr_2 (hpos i hi) (hpos _ hn8)).mpr ⟨c28, c40, d67⟩
            rw [if_pos eP] at hlen
            have hkk := kP_succ LN.length
            have hkm := kP_mono hlen
            have hXs : ∀ x ∈ [ro, co, rb, cb], h2 x ≠ none := InA.ns K2
            refine ev_callVR dX19_inspectPairs_89 cv_X19_66_X19 ce_X19_tell K2.1 rfl rfl rfl (k_tell (y := (k0, 2, i, ((i + 1 + n : Nat) : Int))) (c := 2) (k := 4 + (addK (LN.length + 1) - addK LN.length)) K2 hG (hKC.fr F2) hP HL2 F2 hXs (by omega) (Nat.le_refl _) (Nat.le_refl _)) (by omega) (by omega) (by omega) (Nat.le_of_ble_eq_true rfl) (fun v9 h3 P9 => ?_)
            obtain ⟨rfl, K3, HL3, F3⟩ := P9
            refine ev_iincZ dX19_inspectPairs_92 rfl (by decide) rfl ?_
            dsimp only [List.set]
            refine ev_goto (tgt := 13) dX19_inspectPairs_95 (by decide) ?_
            have eS : lkE D P k0 2 i (i + 1) (n + 1) = lkE D P k0 2 i (i + 1) n ++ [(k0, 2, i, ((i + 1 + n : Nat) : Int))] := by rw [show lkE D P k0 2 i (i + 1) (n + 1) = lkE D P k0 2 i (i + 1) n ++ (if isPr D P k0 2 i (i + 1 + n) = true then [(k0, 2, i, if isPair 2 then ((i + 1 + n : Nat) : Int) else -1)] else []) from rfl, if_pos eP]; rfl
            have eL : (L ++ lkD D P k0 2 i ++ lkE D P k0 2 i (i + 1) (n + 1)) = LN ++ [(k0, 2, i, ((i + 1 + n : Nat) : Int))] := by rw [eS, ← List.append_assoc, hLN]
            have eN : (L ++ lkD D P k0 2 i ++ lkE D P k0 2 i (i + 1) (n + 1)).length = LN.length + 1 := by rw [eL, List.length_append]; rfl
            exact hN _ _ _ _ (by rw [eN]; omega) (by rw [eN]; omega) (by repeat' first | exact rfl | exact trivial | exact vz_eq (by omega) | refine And.intro ?_ ?_) (by rw [eL]; exact ⟨K3, HL3, F3⟩)
    · obtain ⟨K2, HL2, F2⟩ := hP2
      refine ev_iload dX19_inspectPairs_13 rfl ?_
      refine ev_bipushZ dX19_inspectPairs_15 rfl ?_
      refine ev_icmp_geZ (tgt := 98) dX19_inspectPairs_17 (by decide) (by omega) (by omega) (fun c17 => ?_) (fun c17 => by omega)
      refine ev_iincZ dX19_inspectPairs_98 rfl (by decide) rfl ?_
      dsimp only [List.set]
      refine ev_goto (tgt := 2) dX19_inspectPairs_101 (by decide) ?_
      have eD : lkD D P k0 2 (i + 1) = lkD D P k0 2 i ++ lkE D P k0 2 i (i + 1) (7 - i) := rfl
      have eE : (L ++ lkD D P k0 2 i ++ lkE D P k0 2 i (i + 1) (7 - i)) = (L ++ lkD D P k0 2 (i + 1)) := by rw [eD, List.append_assoc]
      rw [eE] at HL2 ⊢
      exact hO _ _ _ _ (Nat.le_refl _) (Nat.le_refl _) (by repeat' first | exact rfl | exact trivial | exact vz_eq (by omega) | refine And.intro ?_ ?_) ⟨K2, HL2, F2⟩
  · refine ev_iload_n dX19_inspectPairs_2 rfl ?_
    refine ev_bipushZ dX19_inspectPairs_3 rfl ?_
    refine ev_icmp_geZ (tgt := 104) dX19_inspectPairs_5 (by decide) (by omega) (by omega) (fun c5 => ?_) (fun c5 => by omega)
    refine ev_return dX19_inspectPairs_104 rfl ?_
    exact ⟨_, rfl, rfl, hP1⟩
set_option maxRecDepth 100000 in
set_option maxHeartbeats 4000000 in
theorem k_pairs3 {o pl ro co rb cb a : Nat} {R C RB CB : Nat → Int} (K : InA h o pl ro co rb cb a R C RB CB) {h0 I : HM} {st fo k0 : Nat} {D : Dn} {P : Pt} {L : List Pr} (hG : GKx g) (hKC : KC g h0) (hP : InP g h0 o pl ro co rb cb) (H0 : DnC g I h0 a st fo D) (HL : PrH g h0 h pl [ro, co, rb, cb] L) (FH : Fr g h0 h []) (hpos : ∀ e : Nat, e < 8 → R e = posR D P e k0 ∧ C e = posC D P e k0) (hr : ∀ e : Nat, e < 8 → inR (R e) ∧ inR (C e) ∧ inR (RB e) ∧ inR (CB e)) (hst : ∀ e : Nat, e < 8 → inR (D.2.1 e)) (hL : L.length < 80000) (hk1 : 1 ≤ k0) (hbk : ∀ e : Nat, e < 8 → RB e = posR D P e (k0 - 1) ∧ CB e = posC D P e (k0 - 1)) (hd : 8 ≤ d) (hc : 2 * (lkD D P k0 3 8).length ≤ c) (hk : kP (L.length + (lkD D P k0 3 8).length) - kP L.length ≤ k) : Kc g mX19_inspectPairs d (c) (k) [.ref o, vz ((k0 : Nat) : Int), vz 3] h (rR (fun v h' => v = none ∧ InA h' o pl ro co rb cb a R C RB CB ∧ PrH g h0 h' pl [ro, co, rb, cb] (L ++ lkD D P k0 3 8) ∧ Fr g h0 h' [])) := by
  refine Kc.of (ls := [some (.ref o), some (vz ((k0 : Nat) : Int)), some (vz 3), none, none, none]) (by decide +kernel) (Nat.le_of_ble_eq_true rfl) rfl ?_
  refine ev_iconstZ dX19_inspectPairs_0 ?_
  refine ev_istore_n dX19_inspectPairs_1 (by decide) rfl ?_
  dsimp only [List.set]
  have z0 : (L ++ lkD D P k0 3 0) = L := List.append_nil L
  refine ev_forB (st := []) 8 (fun i => 2 * (L.length + (lkD D P k0 3 8).length - (L ++ lkD D P k0 3 i).length)) (fun i => kP (L.length + (lkD D P k0 3 8).length) - kP (L ++ lkD D P k0 3 i).length) (fun i h1 => InA h1 o pl ro co rb cb a R C RB CB ∧ PrH g h0 h1 pl [ro, co, rb, cb] (L ++ lkD D P k0 3 i) ∧ Fr g h0 h1 []) (fun i => [some (.ref o), some (vz ((k0 : Nat) : Int)), some (vz 3), some (vz ((i : Nat) : Int)), none, none]) 0 (Nat.zero_le _) (by rw [z0]; exact ⟨K, HL, FH⟩) (by rw [z0]; omega) (by rw [z0]; omega) (by repeat' first | exact rfl | exact trivial | exact vz_eq (by omega) | refine And.intro ?_ ?_) (fun i h1 _ hi hP1 hO => ?_) (fun h1 hP1 => ?_)
  · refine ev_iload_n dX19_inspectPairs_2 rfl ?_
    refine ev_bipushZ dX19_inspectPairs_3 rfl ?_
    refine ev_icmp_geZ (tgt := 104) dX19_inspectPairs_5 (by decide) (by omega) (by omega) (fun c5 => by omega) (fun c5 => ?_)
    refine ev_iload_n dX19_inspectPairs_8 rfl ?_
    refine ev_iconstZ dX19_inspectPairs_9 ?_
    refine ev_iaddZ dX19_inspectPairs_10 ?_
    refine ev_istore dX19_inspectPairs_11 (by decide) rfl ?_
    dsimp only [List.set]
    have e0 : (L ++ lkD D P k0 3 i ++ lkE D P k0 3 i (i + 1) 0) = (L ++ lkD D P k0 3 i) := by show _ ++ [] = _; rw [List.append_nil]
    refine ev_forB (st := []) (7 - i) (fun n => 2 * (L.length + (lkD D P k0 3 8).length - (L ++ lkD D P k0 3 i ++ lkE D P k0 3 i (i + 1) n).length)) (fun n => kP (L.length + (lkD D P k0 3 8).length) - kP (L ++ lkD D P k0 3 i ++ lkE D P k0 3 i (i + 1) n).length) (fun n h2 => InA h2 o pl ro co rb cb a R C RB CB ∧ PrH g h0 h2 pl [ro, co, rb, cb] (L ++ lkD D P k0 3 i ++ lkE D P k0 3 i (i + 1) n) ∧ Fr g h0 h2 []) (fun n => [some (.ref o), some (vz ((k0 : Nat) : Int)), some (vz 3), some (vz ((i : Nat) : Int)), some (vz ((i + 1 + n : Nat) : Int)), none]) 0 (Nat.zero_le _) (by rw [e0]; exact hP1) (by rw [e0]; exact Nat.le_refl _) (by rw [e0]; exact Nat.le_refl _) (by repeat' first | exact rfl | exact trivial | exact vz_eq (by omega) | refine And.intro ?_ ?_) (fun n h2 _ hn hP2 hN => ?_) (fun h2 hP2 => ?_)
    · obtain ⟨K2, HL2, F2⟩ := hP2
      obtain ⟨LN, hLN⟩ : ∃ LN, (L ++ lkD D P k0 3 i ++ lkE D P k0 3 i (i + 1) n) = LN := ⟨_, rfl⟩
      rw [hLN] at HL2 ⊢
      have HD := H0.fr F2 (fun x hx => by cases hx)
      obtain ⟨A, B, pv, sv, KD, -⟩ := id HD
      have m1 := KD.1
      obtain ⟨i1, i2, i3, i4, i5⟩ := id K2
      have hn8 : i + 1 + n < 8 := by omega
      have hlen : LN.length + (if isPr D P k0 3 i (i + 1 + n) = true then 1 else 0) ≤ L.length + (lkD D P k0 3 8).length := by
        have q1 := lkD_mono D P k0 3 (show i + 1 ≤ 8 by omega)
        have q2 := lkE_mono D P k0 3 i (i + 1) (show n + 1 ≤ 7 - i by omega)
        have q3 : (lkD D P k0 3 (i + 1)).length = (lkD D P k0 3 i).length + (lkE D P k0 3 i (i + 1) (7 - i)).length := by rw [← List.length_append]; rfl
        have q4 : (lkE D P k0 3 i (i + 1) (n + 1)).length = (lkE D P k0 3 i (i + 1) n).length + (if isPr D P k0 3 i (i + 1 + n) = true then 1 else 0) := by rw [show lkE D P k0 3 i (i + 1) (n + 1) = lkE D P k0 3 i (i + 1) n ++ (if isPr D P k0 3 i (i + 1 + n) = true then [(k0, 3, i, if isPair 3 then ((i + 1 + n : Nat) : Int) else -1)] else []) from rfl, List.length_append]; split <;> rfl
        rw [← hLN, List.length_append, List.length_append]; omega
      have hl64 := lkD_le D P k0 3 8
      refine ev_iload dX19_inspectPairs_13 rfl ?_
      refine ev_bipushZ dX19_inspectPairs_15 rfl ?_
      refine ev_icmp_geZ (tgt := 98) dX19_inspectPairs_17 (by decide) (by omega) (by omega) (fun c17 => by omega) (fun c17 => ?_)
      refine ev_aload_n dX19_inspectPairs_20 rfl ?_
      refine ev_getf dX19_inspectPairs_21 gf_X19_3_X19 i1 rfl ?_
      refine ev_iload_n dX19_inspectPairs_24 rfl ?_
      refine ev_callVE dX19_inspectPairs_25 cv_X19_59_X2 ce_X2_takesPart m1 rfl rfl rfl (k_takesX2 (d := 0) HD hi (hst i hi)) (by omega) (Nat.le_of_ble_eq_true rfl) ?_
      refine ev_if_eqB (tgt := 47) dX19_inspectPairs_28 (by decide) (fun c28 => ?_) (fun c28 => ?_)
      · refine ev_iconstZ dX19_inspectPairs_47 ?_
        refine ev_istore dX19_inspectPairs_48 (by decide) rfl ?_
        dsimp only [List.set]
        refine ev_iload dX19_inspectPairs_50 rfl ?_
        refine ev_if_eqZ (tgt := 92) dX19_inspectPairs_52 (by decide) (by omega) (fun c52 => ?_) (fun c52 => by omega)
        refine ev_iincZ dX19_inspectPairs_92 rfl (by decide) rfl ?_
        dsimp only [List.set]
        refine ev_goto (tgt := 13) dX19_inspectPairs_95 (by decide) ?_
        have eP : ¬ isPr D P k0 3 i (i + 1 + n) = true := fun e => by
          have e9 := (isPr_3 hk1 (hpos i hi) (hpos _ hn8) (hbk i hi) (hbk _ hn8)).mp e
          first | exact absurd e9.1 (by rw [c28]; decide) | exact absurd e9.2.1 (by rw [c40]; decide) | exact d80 e9.2.2
        have eS : lkE D P k0 3 i (i + 1) (n + 1) = lkE D P k0 3 i (i + 1) n := by rw [show lkE D P k0 3 i (i + 1) (n + 1) = lkE D P k0 3 i (i + 1) n ++ (if isPr D P k0 3 i (i + 1 + n) = true then [(k0, 3, i, if isPair 3 then ((i + 1 + n : Nat) : Int) else -1)] else []) from rfl, if_neg eP, List.append_nil]
        rw [eS, hLN] at hN
        exact hN _ _ _ _ (Nat.le_refl _) (Nat.le_refl _) (by repeat' first | exact rfl | exact trivial | exact vz_eq (by omega) | refine And.intro ?_ ?_) ⟨K2, HL2, F2⟩
      · refine ev_aload_n dX19_inspectPairs_31 rfl ?_
        refine ev_getf dX19_inspectPairs_32 gf_X19_3_X19 i1 rfl ?_
        refine ev_iload dX19_inspectPairs_35 rfl ?_
        refine ev_callVE dX19_inspectPairs_37 cv_X19_59_X2 ce_X2_takesPart m1 rfl rfl rfl (k_takesX2 (d := 0) HD hn8 (hst _ hn8)) (by omega) (Nat.le_of_ble_eq_true rfl) ?_
        refine ev_if_eqB (tgt := 47) dX19_inspectPairs_40 (by decide) (fun c40 => ?_) (fun c40 => ?_)
        · refine ev_iconstZ dX19_inspectPairs_47 ?_
          refine ev_istore dX19_inspectPairs_48 (by decide) rfl ?_
          dsimp only [List.set]
          refine ev_iload dX19_inspectPairs_50 rfl ?_
          refine ev_if_eqZ (tgt := 92) dX19_inspectPairs_52 (by decide) (by omega) (fun c52 => ?_) (fun c52 => by omega)
          refine ev_iincZ dX19_inspectPairs_92 rfl (by decide) rfl ?_
          dsimp only [List.set]
          refine ev_goto (tgt := 13) dX19_inspectPairs_95 (by decide) ?_
          have eP : ¬ isPr D P k0 3 i (i + 1 + n) = true := fun e => by
            have e9 := (isPr_3 hk1 (hpos i hi) (hpos _ hn8) (hbk i hi) (hbk _ hn8)).mp e
            first | exact absurd e9.1 (by rw [c28]; decide) | exact absurd e9.2.1 (by rw [c40]; decide) | exact d80 e9.2.2
          have eS : lkE D P k0 3 i (i + 1) (n + 1) = lkE D P k0 3 i (i + 1) n := by rw [show lkE D P k0 3 i (i + 1) (n + 1) = lkE D P k0 3 i (i + 1) n ++ (if isPr D P k0 3 i (i + 1 + n) = true then [(k0, 3, i, if isPair 3 then ((i + 1 + n : Nat) : Int) else -1)] else []) from rfl, if_neg eP, List.append_nil]
          rw [eS, hLN] at hN
          exact hN _ _ _ _ (Nat.le_refl _) (Nat.le_refl _) (by repeat' first | exact rfl | exact trivial | exact vz_eq (by omega) | refine And.intro ?_ ?_) ⟨K2, HL2, F2⟩
        · refine ev_iconstZ dX19_inspectPairs_43 ?_
          refine ev_goto (tgt := 48) dX19_inspectPairs_44 (by decide) ?_
          refine ev_istore dX19_inspectPairs_48 (by decide) rfl ?_
          dsimp only [List.set]
          refine ev_iload dX19_inspectPairs_50 rfl ?_
          refine ev_if_eqZ (tgt := 92) dX19_inspectPairs_52 (by decide) (by omega) (fun c52 => by omega) (fun c52 => ?_)
          refine ev_iload_n dX19_inspectPairs_55 rfl ?_
          refine ev_iconstZ dX19_inspectPairs_56 ?_
          refine ev_icmp_neZ (tgt := 73) dX19_inspectPairs_57 (by decide) (by omega) (by omega) (fun c57 => ?_) (fun c57 => by omega)
          refine ev_aload_n dX19_inspectPairs_73 rfl ?_
          refine ev_iload_n dX19_inspectPairs_74 rfl ?_
          refine ev_iload dX19_inspectPairs_75 rfl ?_
          refine ev_callVE dX19_inspectPairs_77 cv_X19_63_X19 ce_X19_haveExchanged i1 rfl rfl rfl (k_hvEx (d := 0) K2 hi hn8 hr) (by omega) (Nat.le_of_ble_eq_true rfl) ?_
          refine ev_if_eqB (tgt := 92) dX19_inspectPairs_80 (by decide) (fun c80 => ?_) (fun c80 => ?_)
          · have d80 := of_decide_eq_false c80
            refine ev_iincZ dX19_inspectPairs_92 rfl (by decide) rfl ?_
            dsimp only [List.set]
            refine ev_goto (tgt := 13) dX19_inspectPairs_95 (by decide) ?_
            have eP : ¬ isPr D P k0 3 i (i + 1 + n) = true := fun e => by
              have e9 := (isPr_3 hk1 (hpos i hi) (hpos _ hn8) (hbk i hi) (hbk _ hn8)).mp e
              first | exact absurd e9.1 (by rw [c28]; decide) | exact absurd e9.2.1 (by rw [c40]; decide) | exact d80 e9.2.2
            have eS : lkE D P k0 3 i (i + 1) (n + 1) = lkE D P k0 3 i (i + 1) n := by rw [show lkE D P k0 3 i (i + 1) (n + 1) = lkE D P k0 3 i (i + 1) n ++ (if isPr D P k0 3 i (i + 1 + n) = true then [(k0, 3, i, if isPair 3 then ((i + 1 + n : Nat) : Int) else -1)] else []) from rfl, if_neg eP, List.append_nil]
            rw [eS, hLN] at hN
            exact hN _ _ _ _ (Nat.le_refl _) (Nat.le_refl _) (by repeat' first | exact rfl | exact trivial | exact vz_eq (by omega) | refine And.intro ?_ ?_) ⟨K2, HL2, F2⟩
          · have d80 := of_decide_eq_true c80
            refine ev_aload_n dX19_inspectPairs_83 rfl ?_
            refine ev_iload_n dX19_inspectPairs_84 rfl ?_
            refine ev_iload_n dX19_inspectPairs_85 rfl ?_
            refine ev_iload_n dX19_inspectPairs_86 rfl ?_
            refine ev_iload dX19_inspectPairs_87 rfl ?_
            have eP : isPr D P k0 3 i (i + 1 + n) = true := (isPr_3 hk1 (hpos i hi) (hpos _ hn8) (hbk i hi) (hbk _ hn8)).mpr ⟨c28, c40, d80⟩
            rw [if_pos eP] at hlen
            have hkk := kP_succ LN.length
            have hkm := kP_mono hlen
            have hXs : ∀ x ∈ [ro, co, rb, cb], h2 x ≠ none := InA.ns K2
            refine ev_callVR dX19_inspectPairs_89 cv_X19_66_X19 ce_X19_tell K2.1 rfl rfl rfl (k_tell (y := (k0, 3, i, ((i + 1 + n : Nat) : Int))) (c := 2) (k := 4 + (addK (LN.length + 1) - addK LN.length)) K2 hG (hKC.fr F2) hP HL2 F2 hXs (by omega) (Nat.le_refl _) (Nat.le_refl _)) (by omega) (by omega) (by omega) (Nat.le_of_ble_eq_true rfl) (fun v9 h3 P9 => ?_)
            obtain ⟨rfl, K3, HL3, F3⟩ := P9
            refine ev_iincZ dX19_inspectPairs_92 rfl (by decide) rfl ?_
            dsimp only [List.set]
            refine ev_goto (tgt := 13) dX19_inspectPairs_95 (by decide) ?_
            have eS : lkE D P k0 3 i (i + 1) (n + 1) = lkE D P k0 3 i (i + 1) n ++ [(k0, 3, i, ((i + 1 + n : Nat) : Int))] := by rw [show lkE D P k0 3 i (i + 1) (n + 1) = lkE D P k0 3 i (i + 1) n ++ (if isPr D P k0 3 i (i + 1 + n) = true then [(k0, 3, i, if isPair 3 then ((i + 1 + n : Nat) : Int) else -1)] else []) from rfl, if_pos eP]; rfl
            have eL : (L ++ lkD D P k0 3 i ++ lkE D P k0 3 i (i + 1) (n + 1)) = LN ++ [(k0, 3, i, ((i + 1 + n : Nat) : Int))] := by rw [eS, ← List.append_assoc, hLN]
            have eN : (L ++ lkD D P k0 3 i ++ lkE D P k0 3 i (i + 1) (n + 1)).length = LN.length + 1 := by rw [eL, List.length_append]; rfl
            exact hN _ _ _ _ (by rw [eN]; omega) (by rw [eN]; omega) (by repeat' first | exact rfl | exact trivial | exact vz_eq (by omega) | refine And.intro ?_ ?_) (by rw [eL]; exact ⟨K3, HL3, F3⟩)
    · obtain ⟨K2, HL2, F2⟩ := hP2
      refine ev_iload dX19_inspectPairs_13 rfl ?_
      refine ev_bipushZ dX19_inspectPairs_15 rfl ?_
      refine ev_icmp_geZ (tgt := 98) dX19_inspectPairs_17 (by decide) (by omega) (by omega) (fun c17 => ?_) (fun c17 => by omega)
      refine ev_iincZ dX19_inspectPairs_98 rfl (by decide) rfl ?_
      dsimp only [List.set]
      refine ev_goto (tgt := 2) dX19_inspectPairs_101 (by decide) ?_
      have eD : lkD D P k0 3 (i + 1) = lkD D P k0 3 i ++ lkE D P k0 3 i (i + 1) (7 - i) := rfl
      have eE : (L ++ lkD D P k0 3 i ++ lkE D P k0 3 i (i + 1) (7 - i)) = (L ++ lkD D P k0 3 (i + 1)) := by rw [eD, List.append_assoc]
      rw [eE] at HL2 ⊢
      exact hO _ _ _ _ (Nat.le_refl _) (Nat.le_refl _) (by repeat' first | exact rfl | exact trivial | exact vz_eq (by omega) | refine And.intro ?_ ?_) ⟨K2, HL2, F2⟩
  · refine ev_iload_n dX19_inspectPairs_2 rfl ?_
    refine ev_bipushZ dX19_inspectPairs_3 rfl ?_
    refine ev_icmp_geZ (tgt := 104) dX19_inspectPairs_5 (by decide) (by omega) (by omega) (fun c5 => ?_) (fun c5 => by omega)
    refine ev_return dX19_inspectPairs_104 rfl ?_
    exact ⟨_, rfl, rfl, hP1⟩
end T7S

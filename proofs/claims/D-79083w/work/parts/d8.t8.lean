/-! THE COMPONENT: inspect (printed by gen) -/
section T8S
variable {g : GB} {M : MI} {d c k : Nat} {h : HM}
theorem lkE_none {D : Dn} {P : Pt} {k q d e0 : Nat} (h : ∀ e, isPr D P k q d e = false) : ∀ n, lkE D P k q d e0 n = [] := by
  intro n
  induction n with
  | zero => rfl
  | succ n ih => show lkE D P k q d e0 n ++ (if isPr D P k q d (e0 + n) = true then _ else _) = []; rw [ih, h, if_neg (by decide)]; rfl
theorem lkD_none {D : Dn} {P : Pt} {k q : Nat} (h : ∀ d e, isPr D P k q d e = false) : ∀ n, lkD D P k q n = [] := by
  intro n
  induction n with
  | zero => rfl
  | succ n ih => show lkD D P k q n ++ _ = []; rw [ih, lkE_none (h n)]; rfl
theorem lkD_30 (D : Dn) (P : Pt) : lkD D P 0 3 8 = [] := lkD_none (fun d e => by unfold isPr; simp) 8
theorem lkD_4k (D : Dn) (P : Pt) {k : Nat} (hk : k ≠ 0) : lkD D P k 4 8 = [] := lkD_none (fun d e => by unfold isPr; simp [hk]) 8
theorem lkD_14 {D : Dn} {P : Pt} {k q i : Nat} (hq : q = 1 ∨ q = 4) : lkD D P k q (i + 1) = lkD D P k q i ++ (if isPr D P k q i 0 = true then [(k, q, i, -1)] else []) := by
  rcases hq with e | e <;> subst e <;> rfl
theorem srK_mono (D : Dn) (P : Pt) (kd : Nat) {n m : Nat} (h : n ≤ m) : (srK D P kd n).length ≤ (srK D P kd m).length := by
  induction h with
  | refl => exact Nat.le_refl _
  | step _ ih => refine Nat.le_trans ih ?_; rw [show ∀ j, srK D P kd (j + 1) = srK D P kd j ++ srQ D P kd j 4 from fun _ => rfl, List.length_append]; omega
theorem srK_eq (D : Dn) (P : Pt) (k : Nat) : srK D P 0 (k + 1) = srK D P 0 k ++ lkD D P k 1 8 ++ lkD D P k 2 8 ++ lkD D P k 3 8 ++ lkD D P k 4 8 := by
  show srK D P 0 k ++ srQ D P 0 k 4 = _
  show srK D P 0 k ++ (((([] ++ (if (0 : Nat) = 0 ∨ _ then lkD D P k 1 8 else [])) ++ (if (0 : Nat) = 0 ∨ _ then lkD D P k 2 8 else [])) ++ (if (0 : Nat) = 0 ∨ _ then lkD D P k 3 8 else [])) ++ (if (0 : Nat) = 0 ∨ _ then lkD D P k 4 8 else [])) = _
  rw [if_pos (Or.inl rfl), if_pos (Or.inl rfl), if_pos (Or.inl rfl), if_pos (Or.inl rfl), List.nil_append]
  simp only [List.append_assoc]
theorem isPr_1 {D : Dn} {P : Pt} {k x : Nat} {R C : Nat → Int} (hx : R x = posR D P x k ∧ C x = posC D P x k) : isPr D P k 1 x 0 = true ↔ tkB D x = true ∧ ¬ ((0 ≤ R x ∧ R x ≤ (D.1.2 : Int) - 1) ∧ (0 ≤ C x ∧ C x ≤ (D.1.1 : Int) - 1)) := by
  unfold isPr
  rw [hx.1, hx.2]
  simp
  intro _
  constructor
  · intro h1 h2 h3 h4; by_cases q : 0 ≤ posC D P x k ∧ posC D P x k ≤ (D.1.1 : Int) - 1 <;> omega
  · intro h1; omega
theorem isPr_4 {D : Dn} {P : Pt} {x : Nat} : isPr D P 0 4 x 0 = true ↔ P.1.2.1.testBit x = true ∧ tkB D x = false := by
  unfold isPr
  simp
-- end of pure part
theorem InA.ia {h : HM} {o pl ro co rb cb a : Nat} {R C RB CB : Nat → Int} (K : InA h o pl ro co rb cb a R C RB CB) : ∀ x ∈ [ro, co, rb, cb], ∃ (n : Nat) (A : Nat → Int), h x = some (.inl (0, (n, .inl (fun j => zI (A j))))) := fun x hx => by
  obtain ⟨k1, k2, k3, k4, k5⟩ := K
  simp only [List.mem_cons, List.not_mem_nil, or_false] at hx
  rcases hx with e | e | e | e
  · rw [e]; exact ⟨_, _, k2⟩
  · rw [e]; exact ⟨_, _, k3⟩
  · rw [e]; exact ⟨_, _, k4⟩
  · rw [e]; exact ⟨_, _, k5⟩
set_option maxRecDepth 100000 in
set_option maxHeartbeats 4000000 in
theorem k_inspect {o pl ro co rb cb a : Nat} {R C RB CB : Nat → Int} (K : InA h o pl ro co rb cb a R C RB CB) {h0 I : HM} {st fo : Nat} {D : Dn} {l : List Nd} {P : Pt} (hG : GKx g) (hKC : KC g h0) (hP : InP g h0 o pl ro co rb cb) (hSI0 : Sub I h0) (H0 : DnC g I h0 a st fo D) (hp9 : D.2.2.2 = some l) (hP9 : P = mean l) (hO : dnOk D) (HL : PrH g h0 h pl [ro, co, rb, cb] []) (FH : Fr g h0 h []) (hr0 : ∀ e : Nat, e < 8 → inR (R e) ∧ inR (C e) ∧ inR (RB e) ∧ inR (CB e)) (hln : l.length < 1000000) (hd : 410 ≤ d) (hc : 2 * ((srK D P 0 (P.1.1 + 1)).length - ([] : List Pr).length) ≤ c) (hk : kP (srK D P 0 (P.1.1 + 1)).length - kP ([] : List Pr).length ≤ k) : Kc g mX19_inspect d (c) (k) [.ref o] h (rR (fun v h' => v = some (.ref pl) ∧ PrH g h0 h' pl [ro, co, rb, cb] (srK D P 0 (P.1.1 + 1)) ∧ Fr g h0 h' [])) := by
  refine Kc.of (ls := [some (.ref o), none, none]) (by decide +kernel) (Nat.le_of_ble_eq_true rfl) rfl ?_
  obtain ⟨hpc, hsem⟩ := hO.2.2.2.2.2.2 l hp9
  rw [← hP9] at hsem
  have hok2 := hpc.2
  have h99 := (len_ok 81 l hpc.1 hok2 P hsem).2
  have hn4 := fun e k => st4_sem 81 l hpc.1 hok2 P hsem e k
  have hus := (pt_ok 81 l hpc.1 hok2 P hsem).1
  have hub : P.1.2.1 < 256 := by rw [← hus]; exact usedV_lt 81 l hpc.1 hok2
  have hst1 : ∀ e : Nat, e < 8 → -1 ≤ D.2.1 e ∧ D.2.1 e < 100 := fun e he => st_lt hO he
  have hst : ∀ e : Nat, e < 8 → inR (D.2.1 e) := fun e he => by have := hst1 e he; omega
  have hco : 2 ≤ D.1.1 ∧ D.1.1 ≤ 9 := ⟨hO.1, hO.2.1⟩
  have hD9 : D.1.1 ≤ 9 ∧ D.1.2 ≤ 9 := ⟨hO.2.1, hO.2.2.2.1⟩
  obtain ⟨A, B, pv, sv, KD0, hA, hB9, hV⟩ := id H0
  rw [hp9] at hV
  obtain ⟨p, sc, ss, cu, ru, rfl, rfl, hN9, SA, SB, ⟨z1, z2, z3, z4, z5, z6, z7⟩, hSA, hSB⟩ := hV
  rw [← hP9] at z1
  have hz : ∀ x ∈ [ro, co, rb, cb], h0 x = none := fun x hx => hP.2.2 x (List.mem_cons_of_mem _ (List.mem_cons_of_mem _ hx))
  have hdn : ∀ x ∈ [ro, co, rb, cb], x ∉ dnS a st fo := fun x hx hx2 => KD0.some hx2 (hz x hx)
  refine ev_iconstZ dX19_inspect_0 ?_
  refine ev_istore_n dX19_inspect_1 (by decide) rfl ?_
  dsimp only [List.set]
  refine ev_forB (st := []) (P.1.1 + 1) (fun k0 => 2 * ((srK D P 0 (P.1.1 + 1)).length - (srK D P 0 k0).length)) (fun k0 => kP (srK D P 0 (P.1.1 + 1)).length - kP (srK D P 0 k0).length) (fun k0 h1 => ∃ R C RB CB : Nat → Int, InA h1 o pl ro co rb cb a R C RB CB ∧ (∀ e : Nat, e < 8 → inR (R e) ∧ inR (C e) ∧ inR (RB e) ∧ inR (CB e)) ∧ (1 ≤ k0 → ∀ e : Nat, e < 8 → R e = posR D P e (k0 - 1) ∧ C e = posC D P e (k0 - 1)) ∧ PrH g h0 h1 pl [ro, co, rb, cb] (srK D P 0 k0) ∧ Fr g h0 h1 []) (fun k0 => [some (.ref o), some (vz ((k0 : Nat) : Int)), none]) 0 (Nat.zero_le _) ⟨R, C, RB, CB, K, hr0, fun q => by omega, HL, FH⟩ hc hk (by repeat' first | exact rfl | exact trivial | exact vz_eq (by omega) | refine And.intro ?_ ?_) (fun k0 h1 _ hkz hP1 hO9 => ?_) (fun h1 hP1 => ?_)
  · obtain ⟨R1, C1, RB1, CB1, K1, hr1, hpr, HL1, F1⟩ := hP1
    have HD1 := H0.fr F1 (fun x hx => by cases hx)
    have m1 := (KD0.fr F1 (fun x hx => by cases hx)).1
    have s1 := (hSI0.fr0 F1) _ _ z1
    have hkk9 : k0 ≤ P.1.1 ∧ P.1.1 ≤ 99 := ⟨by omega, h99⟩
    refine ev_iload_n dX19_inspect_2 rfl ?_
    refine ev_aload_n dX19_inspect_3 rfl ?_
    refine ev_getf dX19_inspect_4 gf_X19_3_X19 K1.1 rfl ?_
    refine ev_getf dX19_inspect_7 gf_X19_73_X2 m1 rfl ?_
    refine ev_getf dX19_inspect_10 gf_X19_90_X5 s1 rfl ?_
    refine ev_icmp_gtZ (tgt := 139) dX19_inspect_13 (by decide) (by omega) (by omega) (fun c13 => by omega) (fun c13 => ?_)
    refine ev_aload_n dX19_inspect_16 rfl ?_
    refine ev_iload_n dX19_inspect_17 rfl ?_
    refine ev_callVR dX19_inspect_18 cv_X19_93_X19 ce_X19_move K1.1 rfl rfl rfl (k_move K1 (h0 := h0) hP (hSI0.fr0 F1) (fun x hx => Or.inl (hSI0.none (hz x hx))) HD1 hdn hp9 hP9 hco hst1 hkk9 hn4) (by omega) (Nat.zero_le _) (Nat.zero_le _) (Nat.le_of_ble_eq_true rfl) (fun v9 h1b P9 => ?_)
    obtain ⟨rfl, R2, C2, RB2, CB2, K2, hM2, FM⟩ := P9
    have hX1 := InA.ns K1
    have HLb := HL1.fr FM (fun x hx => InA.ia K1 x hx)
    have F2 := F1.call FM (fun x hx => Or.inr (Or.inl (hz x hx)))
    have hpos : ∀ e : Nat, e < 8 → R2 e = posR D P e k0 ∧ C2 e = posC D P e k0 := fun e he => by
      obtain ⟨q1, q2, -⟩ := hM2 e he
      rw [q1, q2]
      unfold mvR mvC
      by_cases z0 : k0 = 0
      · rw [if_pos z0, if_pos z0, z0]; exact ⟨(Int.add_zero _).symm, (Int.add_zero _).symm⟩
      · rw [if_neg z0, if_neg z0, (hpr (by omega) e he).1, (hpr (by omega) e he).2]
        obtain ⟨j, rfl⟩ : ∃ j, k0 = j + 1 := ⟨k0 - 1, by omega⟩
        exact ⟨Int.add_assoc _ _ _, Int.add_assoc _ _ _⟩
    have hbk : 1 ≤ k0 → ∀ e : Nat, e < 8 → RB2 e = posR D P e (k0 - 1) ∧ CB2 e = posC D P e (k0 - 1) := fun h1k e he => by rw [(hM2 e he).2.2.1, (hM2 e he).2.2.2]; exact hpr h1k e he
    have hr2 : ∀ e : Nat, e < 8 → inR (R2 e) ∧ inR (C2 e) ∧ inR (RB2 e) ∧ inR (CB2 e) := fun e he => by
      have q := pos_le hO P he (show k0 ≤ 100 by omega)
      have q0 := hr1 e he
      rw [(hM2 e he).2.2.1, (hM2 e he).2.2.2, (hpos e he).1, (hpos e he).2]
      exact ⟨by omega, by omega, q0.1, q0.2.1⟩
    refine ev_iconstZ dX19_inspect_21 ?_
    refine ev_istore_n dX19_inspect_22 (by decide) rfl ?_
    dsimp only [List.set]
    let QI : RS → HM → Prop := rR (fun v h' => v = some (.ref pl) ∧ PrH g h0 h' pl [ro, co, rb, cb] (srK D P 0 (P.1.1 + 1)) ∧ Fr g h0 h' [])
    have T78 : ∀ (h4 : HM) (z : Option Value), InA h4 o pl ro co rb cb a R2 C2 RB2 CB2 → PrH g h0 h4 pl [ro, co, rb, cb] (srK D P 0 k0 ++ lkD D P k0 1 8 ++ lkD D P k0 2 8 ++ lkD D P k0 3 8) → Fr g h0 h4 [] → Ev g mX19_inspect d (2 * ((srK D P 0 (P.1.1 + 1)).length - ((srK D P 0 k0 ++ lkD D P k0 1 8 ++ lkD D P k0 2 8 ++ lkD D P k0 3 8)).length)) (kP (srK D P 0 (P.1.1 + 1)).length - kP ((srK D P 0 k0 ++ lkD D P k0 1 8 ++ lkD D P k0 2 8 ++ lkD D P k0 3 8)).length) QI 78 [some (.ref o), some (vz ((k0 : Nat) : Int)), z] [] h4 := by
      intro h4 z K4 HL4 F4
      refine ev_iconstZ dX19_inspect_78 ?_
      refine ev_istore_n dX19_inspect_79 (by decide) rfl ?_
      dsimp only [List.set]
      by_cases hk0z : k0 = 0
      · have hk00 := hk0z
        refine ev_forB (st := []) 8 (fun i => 2 * ((srK D P 0 (P.1.1 + 1)).length - (((srK D P 0 0 ++ lkD D P 0 1 8 ++ lkD D P 0 2 8 ++ lkD D P 0 3 8) ++ lkD D P 0 4 i)).length)) (fun i => kP (srK D P 0 (P.1.1 + 1)).length - kP (((srK D P 0 0 ++ lkD D P 0 1 8 ++ lkD D P 0 2 8 ++ lkD D P 0 3 8) ++ lkD D P 0 4 i)).length) (fun i h2 => InA h2 o pl ro co rb cb a R2 C2 RB2 CB2 ∧ PrH g h0 h2 pl [ro, co, rb, cb] ((srK D P 0 0 ++ lkD D P 0 1 8 ++ lkD D P 0 2 8 ++ lkD D P 0 3 8) ++ lkD D P 0 4 i) ∧ Fr g h0 h2 []) (fun i => [some (.ref o), some (vz ((0 : Nat) : Int)), some (vz ((i : Nat) : Int))]) 0 (Nat.zero_le _) (by rw [show lkD D P 0 4 0 = [] from rfl, List.append_nil]; have q9 := HL4; rw [hk0z] at q9; exact ⟨K4, q9, F4⟩) (by rw [show lkD D P 0 4 0 = [] from rfl, List.append_nil, hk0z]; exact Nat.le_refl _) (by rw [show lkD D P 0 4 0 = [] from rfl, List.append_nil, hk0z]; exact Nat.le_refl _) ⟨rfl, vz_eq (by omega), rfl, trivial⟩ (fun i h2 _ hi hP2 hN => ?_) (fun h2 hP2 => ?_)
        · obtain ⟨K2, HL2, F2⟩ := hP2
          have HD := H0.fr F2 (fun x hx => by cases hx)
          have m1 := (KD0.fr F2 (fun x hx => by cases hx)).1
          obtain ⟨LN, hLN⟩ : ∃ LN, ((srK D P 0 0 ++ lkD D P 0 1 8 ++ lkD D P 0 2 8 ++ lkD D P 0 3 8) ++ lkD D P 0 4 i) = LN := ⟨_, rfl⟩
          rw [hLN] at HL2 ⊢
          have hlen : LN.length + (if isPr D P 0 4 i 0 = true then 1 else 0) ≤ (srK D P 0 (P.1.1 + 1)).length := by
            have q1 := lkD_mono D P 0 4 (show i + 1 ≤ 8 by omega)
            have q2 : (lkD D P 0 4 (i + 1)).length = (lkD D P 0 4 i).length + (if isPr D P 0 4 i 0 = true then 1 else 0) := by rw [lkD_14 (Or.inr rfl), List.length_append]; split <;> rfl
            have q3 := srK_mono D P 0 (show k0 + 1 ≤ P.1.1 + 1 by omega)
            rw [srK_eq, hk0z, List.length_append] at q3
            rw [← hLN, List.length_append]; omega
          have hl64 := srK_le D P 0 (P.1.1 + 1)
          refine ev_iload_n dX19_inspect_80 rfl ?_
          refine ev_if_neZ (tgt := 133) dX19_inspect_81 (by decide) (by omega) (fun c81 => by omega) (fun c81 => ?_)
          refine ev_iload_n dX19_inspect_84 rfl ?_
          refine ev_bipushZ dX19_inspect_85 rfl ?_
          refine ev_icmp_geZ (tgt := 133) dX19_inspect_87 (by decide) (by omega) (by omega) (fun c87 => by omega) (fun c87 => ?_)
          refine ev_aload_n dX19_inspect_90 rfl ?_
          refine ev_getf dX19_inspect_91 gf_X19_3_X19 K2.1 rfl ?_
          refine ev_iload_n dX19_inspect_94 rfl ?_
          refine ev_callVE dX19_inspect_95 cv_X19_59_X2 ce_X2_takesPart m1 rfl rfl rfl (k_takesX2 (d := 0) HD hi (hst _ hi)) (by omega) (Nat.le_of_ble_eq_true rfl) ?_
          refine ev_if_neB (tgt := 127) dX19_inspect_98 (by decide) (fun c98 => ?_) (fun c98 => ?_)
          · refine ev_iincZ dX19_inspect_127 rfl (by decide) rfl ?_
            dsimp only [List.set]
            refine ev_goto (tgt := 80) dX19_inspect_130 (by decide) ?_
            have eP : ¬ isPr D P 0 4 i 0 = true := fun e => by
              have e9 := isPr_4.mp e
              first | exact absurd e9.2 (by rw [c98]; decide) | exact d116 e9.1
            have eS := lkD_14 (D := D) (P := P) (k := 0) (q := 4) (i := i) (Or.inr rfl)
            rw [if_neg eP, List.append_nil] at eS
            rw [eS, hLN] at hN
            exact hN _ _ _ _ (Nat.le_refl _) (Nat.le_refl _) (by repeat' first | exact rfl | exact trivial | exact vz_eq (by omega) | refine And.intro ?_ ?_) ⟨K2, HL2, F2⟩
          · refine ev_aload_n dX19_inspect_101 rfl ?_
            refine ev_getf dX19_inspect_102 gf_X19_3_X19 K2.1 rfl ?_
            refine ev_getf dX19_inspect_105 gf_X19_104_X2 m1 rfl ?_
            have HU : Kc g (fam_used (rootK l)) 405 0 0 [.ref p] h2 (sR (some (vz ((P.1.2.1 : Nat) : Int))) h2) := by rw [← hus]; exact n_used hG 81 p l ((hN9.sub (hSI0.fr0 F2))) hln hok2
            refine ev_callNE dX19_inspect_108 (nv_X19_108 hG) fe_used ((hN9.sub (hSI0.fr0 F2)).cls) rfl rfl (HU) (by omega) (Nat.le_of_ble_eq_true rfl) ?_
            refine ev_iload_n dX19_inspect_111 rfl ?_
            refine ev_ishrZ (u := P.1.2.1) (e := i) dX19_inspect_112 hub hi ?_
            refine ev_iconstZ dX19_inspect_113 ?_
            refine ev_iandZ (a := P.1.2.1 >>> i) (b := 1) dX19_inspect_114 (by have := Nat.shiftRight_le P.1.2.1 i; omega) (by have := Nat.shiftRight_le P.1.2.1 i; omega) ?_
            rw [bit_e hub hi]
            refine ev_iconstZ dX19_inspect_115 ?_
            refine ev_icmp_neZ (tgt := 127) dX19_inspect_116 (by decide) (by (try split) <;> omega) (by (try split) <;> omega) (fun c116 => ?_) (fun c116 => ?_)
            · have d116 : ¬ P.1.2.1.testBit i = true := fun q => by rw [if_pos q] at c116; exact c116 rfl
              refine ev_iincZ dX19_inspect_127 rfl (by decide) rfl ?_
              dsimp only [List.set]
              refine ev_goto (tgt := 80) dX19_inspect_130 (by decide) ?_
              have eP : ¬ isPr D P 0 4 i 0 = true := fun e => by
                have e9 := isPr_4.mp e
                first | exact absurd e9.2 (by rw [c98]; decide) | exact d116 e9.1
              have eS := lkD_14 (D := D) (P := P) (k := 0) (q := 4) (i := i) (Or.inr rfl)
              rw [if_neg eP, List.append_nil] at eS
              rw [eS, hLN] at hN
              exact hN _ _ _ _ (Nat.le_refl _) (Nat.le_refl _) (by repeat' first | exact rfl | exact trivial | exact vz_eq (by omega) | refine And.intro ?_ ?_) ⟨K2, HL2, F2⟩
            · have d116 : P.1.2.1.testBit i = true := Decidable.byContradiction (fun q => by rw [if_neg q] at c116; exact absurd c116 (by decide))
              refine ev_aload_n dX19_inspect_119 rfl ?_
              refine ev_iconstZ dX19_inspect_120 ?_
              refine ev_iconstZ dX19_inspect_121 ?_
              refine ev_iload_n dX19_inspect_122 rfl ?_
              refine ev_iconstZ dX19_inspect_123 ?_
              have eP : isPr D P 0 4 i 0 = true := isPr_4.mpr ⟨d116, c98⟩
              rw [if_pos eP] at hlen
              have hkk := kP_succ LN.length
              have hkm := kP_mono hlen
              have hXs := InA.ns K2
              refine ev_callVR dX19_inspect_124 cv_X19_66_X19 ce_X19_tell K2.1 rfl rfl rfl (k_tell (y := (0, 4, i, -1)) (c := 2) (k := 4 + (addK (LN.length + 1) - addK LN.length)) K2 hG (hKC.fr F2) hP HL2 F2 hXs (by omega) (Nat.le_refl _) (Nat.le_refl _)) (by omega) (by omega) (by omega) (Nat.le_of_ble_eq_true rfl) (fun v9 h3 P9 => ?_)
              obtain ⟨rfl, K3, HL3, F3⟩ := P9
              refine ev_iincZ dX19_inspect_127 rfl (by decide) rfl ?_
              dsimp only [List.set]
              refine ev_goto (tgt := 80) dX19_inspect_130 (by decide) ?_
              have eS := lkD_14 (D := D) (P := P) (k := 0) (q := 4) (i := i) (Or.inr rfl)
              rw [if_pos eP] at eS
              have eL : ((srK D P 0 0 ++ lkD D P 0 1 8 ++ lkD D P 0 2 8 ++ lkD D P 0 3 8) ++ lkD D P 0 4 (i + 1)) = LN ++ [(0, 4, i, (-1 : Int))] := by rw [eS, ← List.append_assoc, hLN]
              have eN : (((srK D P 0 0 ++ lkD D P 0 1 8 ++ lkD D P 0 2 8 ++ lkD D P 0 3 8) ++ lkD D P 0 4 (i + 1))).length = LN.length + 1 := by rw [eL, List.length_append]; rfl
              exact hN _ _ _ _ (by rw [eN]; omega) (by rw [eN]; omega) (by repeat' first | exact rfl | exact trivial | exact vz_eq (by omega) | refine And.intro ?_ ?_) (by rw [eL]; exact ⟨K3, HL3, F3⟩)
        · obtain ⟨K2, HL2, F2⟩ := hP2
          refine ev_iload_n dX19_inspect_80 rfl ?_
          refine ev_if_neZ (tgt := 133) dX19_inspect_81 (by decide) (by omega) (fun c81 => by omega) (fun c81 => ?_)
          refine ev_iload_n dX19_inspect_84 rfl ?_
          refine ev_bipushZ dX19_inspect_85 rfl ?_
          refine ev_icmp_geZ (tgt := 133) dX19_inspect_87 (by decide) (by omega) (by omega) (fun c87 => ?_) (fun c87 => by omega)
          refine ev_iincZ dX19_inspect_133 rfl (by decide) rfl ?_
          dsimp only [List.set]
          refine ev_goto (tgt := 2) dX19_inspect_136 (by decide) ?_
          subst hk0z
          have eK := srK_eq D P 0
          rw [← eK] at HL2 ⊢
          exact hO9 _ _ _ _ (Nat.le_refl _) (Nat.le_refl _) (by repeat' first | exact rfl | exact trivial | exact vz_eq (by omega) | refine And.intro ?_ ?_) ⟨R2, C2, RB2, CB2, K2, hr2, fun _ e he => hpos e he, HL2, F2⟩
      · refine ev_iload_n dX19_inspect_80 rfl ?_
        refine ev_if_neZ (tgt := 133) dX19_inspect_81 (by decide) (by omega) (fun c81 => ?_) (fun c81 => by omega)
        refine ev_iincZ dX19_inspect_133 rfl (by decide) rfl ?_
        dsimp only [List.set]
        refine ev_goto (tgt := 2) dX19_inspect_136 (by decide) ?_
        have e4 := lkD_4k D P hk0z
        have eK := srK_eq D P k0
        rw [e4, List.append_nil] at eK
        rw [← eK] at HL4 ⊢
        exact hO9 _ _ _ _ (Nat.le_refl _) (Nat.le_refl _) (by repeat' first | exact rfl | exact trivial | exact vz_eq (by omega) | refine And.intro ?_ ?_) ⟨R2, C2, RB2, CB2, K4, hr2, fun _ e he => hpos e he, HL4, F4⟩
    refine ev_forB (st := []) 8 (fun i => 2 * ((srK D P 0 (P.1.1 + 1)).length - ((srK D P 0 k0 ++ lkD D P k0 1 i)).length)) (fun i => kP (srK D P 0 (P.1.1 + 1)).length - kP ((srK D P 0 k0 ++ lkD D P k0 1 i)).length) (fun i h2 => InA h2 o pl ro co rb cb a R2 C2 RB2 CB2 ∧ PrH g h0 h2 pl [ro, co, rb, cb] (srK D P 0 k0 ++ lkD D P k0 1 i) ∧ Fr g h0 h2 []) (fun i => [some (.ref o), some (vz ((k0 : Nat) : Int)), some (vz ((i : Nat) : Int))]) 0 (Nat.zero_le _) (by rw [show lkD D P k0 1 0 = [] from rfl, List.append_nil]; exact ⟨K2, HLb, F2⟩) (by rw [show lkD D P k0 1 0 = [] from rfl, List.append_nil]; exact Nat.le_refl _) (by rw [show lkD D P k0 1 0 = [] from rfl, List.append_nil]; exact Nat.le_refl _) (by repeat' first | exact rfl | exact trivial | exact vz_eq (by omega) | refine And.intro ?_ ?_) (fun i h2 _ hi hP2 hN => ?_) (fun h2 hP2 => ?_)
    · obtain ⟨K2, HL2, F2⟩ := hP2
      have HD := H0.fr F2 (fun x hx => by cases hx)
      have m1 := (KD0.fr F2 (fun x hx => by cases hx)).1
      obtain ⟨LN, hLN⟩ : ∃ LN, (srK D P 0 k0 ++ lkD D P k0 1 i) = LN := ⟨_, rfl⟩
      rw [hLN] at HL2 ⊢
      have hlen : LN.length + (if isPr D P k0 1 i 0 = true then 1 else 0) ≤ (srK D P 0 (P.1.1 + 1)).length := by
        have q1 := lkD_mono D P k0 1 (show i + 1 ≤ 8 by omega)
        have q2 : (lkD D P k0 1 (i + 1)).length = (lkD D P k0 1 i).length + (if isPr D P k0 1 i 0 = true then 1 else 0) := by rw [lkD_14 (Or.inl rfl), List.length_append]; split <;> rfl
        have q3 := srK_mono D P 0 (show k0 + 1 ≤ P.1.1 + 1 by omega)
        rw [srK_eq] at q3
        simp only [List.length_append] at q3
        rw [← hLN, List.length_append]; omega
      have hl64 := srK_le D P 0 (P.1.1 + 1)
      refine ev_iload_n dX19_inspect_23 rfl ?_
      refine ev_bipushZ dX19_inspect_24 rfl ?_
      refine ev_icmp_geZ (tgt := 62) dX19_inspect_26 (by decide) (by omega) (by omega) (fun c26 => by omega) (fun c26 => ?_)
      refine ev_aload_n dX19_inspect_29 rfl ?_
      refine ev_getf dX19_inspect_30 gf_X19_3_X19 K2.1 rfl ?_
      refine ev_iload_n dX19_inspect_33 rfl ?_
      refine ev_callVE dX19_inspect_34 cv_X19_59_X2 ce_X2_takesPart m1 rfl rfl rfl (k_takesX2 (d := 0) HD hi (hst _ hi)) (by omega) (Nat.le_of_ble_eq_true rfl) ?_
      refine ev_if_eqB (tgt := 56) dX19_inspect_37 (by decide) (fun c37 => ?_) (fun c37 => ?_)
      · refine ev_iincZ dX19_inspect_56 rfl (by decide) rfl ?_
        dsimp only [List.set]
        refine ev_goto (tgt := 23) dX19_inspect_59 (by decide) ?_
        have eP : ¬ isPr D P k0 1 i 0 = true := fun e => by
          have e9 := (isPr_1 (hpos i hi)).mp e
          first | exact absurd e9.1 (by rw [c37]; decide) | exact d45 e9.2
        have eS := lkD_14 (D := D) (P := P) (k := k0) (q := 1) (i := i) (Or.inl rfl)
        rw [if_neg eP, List.append_nil] at eS
        rw [eS, hLN] at hN
        exact hN _ _ _ _ (Nat.le_refl _) (Nat.le_refl _) (by repeat' first | exact rfl | exact trivial | exact vz_eq (by omega) | refine And.intro ?_ ?_) ⟨K2, HL2, F2⟩
      · refine ev_aload_n dX19_inspect_40 rfl ?_
        refine ev_iload_n dX19_inspect_41 rfl ?_
        refine ev_callVE dX19_inspect_42 cv_X19_97_X19 ce_X19_isOff K2.1 rfl rfl rfl (k_isOff (d := 0) K2 HD hi hr2 hD9) (by omega) (Nat.le_of_ble_eq_true rfl) ?_
        refine ev_if_eqB (tgt := 56) dX19_inspect_45 (by decide) (fun c45 => ?_) (fun c45 => ?_)
        · have d45 := of_decide_eq_false c45
          refine ev_iincZ dX19_inspect_56 rfl (by decide) rfl ?_
          dsimp only [List.set]
          refine ev_goto (tgt := 23) dX19_inspect_59 (by decide) ?_
          have eP : ¬ isPr D P k0 1 i 0 = true := fun e => by
            have e9 := (isPr_1 (hpos i hi)).mp e
            first | exact absurd e9.1 (by rw [c37]; decide) | exact d45 e9.2
          have eS := lkD_14 (D := D) (P := P) (k := k0) (q := 1) (i := i) (Or.inl rfl)
          rw [if_neg eP, List.append_nil] at eS
          rw [eS, hLN] at hN
          exact hN _ _ _ _ (Nat.le_refl _) (Nat.le_refl _) (by repeat' first | exact rfl | exact trivial | exact vz_eq (by omega) | refine And.intro ?_ ?_) ⟨K2, HL2, F2⟩
        · have d45 := of_decide_eq_true c45
          refine ev_aload_n dX19_inspect_48 rfl ?_
          refine ev_iload_n dX19_inspect_49 rfl ?_
          refine ev_iconstZ dX19_inspect_50 ?_
          refine ev_iload_n dX19_inspect_51 rfl ?_
          refine ev_iconstZ dX19_inspect_52 ?_
          have eP : isPr D P k0 1 i 0 = true := (isPr_1 (hpos i hi)).mpr ⟨c37, d45⟩
          rw [if_pos eP] at hlen
          have hkk := kP_succ LN.length
          have hkm := kP_mono hlen
          have hXs := InA.ns K2
          refine ev_callVR dX19_inspect_53 cv_X19_66_X19 ce_X19_tell K2.1 rfl rfl rfl (k_tell (y := (k0, 1, i, -1)) (c := 2) (k := 4 + (addK (LN.length + 1) - addK LN.length)) K2 hG (hKC.fr F2) hP HL2 F2 hXs (by omega) (Nat.le_refl _) (Nat.le_refl _)) (by omega) (by omega) (by omega) (Nat.le_of_ble_eq_true rfl) (fun v9 h3 P9 => ?_)
          obtain ⟨rfl, K3, HL3, F3⟩ := P9
          refine ev_iincZ dX19_inspect_56 rfl (by decide) rfl ?_
          dsimp only [List.set]
          refine ev_goto (tgt := 23) dX19_inspect_59 (by decide) ?_
          have eS := lkD_14 (D := D) (P := P) (k := k0) (q := 1) (i := i) (Or.inl rfl)
          rw [if_pos eP] at eS
          have eL : (srK D P 0 k0 ++ lkD D P k0 1 (i + 1)) = LN ++ [(k0, 1, i, (-1 : Int))] := by rw [eS, ← List.append_assoc, hLN]
          have eN : ((srK D P 0 k0 ++ lkD D P k0 1 (i + 1))).length = LN.length + 1 := by rw [eL, List.length_append]; rfl
          exact hN _ _ _ _ (by rw [eN]; omega) (by rw [eN]; omega) (by repeat' first | exact rfl | exact trivial | exact vz_eq (by omega) | refine And.intro ?_ ?_) (by rw [eL]; exact ⟨K3, HL3, F3⟩)
    · obtain ⟨K2, HL2, F2⟩ := hP2
      refine ev_iload_n dX19_inspect_23 rfl ?_
      refine ev_bipushZ dX19_inspect_24 rfl ?_
      refine ev_icmp_geZ (tgt := 62) dX19_inspect_26 (by decide) (by omega) (by omega) (fun c26 => ?_) (fun c26 => by omega)
      refine ev_aload_n dX19_inspect_62 rfl ?_
      refine ev_iload_n dX19_inspect_63 rfl ?_
      refine ev_iconstZ dX19_inspect_64 ?_
      have hw2 := srK_mono D P 0 (show k0 + 1 ≤ P.1.1 + 1 by omega)
      rw [srK_eq] at hw2
      simp only [List.length_append] at hw2
      have hl642 := srK_le D P 0 (P.1.1 + 1)
      have eM2 := List.length_append (as := (srK D P 0 k0 ++ lkD D P k0 1 8)) (bs := lkD D P k0 2 8)
      have eQ2 : ((srK D P 0 k0 ++ lkD D P k0 1 8)).length + (lkD D P k0 2 8).length ≤ (srK D P 0 (P.1.1 + 1)).length := by simp only [List.length_append]; omega
      have kq2 := kP_mono eQ2
      have kr2 := kP_mono (show ((srK D P 0 k0 ++ lkD D P k0 1 8)).length ≤ ((srK D P 0 k0 ++ lkD D P k0 1 8)).length + (lkD D P k0 2 8).length by omega)
      refine ev_callVR dX19_inspect_65 cv_X19_100_X19 ce_X19_inspectPairs K2.1 rfl rfl rfl (k_pairs2 (d := 8) (c := 2 * (lkD D P k0 2 8).length) (k := kP (((srK D P 0 k0 ++ lkD D P k0 1 8)).length + (lkD D P k0 2 8).length) - kP ((srK D P 0 k0 ++ lkD D P k0 1 8)).length) K2 hG hKC hP H0 HL2 F2 hpos hr2 hst (by omega) (Nat.le_refl _) (Nat.le_refl _) (Nat.le_refl _)) (by omega) (by omega) (by omega) (Nat.le_of_ble_eq_true rfl) (fun v5 h5 P5 => ?_)
      obtain ⟨rfl, K5, HL5, F5⟩ := P5
      have eKP2 : kP (((srK D P 0 k0 ++ lkD D P k0 1 8)).length + (lkD D P k0 2 8).length) = kP ((srK D P 0 k0 ++ lkD D P k0 1 8 ++ lkD D P k0 2 8)).length := by rw [eM2]
      refine ev_iload_n dX19_inspect_68 rfl ?_
      refine ev_if_leZ (tgt := 78) dX19_inspect_69 (by decide) (by omega) (fun c69 => ?_) (fun c69 => ?_)
      · have z0 : k0 = 0 := by omega
        have e30 : lkD D P k0 3 8 = [] := by rw [z0]; exact lkD_30 D P
        have e3L : (srK D P 0 k0 ++ lkD D P k0 1 8 ++ lkD D P k0 2 8 ++ lkD D P k0 3 8) = (srK D P 0 k0 ++ lkD D P k0 1 8 ++ lkD D P k0 2 8) := by rw [e30, List.append_nil]
        refine Ev.le (by rw [e3L]; omega) (by rw [e3L]; omega) (T78 h5 _ K5 (by rw [e3L]; exact HL5) F5)
      · refine ev_aload_n dX19_inspect_72 rfl ?_
        refine ev_iload_n dX19_inspect_73 rfl ?_
        refine ev_iconstZ dX19_inspect_74 ?_
        have hw3 := srK_mono D P 0 (show k0 + 1 ≤ P.1.1 + 1 by omega)
        rw [srK_eq] at hw3
        simp only [List.length_append] at hw3
        have hl643 := srK_le D P 0 (P.1.1 + 1)
        have eM3 := List.length_append (as := (srK D P 0 k0 ++ lkD D P k0 1 8 ++ lkD D P k0 2 8)) (bs := lkD D P k0 3 8)
        have eQ3 : ((srK D P 0 k0 ++ lkD D P k0 1 8 ++ lkD D P k0 2 8)).length + (lkD D P k0 3 8).length ≤ (srK D P 0 (P.1.1 + 1)).length := by simp only [List.length_append]; omega
        have kq3 := kP_mono eQ3
        have kr3 := kP_mono (show ((srK D P 0 k0 ++ lkD D P k0 1 8 ++ lkD D P k0 2 8)).length ≤ ((srK D P 0 k0 ++ lkD D P k0 1 8 ++ lkD D P k0 2 8)).length + (lkD D P k0 3 8).length by omega)
        refine ev_callVR dX19_inspect_75 cv_X19_100_X19 ce_X19_inspectPairs K5.1 rfl rfl rfl (k_pairs3 (d := 8) (c := 2 * (lkD D P k0 3 8).length) (k := kP (((srK D P 0 k0 ++ lkD D P k0 1 8 ++ lkD D P k0 2 8)).length + (lkD D P k0 3 8).length) - kP ((srK D P 0 k0 ++ lkD D P k0 1 8 ++ lkD D P k0 2 8)).length) K5 hG hKC hP H0 HL5 F5 hpos hr2 hst (by omega) (by omega) (hbk (by omega)) (Nat.le_refl _) (Nat.le_refl _) (Nat.le_refl _)) (by omega) (by omega) (by omega) (Nat.le_of_ble_eq_true rfl) (fun v6 h6 P6 => ?_)
        obtain ⟨rfl, K6, HL6, F6⟩ := P6
        have eKP3 : kP (((srK D P 0 k0 ++ lkD D P k0 1 8 ++ lkD D P k0 2 8)).length + (lkD D P k0 3 8).length) = kP ((srK D P 0 k0 ++ lkD D P k0 1 8 ++ lkD D P k0 2 8 ++ lkD D P k0 3 8)).length := by rw [eM3]
        refine Ev.le (by omega) (by omega) (T78 h6 _ K6 HL6 F6)
  · obtain ⟨R1, C1, RB1, CB1, K1, hr1, hpr, HL1, F1⟩ := hP1
    have HD1 := H0.fr F1 (fun x hx => by cases hx)
    have m1 := (KD0.fr F1 (fun x hx => by cases hx)).1
    have s1 := (hSI0.fr0 F1) _ _ z1
    refine ev_iload_n dX19_inspect_2 rfl ?_
    refine ev_aload_n dX19_inspect_3 rfl ?_
    refine ev_getf dX19_inspect_4 gf_X19_3_X19 K1.1 rfl ?_
    refine ev_getf dX19_inspect_7 gf_X19_73_X2 m1 rfl ?_
    refine ev_getf dX19_inspect_10 gf_X19_90_X5 s1 rfl ?_
    refine ev_icmp_gtZ (tgt := 139) dX19_inspect_13 (by decide) (by omega) (by omega) (fun c13 => ?_) (fun c13 => by omega)
    refine ev_aload_n dX19_inspect_139 rfl ?_
    refine ev_getf dX19_inspect_140 gf_X19_18_X19 K1.1 rfl ?_
    refine ev_areturn dX19_inspect_143 rfl (Or.inl ⟨_, rfl⟩) (Or.inr ⟨_, rfl⟩) ?_
    exact ⟨_, rfl, rfl, HL1, F1⟩
end T8S

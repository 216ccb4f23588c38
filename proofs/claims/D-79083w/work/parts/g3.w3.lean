/-! THE COMPONENT: the planner, leadTo (printed by gen) -/
section W3S
variable {g : GB} {M : MI} {d c k : Nat} {h : HM}
variable {I h0 J : HM} {o pa pl a st fo : Nat} {D : Dn} {L : PL}
/-- by the first s steps of the order σ -/
def ldV (C R : Nat) (L : PL) (gl last : Nat) (σ : Nat → Nat) (i x s : Nat) : Bool := (List.range s).any fun q => match nbP C R x (σ q) with
  | none => false
  | some y => ldP C R L gl last i y && goP L (last - (i + 1)) x y
theorem ldV_s (C R : Nat) (L : PL) (gl last : Nat) (σ : Nat → Nat) (i x s : Nat) : ldV C R L gl last σ i x (s + 1) = (ldV C R L gl last σ i x s || match nbP C R x (σ s) with
  | none => false
  | some y => ldP C R L gl last i y && goP L (last - (i + 1)) x y) := by
  unfold ldV
  rw [List.range_succ, List.any_append, List.any_cons, List.any_nil, Bool.or_false]
theorem ldV_5 {C R gl last i x : Nat} {L : PL} {σ : Nat → Nat} (h1 : ∀ q, q < 5 → σ q < 5) (h2 : ∀ s, s < 5 → ∃ q, q < 5 ∧ σ q = s) : ldV C R L gl last σ i x 5 = ldP C R L gl last (i + 1) x := by
  have key : ldV C R L gl last σ i x 5 = true ↔ ldP C R L gl last (i + 1) x = true := by
    rw [ldP_iff]
    unfold ldV
    rw [List.any_eq_true]
    constructor
    · rintro ⟨q, a, b⟩
      cases hn : nbP C R x (σ q) with
      | none => rw [hn] at b; cases b
      | some y =>
        rw [hn] at b
        have h3 := Bool.and_eq_true_iff.mp b
        exact ⟨σ q, y, h1 q (List.mem_range.mp a), hn, h3.1, h3.2⟩
    · rintro ⟨s, y, a, b, c, d⟩
      obtain ⟨q, q1, q2⟩ := h2 s a
      refine ⟨q, List.mem_range.mpr q1, ?_⟩
      rw [q2, b]
      show (ldP C R L gl last i y && goP L (last - (i + 1)) x y) = true
      rw [c, d]; rfl
  cases h3 : ldV C R L gl last σ i x 5 with
  | true => exact (key.mp h3).symm
  | false =>
    cases h4 : ldP C R L gl last (i + 1) x with
    | false => rfl
    | true => rw [key.mpr h4] at h3; cases h3
/-- the rows while they are filled, from the last one back -/
def ldS (C R : Nat) (L : PL) (gl last : Nat) (σ : Nat → Nat) (i p s j x : Nat) : Bool := if last - i ≤ j then ldP C R L gl last (last - j) x else if j = last - (i + 1) then (if x < p then ldP C R L gl last (i + 1) x else if x = p then ldV C R L gl last σ i x s else false) else false
theorem ldS_next {C R gl last i j x : Nat} {L : PL} {σ : Nat → Nat} (hi : i < last) (hx : x < C * R) : ldS C R L gl last σ i (C * R) 0 j x = ldS C R L gl last σ (i + 1) 0 0 j x := by
  unfold ldS
  by_cases a : last - i ≤ j
  · rw [if_pos a, if_pos (by omega)]
  · by_cases b : j = last - (i + 1)
    · rw [if_neg a, if_pos b, if_pos hx, if_pos (by omega), b, show last - (last - (i + 1)) = i + 1 by omega]
    · rw [if_neg a, if_neg b, if_neg (by omega)]
      split
      · rw [if_neg (by omega)]; split <;> rfl
      · rfl
theorem ldS_place {C R gl last i p j x : Nat} {L : PL} {σ : Nat → Nat} (h1 : ∀ q, q < 5 → σ q < 5) (h2 : ∀ s, s < 5 → ∃ q, q < 5 ∧ σ q = s) : ldS C R L gl last σ i p 5 j x = ldS C R L gl last σ i (p + 1) 0 j x := by
  unfold ldS
  by_cases a : last - i ≤ j
  · rw [if_pos a, if_pos a]
  · by_cases b : j = last - (i + 1)
    · rw [if_neg a, if_pos b, if_neg a, if_pos b]
      by_cases c : x < p
      · rw [if_pos c, if_pos (by omega)]
      · by_cases e : x = p
        · rw [if_neg c, if_pos e, if_pos (by omega), ldV_5 h1 h2]
        · rw [if_neg c, if_neg e, if_neg (by omega)]
          split
          · rfl
          · rfl
    · rw [if_neg a, if_neg b, if_neg a, if_neg b]
theorem ldS_here {C R gl last i p s : Nat} {L : PL} {σ : Nat → Nat} (hi : i < last) : ldS C R L gl last σ i p s (last - (i + 1)) p = ldV C R L gl last σ i p s := by
  unfold ldS
  rw [if_neg (by omega), if_pos rfl, if_neg (by omega), if_pos rfl]
theorem ldS_done {C R gl last i p s x : Nat} {L : PL} {σ : Nat → Nat} (hi : i < last) : ldS C R L gl last σ i p s (last - i) x = ldP C R L gl last i x := by
  unfold ldS
  rw [if_pos (Nat.le_refl _), show last - (last - i) = i by omega]
theorem ldS_else {C R gl last i p s j x : Nat} {L : PL} {σ : Nat → Nat} (h : ¬ (j = last - (i + 1) ∧ x = p)) (hi : i < last) : ldS C R L gl last σ i p (s + 1) j x = ldS C R L gl last σ i p s j x := by
  unfold ldS
  by_cases a : last - i ≤ j
  · rw [if_pos a, if_pos a]
  · by_cases b : j = last - (i + 1)
    · rw [if_neg a, if_pos b, if_neg a, if_pos b, if_neg (show ¬ x = p from fun q => h ⟨b, q⟩), if_neg (show ¬ x = p from fun q => h ⟨b, q⟩)]
    · rw [if_neg a, if_neg b, if_neg a, if_neg b]
set_option maxRecDepth 100000 in
set_option maxHeartbeats 4000000 in
theorem ld_inner {kk : Nat} {Q : RS → HM → Prop} (hG : GKx g) (K0 : KC g h0) (hSI : Sub I h0) (K : PnC h0 o pa pl a L) (H : DnC g I h0 a st fo D) (hfb : ∀ (e : Nat) (f : Nat → Nat) (k : Nat), e < 8 → L e = some f → k ≤ 20 → f k < 1000) (hco : 2 ≤ D.1.1 ∧ D.1.1 ≤ 9) (hro : 2 ≤ D.1.2 ∧ D.1.2 ≤ 9) {rq gl last i p : Nat} (zr : ∀ j, j < last + 1 → h0 (rq + 1 + j) = none) (hl20 : last ≤ 20) (hi : i < last) (hp : p < (D.1.1 * D.1.2)) {z7 : Option Value} {h : HM} (hI : (∃ X : Nat → Nat → Int, RcH g h rq (last + 1) (D.1.1 * D.1.2) X ∧ (∀ j x : Nat, j < last + 1 → x < (D.1.1 * D.1.2) → X j x = bI (ldS D.1.1 D.1.2 L gl last stO (i) (p) (0) j x)) ∧ Fr g h0 h [])) (hd : 8 ≤ d) (hN : ∀ (h' : HM) (z6 z7 : Option Value), (∃ X : Nat → Nat → Int, RcH g h' rq (last + 1) (D.1.1 * D.1.2) X ∧ (∀ j x : Nat, j < last + 1 → x < (D.1.1 * D.1.2) → X j x = bI (ldS D.1.1 D.1.2 L gl last stO (i) ((p + 1)) (0) j x)) ∧ Fr g h0 h' []) → Ev g mX20_leadTo d c kk Q 124 [some (.ref o), some (vz ((gl : Nat) : Int)), some (vz ((last : Nat) : Int)), some (.ref rq), some (vz ((last - i : Nat) : Int)), some (vz ((p : Nat) : Int)), z6, z7] [] h') : Ev g mX20_leadTo d c kk Q 47 [some (.ref o), some (vz ((gl : Nat) : Int)), some (vz ((last : Nat) : Int)), some (.ref rq), some (vz ((last - i : Nat) : Int)), some (vz ((p : Nat) : Int)), some (vz 0), z7] [] h := by
  refine ev_for (st := []) 5 (fun s h2 => (∃ X : Nat → Nat → Int, RcH g h2 rq (last + 1) (D.1.1 * D.1.2) X ∧ (∀ j x : Nat, j < last + 1 → x < (D.1.1 * D.1.2) → X j x = bI (ldS D.1.1 D.1.2 L gl last stO (i) (p) (s) j x)) ∧ Fr g h0 h2 [])) (fun s => [some (.ref o), some (vz ((gl : Nat) : Int)), some (vz ((last : Nat) : Int)), some (.ref rq), some (vz ((last - i : Nat) : Int)), some (vz ((p : Nat) : Int)), some (vz ((s : Nat) : Int)), none]) 0 (Nat.zero_le _) hI (by repeat' first | exact rfl | exact trivial | exact vz_eq (by omega) | refine And.intro ?_ ?_) (fun s h2 _ hs hP2 hK => ?_) (fun h2 hP2 => ?_)
  · obtain ⟨X, KR, hX, F2⟩ := hP2
    have KP := K.fr0 F2
    have HD := H.fr F2 (fun x hx => by cases hx)
    obtain ⟨K1, -⟩ := id KP
    obtain ⟨A, B, pv, sv, KD, hA, hB9, hV⟩ := id HD
    obtain ⟨k1, k2, k3, k4, k5, k6, k7, k8⟩ := id KD
    have hST : STh h2 (g.2.2.2.2 19) (g.2.2.2.2 43) (strB "nesw.") := ((K0.fr F2).2.2.1 19 _ rfl).1
    obtain ⟨sA, sx, sy, hs1, -⟩ := id hST
    obtain ⟨r1, r2, r3⟩ := id KR
    have r3k := r3 (last - (i + 1)) (by omega)
    have r3c := r3 (last - i) (by omega)
    have hNN : D.1.1 * D.1.2 ≤ 9 * 9 := Nat.mul_le_mul hco.2 hro.2
    have hl5 : (strB "nesw.").length = 5 := by decide
    cases hy : nbP D.1.1 D.1.2 p (stO s) with
    | none =>
      have hnI : nbI D.1.1 D.1.2 p (stO s) = -1 := by unfold nbI; rw [hy]
      have hcv : (match nbP D.1.1 D.1.2 p (stO s) with | none => false | some y => ldP D.1.1 D.1.2 L gl last i y && goP L (last - (i + 1)) p y) = false := by rw [hy]
      refine ev_iload dX20_leadTo_47 rfl ?_
      refine ev_ldcS (i := 19) hG dX20_leadTo_49 rfl ?_
      refine ev_callVE dX20_leadTo_51 cv_X20_73_J7 ce_J7_length hs1 rfl rfl rfl (st_length hST hG) (by omega) (Nat.le_of_ble_eq_true rfl) ?_
      refine ev_icmp_geZ (tgt := 124) dX20_leadTo_54 (by decide) (by omega) (by omega) (fun c54 => by omega) (fun c54 => ?_)
      refine ev_aload_n dX20_leadTo_57 rfl ?_
      refine ev_iload dX20_leadTo_58 rfl ?_
      refine ev_ldcS (i := 19) hG dX20_leadTo_60 rfl ?_
      refine ev_iload dX20_leadTo_62 rfl ?_
      refine ev_callVE dX20_leadTo_64 cv_X20_77_J7 ce_J7_charAt hs1 rfl rfl rfl (st_charAt hST hG (by omega) (by rw [Int.toNat_natCast]; exact nesw_get ⟨s, by omega⟩)) (by omega) (Nat.le_of_ble_eq_true rfl) ?_
      refine ev_callVE dX20_leadTo_67 cv_X20_81_X20 ce_X20_neighbor K1 rfl rfl rfl (k_nb20 (p := p) (s := stO s) K1 HD hco hro stO_4 (by omega)) (by omega) (Nat.le_of_ble_eq_true rfl) ?_
      rw [hnI]
      refine ev_istore dX20_leadTo_70 (by decide) rfl ?_
      dsimp only [List.set]
      refine ev_aload_n dX20_leadTo_72 rfl ?_
      refine ev_iload dX20_leadTo_73 rfl ?_
      refine ev_iconstZ dX20_leadTo_75 ?_
      refine ev_isubZ dX20_leadTo_76 ?_
      refine ev_aaldY (v := .ref (rq + 1 + (last - (i + 1)))) dX20_leadTo_77 r1 rfl rfl (by omega) (by rw [show ((((last - i : Nat)) : Int) - 1).toNat = last - (i + 1) by omega, if_pos (by omega)]; rfl) ?_
      refine ev_iload dX20_leadTo_78 rfl ?_
      refine ev_dup2 dX20_leadTo_80 rfl rfl ?_
      refine ev_zaldY dX20_leadTo_81 r3k (by omega) ?_
      rw [Int.toNat_natCast, hX (last - (i + 1)) p (by omega) hp, ldS_here hi]
      refine ev_iload dX20_leadTo_82 rfl ?_
      refine ev_iconstZ dX20_leadTo_84 ?_
      refine ev_icmp_eqZ (tgt := 115) dX20_leadTo_85 (by decide) (by omega) (by omega) (fun c85 => ?_) (fun c85 => by omega)
      refine ev_iconstZ dX20_leadTo_115 ?_
      refine ev_to (b := bI false) rfl ?_
      refine ev_iorB dX20_leadTo_116 ?_
      refine ev_zastY dX20_leadTo_117 r3k (by omega) ⟨by omega, by omega, by omega⟩ (by unfold bI; split <;> omega) (fun h3 hn3 fr3 => ?_)
      refine ev_iincZ dX20_leadTo_118 rfl (by decide) rfl ?_
      dsimp only [List.set]
      refine ev_goto (tgt := 47) dX20_leadTo_121 (by decide) ?_
      refine hK _ _ (by repeat' first | exact rfl | exact trivial | exact vz_eq (by omega) | refine And.intro ?_ ?_) ⟨_, RcH.set KR (by omega) hn3 fr3, fun j x hj hx => ?_, F2.writeN (Or.inr ⟨_, hn3, Nat.le_of_ble_eq_true rfl⟩) fr3 (zr _ (by omega))⟩
      by_cases e1 : j = last - (i + 1)
      · subst e1
        rw [if_pos rfl]
        unfold uz
        rw [Int.toNat_natCast]
        by_cases e2 : x = p
        · rw [if_pos e2, e2, ldS_here hi, ldV_s]; exact congrArg bI (by rw [hcv])
        · rw [if_neg e2, hX _ x (by omega) hx, ldS_else (fun q => e2 q.2) hi]
      · rw [if_neg e1, hX j x hj hx, ldS_else (fun q => e1 q.1) hi]
    | some y =>
      have hnI : nbI D.1.1 D.1.2 p (stO s) = ((y : Nat) : Int) := by unfold nbI; rw [hy]
      have hyl := nbP_lt (by omega) hy
      cases hld : ldP D.1.1 D.1.2 L gl last i y with
      | false =>
        have hcv : (match nbP D.1.1 D.1.2 p (stO s) with | none => false | some y => ldP D.1.1 D.1.2 L gl last i y && goP L (last - (i + 1)) p y) = false := by rw [hy]; show (ldP D.1.1 D.1.2 L gl last i y && _) = false; rw [hld]; rfl
        refine ev_iload dX20_leadTo_47 rfl ?_
        refine ev_ldcS (i := 19) hG dX20_leadTo_49 rfl ?_
        refine ev_callVE dX20_leadTo_51 cv_X20_73_J7 ce_J7_length hs1 rfl rfl rfl (st_length hST hG) (by omega) (Nat.le_of_ble_eq_true rfl) ?_
        refine ev_icmp_geZ (tgt := 124) dX20_leadTo_54 (by decide) (by omega) (by omega) (fun c54 => by omega) (fun c54 => ?_)
        refine ev_aload_n dX20_leadTo_57 rfl ?_
        refine ev_iload dX20_leadTo_58 rfl ?_
        refine ev_ldcS (i := 19) hG dX20_leadTo_60 rfl ?_
        refine ev_iload dX20_leadTo_62 rfl ?_
        refine ev_callVE dX20_leadTo_64 cv_X20_77_J7 ce_J7_charAt hs1 rfl rfl rfl (st_charAt hST hG (by omega) (by rw [Int.toNat_natCast]; exact nesw_get ⟨s, by omega⟩)) (by omega) (Nat.le_of_ble_eq_true rfl) ?_
        refine ev_callVE dX20_leadTo_67 cv_X20_81_X20 ce_X20_neighbor K1 rfl rfl rfl (k_nb20 (p := p) (s := stO s) K1 HD hco hro stO_4 (by omega)) (by omega) (Nat.le_of_ble_eq_true rfl) ?_
        rw [hnI]
        refine ev_istore dX20_leadTo_70 (by decide) rfl ?_
        dsimp only [List.set]
        refine ev_aload_n dX20_leadTo_72 rfl ?_
        refine ev_iload dX20_leadTo_73 rfl ?_
        refine ev_iconstZ dX20_leadTo_75 ?_
        refine ev_isubZ dX20_leadTo_76 ?_
        refine ev_aaldY (v := .ref (rq + 1 + (last - (i + 1)))) dX20_leadTo_77 r1 rfl rfl (by omega) (by rw [show ((((last - i : Nat)) : Int) - 1).toNat = last - (i + 1) by omega, if_pos (by omega)]; rfl) ?_
        refine ev_iload dX20_leadTo_78 rfl ?_
        refine ev_dup2 dX20_leadTo_80 rfl rfl ?_
        refine ev_zaldY dX20_leadTo_81 r3k (by omega) ?_
        rw [Int.toNat_natCast, hX (last - (i + 1)) p (by omega) hp, ldS_here hi]
        refine ev_iload dX20_leadTo_82 rfl ?_
        refine ev_iconstZ dX20_leadTo_84 ?_
        refine ev_icmp_eqZ (tgt := 115) dX20_leadTo_85 (by decide) (by omega) (by omega) (fun c85 => by omega) (fun c85 => ?_)
        refine ev_aload_n dX20_leadTo_88 rfl ?_
        refine ev_iload dX20_leadTo_89 rfl ?_
        refine ev_aaldY (v := .ref (rq + 1 + (last - i))) dX20_leadTo_91 r1 rfl rfl (by omega) (by rw [Int.toNat_natCast, if_pos (by omega)]; rfl) ?_
        refine ev_iload dX20_leadTo_92 rfl ?_
        refine ev_zaldY dX20_leadTo_94 r3c (by omega) ?_
        rw [Int.toNat_natCast, hX (last - i) y (by omega) hyl, ldS_done hi]
        refine ev_if_eqB (tgt := 115) dX20_leadTo_95 (by decide) (fun c95 => ?_) (fun c95 => by rw [hld] at c95; cases c95)
        refine ev_iconstZ dX20_leadTo_115 ?_
        refine ev_to (b := bI false) rfl ?_
        refine ev_iorB dX20_leadTo_116 ?_
        refine ev_zastY dX20_leadTo_117 r3k (by omega) ⟨by omega, by omega, by omega⟩ (by unfold bI; split <;> omega) (fun h3 hn3 fr3 => ?_)
        refine ev_iincZ dX20_leadTo_118 rfl (by decide) rfl ?_
        dsimp only [List.set]
        refine ev_goto (tgt := 47) dX20_leadTo_121 (by decide) ?_
        refine hK _ _ (by repeat' first | exact rfl | exact trivial | exact vz_eq (by omega) | refine And.intro ?_ ?_) ⟨_, RcH.set KR (by omega) hn3 fr3, fun j x hj hx => ?_, F2.writeN (Or.inr ⟨_, hn3, Nat.le_of_ble_eq_true rfl⟩) fr3 (zr _ (by omega))⟩
        by_cases e1 : j = last - (i + 1)
        · subst e1
          rw [if_pos rfl]
          unfold uz
          rw [Int.toNat_natCast]
          by_cases e2 : x = p
          · rw [if_pos e2, e2, ldS_here hi, ldV_s]; exact congrArg bI (by rw [hcv])
          · rw [if_neg e2, hX _ x (by omega) hx, ldS_else (fun q => e2 q.2) hi]
        · rw [if_neg e1, hX j x hj hx, ldS_else (fun q => e1 q.1) hi]
      | true =>
        cases hgo : goP L (last - (i + 1)) p y with
        | false =>
          have hcv : (match nbP D.1.1 D.1.2 p (stO s) with | none => false | some y => ldP D.1.1 D.1.2 L gl last i y && goP L (last - (i + 1)) p y) = false := by rw [hy]; show (ldP D.1.1 D.1.2 L gl last i y && goP L (last - (i + 1)) p y) = false; rw [hld, hgo]; rfl
          refine ev_iload dX20_leadTo_47 rfl ?_
          refine ev_ldcS (i := 19) hG dX20_leadTo_49 rfl ?_
          refine ev_callVE dX20_leadTo_51 cv_X20_73_J7 ce_J7_length hs1 rfl rfl rfl (st_length hST hG) (by omega) (Nat.le_of_ble_eq_true rfl) ?_
          refine ev_icmp_geZ (tgt := 124) dX20_leadTo_54 (by decide) (by omega) (by omega) (fun c54 => by omega) (fun c54 => ?_)
          refine ev_aload_n dX20_leadTo_57 rfl ?_
          refine ev_iload dX20_leadTo_58 rfl ?_
          refine ev_ldcS (i := 19) hG dX20_leadTo_60 rfl ?_
          refine ev_iload dX20_leadTo_62 rfl ?_
          refine ev_callVE dX20_leadTo_64 cv_X20_77_J7 ce_J7_charAt hs1 rfl rfl rfl (st_charAt hST hG (by omega) (by rw [Int.toNat_natCast]; exact nesw_get ⟨s, by omega⟩)) (by omega) (Nat.le_of_ble_eq_true rfl) ?_
          refine ev_callVE dX20_leadTo_67 cv_X20_81_X20 ce_X20_neighbor K1 rfl rfl rfl (k_nb20 (p := p) (s := stO s) K1 HD hco hro stO_4 (by omega)) (by omega) (Nat.le_of_ble_eq_true rfl) ?_
          rw [hnI]
          refine ev_istore dX20_leadTo_70 (by decide) rfl ?_
          dsimp only [List.set]
          refine ev_aload_n dX20_leadTo_72 rfl ?_
          refine ev_iload dX20_leadTo_73 rfl ?_
          refine ev_iconstZ dX20_leadTo_75 ?_
          refine ev_isubZ dX20_leadTo_76 ?_
          refine ev_aaldY (v := .ref (rq + 1 + (last - (i + 1)))) dX20_leadTo_77 r1 rfl rfl (by omega) (by rw [show ((((last - i : Nat)) : Int) - 1).toNat = last - (i + 1) by omega, if_pos (by omega)]; rfl) ?_
          refine ev_iload dX20_leadTo_78 rfl ?_
          refine ev_dup2 dX20_leadTo_80 rfl rfl ?_
          refine ev_zaldY dX20_leadTo_81 r3k (by omega) ?_
          rw [Int.toNat_natCast, hX (last - (i + 1)) p (by omega) hp, ldS_here hi]
          refine ev_iload dX20_leadTo_82 rfl ?_
          refine ev_iconstZ dX20_leadTo_84 ?_
          refine ev_icmp_eqZ (tgt := 115) dX20_leadTo_85 (by decide) (by omega) (by omega) (fun c85 => by omega) (fun c85 => ?_)
          refine ev_aload_n dX20_leadTo_88 rfl ?_
          refine ev_iload dX20_leadTo_89 rfl ?_
          refine ev_aaldY (v := .ref (rq + 1 + (last - i))) dX20_leadTo_91 r1 rfl rfl (by omega) (by rw [Int.toNat_natCast, if_pos (by omega)]; rfl) ?_
          refine ev_iload dX20_leadTo_92 rfl ?_
          refine ev_zaldY dX20_leadTo_94 r3c (by omega) ?_
          rw [Int.toNat_natCast, hX (last - i) y (by omega) hyl, ldS_done hi]
          refine ev_if_eqB (tgt := 115) dX20_leadTo_95 (by decide) (fun c95 => by rw [hld] at c95; cases c95) (fun c95 => ?_)
          refine ev_aload_n dX20_leadTo_98 rfl ?_
          refine ev_iload dX20_leadTo_99 rfl ?_
          refine ev_iload dX20_leadTo_101 rfl ?_
          refine ev_iload dX20_leadTo_103 rfl ?_
          refine ev_to (b := (((last - (i + 1)) + 1 : Nat) : Int)) (by omega) ?_
          refine ev_callVE dX20_leadTo_105 cv_X20_61_X20 ce_X20_canGo K1 rfl rfl rfl (k_canGo (d := 0) (p := ((p : Nat) : Int)) (x := ((y : Nat) : Int)) (k0 := last - (i + 1)) KP (by omega) (by omega) (by omega) hfb) (by omega) (Nat.le_of_ble_eq_true rfl) ?_
          rw [gnI_go]
          refine ev_if_eqB (tgt := 115) dX20_leadTo_108 (by decide) (fun c108 => ?_) (fun c108 => by rw [hgo] at c108; cases c108)
          refine ev_iconstZ dX20_leadTo_115 ?_
          refine ev_to (b := bI false) rfl ?_
          refine ev_iorB dX20_leadTo_116 ?_
          refine ev_zastY dX20_leadTo_117 r3k (by omega) ⟨by omega, by omega, by omega⟩ (by unfold bI; split <;> omega) (fun h3 hn3 fr3 => ?_)
          refine ev_iincZ dX20_leadTo_118 rfl (by decide) rfl ?_
          dsimp only [List.set]
          refine ev_goto (tgt := 47) dX20_leadTo_121 (by decide) ?_
          refine hK _ _ (by repeat' first | exact rfl | exact trivial | exact vz_eq (by omega) | refine And.intro ?_ ?_) ⟨_, RcH.set KR (by omega) hn3 fr3, fun j x hj hx => ?_, F2.writeN (Or.inr ⟨_, hn3, Nat.le_of_ble_eq_true rfl⟩) fr3 (zr _ (by omega))⟩
          by_cases e1 : j = last - (i + 1)
          · subst e1
            rw [if_pos rfl]
            unfold uz
            rw [Int.toNat_natCast]
            by_cases e2 : x = p
            · rw [if_pos e2, e2, ldS_here hi, ldV_s]; exact congrArg bI (by rw [hcv])
            · rw [if_neg e2, hX _ x (by omega) hx, ldS_else (fun q => e2 q.2) hi]
          · rw [if_neg e1, hX j x hj hx, ldS_else (fun q => e1 q.1) hi]
        | true =>
          have hcv : (match nbP D.1.1 D.1.2 p (stO s) with | none => false | some y => ldP D.1.1 D.1.2 L gl last i y && goP L (last - (i + 1)) p y) = true := by rw [hy]; show (ldP D.1.1 D.1.2 L gl last i y && goP L (last - (i + 1)) p y) = true; rw [hld, hgo]; rfl
          refine ev_iload dX20_leadTo_47 rfl ?_
          refine ev_ldcS (i := 19) hG dX20_leadTo_49 rfl ?_
          refine ev_callVE dX20_leadTo_51 cv_X20_73_J7 ce_J7_length hs1 rfl rfl rfl (st_length hST hG) (by omega) (Nat.le_of_ble_eq_true rfl) ?_
          refine ev_icmp_geZ (tgt := 124) dX20_leadTo_54 (by decide) (by omega) (by omega) (fun c54 => by omega) (fun c54 => ?_)
          refine ev_aload_n dX20_leadTo_57 rfl ?_
          refine ev_iload dX20_leadTo_58 rfl ?_
          refine ev_ldcS (i := 19) hG dX20_leadTo_60 rfl ?_
          refine ev_iload dX20_leadTo_62 rfl ?_
          refine ev_callVE dX20_leadTo_64 cv_X20_77_J7 ce_J7_charAt hs1 rfl rfl rfl (st_charAt hST hG (by omega) (by rw [Int.toNat_natCast]; exact nesw_get ⟨s, by omega⟩)) (by omega) (Nat.le_of_ble_eq_true rfl) ?_
          refine ev_callVE dX20_leadTo_67 cv_X20_81_X20 ce_X20_neighbor K1 rfl rfl rfl (k_nb20 (p := p) (s := stO s) K1 HD hco hro stO_4 (by omega)) (by omega) (Nat.le_of_ble_eq_true rfl) ?_
          rw [hnI]
          refine ev_istore dX20_leadTo_70 (by decide) rfl ?_
          dsimp only [List.set]
          refine ev_aload_n dX20_leadTo_72 rfl ?_
          refine ev_iload dX20_leadTo_73 rfl ?_
          refine ev_iconstZ dX20_leadTo_75 ?_
          refine ev_isubZ dX20_leadTo_76 ?_
          refine ev_aaldY (v := .ref (rq + 1 + (last - (i + 1)))) dX20_leadTo_77 r1 rfl rfl (by omega) (by rw [show ((((last - i : Nat)) : Int) - 1).toNat = last - (i + 1) by omega, if_pos (by omega)]; rfl) ?_
          refine ev_iload dX20_leadTo_78 rfl ?_
          refine ev_dup2 dX20_leadTo_80 rfl rfl ?_
          refine ev_zaldY dX20_leadTo_81 r3k (by omega) ?_
          rw [Int.toNat_natCast, hX (last - (i + 1)) p (by omega) hp, ldS_here hi]
          refine ev_iload dX20_leadTo_82 rfl ?_
          refine ev_iconstZ dX20_leadTo_84 ?_
          refine ev_icmp_eqZ (tgt := 115) dX20_leadTo_85 (by decide) (by omega) (by omega) (fun c85 => by omega) (fun c85 => ?_)
          refine ev_aload_n dX20_leadTo_88 rfl ?_
          refine ev_iload dX20_leadTo_89 rfl ?_
          refine ev_aaldY (v := .ref (rq + 1 + (last - i))) dX20_leadTo_91 r1 rfl rfl (by omega) (by rw [Int.toNat_natCast, if_pos (by omega)]; rfl) ?_
          refine ev_iload dX20_leadTo_92 rfl ?_
          refine ev_zaldY dX20_leadTo_94 r3c (by omega) ?_
          rw [Int.toNat_natCast, hX (last - i) y (by omega) hyl, ldS_done hi]
          refine ev_if_eqB (tgt := 115) dX20_leadTo_95 (by decide) (fun c95 => by rw [hld] at c95; cases c95) (fun c95 => ?_)
          refine ev_aload_n dX20_leadTo_98 rfl ?_
          refine ev_iload dX20_leadTo_99 rfl ?_
          refine ev_iload dX20_leadTo_101 rfl ?_
          refine ev_iload dX20_leadTo_103 rfl ?_
          refine ev_to (b := (((last - (i + 1)) + 1 : Nat) : Int)) (by omega) ?_
          refine ev_callVE dX20_leadTo_105 cv_X20_61_X20 ce_X20_canGo K1 rfl rfl rfl (k_canGo (d := 0) (p := ((p : Nat) : Int)) (x := ((y : Nat) : Int)) (k0 := last - (i + 1)) KP (by omega) (by omega) (by omega) hfb) (by omega) (Nat.le_of_ble_eq_true rfl) ?_
          rw [gnI_go]
          refine ev_if_eqB (tgt := 115) dX20_leadTo_108 (by decide) (fun c108 => by rw [hgo] at c108; cases c108) (fun c108 => ?_)
          refine ev_iconstZ dX20_leadTo_111 ?_
          refine ev_goto (tgt := 116) dX20_leadTo_112 (by decide) ?_
          refine ev_to (b := bI true) rfl ?_
          refine ev_iorB dX20_leadTo_116 ?_
          refine ev_zastY dX20_leadTo_117 r3k (by omega) ⟨by omega, by omega, by omega⟩ (by unfold bI; split <;> omega) (fun h3 hn3 fr3 => ?_)
          refine ev_iincZ dX20_leadTo_118 rfl (by decide) rfl ?_
          dsimp only [List.set]
          refine ev_goto (tgt := 47) dX20_leadTo_121 (by decide) ?_
          refine hK _ _ (by repeat' first | exact rfl | exact trivial | exact vz_eq (by omega) | refine And.intro ?_ ?_) ⟨_, RcH.set KR (by omega) hn3 fr3, fun j x hj hx => ?_, F2.writeN (Or.inr ⟨_, hn3, Nat.le_of_ble_eq_true rfl⟩) fr3 (zr _ (by omega))⟩
          by_cases e1 : j = last - (i + 1)
          · subst e1
            rw [if_pos rfl]
            unfold uz
            rw [Int.toNat_natCast]
            by_cases e2 : x = p
            · rw [if_pos e2, e2, ldS_here hi, ldV_s]; exact congrArg bI (by rw [hcv])
            · rw [if_neg e2, hX _ x (by omega) hx, ldS_else (fun q => e2 q.2) hi]
          · rw [if_neg e1, hX j x hj hx, ldS_else (fun q => e1 q.1) hi]
  · obtain ⟨X, KR, hX, F2⟩ := hP2
    have KP := K.fr0 F2
    have HD := H.fr F2 (fun x hx => by cases hx)
    obtain ⟨K1, -⟩ := id KP
    obtain ⟨A, B, pv, sv, KD, hA, hB9, hV⟩ := id HD
    obtain ⟨k1, k2, k3, k4, k5, k6, k7, k8⟩ := id KD
    have hST : STh h2 (g.2.2.2.2 19) (g.2.2.2.2 43) (strB "nesw.") := ((K0.fr F2).2.2.1 19 _ rfl).1
    obtain ⟨sA, sx, sy, hs1, -⟩ := id hST
    obtain ⟨r1, r2, r3⟩ := id KR
    have r3k := r3 (last - (i + 1)) (by omega)
    have r3c := r3 (last - i) (by omega)
    have hNN : D.1.1 * D.1.2 ≤ 9 * 9 := Nat.mul_le_mul hco.2 hro.2
    have hl5 : (strB "nesw.").length = 5 := by decide
    refine ev_iload dX20_leadTo_47 rfl ?_
    refine ev_ldcS (i := 19) hG dX20_leadTo_49 rfl ?_
    refine ev_callVE dX20_leadTo_51 cv_X20_73_J7 ce_J7_length hs1 rfl rfl rfl (st_length hST hG) (by omega) (Nat.le_of_ble_eq_true rfl) ?_
    refine ev_icmp_geZ (tgt := 124) dX20_leadTo_54 (by decide) (by omega) (by omega) (fun c54 => ?_) (fun c54 => by omega)
    exact hN h2 _ _ ⟨X, KR, fun j x hj hx => by rw [hX j x hj hx, ldS_place (fun q hq => stO_lt hq) (fun s hs => stO_surj hs)], F2⟩
set_option maxRecDepth 100000 in
set_option maxHeartbeats 4000000 in
theorem ld_mid {kk : Nat} {Q : RS → HM → Prop} (hG : GKx g) (K0 : KC g h0) (hSI : Sub I h0) (K : PnC h0 o pa pl a L) (H : DnC g I h0 a st fo D) (hfb : ∀ (e : Nat) (f : Nat → Nat) (k : Nat), e < 8 → L e = some f → k ≤ 20 → f k < 1000) (hco : 2 ≤ D.1.1 ∧ D.1.1 ≤ 9) (hro : 2 ≤ D.1.2 ∧ D.1.2 ≤ 9) {rq gl last i : Nat} (zr : ∀ j, j < last + 1 → h0 (rq + 1 + j) = none) (hl20 : last ≤ 20) (hi : i < last) {z6 z7 : Option Value} {h : HM} (hI : (∃ X : Nat → Nat → Int, RcH g h rq (last + 1) (D.1.1 * D.1.2) X ∧ (∀ j x : Nat, j < last + 1 → x < (D.1.1 * D.1.2) → X j x = bI (ldS D.1.1 D.1.2 L gl last stO (i) (0) (0) j x)) ∧ Fr g h0 h [])) (hd : 8 ≤ d) (hN : ∀ (h' : HM) (z5 z6 z7 : Option Value), (∃ X : Nat → Nat → Int, RcH g h' rq (last + 1) (D.1.1 * D.1.2) X ∧ (∀ j x : Nat, j < last + 1 → x < (D.1.1 * D.1.2) → X j x = bI (ldS D.1.1 D.1.2 L gl last stO ((i + 1)) (0) (0) j x)) ∧ Fr g h0 h' []) → Ev g mX20_leadTo d c kk Q 130 [some (.ref o), some (vz ((gl : Nat) : Int)), some (vz ((last : Nat) : Int)), some (.ref rq), some (vz ((last - i : Nat) : Int)), z5, z6, z7] [] h') : Ev g mX20_leadTo d c kk Q 32 [some (.ref o), some (vz ((gl : Nat) : Int)), some (vz ((last : Nat) : Int)), some (.ref rq), some (vz ((last - i : Nat) : Int)), some (vz 0), z6, z7] [] h := by
  refine ev_for (st := []) (D.1.1 * D.1.2) (fun p h2 => (∃ X : Nat → Nat → Int, RcH g h2 rq (last + 1) (D.1.1 * D.1.2) X ∧ (∀ j x : Nat, j < last + 1 → x < (D.1.1 * D.1.2) → X j x = bI (ldS D.1.1 D.1.2 L gl last stO (i) (p) (0) j x)) ∧ Fr g h0 h2 [])) (fun p => [some (.ref o), some (vz ((gl : Nat) : Int)), some (vz ((last : Nat) : Int)), some (.ref rq), some (vz ((last - i : Nat) : Int)), some (vz ((p : Nat) : Int)), none, none]) 0 (Nat.zero_le _) hI (by repeat' first | exact rfl | exact trivial | exact vz_eq (by omega) | refine And.intro ?_ ?_) (fun p h2 _ hp hP2 hK => ?_) (fun h2 hP2 => ?_)
  · obtain ⟨X, KR, hX, F2⟩ := hP2
    have KP := K.fr0 F2
    have HD := H.fr F2 (fun x hx => by cases hx)
    obtain ⟨K1, -⟩ := id KP
    obtain ⟨A, B, pv, sv, KD, hA, hB9, hV⟩ := id HD
    obtain ⟨k1, k2, k3, k4, k5, k6, k7, k8⟩ := id KD
    have hST : STh h2 (g.2.2.2.2 19) (g.2.2.2.2 43) (strB "nesw.") := ((K0.fr F2).2.2.1 19 _ rfl).1
    obtain ⟨sA, sx, sy, hs1, -⟩ := id hST
    obtain ⟨r1, r2, r3⟩ := id KR
    have r3k := r3 (last - (i + 1)) (by omega)
    have r3c := r3 (last - i) (by omega)
    have hNN : D.1.1 * D.1.2 ≤ 9 * 9 := Nat.mul_le_mul hco.2 hro.2
    have hl5 : (strB "nesw.").length = 5 := by decide
    have hmul : ((D.1.1 : Nat) : Int) * ((D.1.2 : Nat) : Int) = ((D.1.1 * D.1.2 : Nat) : Int) := by rw [Int.natCast_mul]
    refine ev_iload dX20_leadTo_32 rfl ?_
    refine ev_aload_n dX20_leadTo_34 rfl ?_
    refine ev_getf dX20_leadTo_35 gf_X20_3_X20 K1 rfl ?_
    refine ev_callVE dX20_leadTo_38 cv_X20_65_X2 ce_X2_places k1 rfl rfl rfl (k_placesX2 (d := 0) HD) (by omega) (Nat.le_of_ble_eq_true rfl) ?_
    rw [hmul]
    refine ev_icmp_geZ (tgt := 130) dX20_leadTo_41 (by decide) (by omega) (by omega) (fun c41 => by omega) (fun c41 => ?_)
    refine ev_iconstZ dX20_leadTo_44 ?_
    refine ev_istore dX20_leadTo_45 (by decide) rfl ?_
    dsimp only [List.set]
    refine ld_inner hG K0 hSI K H hfb hco hro zr hl20 hi hp ⟨X, KR, hX, F2⟩ hd (fun h3 z6 z7 hI3 => ?_)
    refine ev_iincZ dX20_leadTo_124 rfl (by decide) rfl ?_
    dsimp only [List.set]
    refine ev_goto (tgt := 32) dX20_leadTo_127 (by decide) ?_
    exact hK _ _ (by repeat' first | exact rfl | exact trivial | exact vz_eq (by omega) | refine And.intro ?_ ?_) hI3
  · obtain ⟨X, KR, hX, F2⟩ := hP2
    have KP := K.fr0 F2
    have HD := H.fr F2 (fun x hx => by cases hx)
    obtain ⟨K1, -⟩ := id KP
    obtain ⟨A, B, pv, sv, KD, hA, hB9, hV⟩ := id HD
    obtain ⟨k1, k2, k3, k4, k5, k6, k7, k8⟩ := id KD
    have hST : STh h2 (g.2.2.2.2 19) (g.2.2.2.2 43) (strB "nesw.") := ((K0.fr F2).2.2.1 19 _ rfl).1
    obtain ⟨sA, sx, sy, hs1, -⟩ := id hST
    obtain ⟨r1, r2, r3⟩ := id KR
    have r3k := r3 (last - (i + 1)) (by omega)
    have r3c := r3 (last - i) (by omega)
    have hNN : D.1.1 * D.1.2 ≤ 9 * 9 := Nat.mul_le_mul hco.2 hro.2
    have hl5 : (strB "nesw.").length = 5 := by decide
    have hmul : ((D.1.1 : Nat) : Int) * ((D.1.2 : Nat) : Int) = ((D.1.1 * D.1.2 : Nat) : Int) := by rw [Int.natCast_mul]
    refine ev_iload dX20_leadTo_32 rfl ?_
    refine ev_aload_n dX20_leadTo_34 rfl ?_
    refine ev_getf dX20_leadTo_35 gf_X20_3_X20 K1 rfl ?_
    refine ev_callVE dX20_leadTo_38 cv_X20_65_X2 ce_X2_places k1 rfl rfl rfl (k_placesX2 (d := 0) HD) (by omega) (Nat.le_of_ble_eq_true rfl) ?_
    rw [hmul]
    refine ev_icmp_geZ (tgt := 130) dX20_leadTo_41 (by decide) (by omega) (by omega) (fun c41 => ?_) (fun c41 => by omega)
    exact hN h2 _ _ _ ⟨X, KR, fun j x hj hx => by rw [hX j x hj hx, ldS_next hi hx], F2⟩
set_option maxRecDepth 100000 in
set_option maxHeartbeats 4000000 in
theorem k_lead20 (hG : GKx g) (K0 : KC g h0) (hSI : Sub I h0) (K : PnC h0 o pa pl a L) (H : DnC g I h0 a st fo D) (hfb : ∀ (e : Nat) (f : Nat → Nat) (k : Nat), e < 8 → L e = some f → k ≤ 20 → f k < 1000) (hco : 2 ≤ D.1.1 ∧ D.1.1 ≤ 9) (hro : 2 ≤ D.1.2 ∧ D.1.2 ≤ 9) {gl last : Nat} (hgl : gl < (D.1.1 * D.1.2)) (hl20 : last ≤ 20) (hd : 8 ≤ d) (hc : 22 ≤ c) (hk : 1722 ≤ k) : Kc g mX20_leadTo d (c) (k) [.ref o, vz ((gl : Nat) : Int), vz ((last : Nat) : Int)] h0 (rR (fun v h' => ∃ (rq : Nat) (X : Nat → Nat → Int), v = some (.ref rq) ∧ RcH g h' rq (last + 1) (D.1.1 * D.1.2) X ∧ (∀ j x : Nat, j < last + 1 → x < (D.1.1 * D.1.2) → X j x = bI (ldP D.1.1 D.1.2 L gl last (last - j) x)) ∧ Fr g h0 h' [] ∧ (∀ j, j < last + 1 → h0 (rq + 1 + j) = none) ∧ h0 rq = none)) := by
  refine Kc.of (ls := [some (.ref o), some (vz ((gl : Nat) : Int)), some (vz ((last : Nat) : Int)), none, none, none, none, none]) (by decide +kernel) (Nat.le_of_ble_eq_true rfl) rfl ?_
  have HD := H
  have hNN : D.1.1 * D.1.2 ≤ 9 * 9 := Nat.mul_le_mul hco.2 hro.2
  have hmul : ((D.1.1 : Nat) : Int) * ((D.1.2 : Nat) : Int) = ((D.1.1 * D.1.2 : Nat) : Int) := by rw [Int.natCast_mul]
  obtain ⟨K1, -⟩ := id K
  obtain ⟨A, B, pv, sv, KD, hA, hB9, hV⟩ := id H
  obtain ⟨k1, k2, k3, k4, k5, k6, k7, k8⟩ := id KD
  refine ev_iload_n dX20_leadTo_0 rfl ?_
  refine ev_iconstZ dX20_leadTo_1 ?_
  refine ev_iaddZ dX20_leadTo_2 ?_
  refine ev_aload_n dX20_leadTo_3 rfl ?_
  refine ev_getf dX20_leadTo_4 gf_X20_3_X20 K1 rfl ?_
  refine ev_callVE dX20_leadTo_7 cv_X20_65_X2 ce_X2_places k1 rfl rfl rfl (k_placesX2 (d := 0) HD) (by omega) (Nat.le_of_ble_eq_true rfl) ?_
  rw [hmul]
  refine ev_multiY (ty := .boolean) (t := 8) (u := 1) (N := last + 1) (K := (D.1.1 * D.1.2)) (c' := 0) (k' := 0) hG dX20_leadTo_10 (by rw [show "[" ++ (FieldType.array .boolean).toString = "[[Z" by decide +kernel]; exact q2595) q2596 q2661 rfl rfl (by decide) (by decide) (by decide) rfl ⟨by omega, by omega⟩ (by omega) (by omega) (by omega) (by omega) (by have := Nat.mul_le_mul (show last + 1 ≤ 21 by omega) hNN; omega) (fun rq h2 hf hsB hss hrow hold => ?_)
  have F1 : Fr g h0 h2 [] := Fr.grow hold
  have zr : ∀ j, j < last + 1 → h0 (rq + 1 + j) = none := fun j hj => by rw [Nat.add_assoc]; exact hf (1 + j) (by omega)
  refine ev_astore_n dX20_leadTo_14 (by decide) rfl ?_
  dsimp only [List.set]
  refine ev_aload_n dX20_leadTo_15 rfl ?_
  refine ev_iload_n dX20_leadTo_16 rfl ?_
  refine ev_aaldY (v := .ref (rq + 1 + last)) dX20_leadTo_17 hss rfl rfl (by omega) (by rw [Int.toNat_natCast, if_pos (by omega)]; rfl) ?_
  refine ev_iload_n dX20_leadTo_18 rfl ?_
  refine ev_iconstZ dX20_leadTo_19 ?_
  refine ev_zastY dX20_leadTo_20 (hrow last (by omega)) (by omega) ⟨by omega, by omega, by omega⟩ (by omega) (fun h3 hn3 fr3 => ?_)
  refine ev_iload_n dX20_leadTo_21 rfl ?_
  refine ev_istore dX20_leadTo_22 (by decide) rfl ?_
  dsimp only [List.set]
  have KR0 : RcH g h2 rq (last + 1) (D.1.1 * D.1.2) (fun _ _ => 0) := ⟨hss, hsB, hrow⟩
  have hI0 : (∃ X : Nat → Nat → Int, RcH g h3 rq (last + 1) (D.1.1 * D.1.2) X ∧ (∀ j x : Nat, j < last + 1 → x < (D.1.1 * D.1.2) → X j x = bI (ldS D.1.1 D.1.2 L gl last stO (0) (0) (0) j x)) ∧ Fr g h0 h3 []) := ⟨_, RcH.set KR0 (by omega) hn3 fr3, fun j x hj hx => by
      rw [Int.toNat_natCast]
      unfold ldS uz
      by_cases e1 : j = last
      · subst e1; rw [if_pos rfl, if_pos (show _ - 0 ≤ _ by omega), Nat.sub_self]; show (if x = gl then (1 : Int) else 0) = bI (decide (x = gl)); by_cases e2 : x = gl
        · rw [if_pos e2, decide_eq_true e2]; rfl
        · rw [if_neg e2, decide_eq_false e2]; rfl
      · rw [if_neg e1, if_neg (by omega)]
        split
        · rw [if_neg (by omega)]; split <;> rfl
        · rfl, F1.writeN (Or.inr ⟨_, hn3, Nat.le_of_ble_eq_true rfl⟩) fr3 (zr last (by omega))⟩
  refine ev_for (st := []) last (fun i h2 => (∃ X : Nat → Nat → Int, RcH g h2 rq (last + 1) (D.1.1 * D.1.2) X ∧ (∀ j x : Nat, j < last + 1 → x < (D.1.1 * D.1.2) → X j x = bI (ldS D.1.1 D.1.2 L gl last stO (i) (0) (0) j x)) ∧ Fr g h0 h2 [])) (fun i => [some (.ref o), some (vz ((gl : Nat) : Int)), some (vz ((last : Nat) : Int)), some (.ref rq), some (vz ((last - i : Nat) : Int)), none, none, none]) 0 (Nat.zero_le _) hI0 (by repeat' first | exact rfl | exact trivial | exact vz_eq (by omega) | refine And.intro ?_ ?_) (fun i h2 _ hi hP2 hK => ?_) (fun h2 hP2 => ?_)
  · refine ev_iload dX20_leadTo_24 rfl ?_
    refine ev_if_leZ (tgt := 136) dX20_leadTo_26 (by decide) (by omega) (fun c26 => by omega) (fun c26 => ?_)
    refine ev_iconstZ dX20_leadTo_29 ?_
    refine ev_istore dX20_leadTo_30 (by decide) rfl ?_
    dsimp only [List.set]
    refine ld_mid hG K0 hSI K H hfb hco hro zr hl20 hi hP2 (by omega) (fun h3 z5 z6 z7 hI3 => ?_)
    refine ev_iincZ dX20_leadTo_130 rfl (by decide) rfl ?_
    dsimp only [List.set]
    refine ev_goto (tgt := 24) dX20_leadTo_133 (by decide) ?_
    exact hK _ _ (by repeat' first | exact rfl | exact trivial | exact vz_eq (by omega) | refine And.intro ?_ ?_) hI3
  · obtain ⟨X, KR, hX, F2⟩ := hP2
    refine ev_iload dX20_leadTo_24 rfl ?_
    refine ev_if_leZ (tgt := 136) dX20_leadTo_26 (by decide) (by omega) (fun c26 => ?_) (fun c26 => by omega)
    refine ev_aload_n dX20_leadTo_136 rfl ?_
    refine ev_areturn dX20_leadTo_137 rfl (Or.inr ⟨_, rfl⟩) (Or.inr ⟨_, rfl⟩) ?_
    exact ⟨_, rfl, rq, X, rfl, KR, fun j x hj hx => by rw [hX j x hj hx]; unfold ldS; rw [if_pos (by omega)], F2, zr, hf 0 (by omega)⟩
end W3S

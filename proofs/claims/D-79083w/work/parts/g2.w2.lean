/-! THE COMPONENT: the planner, reachable (printed by gen) -/
section W2S
variable {g : GB} {M : MI} {d c k : Nat} {h : HM}
variable {I h0 J : HM} {o pa pl a st fo : Nat} {D : Dn} {L : PL}
/-- after m pairs of a place and a step, by the order σ: who is reached at the count k + 1 -/
def rcU (C R : Nat) (L : PL) (s0 : Nat) (σ : Nat → Nat) (k m x : Nat) : Bool := (List.range m).any fun n => rcP C R L s0 k (n / 5) && (decide (nbP C R (n / 5) (σ (n % 5)) = some x) && goP L k (n / 5) x)
theorem rcU_s (C R : Nat) (L : PL) (s0 : Nat) (σ : Nat → Nat) (k m x : Nat) : rcU C R L s0 σ k (m + 1) x = (rcU C R L s0 σ k m x || (rcP C R L s0 k (m / 5) && (decide (nbP C R (m / 5) (σ (m % 5)) = some x) && goP L k (m / 5) x))) := by
  unfold rcU
  rw [List.range_succ, List.any_append, List.any_cons, List.any_nil, Bool.or_false]
theorem rcU_0 (C R : Nat) (L : PL) (s0 : Nat) (σ : Nat → Nat) (k x : Nat) : rcU C R L s0 σ k 0 x = false := rfl
theorem rcU_no {C R : Nat} {L : PL} {s0 : Nat} {σ : Nat → Nat} {k p : Nat} (h : rcP C R L s0 k p = false) (x : Nat) : ∀ s, s ≤ 5 → rcU C R L s0 σ k (5 * p + s) x = rcU C R L s0 σ k (5 * p) x := by
  intro s
  induction s with
  | zero => intro _; rfl
  | succ s ih =>
    intro hs
    rw [show 5 * p + (s + 1) = (5 * p + s) + 1 by omega, rcU_s, ih (by omega), show (5 * p + s) / 5 = p by omega, h]
    simp
theorem rcU_all {C R s0 k x : Nat} {L : PL} {σ : Nat → Nat} (h1 : ∀ q, q < 5 → σ q < 5) (h2 : ∀ s, s < 5 → ∃ q, q < 5 ∧ σ q = s) : rcU C R L s0 σ k (5 * (C * R)) x = rcP C R L s0 (k + 1) x := by
  have key : rcU C R L s0 σ k (5 * (C * R)) x = true ↔ rcP C R L s0 (k + 1) x = true := by
    rw [rcP_iff]
    unfold rcU
    simp only [List.any_eq_true, List.mem_range, Bool.and_eq_true, decide_eq_true_eq]
    constructor
    · rintro ⟨n, a, b, c, d⟩
      exact ⟨n / 5, σ (n % 5), by omega, h1 _ (by omega), b, c, d⟩
    · rintro ⟨p, s, a, b, c, d, e⟩
      obtain ⟨q, q1, q2⟩ := h2 s b
      exact ⟨5 * p + q, by omega, by rw [show (5 * p + q) / 5 = p by omega]; exact c, by rw [show (5 * p + q) / 5 = p by omega, show (5 * p + q) % 5 = q by omega, q2]; exact d, by rw [show (5 * p + q) / 5 = p by omega]; exact e⟩
  cases h3 : rcU C R L s0 σ k (5 * (C * R)) x with
  | true => exact (key.mp h3).symm
  | false =>
    cases h4 : rcP C R L s0 (k + 1) x with
    | false => rfl
    | true => rw [key.mpr h4] at h3; cases h3
/-- the rows while they are filled -/
def rcS (C R : Nat) (L : PL) (s0 : Nat) (σ : Nat → Nat) (k m j x : Nat) : Bool := if j ≤ k then rcP C R L s0 j x else if j = k + 1 then rcU C R L s0 σ k m x else false
theorem rcS_next {C R s0 k j x : Nat} {L : PL} {σ : Nat → Nat} (h1 : ∀ q, q < 5 → σ q < 5) (h2 : ∀ s, s < 5 → ∃ q, q < 5 ∧ σ q = s) : rcS C R L s0 σ k (5 * (C * R)) j x = rcS C R L s0 σ (k + 1) 0 j x := by
  unfold rcS
  by_cases a : j ≤ k
  · rw [if_pos a, if_pos (by omega)]
  · by_cases b : j = k + 1
    · rw [if_neg a, if_pos b, if_pos (by omega), rcU_all h1 h2, b]
    · rw [if_neg a, if_neg b, if_neg (by omega)]
      split
      · rw [rcU_0]
      · rfl
/-- one step more -/
theorem rcS_put {C R s0 k p s j x : Nat} {L : PL} {σ : Nat → Nat} (hs : s < 5) (hr : rcP C R L s0 k p = true) (c : Bool) (to : Option Nat) (hto : nbP C R p (σ s) = to) (hc : ∀ y, to = some y → c = goP L k p y) (hn : to = none → c = false) : rcS C R L s0 σ k (5 * p + (s + 1)) j x = (rcS C R L s0 σ k (5 * p + s) j x || (decide (j = k + 1) && (decide (to = some x) && c))) := by
  unfold rcS
  by_cases a : j ≤ k
  · rw [if_pos a, if_pos a, decide_eq_false (show ¬ j = k + 1 by omega)]; simp
  · by_cases b : j = k + 1
    · rw [if_neg a, if_pos b, if_neg a, if_pos b, show 5 * p + (s + 1) = (5 * p + s) + 1 by omega, rcU_s, show (5 * p + s) / 5 = p by omega, show (5 * p + s) % 5 = s by omega, hr, hto, decide_eq_true b, Bool.true_and, Bool.true_and]
      congr 1
      by_cases d : to = some x
      · rw [hc x d]
      · rw [decide_eq_false d]; rfl
    · rw [if_neg a, if_neg b, if_neg a, if_neg b, decide_eq_false b]; rfl
/-- n rows of bools behind a row of rows -/
def RcH (g : GB) (h : HM) (rq n N : Nat) (X : Nat → Nat → Int) : Prop := h rq = some (.inl (8, (n, .inr (.inr (.inr (.inr (fun j => if j < n then some (rq + 1 + j) else none))))))) ∧ gB g ≤ rq ∧ ∀ k : Nat, k < n → h (rq + 1 + k) = some (.inl (1, (N, .inl (fun j => zI (X k j)))))
theorem RcH.set {h h' : HM} {rq n N k x : Nat} {X : Nat → Nat → Int} {v : Int} (K : RcH g h rq n N X) (hk : k < n) (h1 : h' (rq + 1 + k) = some (.inl (1, (N, .inl (fun j => zI (uz (X k) x v j)))))) (h2 : ∀ q : Nat, q ≠ rq + 1 + k → h' q = h q) : RcH g h' rq n N (fun j => if j = k then uz (X k) x v else X j) := by
  obtain ⟨k1, k2, k3⟩ := K
  refine ⟨(h2 _ (by omega)).trans k1, k2, fun j hj => ?_⟩
  by_cases e : j = k
  · subst e
    show h' (rq + 1 + j) = some (.inl (1, (N, .inl (fun i => zI ((if j = j then uz (X j) x v else X j) i)))))
    rw [if_pos rfl]; exact h1
  · show h' (rq + 1 + j) = some (.inl (1, (N, .inl (fun i => zI ((if j = k then uz (X k) x v else X j) i)))))
    rw [if_neg e]; exact (h2 _ (by omega)).trans (k3 j hj)
theorem nesw_get : ∀ s : Fin 5, (strB "nesw.")[s.val]? = some (sgN (stO s.val)) := by decide +kernel
theorem stO_4 {s : Nat} : stO s ≤ 4 := by unfold stO; repeat' split
                                          all_goals omega
theorem nbI_b {C R p s : Nat} (hC : 2 ≤ C ∧ C ≤ 9) (hR : 2 ≤ R ∧ R ≤ 9) : -1 ≤ nbI C R p s ∧ nbI C R p s < 1000 := by
  unfold nbI
  cases h : nbP C R p s with
  | none => show -1 ≤ (-1 : Int) ∧ (-1 : Int) < 1000; omega
  | some x =>
    have h1 := nbP_lt (by omega) h
    have h2 : C * R ≤ 9 * 9 := Nat.mul_le_mul hC.2 hR.2
    show -1 ≤ ((x : Nat) : Int) ∧ ((x : Nat) : Int) < 1000
    omega
set_option maxRecDepth 100000 in
set_option maxHeartbeats 4000000 in
theorem rch_inner {kk : Nat} {Q : RS → HM → Prop} (hG : GKx g) (K0 : KC g h0) (hSI : Sub I h0) (K : PnC h0 o pa pl a L) (H : DnC g I h0 a st fo D) (hfb : ∀ (e : Nat) (f : Nat → Nat) (k : Nat), e < 8 → L e = some f → k ≤ 20 → f k < 1000) (hco : 2 ≤ D.1.1 ∧ D.1.1 ≤ 9) (hro : 2 ≤ D.1.2 ∧ D.1.2 ≤ 9) {rq s0 k p : Nat} (zr : ∀ j, j < 21 → h0 (rq + 1 + j) = none) (hk : k < 20) (hp : p < (D.1.1 * D.1.2)) (hrp : rcP D.1.1 D.1.2 L s0 k p = true) {z6 : Option Value} {h : HM} (hI : (∃ X : Nat → Nat → Int, RcH g h rq 21 (D.1.1 * D.1.2) X ∧ (∀ j x : Nat, j < 21 → x < (D.1.1 * D.1.2) → X j x = bI (rcS D.1.1 D.1.2 L s0 stO (k) (5 * p) j x)) ∧ Fr g h0 h [])) (hd : 8 ≤ d) (hN : ∀ (h' : HM) (z5 z6 : Option Value), (∃ X : Nat → Nat → Int, RcH g h' rq 21 (D.1.1 * D.1.2) X ∧ (∀ j x : Nat, j < 21 → x < (D.1.1 * D.1.2) → X j x = bI (rcS D.1.1 D.1.2 L s0 stO (k) (5 * (p + 1)) j x)) ∧ Fr g h0 h' []) → Ev g mX20_reachable d c kk Q 107 [some (.ref o), some (vz ((s0 : Nat) : Int)), some (.ref rq), some (vz ((k + 1 : Nat) : Int)), some (vz ((p : Nat) : Int)), z5, z6] [] h') : Ev g mX20_reachable d c kk Q 46 [some (.ref o), some (vz ((s0 : Nat) : Int)), some (.ref rq), some (vz ((k + 1 : Nat) : Int)), some (vz ((p : Nat) : Int)), some (vz 0), z6] [] h := by
  refine ev_for (st := []) 5 (fun s h2 => (∃ X : Nat → Nat → Int, RcH g h2 rq 21 (D.1.1 * D.1.2) X ∧ (∀ j x : Nat, j < 21 → x < (D.1.1 * D.1.2) → X j x = bI (rcS D.1.1 D.1.2 L s0 stO (k) (5 * p + s) j x)) ∧ Fr g h0 h2 [])) (fun s => [some (.ref o), some (vz ((s0 : Nat) : Int)), some (.ref rq), some (vz ((k + 1 : Nat) : Int)), some (vz ((p : Nat) : Int)), some (vz ((s : Nat) : Int)), none]) 0 (Nat.zero_le _) hI (by repeat' first | exact rfl | exact trivial | exact vz_eq (by omega) | refine And.intro ?_ ?_) (fun s h2 _ hs hP2 hK => ?_) (fun h2 hP2 => ?_)
  · obtain ⟨X, KR, hX, F2⟩ := hP2
    have KP := K.fr0 F2
    have HD := H.fr F2 (fun x hx => by cases hx)
    obtain ⟨K1, -⟩ := id KP
    obtain ⟨A, B, pv, sv, KD, hA, hB9, hV⟩ := id HD
    obtain ⟨k1, k2, k3, k4, k5, k6, k7, k8⟩ := id KD
    have hST : STh h2 (g.2.2.2.2 19) (g.2.2.2.2 43) (strB "nesw.") := ((K0.fr F2).2.2.1 19 _ rfl).1
    obtain ⟨sA, sx, sy, hs1, -⟩ := id hST
    obtain ⟨r1, r2, r3⟩ := id KR
    have r3k := r3 k (by omega)
    have hNN : D.1.1 * D.1.2 ≤ 9 * 9 := Nat.mul_le_mul hco.2 hro.2
    have hl5 : (strB "nesw.").length = 5 := by decide
    refine ev_iload dX20_reachable_46 rfl ?_
    refine ev_ldcS (i := 19) hG dX20_reachable_48 rfl ?_
    refine ev_callVE dX20_reachable_50 cv_X20_73_J7 ce_J7_length hs1 rfl rfl rfl (st_length hST hG) (by omega) (Nat.le_of_ble_eq_true rfl) ?_
    refine ev_icmp_geZ (tgt := 107) dX20_reachable_53 (by decide) (by omega) (by omega) (fun c53 => by omega) (fun c53 => ?_)
    refine ev_aload_n dX20_reachable_56 rfl ?_
    refine ev_iload_n dX20_reachable_57 rfl ?_
    refine ev_iconstZ dX20_reachable_58 ?_
    refine ev_isubZ dX20_reachable_59 ?_
    refine ev_aaldY (v := .ref (rq + 1 + k)) dX20_reachable_60 r1 rfl rfl (by omega) (by rw [show ((((k + 1 : Nat)) : Int) - 1).toNat = k by omega, if_pos (by omega)]; rfl) ?_
    refine ev_iload dX20_reachable_61 rfl ?_
    refine ev_zaldY dX20_reachable_63 r3k (by omega) ?_
    rw [Int.toNat_natCast, hX k p (by omega) hp]
    rw [show rcS D.1.1 D.1.2 L s0 stO k (5 * p + s) k p = rcP D.1.1 D.1.2 L s0 k p from if_pos (Nat.le_refl _)]
    refine ev_if_eqB (tgt := 107) dX20_reachable_64 (by decide) (fun c64 => by rw [hrp] at c64; cases c64) (fun c64 => ?_)
    refine ev_aload_n dX20_reachable_67 rfl ?_
    refine ev_iload dX20_reachable_68 rfl ?_
    refine ev_ldcS (i := 19) hG dX20_reachable_70 rfl ?_
    refine ev_iload dX20_reachable_72 rfl ?_
    refine ev_callVE dX20_reachable_74 cv_X20_77_J7 ce_J7_charAt hs1 rfl rfl rfl (st_charAt hST hG (by omega) (by rw [Int.toNat_natCast]; exact nesw_get ⟨s, by omega⟩)) (by omega) (Nat.le_of_ble_eq_true rfl) ?_
    refine ev_callVE dX20_reachable_77 cv_X20_81_X20 ce_X20_neighbor K1 rfl rfl rfl (k_nb20 (p := p) (s := stO s) K1 HD hco hro stO_4 (by omega)) (by omega) (Nat.le_of_ble_eq_true rfl) ?_
    refine ev_istore dX20_reachable_80 (by decide) rfl ?_
    dsimp only [List.set]
    refine ev_aload_n dX20_reachable_82 rfl ?_
    refine ev_iload dX20_reachable_83 rfl ?_
    refine ev_iload dX20_reachable_85 rfl ?_
    refine ev_iload_n dX20_reachable_87 rfl ?_
    refine ev_callVE dX20_reachable_88 cv_X20_61_X20 ce_X20_canGo K1 rfl rfl rfl (k_canGo (d := 0) (p := ((p : Nat) : Int)) (x := nbI D.1.1 D.1.2 p (stO s)) (k0 := k) KP (by omega) (nbI_b hco hro) (by omega) hfb) (by omega) (Nat.le_of_ble_eq_true rfl) ?_
    refine ev_if_eqB (tgt := 101) dX20_reachable_91 (by decide) (fun c91 => ?_) (fun c91 => ?_)
    · refine ev_iincZ dX20_reachable_101 rfl (by decide) rfl ?_
      dsimp only [List.set]
      refine ev_goto (tgt := 46) dX20_reachable_104 (by decide) ?_
      refine hK _ _ (by repeat' first | exact rfl | exact trivial | exact vz_eq (by omega) | refine And.intro ?_ ?_) ⟨X, KR, fun j x hj hx => ?_, F2⟩
      rw [hX j x hj hx]
      rw [rcS_put (σ := stO) (to := nbP D.1.1 D.1.2 p (stO s)) (c := false) hs hrp rfl (fun y' e => by have e9 := c91; unfold nbI at e9; rw [e] at e9; rw [← gnI_go]; exact e9.symm) (fun _ => rfl)]
      simp
    · obtain ⟨y, hy⟩ : ∃ y, nbP D.1.1 D.1.2 p (stO s) = some y := by
        cases e : nbP D.1.1 D.1.2 p (stO s) with
        | none => unfold nbI at c91; rw [e] at c91; rw [gnI_no] at c91; cases c91
        | some y => exact ⟨y, rfl⟩
      have hnI : nbI D.1.1 D.1.2 p (stO s) = ((y : Nat) : Int) := by unfold nbI; rw [hy]
      rw [hnI] at c91
      have hyl := nbP_lt (by omega) hy
      refine ev_aload_n dX20_reachable_94 rfl ?_
      refine ev_iload_n dX20_reachable_95 rfl ?_
      refine ev_aaldY (v := .ref (rq + 1 + (k + 1))) dX20_reachable_96 r1 rfl rfl (by omega) (by rw [Int.toNat_natCast, if_pos (by omega)]; rfl) ?_
      refine ev_iload dX20_reachable_97 rfl ?_
      refine ev_iconstZ dX20_reachable_99 ?_
      rw [hnI]
      refine ev_zastY dX20_reachable_100 (r3 (k + 1) (by omega)) (by omega) ⟨by omega, by omega, by omega⟩ (by omega) (fun h3 hn3 fr3 => ?_)
      refine ev_iincZ dX20_reachable_101 rfl (by decide) rfl ?_
      dsimp only [List.set]
      refine ev_goto (tgt := 46) dX20_reachable_104 (by decide) ?_
      refine hK _ _ (by repeat' first | exact rfl | exact trivial | exact vz_eq (by omega) | refine And.intro ?_ ?_) ⟨_, RcH.set KR (by omega) hn3 fr3, fun j x hj hx => ?_, F2.writeN (Or.inr ⟨_, hn3, Nat.le_of_ble_eq_true rfl⟩) fr3 (zr (k + 1) (by omega))⟩
      rw [rcS_put (σ := stO) (to := some y) (c := true) hs hrp hy (fun y' e => by cases e; rw [← gnI_go]; exact c91.symm) (fun e => by cases e)]
      by_cases e1 : j = k + 1
      · subst e1
        rw [if_pos rfl]
        unfold uz
        rw [Int.toNat_natCast]
        by_cases e2 : x = y
        · rw [if_pos e2, e2]; simp [bI]
        · rw [if_neg e2, hX _ x (by omega) hx]; simp [Ne.symm e2, show ¬ y = x from fun q => e2 q.symm]
      · rw [if_neg e1, hX j x hj hx]; simp [e1]
  · obtain ⟨X, KR, hX, F2⟩ := hP2
    have KP := K.fr0 F2
    have HD := H.fr F2 (fun x hx => by cases hx)
    obtain ⟨K1, -⟩ := id KP
    obtain ⟨A, B, pv, sv, KD, hA, hB9, hV⟩ := id HD
    obtain ⟨k1, k2, k3, k4, k5, k6, k7, k8⟩ := id KD
    have hST : STh h2 (g.2.2.2.2 19) (g.2.2.2.2 43) (strB "nesw.") := ((K0.fr F2).2.2.1 19 _ rfl).1
    obtain ⟨sA, sx, sy, hs1, -⟩ := id hST
    obtain ⟨r1, r2, r3⟩ := id KR
    have r3k := r3 k (by omega)
    have hNN : D.1.1 * D.1.2 ≤ 9 * 9 := Nat.mul_le_mul hco.2 hro.2
    have hl5 : (strB "nesw.").length = 5 := by decide
    refine ev_iload dX20_reachable_46 rfl ?_
    refine ev_ldcS (i := 19) hG dX20_reachable_48 rfl ?_
    refine ev_callVE dX20_reachable_50 cv_X20_73_J7 ce_J7_length hs1 rfl rfl rfl (st_length hST hG) (by omega) (Nat.le_of_ble_eq_true rfl) ?_
    refine ev_icmp_geZ (tgt := 107) dX20_reachable_53 (by decide) (by omega) (by omega) (fun c53 => ?_) (fun c53 => by omega)
    exact hN h2 _ _ ⟨X, KR, hX, F2⟩
set_option maxRecDepth 100000 in
set_option maxHeartbeats 4000000 in
theorem rch_mid {kk : Nat} {Q : RS → HM → Prop} (hG : GKx g) (K0 : KC g h0) (hSI : Sub I h0) (K : PnC h0 o pa pl a L) (H : DnC g I h0 a st fo D) (hfb : ∀ (e : Nat) (f : Nat → Nat) (k : Nat), e < 8 → L e = some f → k ≤ 20 → f k < 1000) (hco : 2 ≤ D.1.1 ∧ D.1.1 ≤ 9) (hro : 2 ≤ D.1.2 ∧ D.1.2 ≤ 9) {rq s0 k : Nat} (zr : ∀ j, j < 21 → h0 (rq + 1 + j) = none) (hk : k < 20) {z5 z6 : Option Value} {h : HM} (hI : (∃ X : Nat → Nat → Int, RcH g h rq 21 (D.1.1 * D.1.2) X ∧ (∀ j x : Nat, j < 21 → x < (D.1.1 * D.1.2) → X j x = bI (rcS D.1.1 D.1.2 L s0 stO (k) (0) j x)) ∧ Fr g h0 h [])) (hd : 8 ≤ d) (hN : ∀ (h' : HM) (z4 z5 z6 : Option Value), (∃ X : Nat → Nat → Int, RcH g h' rq 21 (D.1.1 * D.1.2) X ∧ (∀ j x : Nat, j < 21 → x < (D.1.1 * D.1.2) → X j x = bI (rcS D.1.1 D.1.2 L s0 stO ((k + 1)) (0) j x)) ∧ Fr g h0 h' []) → Ev g mX20_reachable d c kk Q 113 [some (.ref o), some (vz ((s0 : Nat) : Int)), some (.ref rq), some (vz ((k + 1 : Nat) : Int)), z4, z5, z6] [] h') : Ev g mX20_reachable d c kk Q 31 [some (.ref o), some (vz ((s0 : Nat) : Int)), some (.ref rq), some (vz ((k + 1 : Nat) : Int)), some (vz 0), z5, z6] [] h := by
  have hl5 : (strB "nesw.").length = 5 := by decide
  refine ev_for (st := []) (D.1.1 * D.1.2) (fun p h2 => (∃ X : Nat → Nat → Int, RcH g h2 rq 21 (D.1.1 * D.1.2) X ∧ (∀ j x : Nat, j < 21 → x < (D.1.1 * D.1.2) → X j x = bI (rcS D.1.1 D.1.2 L s0 stO (k) (5 * p) j x)) ∧ Fr g h0 h2 [])) (fun p => [some (.ref o), some (vz ((s0 : Nat) : Int)), some (.ref rq), some (vz ((k + 1 : Nat) : Int)), some (vz ((p : Nat) : Int)), none, none]) 0 (Nat.zero_le _) hI (by repeat' first | exact rfl | exact trivial | exact vz_eq (by omega) | refine And.intro ?_ ?_) (fun p h2 _ hp hP2 hK => ?_) (fun h2 hP2 => ?_)
  · obtain ⟨X, KR, hX, F2⟩ := hP2
    have KP := K.fr0 F2
    have HD := H.fr F2 (fun x hx => by cases hx)
    obtain ⟨K1, -⟩ := id KP
    obtain ⟨A, B, pv, sv, KD, hA, hB9, hV⟩ := id HD
    obtain ⟨k1, k2, k3, k4, k5, k6, k7, k8⟩ := id KD
    have hST : STh h2 (g.2.2.2.2 19) (g.2.2.2.2 43) (strB "nesw.") := ((K0.fr F2).2.2.1 19 _ rfl).1
    obtain ⟨sA, sx, sy, hs1, -⟩ := id hST
    obtain ⟨r1, r2, r3⟩ := id KR
    have r3k := r3 k (by omega)
    have hNN : D.1.1 * D.1.2 ≤ 9 * 9 := Nat.mul_le_mul hco.2 hro.2
    have hl5 : (strB "nesw.").length = 5 := by decide
    have hmul : ((D.1.1 : Nat) : Int) * ((D.1.2 : Nat) : Int) = ((D.1.1 * D.1.2 : Nat) : Int) := by rw [Int.natCast_mul]
    by_cases hrp : rcP D.1.1 D.1.2 L s0 k p = true
    · refine ev_iload dX20_reachable_31 rfl ?_
      refine ev_aload_n dX20_reachable_33 rfl ?_
      refine ev_getf dX20_reachable_34 gf_X20_3_X20 K1 rfl ?_
      refine ev_callVE dX20_reachable_37 cv_X20_65_X2 ce_X2_places k1 rfl rfl rfl (k_placesX2 (d := 0) HD) (by omega) (Nat.le_of_ble_eq_true rfl) ?_
      rw [hmul]
      refine ev_icmp_geZ (tgt := 113) dX20_reachable_40 (by decide) (by omega) (by omega) (fun c40 => by omega) (fun c40 => ?_)
      refine ev_iconstZ dX20_reachable_43 ?_
      refine ev_istore dX20_reachable_44 (by decide) rfl ?_
      dsimp only [List.set]
      refine rch_inner hG K0 hSI K H hfb hco hro zr hk hp hrp ⟨X, KR, hX, F2⟩ hd (fun h3 z5 z6 hI3 => ?_)
      refine ev_iincZ dX20_reachable_107 rfl (by decide) rfl ?_
      dsimp only [List.set]
      refine ev_goto (tgt := 31) dX20_reachable_110 (by decide) ?_
      exact hK _ _ (by repeat' first | exact rfl | exact trivial | exact vz_eq (by omega) | refine And.intro ?_ ?_) hI3
    · have hrp := Bool.eq_false_iff.mpr hrp
      refine ev_iload dX20_reachable_31 rfl ?_
      refine ev_aload_n dX20_reachable_33 rfl ?_
      refine ev_getf dX20_reachable_34 gf_X20_3_X20 K1 rfl ?_
      refine ev_callVE dX20_reachable_37 cv_X20_65_X2 ce_X2_places k1 rfl rfl rfl (k_placesX2 (d := 0) HD) (by omega) (Nat.le_of_ble_eq_true rfl) ?_
      rw [hmul]
      refine ev_icmp_geZ (tgt := 113) dX20_reachable_40 (by decide) (by omega) (by omega) (fun c40 => by omega) (fun c40 => ?_)
      refine ev_iconstZ dX20_reachable_43 ?_
      refine ev_istore dX20_reachable_44 (by decide) rfl ?_
      dsimp only [List.set]
      refine ev_iload dX20_reachable_46 rfl ?_
      refine ev_ldcS (i := 19) hG dX20_reachable_48 rfl ?_
      refine ev_callVE dX20_reachable_50 cv_X20_73_J7 ce_J7_length hs1 rfl rfl rfl (st_length hST hG) (by omega) (Nat.le_of_ble_eq_true rfl) ?_
      refine ev_icmp_geZ (tgt := 107) dX20_reachable_53 (by decide) (by omega) (by omega) (fun c53 => by omega) (fun c53 => ?_)
      refine ev_aload_n dX20_reachable_56 rfl ?_
      refine ev_iload_n dX20_reachable_57 rfl ?_
      refine ev_iconstZ dX20_reachable_58 ?_
      refine ev_isubZ dX20_reachable_59 ?_
      refine ev_aaldY (v := .ref (rq + 1 + k)) dX20_reachable_60 r1 rfl rfl (by omega) (by rw [show ((((k + 1 : Nat)) : Int) - 1).toNat = k by omega, if_pos (by omega)]; rfl) ?_
      refine ev_iload dX20_reachable_61 rfl ?_
      refine ev_zaldY dX20_reachable_63 r3k (by omega) ?_
      rw [Int.toNat_natCast, hX k p (by omega) hp]
      rw [show rcS D.1.1 D.1.2 L s0 stO k (5 * p) k p = rcP D.1.1 D.1.2 L s0 k p from if_pos (Nat.le_refl _)]
      refine ev_if_eqB (tgt := 107) dX20_reachable_64 (by decide) (fun c64 => ?_) (fun c64 => by rw [hrp] at c64; cases c64)
      have hI3 : (∃ X : Nat → Nat → Int, RcH g h2 rq 21 (D.1.1 * D.1.2) X ∧ (∀ j x : Nat, j < 21 → x < (D.1.1 * D.1.2) → X j x = bI (rcS D.1.1 D.1.2 L s0 stO (k) (5 * (p + 1)) j x)) ∧ Fr g h0 h2 []) := ⟨X, KR, fun j x hj hx => by rw [hX j x hj hx]; unfold rcS; rw [show 5 * (p + 1) = 5 * p + 5 by omega, rcU_no hrp x 5 (Nat.le_refl _)], F2⟩
      refine ev_iincZ dX20_reachable_107 rfl (by decide) rfl ?_
      dsimp only [List.set]
      refine ev_goto (tgt := 31) dX20_reachable_110 (by decide) ?_
      exact hK _ _ (by repeat' first | exact rfl | exact trivial | exact vz_eq (by omega) | refine And.intro ?_ ?_) hI3
  · obtain ⟨X, KR, hX, F2⟩ := hP2
    have KP := K.fr0 F2
    have HD := H.fr F2 (fun x hx => by cases hx)
    obtain ⟨K1, -⟩ := id KP
    obtain ⟨A, B, pv, sv, KD, hA, hB9, hV⟩ := id HD
    obtain ⟨k1, k2, k3, k4, k5, k6, k7, k8⟩ := id KD
    have hST : STh h2 (g.2.2.2.2 19) (g.2.2.2.2 43) (strB "nesw.") := ((K0.fr F2).2.2.1 19 _ rfl).1
    obtain ⟨sA, sx, sy, hs1, -⟩ := id hST
    obtain ⟨r1, r2, r3⟩ := id KR
    have r3k := r3 k (by omega)
    have hNN : D.1.1 * D.1.2 ≤ 9 * 9 := Nat.mul_le_mul hco.2 hro.2
    have hl5 : (strB "nesw.").length = 5 := by decide
    have hmul : ((D.1.1 : Nat) : Int) * ((D.1.2 : Nat) : Int) = ((D.1.1 * D.1.2 : Nat) : Int) := by rw [Int.natCast_mul]
    refine ev_iload dX20_reachable_31 rfl ?_
    refine ev_aload_n dX20_reachable_33 rfl ?_
    refine ev_getf dX20_reachable_34 gf_X20_3_X20 K1 rfl ?_
    refine ev_callVE dX20_reachable_37 cv_X20_65_X2 ce_X2_places k1 rfl rfl rfl (k_placesX2 (d := 0) HD) (by omega) (Nat.le_of_ble_eq_true rfl) ?_
    rw [hmul]
    refine ev_icmp_geZ (tgt := 113) dX20_reachable_40 (by decide) (by omega) (by omega) (fun c40 => ?_) (fun c40 => by omega)
    exact hN h2 _ _ _ ⟨X, KR, fun j x hj hx => by rw [hX j x hj hx, rcS_next (fun q hq => stO_lt hq) (fun s hs => stO_surj hs)], F2⟩
set_option maxRecDepth 100000 in
set_option maxHeartbeats 4000000 in
theorem k_reach20 (hG : GKx g) (K0 : KC g h0) (hSI : Sub I h0) (K : PnC h0 o pa pl a L) (H : DnC g I h0 a st fo D) (hfb : ∀ (e : Nat) (f : Nat → Nat) (k : Nat), e < 8 → L e = some f → k ≤ 20 → f k < 1000) (hco : 2 ≤ D.1.1 ∧ D.1.1 ≤ 9) (hro : 2 ≤ D.1.2 ∧ D.1.2 ≤ 9) {s0 : Nat} (hs0 : s0 < (D.1.1 * D.1.2)) (hd : 8 ≤ d) (hc : 22 ≤ c) (hk : 1722 ≤ k) : Kc g mX20_reachable d (c) (k) [.ref o, vz ((s0 : Nat) : Int)] h0 (rR (fun v h' => ∃ (rq : Nat) (X : Nat → Nat → Int), v = some (.ref rq) ∧ RcH g h' rq 21 (D.1.1 * D.1.2) X ∧ (∀ j x : Nat, j < 21 → x < (D.1.1 * D.1.2) → X j x = bI (rcP D.1.1 D.1.2 L s0 j x)) ∧ Fr g h0 h' [] ∧ (∀ j, j < 21 → h0 (rq + 1 + j) = none) ∧ h0 rq = none)) := by
  refine Kc.of (ls := [some (.ref o), some (vz ((s0 : Nat) : Int)), none, none, none, none, none]) (by decide +kernel) (Nat.le_of_ble_eq_true rfl) rfl ?_
  have HD := H
  have hNN : D.1.1 * D.1.2 ≤ 9 * 9 := Nat.mul_le_mul hco.2 hro.2
  have hmul : ((D.1.1 : Nat) : Int) * ((D.1.2 : Nat) : Int) = ((D.1.1 * D.1.2 : Nat) : Int) := by rw [Int.natCast_mul]
  obtain ⟨K1, -⟩ := id K
  obtain ⟨A, B, pv, sv, KD, hA, hB9, hV⟩ := id H
  obtain ⟨k1, k2, k3, k4, k5, k6, k7, k8⟩ := id KD
  refine ev_bipushZ dX20_reachable_0 rfl ?_
  refine ev_aload_n dX20_reachable_2 rfl ?_
  refine ev_getf dX20_reachable_3 gf_X20_3_X20 K1 rfl ?_
  refine ev_callVE dX20_reachable_6 cv_X20_65_X2 ce_X2_places k1 rfl rfl rfl (k_placesX2 (d := 0) HD) (by omega) (Nat.le_of_ble_eq_true rfl) ?_
  rw [hmul]
  refine ev_multiY (ty := .boolean) (t := 8) (u := 1) (N := 21) (K := (D.1.1 * D.1.2)) (c' := c - 22) (k' := k - (21 + 21 * (D.1.1 * D.1.2))) hG dX20_reachable_9 (by rw [show "[" ++ (FieldType.array .boolean).toString = "[[Z" by decide +kernel]; exact q2595) q2596 q2661 rfl rfl (by decide) (by decide) (by decide) rfl ⟨by omega, by omega⟩ (by omega) (by omega) (by omega) (by omega) (by omega) (fun rq h2 hf hsB hss hrow hold => ?_)
  have F1 : Fr g h0 h2 [] := Fr.grow hold
  have zr : ∀ j, j < 21 → h0 (rq + 1 + j) = none := fun j hj => by rw [Nat.add_assoc]; exact hf (1 + j) (by omega)
  refine ev_astore_n dX20_reachable_13 (by decide) rfl ?_
  dsimp only [List.set]
  refine ev_aload_n dX20_reachable_14 rfl ?_
  refine ev_iconstZ dX20_reachable_15 ?_
  refine ev_aaldY (v := .ref (rq + 1 + 0)) dX20_reachable_16 hss rfl rfl (by omega) (by rw [if_pos (by decide)]; rfl) ?_
  refine ev_iload_n dX20_reachable_17 rfl ?_
  refine ev_iconstZ dX20_reachable_18 ?_
  refine ev_zastY dX20_reachable_19 (hrow 0 (by omega)) (by omega) ⟨by omega, by omega, by omega⟩ (by omega) (fun h3 hn3 fr3 => ?_)
  refine ev_iconstZ dX20_reachable_20 ?_
  refine ev_istore_n dX20_reachable_21 (by decide) rfl ?_
  dsimp only [List.set]
  have KR0 : RcH g h2 rq 21 (D.1.1 * D.1.2) (fun _ _ => 0) := ⟨hss, hsB, hrow⟩
  have hI0 : (∃ X : Nat → Nat → Int, RcH g h3 rq 21 (D.1.1 * D.1.2) X ∧ (∀ j x : Nat, j < 21 → x < (D.1.1 * D.1.2) → X j x = bI (rcS D.1.1 D.1.2 L s0 stO (0) (0) j x)) ∧ Fr g h0 h3 []) := ⟨_, RcH.set KR0 (by omega) hn3 fr3, fun j x hj hx => by
      rw [Int.toNat_natCast]
      unfold rcS uz
      by_cases e1 : j = 0
      · subst e1; rw [if_pos rfl, if_pos (Nat.le_refl _)]; show (if x = s0 then (1 : Int) else 0) = bI (decide (x = s0)); by_cases e2 : x = s0
        · rw [if_pos e2, decide_eq_true e2]; rfl
        · rw [if_neg e2, decide_eq_false e2]; rfl
      · rw [if_neg e1, if_neg (by omega), rcU_0]; split <;> rfl, F1.writeN (Or.inr ⟨_, hn3, Nat.le_of_ble_eq_true rfl⟩) fr3 (zr 0 (by omega))⟩
  refine ev_for (st := []) 20 (fun k h2 => (∃ X : Nat → Nat → Int, RcH g h2 rq 21 (D.1.1 * D.1.2) X ∧ (∀ j x : Nat, j < 21 → x < (D.1.1 * D.1.2) → X j x = bI (rcS D.1.1 D.1.2 L s0 stO (k) (0) j x)) ∧ Fr g h0 h2 [])) (fun k => [some (.ref o), some (vz ((s0 : Nat) : Int)), some (.ref rq), some (vz ((k + 1 : Nat) : Int)), none, none, none]) 0 (Nat.zero_le _) hI0 (by repeat' first | exact rfl | exact trivial | exact vz_eq (by omega) | refine And.intro ?_ ?_) (fun k h2 _ hk hP2 hK => ?_) (fun h2 hP2 => ?_)
  · refine ev_iload_n dX20_reachable_22 rfl ?_
    refine ev_bipushZ dX20_reachable_23 rfl ?_
    refine ev_icmp_gtZ (tgt := 119) dX20_reachable_25 (by decide) (by omega) (by omega) (fun c25 => by omega) (fun c25 => ?_)
    refine ev_iconstZ dX20_reachable_28 ?_
    refine ev_istore dX20_reachable_29 (by decide) rfl ?_
    dsimp only [List.set]
    refine rch_mid hG K0 hSI K H hfb hco hro zr hk hP2 (by omega) (fun h3 z4 z5 z6 hI3 => ?_)
    refine ev_iincZ dX20_reachable_113 rfl (by decide) rfl ?_
    dsimp only [List.set]
    refine ev_goto (tgt := 22) dX20_reachable_116 (by decide) ?_
    exact hK _ _ (by repeat' first | exact rfl | exact trivial | exact vz_eq (by omega) | refine And.intro ?_ ?_) hI3
  · obtain ⟨X, KR, hX, F2⟩ := hP2
    refine ev_iload_n dX20_reachable_22 rfl ?_
    refine ev_bipushZ dX20_reachable_23 rfl ?_
    refine ev_icmp_gtZ (tgt := 119) dX20_reachable_25 (by decide) (by omega) (by omega) (fun c25 => ?_) (fun c25 => by omega)
    refine ev_aload_n dX20_reachable_119 rfl ?_
    refine ev_areturn dX20_reachable_120 rfl (Or.inr ⟨_, rfl⟩) (Or.inr ⟨_, rfl⟩) ?_
    exact ⟨_, rfl, rq, X, rfl, KR, fun j x hj hx => by rw [hX j x hj hx]; unfold rcS; rw [if_pos (by omega)], F2, zr, hf 0 (by omega)⟩
end W2S

/-! what a plan makes of a piece (pure; printed by gen/mkz_0.py) -/
section Z0S
/-- a path as a phrase -/
def plD (y : Nat × List Nat) : Nd := (0, 0, 0, [y.1], y.2)
/-- the plan's layer -/
def layY (ys : List (Nat × List Nat)) : List Nd := if ys.length = 1 then ys.map plD else (6, 0, ys.length, [], []) :: ys.map plD
def longY (ys : List (Nat × List Nat)) : Nat := (ys.map (fun y => y.2.length)).foldl max 0
/-- the piece with the plan behind it -/
def nxP (l : List Nd) (ys : List (Nat × List Nat)) : List Nd := wthL (7, 0, wthN l, [], []) l (layY ys)
def opPlan (σ : Sp) (f : Int) : Rs := if 0 ≤ f ∧ f ≤ 3 then withP σ 2 (fun l => if (prL σ.1 (mean l) 0).length ≠ 0 then (2, 0, wReason σ 4) else match plN σ.1 (mean l) f.toNat 8 with
  | none => (2, 0, wReason σ 5)
  | some x => if x.2.length = 0 then (2, 0, wReason σ 6) else if (mean l).1.1 + longY x.2 > 99 ∨ 20 < depV (nxP l x.2) then (2, 0, wReason σ 7) else (0, (longY x.2 : Nat), keepSp σ (wPiece σ.1 (nxP l x.2)))) else (1, 0, σ)
/-- the plan's paths are all right -/
def ysOk (ys : List (Nat × List Nat)) : Prop := 1 ≤ ys.length ∧ ys.length ≤ 8 ∧ (∀ y ∈ ys, y.1 < 8 ∧ 1 ≤ y.2.length ∧ y.2.length ≤ 20 ∧ ∀ s ∈ y.2, s ≤ 4) ∧ (ys.map (fun y => y.1)).Nodup
theorem sem_plD {y : Nat × List Nat} (h : y.2.length ≤ 99) : ∃ P : Pt, sem [plD y] = .ok P ∧ P.1 = (y.2.length, 1 <<< y.1, 1, 0) := by
  have e := sem_node (n := 1) (nd := plD y) (cs := []) rfl (fun c hc => by cases hc)
  have e2 : sem [plD y] = leafE (plD y) := e
  rw [e2]
  have t : twl [y.1] = (0, 1 <<< y.1) := by
    show (0 ||| (0 &&& 1 <<< y.1), 0 ||| 1 <<< y.1) = _
    rw [Nat.zero_and, Nat.zero_or, Nat.zero_or]
  have hl : lsz (plD y) = y.2.length := by
    show y.2.length + offN (plD y) * (1 - 1) = _
    rw [Nat.sub_self, Nat.mul_zero, Nat.add_zero]
  unfold leafE
  rw [if_neg (by show ¬ (0 : Nat) = 2; decide)]
  rw [show (plD y).2.2.2.1 = [y.1] from rfl, t, if_neg (by simp), hl, if_neg (by omega)]
  exact ⟨_, rfl, rfl⟩
theorem bit_shl (x e : Nat) : (1 <<< x).testBit e = decide (x = e) := by rw [Nat.one_shiftLeft, Nat.testBit_two_pow]
theorem lay_fold : ∀ (ys : List (Nat × List Nat)) (O : Op), O.1.1 = 6 → O.2.2.1 = (0, false) → O.2.1.1 ≤ 99 → (∀ y ∈ ys, y.2.length ≤ 99 ∧ O.2.1.2.1.testBit y.1 = false) → (ys.map (fun y => y.1)).Nodup → ∃ O' : Op, (ys.map (fun y => sem [plD y])).foldl mergeE (.ok O) = .ok O' ∧ O'.1.1 = 6 ∧ O'.2.2.1 = (0, false) ∧ O'.2.1.1 = (ys.map (fun y => y.2.length)).foldl max O.2.1.1 ∧ O'.2.1.2.2.1 = (if ys = [] then O.2.1.2.2.1 else max O.2.1.2.2.1 1) ∧ O'.2.1.2.2.2 = O.2.1.2.2.2 := by
  intro ys
  induction ys with
  | nil => intro O h1 h2 h3 h4 h5; exact ⟨O, rfl, h1, h2, rfl, rfl, rfl⟩
  | cons y ys ih =>
    intro O h1 h2 h3 h4 h5
    obtain ⟨P, p1, p2⟩ := sem_plD (y := y) (h4 y List.mem_cons_self).1
    have hF : mFrom O = 0 := by unfold mFrom; rw [if_pos h1]
    have hy := (h4 y List.mem_cons_self)
    have hs : P.1.1 = y.2.length := by rw [p2]
    have hL : mLong O P = false := by
      unfold mLong
      rw [h2, hF, hs]
      simp
      omega
    have hand : O.2.1.2.1 &&& P.1.2.1 = 0 := by
      apply Nat.eq_of_testBit_eq
      intro e
      rw [Nat.testBit_and, show P.1.2.1 = 1 <<< y.1 by rw [p2], bit_shl, Nat.zero_testBit]
      by_cases q : y.1 = e
      · rw [← q, hy.2]; rfl
      · rw [decide_eq_false q, Bool.and_false]
    have e1 : (mergeO O P).2.2.1 = (0, false) := by
      show (O.2.2.1.1 ||| (if O.1.1 = 6 then O.2.1.2.1 &&& P.1.2.1 else 0), mLong O P) = _
      rw [if_pos h1, hand, hL, h2]
      rfl
    have e2 : (mergeO O P).2.1.1 = max O.2.1.1 y.2.length := by
      show (if mLong O P then O.2.1.1 else max (mFrom O + P.1.1) O.2.1.1) = _
      rw [hL, if_neg (by decide), hF, hs]
      omega
    have hn := (List.nodup_cons.mp h5)
    obtain ⟨O', q1, q2, q3, q4, q5, q6⟩ := ih (mergeO O P) h1 e1 (by rw [e2]; omega) (fun z hz => by
      refine ⟨(h4 z (List.mem_cons_of_mem _ hz)).1, ?_⟩
      show (O.2.1.2.1 ||| P.1.2.1).testBit z.1 = false
      rw [Nat.testBit_or, (h4 z (List.mem_cons_of_mem _ hz)).2, show P.1.2.1 = 1 <<< y.1 by rw [p2], bit_shl, Bool.false_or]
      refine decide_eq_false (fun q => hn.1 ?_)
      show y.1 ∈ _
      rw [q]
      exact List.mem_map_of_mem hz) hn.2
    refine ⟨O', ?_, q2, q3, ?_, ?_, ?_⟩
    · rw [List.map_cons, List.foldl_cons, p1]; exact q1
    · rw [q4, e2]; rfl
    · have e3 : (mergeO O P).2.1.2.2.1 = max O.2.1.2.2.1 1 := by show max O.2.1.2.2.1 P.1.2.2.1 = _; rw [p2]
      rw [q5, e3, if_neg (show ¬ (y :: ys) = [] from List.cons_ne_nil _ _)]
      split
      · rfl
      · omega
    · rw [q6]
      show O.2.1.2.2.2 + P.1.2.2.2 = _
      rw [p2]
      exact Nat.add_zero _
theorem TR_plD (y : Nat × List Nat) : TR 1 [plD y] := ⟨plD y, [], rfl, rfl, ⟨fun _ => rfl, fun _ => by show 0 ≤ 2; omega⟩, fun c hc => by cases hc⟩
theorem map_flat (ys : List (Nat × List Nat)) : (ys.map (fun y => [plD y])).flatten = ys.map plD := by
  induction ys with
  | nil => rfl
  | cons y ys ih => rw [List.map_cons, List.flatten_cons, ih]; rfl
theorem foldl_max_le {B : Nat} : ∀ (l : List Nat) (z : Nat), z ≤ B → (∀ x ∈ l, x ≤ B) → l.foldl max z ≤ B := by
  intro l
  induction l with
  | nil => intro z hz _; exact hz
  | cons x l ih => intro z hz h; exact ih _ (by have := h x List.mem_cons_self; omega) (fun w hw => h w (List.mem_cons_of_mem _ hw))
theorem longY_le {ys : List (Nat × List Nat)} (h : ysOk ys) : longY ys ≤ 20 := foldl_max_le _ _ (by omega) (fun x hx => by
  obtain ⟨y, hy, rfl⟩ := List.mem_map.mp hx
  exact (h.2.2.1 y hy).2.2.1)
/-- the layer's depth -/
def depY (ys : List (Nat × List Nat)) : Nat := if ys.length = 1 then 1 else 2
theorem layY_one {ys : List (Nat × List Nat)} (h : ys.length = 1) : ∃ y, ys = [y] ∧ layY ys = [plD y] := by
  match ys, h with
  | [y], _ => exact ⟨y, rfl, rfl⟩
theorem layY_ok {ys : List (Nat × List Nat)} (h : ysOk ys) : TR 2 (layY ys) ∧ (∀ nd ∈ layY ys, ndOk2 nd) ∧ ∃ P : Pt, sem (layY ys) = .ok P ∧ P.1.1 = longY ys ∧ P.1.2.2.1 = depY ys ∧ P.1.2.2.2 = 0 := by
  obtain ⟨h1, h2, h3, h4⟩ := id h
  have hlf : ∀ nd ∈ ys.map plD, ndOk2 nd := fun nd hnd => by
    obtain ⟨y, hy, rfl⟩ := List.mem_map.mp hnd
    obtain ⟨a1, a2, a3, a4⟩ := h3 y hy
    refine ⟨⟨by show 0 ≤ 7; omega, by show 0 ≤ 9; omega, by show 0 ≤ 1100; omega, fun _ => ⟨Nat.le_refl 1, a2, fun i hi => ?_, fun i hi => ?_⟩⟩, (fun q => absurd (show 3 ≤ 0 from q) (by decide)), (fun q => absurd (show 6 ≤ 0 from q) (by decide)), (fun q => absurd (show (0 : Nat) = 3 from q) (by decide))⟩
    · have hi' : i < 1 := hi
      obtain rfl : i = 0 := by omega
      exact a1
    · rw [List.getD_eq_getElem?_getD, List.getElem?_eq_getElem hi]
      exact a4 _ (List.getElem_mem hi)
  by_cases hl : ys.length = 1
  · obtain ⟨y, rfl, e⟩ := layY_one hl
    rw [e]
    obtain ⟨P, p1, p2⟩ := sem_plD (y := y) (by have := (h3 y List.mem_cons_self).2.2.1; omega)
    refine ⟨(TR_plD y).mono (by omega), hlf, P, p1, by rw [p2]; show _ = max 0 y.2.length; omega, by rw [p2]; rfl, by rw [p2]⟩
  · have e : layY ys = (6, 0, ys.length, [], []) :: (ys.map (fun y => [plD y])).flatten := by unfold layY; rw [if_neg hl, map_flat]
    have hT : ∀ c ∈ ys.map (fun y => [plD y]), TR 1 c := fun c hc => by
      obtain ⟨y, hy, rfl⟩ := List.mem_map.mp hc
      exact TR_plD y
    have hcl : ((6, 0, ys.length, [], []) : Nd).2.2.1 = (ys.map (fun y => [plD y])).length := by rw [List.length_map]
    refine ⟨?_, ?_, ?_⟩
    · rw [e]
      refine ⟨_, _, rfl, hcl, ⟨fun q => absurd (show 6 ≤ 2 from q) (by decide), fun q => ?_⟩, hT⟩
      rw [List.map_eq_nil_iff] at q
      rw [q] at h1
      exact absurd h1 (by decide)
    · intro nd hnd
      have hnd2 : nd ∈ (6, 0, ys.length, [], []) :: ys.map plD := by unfold layY at hnd; rwa [if_neg hl] at hnd
      rcases List.mem_cons.mp hnd2 with q | q
      · rw [q]
        refine ⟨⟨by show 6 ≤ 7; omega, by show 0 ≤ 9; omega, by show ys.length ≤ 1100; omega, fun q => absurd (show 6 ≤ 1 from q) (by decide)⟩, (fun _ q => absurd (show 6 ≤ 5 from q) (by decide)), (fun _ => by show 2 ≤ ys.length; omega), (fun q => absurd (show (6 : Nat) = 3 from q) (by decide))⟩
      · exact hlf nd q
    · rw [e, sem_node hcl hT]
      unfold semA
      rw [if_neg (by show ¬ 6 ≤ 2; decide), closeV_eq, List.map_map]
      obtain ⟨O, q1, q2, q3, q4, q5, q6⟩ := lay_fold ys (openO (6, 0, ys.length, [], [])) rfl rfl (by show 0 ≤ 99; omega) (fun y hy => ⟨by have := (h3 y hy).2.2.1; omega, Nat.zero_testBit _⟩) h4
      rw [show (sem ∘ fun y => [plD y]) = (fun y => sem [plD y]) from rfl, q1]
      show ∃ P : Pt, closeE O = .ok P ∧ _
      have hc1 : cTimes O = 1 := by unfold cTimes; rw [if_neg (by rw [q2]; decide)]
      have hlg : O.2.1.1 = longY ys := q4
      have hle := longY_le h
      unfold closeE
      rw [q3, hc1, q6, if_neg (by simp), if_neg (by rw [hlg]; show ¬ (false = true ∨ longY ys * 1 > 99 ∨ 0 * 1 > 999); simp; omega)]
      refine ⟨_, rfl, ?_, ?_, rfl⟩
      · show O.2.1.1 * 1 = _; rw [hlg, Nat.mul_one]
      · show O.2.1.2.2.1 + 1 = _
        rw [q5, if_neg (by intro q; rw [q] at h1; exact absurd h1 (by decide))]
        unfold depY
        rw [if_neg hl]
        rfl
end Z0S

/-! PURE: paths and plans (printed by gen) -/
section W0S
/-- where others are at each count -/
abbrev PL : Type := Nat → Option (Nat → Nat)
/-- the place that a step leads to -/
def nbP (C R p s : Nat) : Option Nat := if (0 ≤ ((p / C : Nat) : Int) + alo (s : Nat) ∧ ((p / C : Nat) : Int) + alo (s : Nat) ≤ (R : Int) - 1) ∧ (0 ≤ ((p % C : Nat) : Int) + acr (s : Nat) ∧ ((p % C : Nat) : Int) + acr (s : Nat) ≤ (C : Int) - 1) then some ((((p / C : Nat) : Int) + alo (s : Nat)) * C + (((p % C : Nat) : Int) + acr (s : Nat))).toNat else none
def nbI (C R p s : Nat) : Int := match nbP C R p s with
  | none => -1
  | some x => x
theorem nbP_lt {C R p s x : Nat} (hC : 0 < C) (h : nbP C R p s = some x) : x < C * R := by
  unfold nbP at h
  split at h
  · rename_i q
    cases h
    obtain ⟨⟨q1, q2⟩, q3, q4⟩ := q
    generalize ((p / C : Nat) : Int) + alo (s : Nat) = r at *
    generalize ((p % C : Nat) : Int) + acr (s : Nat) = c at *
    have h1 : r * C ≤ (R - 1) * C := Int.mul_le_mul_of_nonneg_right (by omega) (by omega)
    have h2 : ((R : Int) - 1) * C = C * R - C := by rw [Int.sub_mul, Int.one_mul, Int.mul_comm]
    have h3 : 0 ≤ r * C := Int.mul_nonneg q1 (by omega)
    have h4 : ((C * R : Nat) : Int) = (C : Int) * R := by push_cast; rfl
    omega
  · cases h
/-- nobody is at x at the count k -/
def frP (L : PL) (k x : Nat) : Bool := (List.range 8).all fun e => match L e with
  | none => true
  | some f => !decide (f k = x)
/-- nobody goes from x to p while one goes from p at k to x -/
def crP (L : PL) (k p x : Nat) : Bool := (List.range 8).all fun e => match L e with
  | none => true
  | some f => !(decide (f (k + 1) = p) && decide (f k = x) && !decide (p = x))
def goP (L : PL) (k p x : Nat) : Bool := frP L (k + 1) x && crP L k p x
theorem frP_iff {L : PL} {k x : Nat} : frP L k x = true ↔ ∀ (e : Nat) (f : Nat → Nat), e < 8 → L e = some f → f k ≠ x := by
  unfold frP
  rw [List.all_eq_true]
  constructor
  · intro h e f he hf q
    have := h e (List.mem_range.mpr he)
    rw [hf] at this
    simp [q] at this
  · intro h e he
    cases hf : L e with
    | none => rfl
    | some f => simp [h e f (List.mem_range.mp he) hf]
theorem crP_iff {L : PL} {k p x : Nat} : crP L k p x = true ↔ ∀ (e : Nat) (f : Nat → Nat), e < 8 → L e = some f → ¬ (f (k + 1) = p ∧ f k = x ∧ p ≠ x) := by
  unfold crP
  rw [List.all_eq_true]
  constructor
  · intro h e f he hf q
    have := h e (List.mem_range.mpr he)
    rw [hf] at this
    simp [q.1, q.2.1] at this
    exact q.2.2 this
  · intro h e he
    cases hf : L e with
    | none => rfl
    | some f =>
      have := h e f (List.mem_range.mp he) hf
      show (!(decide (f (k + 1) = p) && decide (f k = x) && !decide (p = x))) = true
      by_cases a : f (k + 1) = p
      · by_cases b : f k = x
        · by_cases c : p = x
          · simp [c]
          · exact absurd ⟨a, b, c⟩ this
        · simp [b]
      · simp [a]
theorem goP_self {L : PL} {k x : Nat} : goP L k x x = frP L (k + 1) x := by
  unfold goP
  rw [crP_iff.mpr (fun e f _ _ q => q.2.2 rfl), Bool.and_true]
/-- the order of steps: n e s w . -/
def stO (k : Nat) : Nat := if k = 0 then 1 else if k = 1 then 3 else if k = 2 then 2 else if k = 3 then 4 else 0
theorem stO_F : (∀ s : Fin 5, ∃ k : Fin 5, stO k.val = s.val) ∧ ∀ k : Fin 5, stO k.val < 5 := by decide
theorem stO_lt {k : Nat} (h : k < 5) : stO k < 5 := stO_F.2 ⟨k, h⟩
theorem stO_surj {s : Nat} (h : s < 5) : ∃ k, k < 5 ∧ stO k = s := by
  obtain ⟨k, e⟩ := stO_F.1 ⟨s, h⟩
  exact ⟨k.val, k.isLt, e⟩
/-- which places can be reached at a count -/
def rcP (C R : Nat) (L : PL) (st : Nat) : Nat → Nat → Bool
  | 0, x => decide (x = st)
  | k + 1, x => (List.range (C * R)).any fun p => rcP C R L st k p && (List.range 5).any fun s => decide (nbP C R p s = some x) && goP L k p x
theorem rcP_iff {C R st k x : Nat} {L : PL} : rcP C R L st (k + 1) x = true ↔ ∃ p s : Nat, p < C * R ∧ s < 5 ∧ rcP C R L st k p = true ∧ nbP C R p s = some x ∧ goP L k p x = true := by
  show ((List.range (C * R)).any fun p => rcP C R L st k p && (List.range 5).any fun s => decide (nbP C R p s = some x) && goP L k p x) = true ↔ _
  simp only [List.any_eq_true, List.mem_range, Bool.and_eq_true, decide_eq_true_eq]
  constructor
  · rintro ⟨p, h1, h2, s, h3, h4, h5⟩; exact ⟨p, s, h1, h3, h2, h4, h5⟩
  · rintro ⟨p, s, h1, h3, h2, h4, h5⟩; exact ⟨p, h1, h2, s, h3, h4, h5⟩
theorem rcP_lt {C R st k x : Nat} {L : PL} (hC : 0 < C) (hst : st < C * R) (h : rcP C R L st k x = true) : x < C * R := by
  cases k with
  | zero => rw [of_decide_eq_true h]; exact hst
  | succ k =>
    obtain ⟨p, s, -, -, -, h4, -⟩ := rcP_iff.mp h
    exact nbP_lt hC h4
/-- from the count k on nobody is at x -/
def syP (L : PL) (x k : Nat) : Bool := (List.range 21).all fun j => !decide (k ≤ j) || frP L j x
theorem syP_iff {L : PL} {x k : Nat} : syP L x k = true ↔ ∀ j : Nat, k ≤ j → j ≤ 20 → frP L j x = true := by
  unfold syP
  rw [List.all_eq_true]
  constructor
  · intro h j h1 h2
    have := h j (List.mem_range.mpr (by omega))
    simpa [h1] using this
  · intro h j hj
    by_cases q : k ≤ j
    · rw [h j q (by have := List.mem_range.mp hj; omega), Bool.or_true]
    · simp [q]
/-- when the path arrives -/
def enP (C R : Nat) (L : PL) (st gl : Nat) : Option Nat := (List.range 21).find? fun k => rcP C R L st k gl && syP L gl k
theorem find_some {n i : Nat} {f : Nat → Bool} (h : (List.range n).find? f = some i) : i < n ∧ f i = true ∧ ∀ j, j < i → f j = false := by
  induction n generalizing i with
  | zero => cases h
  | succ n ih =>
    rw [List.range_succ, List.find?_append] at h
    cases hq : (List.range n).find? f with
    | some i' =>
      rw [hq] at h
      cases h
      obtain ⟨a, b, c⟩ := ih hq
      exact ⟨by omega, b, c⟩
    | none =>
      rw [hq] at h
      have h2 : [n].find? f = some i := h
      rw [List.find?_singleton] at h2
      split at h2
      · rename_i q
        cases h2
        refine ⟨by omega, q, fun j hj => ?_⟩
        have := List.find?_eq_none.mp hq j (List.mem_range.mpr hj)
        simpa using this
      · cases h2
theorem find_none {n : Nat} {f : Nat → Bool} (h : (List.range n).find? f = none) : ∀ j, j < n → f j = false := fun j hj => by
  have := List.find?_eq_none.mp h j (List.mem_range.mpr hj)
  simpa using this
theorem find_of {n i : Nat} {f : Nat → Bool} (hi : i < n) (h1 : f i = true) (h2 : ∀ j, j < i → f j = false) : (List.range n).find? f = some i := by
  cases hq : (List.range n).find? f with
  | none => rw [find_none hq i hi] at h1; cases h1
  | some k =>
    obtain ⟨a, b, c⟩ := find_some hq
    have : k = i := by
      rcases Nat.lt_trichotomy k i with q | q | q
      · rw [h2 k q] at b; cases b
      · exact q
      · rw [c i q] at h1; cases h1
    rw [this]
theorem find_no {n : Nat} {f : Nat → Bool} (h : ∀ j, j < n → f j = false) : (List.range n).find? f = none := by
  cases hq : (List.range n).find? f with
  | none => rfl
  | some k =>
    obtain ⟨a, b, -⟩ := find_some hq
    rw [h k a] at b; cases b
/-- from which places the goal can be reached, j counts ahead of the last -/
def ldP (C R : Nat) (L : PL) (gl last : Nat) : Nat → Nat → Bool
  | 0, x => decide (x = gl)
  | j + 1, x => (List.range 5).any fun s => match nbP C R x s with
    | none => false
    | some y => ldP C R L gl last j y && goP L (last - (j + 1)) x y
theorem ldP_iff {C R gl last j x : Nat} {L : PL} : ldP C R L gl last (j + 1) x = true ↔ ∃ s y : Nat, s < 5 ∧ nbP C R x s = some y ∧ ldP C R L gl last j y = true ∧ goP L (last - (j + 1)) x y = true := by
  show ((List.range 5).any fun s => match nbP C R x s with
    | none => false
    | some y => ldP C R L gl last j y && goP L (last - (j + 1)) x y) = true ↔ _
  rw [List.any_eq_true]
  constructor
  · rintro ⟨s, h1, h2⟩
    cases hn : nbP C R x s with
    | none => rw [hn] at h2; cases h2
    | some y =>
      rw [hn] at h2
      have h3 := Bool.and_eq_true_iff.mp h2
      exact ⟨s, y, List.mem_range.mp h1, hn, h3.1, h3.2⟩
  · rintro ⟨s, y, h1, h2, h3, h4⟩
    refine ⟨s, List.mem_range.mpr h1, ?_⟩
    rw [h2]
    show (ldP C R L gl last j y && goP L (last - (j + 1)) x y) = true
    rw [h3, h4]; rfl
/-- whether the step s is right at x, at the count k -/
def okP_ (C R : Nat) (L : PL) (gl last k x s : Nat) : Bool := match nbP C R x s with
  | none => false
  | some y => ldP C R L gl last (last - (k + 1)) y && goP L k x y
theorem okP_iff {C R gl last k x s : Nat} {L : PL} : okP_ C R L gl last k x s = true ↔ ∃ y : Nat, nbP C R x s = some y ∧ ldP C R L gl last (last - (k + 1)) y = true ∧ goP L k x y = true := by
  unfold okP_
  cases hn : nbP C R x s with
  | none => constructor
            · intro h; cases h
            · rintro ⟨y, h, -⟩; cases h
  | some y =>
    constructor
    · intro h; have h3 := Bool.and_eq_true_iff.mp h; exact ⟨y, rfl, h3.1, h3.2⟩
    · rintro ⟨z, h1, h2, h3⟩
      cases h1
      show (ldP C R L gl last (last - (k + 1)) y && goP L k x y) = true
      rw [h2, h3]; rfl
/-- the place in the order, of the step that is taken -/
def cqP (C R : Nat) (L : PL) (gl last k x : Nat) : Nat := ((List.range 5).find? fun q => okP_ C R L gl last k x (stO q)).getD 0
def csP (C R : Nat) (L : PL) (gl last k x : Nat) : Nat := stO (cqP C R L gl last k x)
/-- where the dancer is -/
def wkP (C R : Nat) (L : PL) (st gl last : Nat) : Nat → Nat
  | 0 => st
  | k + 1 => if k < last then (nbP C R (wkP C R L st gl last k) (csP C R L gl last k (wkP C R L st gl last k))).getD 0 else wkP C R L st gl last k
def ssP (C R : Nat) (L : PL) (st gl last : Nat) : List Nat := (List.range last).map fun k => csP C R L gl last k (wkP C R L st gl last k)
theorem ssP_len (C R : Nat) (L : PL) (st gl last : Nat) : (ssP C R L st gl last).length = last := by unfold ssP; rw [List.length_map, List.length_range]
theorem ssP_get {C R st gl last k : Nat} {L : PL} (h : k < last) : (ssP C R L st gl last)[k]? = some (csP C R L gl last k (wkP C R L st gl last k)) := by
  unfold ssP; rw [List.getElem?_map, List.getElem?_range h]; rfl
/-- a reached goal can be come to from the start -/
theorem ld_back {C R st gl last : Nat} {L : PL} : ∀ (k x : Nat), k ≤ last → rcP C R L st k x = true → ldP C R L gl last (last - k) x = true → ldP C R L gl last last st = true := by
  intro k
  induction k with
  | zero => intro x _ h1 h2; rw [of_decide_eq_true h1] at h2; exact h2
  | succ k ih =>
    intro x hk h1 h2
    obtain ⟨p, s, g1, g2, g3, g4, g5⟩ := rcP_iff.mp h1
    refine ih p (by omega) g3 ?_
    rw [show last - k = (last - (k + 1)) + 1 by omega]
    exact ldP_iff.mpr ⟨s, x, g2, g4, h2, by rw [show last - (last - (k + 1) + 1) = k by omega]; exact g5⟩
/-- along the walk a right step is there -/
theorem wk_ok {C R st gl last : Nat} {L : PL} (hC : 0 < C) (hst : st < C * R) (h0 : ldP C R L gl last last st = true) : ∀ k : Nat, k ≤ last → ldP C R L gl last (last - k) (wkP C R L st gl last k) = true ∧ wkP C R L st gl last k < C * R ∧ ∀ k', k = k' + 1 → cqP C R L gl last k' (wkP C R L st gl last k') < 5 ∧ okP_ C R L gl last k' (wkP C R L st gl last k') (csP C R L gl last k' (wkP C R L st gl last k')) = true ∧ (∀ q, q < cqP C R L gl last k' (wkP C R L st gl last k') → okP_ C R L gl last k' (wkP C R L st gl last k') (stO q) = false) ∧ nbP C R (wkP C R L st gl last k') (csP C R L gl last k' (wkP C R L st gl last k')) = some (wkP C R L st gl last k) := by
  intro k
  induction k with
  | zero => intro _; exact ⟨by rw [Nat.sub_zero]; exact h0, hst, fun k' q => by omega⟩
  | succ k ih =>
    intro hk
    obtain ⟨h1, h2, -⟩ := ih (by omega)
    rw [show last - k = (last - (k + 1)) + 1 by omega] at h1
    obtain ⟨s, y, g1, g2, g3, g4⟩ := ldP_iff.mp h1
    rw [show last - (last - (k + 1) + 1) = k by omega] at g4
    obtain ⟨q, hq, hqs⟩ := stO_surj g1
    have hok : okP_ C R L gl last k (wkP C R L st gl last k) (stO q) = true := okP_iff.mpr ⟨y, by rw [hqs]; exact g2, g3, g4⟩
    cases hf : (List.range 5).find? fun q => okP_ C R L gl last k (wkP C R L st gl last k) (stO q) with
    | none => rw [find_none hf q hq] at hok; cases hok
    | some i =>
      obtain ⟨a, b, c⟩ := find_some hf
      have hc : cqP C R L gl last k (wkP C R L st gl last k) = i := by unfold cqP; rw [hf]; rfl
      obtain ⟨z, e1, e2, e3⟩ := okP_iff.mp b
      have hw : wkP C R L st gl last (k + 1) = z := by
        show (if k < last then (nbP C R (wkP C R L st gl last k) (csP C R L gl last k (wkP C R L st gl last k))).getD 0 else _) = z
        rw [if_pos (by omega)]
        unfold csP
        rw [hc, e1]; rfl
      refine ⟨by rw [hw]; exact e2, by rw [hw]; exact nbP_lt hC e1, fun k' hk' => ?_⟩
      cases hk'
      refine ⟨by rw [hc]; exact a, by unfold csP; rw [hc]; exact b, fun q hq => ?_, ?_⟩
      · rw [hc] at hq; exact c q hq
      · rw [hw]; unfold csP; rw [hc]; exact e1
theorem wk_stay {C R st gl last : Nat} {L : PL} : ∀ k : Nat, last ≤ k → wkP C R L st gl last k = wkP C R L st gl last last := by
  intro k
  induction k with
  | zero => intro h; rw [Nat.le_zero.mp h]
  | succ k ih =>
    intro h
    by_cases e : last = k + 1
    · rw [e]
    · show (if k < last then _ else wkP C R L st gl last k) = _
      rw [if_neg (by omega)]
      exact ih (by omega)
end W0S

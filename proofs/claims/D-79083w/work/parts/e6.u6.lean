/-! THE COMPONENT: runs of dancers and of steps (printed by gen) -/
section U6S
variable {g : GB} {M : MI} {d c k : Nat} {h : HM}
theorem runD_facts (c : List Nat) : ∀ f p : Nat, p ≤ c.length → c.length < p + f → (runD c f p).2 = p + (runD c f p).1.length ∧ (∀ j x : Nat, (runD c f p).1[j]? = some x → isD c (p + j) = true ∧ hrV c (p + j) = (x : Int) + 65) ∧ isD c (runD c f p).2 = false := by
  intro f
  induction f with
  | zero => intro p h1 h2; omega
  | succ f ih =>
    intro p h1 h2
    by_cases q : isD c p = true
    · have e : runD c (f + 1) p = ((hrV c p - 65).toNat :: (runD c f (p + 1)).1, (runD c f (p + 1)).2) := if_pos q
      have hlt := isD_lt q
      obtain ⟨g1, g2, g3⟩ := ih (p + 1) (by omega) (by omega)
      rw [e]
      refine ⟨by rw [g1, List.length_cons]; omega, fun j x hj => ?_, g3⟩
      cases j with
      | zero =>
        cases hj
        refine ⟨q, ?_⟩
        unfold isD at q; have q2 := of_decide_eq_true q; show hrV c p = _; omega
      | succ j =>
        have h3 := g2 j x hj
        rw [show p + 1 + j = p + (j + 1) by omega] at h3
        exact h3
    · have e : runD c (f + 1) p = ([], p) := if_neg q
      rw [e]
      exact ⟨rfl, (fun j x hj => by simp at hj), Bool.eq_false_iff.mpr q⟩
theorem runS_facts (c : List Nat) : ∀ f p : Nat, p ≤ c.length → c.length < p + f → (runS c f p).2 = p + (runS c f p).1.length ∧ (∀ j x : Nat, (runS c f p).1[j]? = some x → isS c (p + j) = true ∧ x = stN (hrV c (p + j))) ∧ isS c (runS c f p).2 = false := by
  intro f
  induction f with
  | zero => intro p h1 h2; omega
  | succ f ih =>
    intro p h1 h2
    by_cases q : isS c p = true
    · have e : runS c (f + 1) p = (stN (hrV c p) :: (runS c f (p + 1)).1, (runS c f (p + 1)).2) := if_pos q
      have hlt := isS_lt q
      obtain ⟨g1, g2, g3⟩ := ih (p + 1) (by omega) (by omega)
      rw [e]
      refine ⟨by rw [g1, List.length_cons]; omega, fun j x hj => ?_, g3⟩
      cases j with
      | zero =>
        cases hj
        refine ⟨q, ?_⟩
        rfl
      | succ j =>
        have h3 := g2 j x hj
        rw [show p + 1 + j = p + (j + 1) by omega] at h3
        exact h3
    · have e : runS c (f + 1) p = ([], p) := if_neg q
      rw [e]
      exact ⟨rfl, (fun j x hj => by simp at hj), Bool.eq_false_iff.mpr q⟩
/-- the phrase at p: how it ends -/
theorem phrF_noD {c : List Nat} {p : Nat} (h : isD c p = false) : phrF c p true = (false, [], [], p) := by
  unfold phrF; rw [h]; rfl
theorem phrF_no58 {c : List Nat} {p : Nat} (h : isD c p = true) (h58 : hrV c (runD c (c.length + 1) p).2 ≠ 58) : (phrF c p true).1 = false ∧ (phrF c p true).2.2.2 = (runD c (c.length + 1) p).2 := by
  unfold phrF; simp [h, h58]
theorem phrF_noS {c : List Nat} {p : Nat} (h : isD c p = true) (h58 : hrV c (runD c (c.length + 1) p).2 = 58) (hS : isS c ((runD c (c.length + 1) p).2 + 1) = false) : (phrF c p true).1 = false ∧ (phrF c p true).2.2.2 = (runD c (c.length + 1) p).2 + 1 := by
  unfold phrF; simp [h, h58, hS]
theorem phrF_yes {c : List Nat} {p : Nat} (h : isD c p = true) (h58 : hrV c (runD c (c.length + 1) p).2 = 58) (hS : isS c ((runD c (c.length + 1) p).2 + 1) = true) : phrF c p true = (true, (runD c (c.length + 1) p).1, (runS c (c.length + 1) ((runD c (c.length + 1) p).2 + 1)).1, (runS c (c.length + 1) ((runD c (c.length + 1) p).2 + 1)).2) := by
  unfold phrF; simp [h, h58, hS]
end U6S

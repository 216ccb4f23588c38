/-! the reference reads: the walk of a phrase (printed by gen) -/
section R7
variable {L1 : Nat → Int} {g : GB} {M : MI} {d c k : Nat} {Q : RS → HM → Prop} {pc : Nat} {ls : List (Option Value)} {st : List Value} {h : HM} {a b : Int} {ad : Nat → Nat} {o : Nat} {h0 : HM} {s : MSt}
theorem runD_t {c : List Nat} {f p : Nat} (h : isD c p = true) : runD c (f + 1) p = ((hrV c p - 65).toNat :: (runD c f (p + 1)).1, (runD c f (p + 1)).2) := by show (if _ then _ else _) = _; rw [if_pos h]
theorem runD_f {c : List Nat} {f p : Nat} (h : isD c p = false) : runD c f p = ([], p) := by
  cases f with
  | zero => rfl
  | succ f => show (if _ then _ else _) = _; rw [if_neg (by rw [h]; decide)]
theorem runS_t {c : List Nat} {f p : Nat} (h : isS c p = true) : runS c (f + 1) p = (stN (hrV c p) :: (runS c f (p + 1)).1, (runS c f (p + 1)).2) := by show (if _ then _ else _) = _; rw [if_pos h]
theorem runS_f {c : List Nat} {f p : Nat} (h : isS c p = false) : runS c f p = ([], p) := by
  cases f with
  | zero => rfl
  | succ f => show (if _ then _ else _) = _; rw [if_neg (by rw [h]; decide)]
theorem hrV_get {c : List Nat} {p : Nat} (h : p < c.length) : hrV c p = ((c.getD p 0 : Nat) : Int) := if_pos h
theorem runD_le (c : List Nat) : ∀ f p, p ≤ c.length → (runD c f p).2 ≤ c.length ∧ p + (runD c f p).1.length = (runD c f p).2 := by
  intro f
  induction f with
  | zero => intro p h; exact ⟨h, rfl⟩
  | succ f ih =>
    intro p h
    cases hd : isD c p with
    | false => rw [runD_f hd]; exact ⟨h, rfl⟩
    | true =>
      rw [runD_t hd]
      have := isD_lt hd
      obtain ⟨a, b⟩ := ih (p + 1) (by omega)
      exact ⟨a, by simp only [List.length_cons]; omega⟩
theorem runS_le (c : List Nat) : ∀ f p, p ≤ c.length → (runS c f p).2 ≤ c.length ∧ p + (runS c f p).1.length = (runS c f p).2 := by
  intro f
  induction f with
  | zero => intro p h; exact ⟨h, rfl⟩
  | succ f ih =>
    intro p h
    cases hd : isS c p with
    | false => rw [runS_f hd]; exact ⟨h, rfl⟩
    | true =>
      rw [runS_t hd]
      have := isS_lt hd
      obtain ⟨a, b⟩ := ih (p + 1) (by omega)
      exact ⟨a, by simp only [List.length_cons]; omega⟩
theorem stp_N {x : Int} (h : stp x ≠ -1) : stp x = (stN x : Nat) ∧ stN x ≤ 4 := by
  unfold stN stp at *
  by_cases h1 : x = 46
  · simp [h1]
  · by_cases h2 : x = 110
    · simp [h2]
    · by_cases h3 : x = 115
      · simp [h3]
      · by_cases h4 : x = 101
        · simp [h4]
        · by_cases h5 : x = 119
          · simp [h5]
          · simp [h1, h2, h3, h4, h5] at h
end R7

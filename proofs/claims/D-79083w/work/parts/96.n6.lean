/-! THE COMPONENT: constants, chunks that are appended (printed by gen) -/
section N6S
variable {g : GB} {M : MI} {d c k : Nat} {h : HM}
def strB (s : String) : List Nat := s.toList.map Char.toNat
/-- the constants' cells -/
def KC (g : GB) (h : HM) : Prop :=
  (h (g.2.2.2.2 48) = some (.inl (9, (0, .inr (.inr (.inr (.inr ((fun _ => none)))))))) ∧ g.2.2.2.2 48 < gB g) ∧ (h (g.2.2.2.2 50) = some (.inl (2, (100, .inl (fun j => zI ((fun j => 48 + ((j % 10 : Nat) : Int)) j))))) ∧ g.2.2.2.2 50 < gB g) ∧
  (∀ (i : Nat) (x : String × Nat × String × Nat), srL[i]? = some x → STh h (g.2.2.2.2 x.2.2.2) (g.2.2.2.2 (24 + x.2.2.2)) (strB x.2.2.1) ∧ g.2.2.2.2 x.2.2.2 < gB g ∧ g.2.2.2.2 (24 + x.2.2.2) < gB g) ∧
  (∀ j : Nat, j < 256 → h (g.2.2.2.2 (64 + j)) = some (.inr (30, [vz ((j : Int) - 128)])) ∧ g.2.2.2.2 (64 + j) < gB g)
theorem KC.fr {h' : HM} {S : List Nat} (K : KC g h) (F : Fr g h h' S) : KC g h' := by
  obtain ⟨⟨a1, a2⟩, ⟨b1, b2⟩, c1, d1⟩ := K
  refine ⟨⟨F.low a1 a2, a2⟩, ⟨F.low b1 b2, b2⟩, fun i x hx => ?_, fun j hj => ⟨F.low (d1 j hj).1 (d1 j hj).2, (d1 j hj).2⟩⟩
  obtain ⟨e1, e2, e3⟩ := c1 i x hx
  exact ⟨e1.fr F (fun q => by omega) (fun q => by omega), e2, e3⟩
/-- the capacity behind chunks that are appended -/
def capF : List (List Nat) → Nat → Nat → Nat
  | [], cap, _ => cap
  | x :: r, cap, n => capF r (ncap cap (n + x.length)) (n + x.length)
theorem capF_app (r1 r2 : List (List Nat)) : ∀ cap n : Nat, capF (r1 ++ r2) cap n = capF r2 (capF r1 cap n) (n + r1.flatten.length) := by
  induction r1 with
  | nil => intro cap n; rfl
  | cons x r ih =>
    intro cap n
    show capF (r ++ r2) _ _ = capF r2 (capF r _ _) _
    rw [ih, List.flatten_cons, List.length_append, Nat.add_assoc]
theorem ncap_le (cap m : Nat) : cap ≤ ncap cap m := by unfold ncap; split <;> omega
theorem ncap_b (cap m : Nat) : ncap cap m ≤ max cap (2 * m) := by unfold ncap; split <;> omega
theorem capF_le (r : List (List Nat)) : ∀ cap n : Nat, cap ≤ capF r cap n := by
  induction r with
  | nil => intro cap n; exact Nat.le_refl _
  | cons x r ih => intro cap n; exact Nat.le_trans (ncap_le _ _) (ih _ _)
theorem capF_b (r : List (List Nat)) : ∀ cap n : Nat, capF r cap n ≤ max cap (2 * (n + r.flatten.length)) := by
  induction r with
  | nil => intro cap n; show cap ≤ _; omega
  | cons x r ih =>
    intro cap n
    have h1 := ih (ncap cap (n + x.length)) (n + x.length)
    have h2 := ncap_b cap (n + x.length)
    show capF r _ _ ≤ _
    rw [List.flatten_cons, List.length_append]
    omega
theorem bud {cap m c k : Nat} (hc : ncap cap m - cap ≤ c) (hk : 2 * (ncap cap m - cap) ≤ k) : cap < m → 1 ≤ c ∧ ncap cap m ≤ k := by
  intro q
  unfold ncap at hc hk ⊢
  rw [if_neg (by omega)] at hc hk ⊢
  omega
/-- the builder a is longer by the chunks r -/
def Wr (g : GB) (h : HM) (a v cap : Nat) (t : List Nat) (r : List (List Nat)) (h' : HM) : Prop := ∃ v2 : Nat, SBh g h' a v2 (capF r cap t.length) (t ++ r.flatten) ∧ (v2 = v ∨ h v2 = none) ∧ Fr g h h' [a, v]
theorem Wr.nil {a v cap : Nat} {t : List Nat} (H : SBh g h a v cap t) : Wr g h a v cap t [] h := ⟨v, by rw [List.flatten_nil, List.append_nil]; exact H, Or.inl rfl, Fr.refl _ _⟩
theorem Wr.app {h1 h2 : HM} {a v cap : Nat} {t : List Nat} {r1 r2 : List (List Nat)} (W1 : Wr g h a v cap t r1 h1) (W2 : ∀ v2 : Nat, SBh g h1 a v2 (capF r1 cap t.length) (t ++ r1.flatten) → (v2 = v ∨ h v2 = none) → Wr g h1 a v2 (capF r1 cap t.length) (t ++ r1.flatten) r2 h2) : Wr g h a v cap t (r1 ++ r2) h2 := by
  obtain ⟨v2, H1, o1, F1⟩ := W1
  obtain ⟨v3, H3, o3, F3⟩ := W2 v2 H1 o1
  refine ⟨v3, ?_, ?_, F1.call F3 (sbm o1)⟩
  · rw [capF_app, List.flatten_append, ← List.append_assoc, ← List.length_append]
    exact H3
  · rcases o3 with q | q
    · rw [q]; exact o1
    · exact Or.inr (F1.fresh q)
end N6S

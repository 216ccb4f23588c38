/-! reading: the machine of the reference, the parser, and that they agree (printed by gen/mkrs.py) -/
section RS0
/-- the machine that reads: (where: 0 a part begins, 1 it has ended, 2 all is read, 3 an error), place, nodes, levels -/
abbrev Rm : Type := Nat × Nat × List Nd × List (Nat × Nat)
def opnM (c : List Nat) (p : Nat) (ns : List Nd) (lv : List (Nat × Nat)) : Rm :=
  if hrV c p = 40 ∧ lv.length ≤ 10 then (0, p + 1, serN ns, (ns.length, ns.length + 1) :: lv) else (3, p, ns, lv)
def phrM (c : List Nat) (k v p : Nat) (b : Bool) (ns : List Nd) (lv : List (Nat × Nat)) : Rm :=
  ((if (phrF c p b).1 then 1 else 3), (phrF c p b).2.2.2, ns ++ [(k, v, 0, (phrF c p b).2.1, (phrF c p b).2.2.1)], lv)
def untM (c : List Nat) (p : Nat) (ns : List Nd) (lv : List (Nat × Nat)) : Rm :=
  if hrV c p = 33 then (1, p + 1, ns ++ [(2, 0, 0, [], [])], lv)
  else if hrV c p = 99 then (if 49 ≤ hrV c (p + 1) ∧ hrV c (p + 1) ≤ 57 then phrM c 1 (hrV c (p + 1) - 48).toNat (p + 2) true ns lv else phrM c 1 0 (p + 1) false ns lv)
  else if hrV c p = 109 ∨ hrV c p = 114 then (if lv.length ≤ 10 then opnM c (p + 1) (ns ++ [(if hrV c p = 109 then 4 else 5, 0, 1, [], [])]) lv else (3, p, ns, lv))
  else if hrV c p = 40 then opnM c p ns lv
  else phrM c 0 0 p true ns lv
def addC (nd : Nd) (j : Nat) : Nd := (nd.1, nd.2.1, nd.2.2.1 + j, nd.2.2.2)
def incB (j : Nat) (ns : List Nd) (i : Nat) : List Nd := ns.set i (addC (ns.getD i noNd) j)
def topL (lv : List (Nat × Nat)) : Nat × Nat := lv.headD (0, 0)
def isG (c : List Nat) (p : Nat) : Bool := decide (50 ≤ hrV c p ∧ hrV c p ≤ 57)
def begM (c : List Nat) (p : Nat) (ns : List Nd) (lv : List (Nat × Nat)) : Rm :=
  if isG c p then untM c (p + 1) (incB 1 ns (topL lv).2 ++ [(3, (hrV c p - 48).toNat, 1, [], [])]) lv
  else untM c p (incB 1 ns (topL lv).2) lv
def folM (c : List Nat) (p : Nat) (ns : List Nd) (lv : List (Nat × Nat)) : Rm :=
  if 1 < lv.length ∧ hrV c p = 41 then (1, p + 1, ns, lv.tail)
  else if hrV c p = 59 then (0, p + 1, incB 1 ns (topL lv).1 ++ [(6, 0, 0, [], [])], ((topL lv).1, ns.length) :: lv.tail)
  else if hrV c p = 124 then (0, p + 1, ns, lv)
  else if lv.length = 1 ∧ p = c.length then (2, p, ns, lv) else (3, p, ns, lv)
def stpM (c : List Nat) (S : Rm) : Rm := if S.1 = 0 then begM c S.2.1 S.2.2.1 S.2.2.2 else if S.1 = 1 then folM c S.2.1 S.2.2.1 S.2.2.2 else S
def itM (c : List Nat) : Nat → Rm → Rm
  | 0, S => S
  | n + 1, S => itM c n (stpM c S)
def rch (c : List Nat) (S S' : Rm) : Prop := ∃ n, itM c n S = S'
theorem itM_add (c : List Nat) : ∀ (n m : Nat) (S : Rm), itM c (n + m) S = itM c m (itM c n S) := by
  intro n
  induction n with
  | zero => intro m S; rw [Nat.zero_add]; rfl
  | succ n ih => intro m S; rw [show n + 1 + m = n + m + 1 by omega]; exact ih m (stpM c S)
theorem rch.refl (c : List Nat) (S : Rm) : rch c S S := ⟨0, rfl⟩
theorem rch.trans {c : List Nat} {S S' S'' : Rm} (h : rch c S S') (h' : rch c S' S'') : rch c S S'' := by
  obtain ⟨n, rfl⟩ := h
  obtain ⟨m, rfl⟩ := h'
  exact ⟨n + m, itM_add c n m S⟩
theorem rch.step {c : List Nat} {S S' : Rm} (h : stpM c S = S') : rch c S S' := ⟨1, h⟩
/-! the parser -/
/-- an error's place, or the parts' rows and where they end -/
abbrev PR : Type := Except Nat (List (List Nd) × Nat)
def serR (Ls : List (List Nd)) : List Nd := (7, 0, Ls.length, [], []) :: Ls.flatten
def layR (rs : List (List Nd)) : List Nd := (6, 0, rs.length, [], []) :: rs.flatten
def phrP (c : List Nat) (k v p : Nat) : PR := if (phrF c p true).1 then .ok ([[(k, v, 0, (phrF c p true).2.1, (phrF c p true).2.2.1)]], (phrF c p true).2.2.2) else .error (phrF c p true).2.2.2
def encP (c : List Nat) (x : PR) : PR := match x with
  | .error e => .error e
  | .ok r => if hrV c r.2 = 41 then .ok ([serR r.1], r.2 + 1) else .error r.2
def opnP (c : List Nat) (nst p : Nat) (x : PR) : PR := if hrV c p = 40 ∧ nst ≤ 9 then encP c x else .error p
def mapP (nd : Nd) (x : PR) : PR := match x with
  | .error e => .error e
  | .ok r => .ok ([nd :: r.1.flatten], r.2)
def appP (x y : PR) : PR := match x, y with
  | .error e, _ => .error e
  | .ok _, .error e => .error e
  | .ok r, .ok r' => .ok (r.1 ++ r'.1, r'.2)
def layP (x : PR) : PR := match x with
  | .error e => .error e
  | .ok r => .ok ([layR r.1], r.2)
def endP (x : PR) : Nat := match x with
  | .error e => e
  | .ok r => r.2
/-- 0 a unit, 1 a repeated one, 2 a layer's parts, 3 a series' layers -/
def prs (c : List Nat) : Nat → Nat → Nat → Nat → PR
  | 0, _, _, _ => .error 0
  | f + 1, m, nst, p =>
    if m = 0 then
      (if hrV c p = 33 then .ok ([[(2, 0, 0, [], [])]], p + 1)
      else if hrV c p = 99 then (if 49 ≤ hrV c (p + 1) ∧ hrV c (p + 1) ≤ 57 then phrP c 1 (hrV c (p + 1) - 48).toNat (p + 2) else .error (p + 1))
      else if hrV c p = 109 ∨ hrV c p = 114 then (if nst ≤ 9 then mapP (if hrV c p = 109 then 4 else 5, 0, 1, [], []) (opnP c nst (p + 1) (prs c f 3 (nst + 1) (p + 2))) else .error p)
      else if hrV c p = 40 then opnP c nst p (prs c f 3 (nst + 1) (p + 1))
      else phrP c 0 0 p)
    else if m = 1 then (if isG c p then mapP (3, (hrV c p - 48).toNat, 1, [], []) (prs c f 0 nst (p + 1)) else prs c f 0 nst p)
    else if m = 2 then
      (if hrV c (endP (prs c f 1 nst p)) = 124 then appP (prs c f 1 nst p) (prs c f 2 nst (endP (prs c f 1 nst p) + 1)) else prs c f 1 nst p)
    else (if hrV c (endP (prs c f 2 nst p)) = 59 then appP (layP (prs c f 2 nst p)) (prs c f 3 nst (endP (prs c f 2 nst p) + 1)) else layP (prs c f 2 nst p))
theorem hrV_in {c : List Nat} {p : Nat} {x : Int} (h : hrV c p = x) (hx : x ≠ -1) : p < c.length := by
  unfold hrV at h
  split at h
  · assumption
  · exact absurd h.symm hx
theorem hrV_ge {c : List Nat} {p : Nat} (h : 0 ≤ hrV c p) : p < c.length := by
  unfold hrV at h
  split at h
  · assumption
  · omega
theorem phrF_false (c : List Nat) (p : Nat) : phrF c p false = (false, [], [], p) := rfl
theorem phrF_le {c : List Nat} {p : Nat} {b : Bool} (hp : p ≤ c.length) : (phrF c p b).2.2.2 ≤ c.length ∧ p ≤ (phrF c p b).2.2.2 ∧ (phrF c p b).2.1.length + (phrF c p b).2.2.1.length + p ≤ (phrF c p b).2.2.2 := by
  have hD := runD_le c (c.length + 1) p hp
  unfold phrF
  cases hb2 : (b && isD c p) with
  | false => simp [hp]
  | true =>
    simp only [if_true, Bool.true_and]
    by_cases h58 : hrV c (runD c (c.length + 1) p).2 = 58
    · have hlt := hrV_in h58 (by decide)
      rw [decide_eq_true h58]
      simp only [if_true, Bool.true_and]
      cases hS : isS c ((runD c (c.length + 1) p).2 + 1) with
      | false => simp; omega
      | true =>
        have hS2 := runS_le c (c.length + 1) ((runD c (c.length + 1) p).2 + 1) (by omega)
        simp only [if_true]
        omega
    · rw [decide_eq_false h58]
      simp
      omega
/-- what a phrase that is right holds -/
theorem runD_ok (c : List Nat) : ∀ f p, ∀ x ∈ (runD c f p).1, x < 8 := by
  intro f
  induction f with
  | zero => intro p x hx; simp [runD] at hx
  | succ f ih =>
    intro p x hx
    cases hd : isD c p with
    | false => rw [runD_f hd] at hx; simp at hx
    | true =>
      rw [runD_t hd] at hx
      rcases List.mem_cons.mp hx with rfl | h
      · unfold isD at hd
        simp at hd
        omega
      · exact ih _ x h
theorem runS_ok (c : List Nat) : ∀ f p, ∀ x ∈ (runS c f p).1, x ≤ 4 := by
  intro f
  induction f with
  | zero => intro p x hx; simp [runS] at hx
  | succ f ih =>
    intro p x hx
    cases hd : isS c p with
    | false => rw [runS_f hd] at hx; simp at hx
    | true =>
      rw [runS_t hd] at hx
      rcases List.mem_cons.mp hx with rfl | h
      · unfold isS at hd
        exact (stp_N (by simpa using hd)).2
      · exact ih _ x h
theorem getD_of {α : Type} {l : List α} {P : α → Prop} (h : ∀ x ∈ l, P x) {d : α} {i : Nat} (hi : i < l.length) : P (l.getD i d) := by
  rw [List.getD_eq_getElem?_getD, List.getElem?_eq_getElem hi]
  exact h _ (List.getElem_mem hi)
theorem phrF_ok {c : List Nat} {p : Nat} {b : Bool} (h : (phrF c p b).1 = true) : p < (phrF c p b).2.2.2 ∧ 1 ≤ (phrF c p b).2.1.length ∧ 1 ≤ (phrF c p b).2.2.1.length ∧ (∀ x ∈ (phrF c p b).2.1, x < 8) ∧ ∀ x ∈ (phrF c p b).2.2.1, x ≤ 4 := by
  unfold phrF at h ⊢
  cases hb2 : (b && isD c p) with
  | false => rw [hb2] at h; simp at h
  | true =>
    rw [hb2] at h
    have hd : isD c p = true := by simp at hb2; exact hb2.2
    have hpl := isD_lt hd
    have hD := runD_le c (c.length + 1) p (by omega)
    have hD1 : 1 ≤ (runD c (c.length + 1) p).1.length := by rw [runD_t hd]; simp
    simp only [if_true, Bool.true_and] at h ⊢
    by_cases h58 : hrV c (runD c (c.length + 1) p).2 = 58
    · have hlt := hrV_in h58 (by decide)
      rw [decide_eq_true h58] at h ⊢
      simp only [if_true, Bool.true_and] at h ⊢
      rw [h]
      simp only [if_true]
      have hS2 := runS_le c (c.length + 1) ((runD c (c.length + 1) p).2 + 1) (by omega)
      have hS1 : 1 ≤ (runS c (c.length + 1) ((runD c (c.length + 1) p).2 + 1)).1.length := by rw [runS_t h]; simp
      exact ⟨by omega, hD1, hS1, runD_ok c _ _, runS_ok c _ _⟩
    · rw [decide_eq_false h58] at h
      simp at h
theorem phrP_ok {c : List Nat} {k v p : Nat} {r : List (List Nd) × Nat} (h : phrP c k v p = .ok r) : (phrF c p true).1 = true ∧ r = ([[(k, v, 0, (phrF c p true).2.1, (phrF c p true).2.2.1)]], (phrF c p true).2.2.2) := by
  unfold phrP at h
  split at h
  · rename_i q; cases h; exact ⟨q, rfl⟩
  · cases h
theorem encP_ok {c : List Nat} {x : PR} {r : List (List Nd) × Nat} (h : encP c x = .ok r) : ∃ r' : List (List Nd) × Nat, x = .ok r' ∧ hrV c r'.2 = 41 ∧ r = ([serR r'.1], r'.2 + 1) := by
  unfold encP at h
  cases x with
  | error e => cases h
  | ok r' =>
    dsimp only at h
    split at h
    · rename_i q; cases h; exact ⟨r', rfl, q, rfl⟩
    · cases h
theorem opnP_ok {c : List Nat} {nst p : Nat} {x : PR} {r : List (List Nd) × Nat} (h : opnP c nst p x = .ok r) : hrV c p = 40 ∧ nst ≤ 9 ∧ encP c x = .ok r := by
  unfold opnP at h
  split at h
  · rename_i q; exact ⟨q.1, q.2, h⟩
  · cases h
theorem mapP_ok {nd : Nd} {x : PR} {r : List (List Nd) × Nat} (h : mapP nd x = .ok r) : ∃ r' : List (List Nd) × Nat, x = .ok r' ∧ r = ([nd :: r'.1.flatten], r'.2) := by
  unfold mapP at h
  cases x with
  | error e => cases h
  | ok r' => cases h; exact ⟨r', rfl, rfl⟩
theorem appP_ok {x y : PR} {r : List (List Nd) × Nat} (h : appP x y = .ok r) : ∃ r' r'' : List (List Nd) × Nat, x = .ok r' ∧ y = .ok r'' ∧ r = (r'.1 ++ r''.1, r''.2) := by
  unfold appP at h
  cases x with
  | error e => cases h
  | ok r' =>
    cases y with
    | error e => cases h
    | ok r'' => cases h; exact ⟨r', r'', rfl, rfl, rfl⟩
theorem layP_ok {x : PR} {r : List (List Nd) × Nat} (h : layP x = .ok r) : ∃ r' : List (List Nd) × Nat, x = .ok r' ∧ r = ([layR r'.1], r'.2) := by
  unfold layP at h
  cases x with
  | error e => cases h
  | ok r' => cases h; exact ⟨r', rfl, rfl⟩
theorem prs_0 (c : List Nat) (f nst p : Nat) : prs c (f + 1) 0 nst p = (if hrV c p = 33 then .ok ([[(2, 0, 0, [], [])]], p + 1)
      else if hrV c p = 99 then (if 49 ≤ hrV c (p + 1) ∧ hrV c (p + 1) ≤ 57 then phrP c 1 (hrV c (p + 1) - 48).toNat (p + 2) else .error (p + 1))
      else if hrV c p = 109 ∨ hrV c p = 114 then (if nst ≤ 9 then mapP (if hrV c p = 109 then 4 else 5, 0, 1, [], []) (opnP c nst (p + 1) (prs c f 3 (nst + 1) (p + 2))) else .error p)
      else if hrV c p = 40 then opnP c nst p (prs c f 3 (nst + 1) (p + 1))
      else phrP c 0 0 p) := rfl
theorem prs_1 (c : List Nat) (f nst p : Nat) : prs c (f + 1) 1 nst p = (if isG c p then mapP (3, (hrV c p - 48).toNat, 1, [], []) (prs c f 0 nst (p + 1)) else prs c f 0 nst p) := rfl
theorem prs_2 (c : List Nat) (f nst p : Nat) : prs c (f + 1) 2 nst p = (if hrV c (endP (prs c f 1 nst p)) = 124 then appP (prs c f 1 nst p) (prs c f 2 nst (endP (prs c f 1 nst p) + 1)) else prs c f 1 nst p) := rfl
theorem prs_3 (c : List Nat) (f nst p : Nat) : prs c (f + 1) 3 nst p = (if hrV c (endP (prs c f 2 nst p)) = 59 then appP (layP (prs c f 2 nst p)) (prs c f 3 nst (endP (prs c f 2 nst p) + 1)) else layP (prs c f 2 nst p)) := rfl
theorem isG_in {c : List Nat} {p : Nat} (h : isG c p = true) : p < c.length := by
  unfold isG at h
  simp at h
  exact hrV_ge (by omega)
/-- what is parsed goes on within the text -/
theorem prs_go (c : List Nat) : ∀ (f m nst p : Nat) (r : List (List Nd) × Nat), m ≤ 3 → p ≤ c.length → prs c f m nst p = .ok r → p < r.2 ∧ r.2 ≤ c.length := by
  intro f
  induction f with
  | zero => intro m nst p r _ _ h; cases h
  | succ f ih =>
    intro m nst p r hm hp h
    have phr : ∀ {k v p' : Nat}, p ≤ p' → p' ≤ c.length → phrP c k v p' = .ok r → p < r.2 ∧ r.2 ≤ c.length := by
      intro k v p' h1 h2 h3
      obtain ⟨q1, q2⟩ := phrP_ok h3
      have a := phrF_le (b := true) h2
      have b := (phrF_ok q1).1
      rw [q2]
      exact ⟨by show p < (phrF c p' true).2.2.2; omega, a.1⟩
    have opn : ∀ {p' : Nat} {r : List (List Nd) × Nat}, p ≤ p' → opnP c nst p' (prs c f 3 (nst + 1) (p' + 1)) = .ok r → p < r.2 ∧ r.2 ≤ c.length := by
      intro p' r h1 h3
      obtain ⟨q1, q2, q3⟩ := opnP_ok h3
      obtain ⟨r', q4, q5, q6⟩ := encP_ok q3
      have hlt := hrV_in q1 (by decide)
      have := ih 3 (nst + 1) (p' + 1) r' (by omega) (by omega) q4
      have := hrV_in q5 (by decide)
      rw [q6]
      dsimp only
      omega
    rcases Nat.lt_or_ge m 1 with h0 | h0
    · obtain rfl : m = 0 := by omega
      rw [prs_0] at h
      split at h
      · rename_i q; cases h; have := hrV_in q (by decide); dsimp only; omega
      · split at h
        · rename_i q
          have := hrV_in q (by decide)
          split at h
          · rename_i q2
            have := hrV_ge (c := c) (p := p + 1) (by omega)
            exact phr (by omega) (by omega) h
          · cases h
        · split at h
          · split at h
            · obtain ⟨r', q4, q5⟩ := mapP_ok h
              have := opn (p' := p + 1) (by omega) q4
              rw [q5]
              exact this
            · cases h
          · split at h
            · exact opn (Nat.le_refl _) h
            · exact phr (Nat.le_refl _) hp h
    · rcases Nat.lt_or_ge m 2 with h0 | h0
      · obtain rfl : m = 1 := by omega
        rw [prs_1] at h
        split at h
        · rename_i q
          have := isG_in q
          obtain ⟨r', q4, q5⟩ := mapP_ok h
          have := ih 0 nst (p + 1) r' (by omega) (by omega) q4
          rw [q5]
          dsimp only
          omega
        · exact ih 0 nst p r (by omega) hp h
      · rcases Nat.lt_or_ge m 3 with h0 | h0
        · obtain rfl : m = 2 := by omega
          rw [prs_2] at h
          split at h
          · rename_i q
            obtain ⟨r', r'', q4, q5, q6⟩ := appP_ok h
            rw [q4] at q q5
            have hq := hrV_in q (by decide)
            have a := ih 1 nst p r' (by omega) hp q4
            have b := ih 2 nst (r'.2 + 1) r'' (by omega) hq q5
            rw [q6]
            dsimp only
            omega
          · exact ih 1 nst p r (by omega) hp h
        · obtain rfl : m = 3 := by omega
          rw [prs_3] at h
          split at h
          · rename_i q
            obtain ⟨r', r'', q4, q5, q6⟩ := appP_ok h
            obtain ⟨r3, q7, q8⟩ := layP_ok q4
            rw [q7] at q q5
            have hq := hrV_in q (by decide)
            have a := ih 2 nst p r3 (by omega) hp q7
            have b := ih 3 nst (r3.2 + 1) r'' (by omega) hq q5
            rw [q6]
            dsimp only
            omega
          · obtain ⟨r3, q7, q8⟩ := layP_ok h
            have a := ih 2 nst p r3 (by omega) hp q7
            rw [q8]
            exact a
end RS0

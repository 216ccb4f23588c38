/-! rows of nodes while a text is read (printed by gen/mkr2.py) -/
section R2
def dlen (nd : Nd) : Nat := nd.2.2.2.1.length + nd.2.2.2.2.length
def dsum : List Nd → Nat
  | [] => 0
  | nd :: l => dlen nd + dsum l
theorem dsum_app (l r : List Nd) : dsum (l ++ r) = dsum l + dsum r := by
  induction l with
  | nil => simp [dsum]
  | cons nd l ih => show dlen nd + dsum (l ++ r) = dlen nd + dsum l + dsum r; rw [ih]; omega
/-- node i of the row stands in A, its data at p -/
def rnAt (A : Nat → Int) (i p : Nat) (nd : Nd) : Prop := A (45 + 6 * i) = nd.1 ∧ A (45 + 6 * i + 1) = nd.2.1 ∧ A (45 + 6 * i + 2) = nd.2.2.1 ∧ A (45 + 6 * i + 3) = p ∧ A (45 + 6 * i + 4) = nd.2.2.2.1.length ∧ A (45 + 6 * i + 5) = nd.2.2.2.2.length ∧ (∀ k, k < nd.2.2.2.1.length → A (6645 + (p + k)) = nd.2.2.2.1.getD k 0) ∧ ∀ k, k < nd.2.2.2.2.length → A (6645 + (p + nd.2.2.2.1.length + k)) = nd.2.2.2.2.getD k 0
/-- the row, its data one behind the other -/
def rwAt (L1 : Nat → Int) (A : Nat → Int) (ns : List Nd) : Prop := A 43 = ns.length ∧ A 44 = dsum ns ∧ (∀ (i : Nat) (nd : Nd), ns[i]? = some nd → rnAt A i (dsum (ns.take i)) nd) ∧ ∀ j : Nat, j < 43 → A j = L1 j
theorem dsum_take_le (ns : List Nd) (i : Nat) (nd : Nd) (h : ns[i]? = some nd) : dsum (ns.take i) + dlen nd ≤ dsum ns := by
  have e : ns = ns.take i ++ (nd :: ns.drop (i + 1)) := by
    have q := List.take_append_drop i ns
    rw [List.drop_eq_getElem_cons (lt_of_getE h)] at q
    have : ns[i]'(lt_of_getE h) = nd := by
      have := List.getElem?_eq_getElem (lt_of_getE h)
      rw [h] at this
      exact (Option.some.inj this).symm
    rw [this] at q
    exact q.symm
  have e2 := congrArg dsum e
  rw [dsum_app] at e2
  show _ + _ ≤ dsum ns
  rw [e2]
  show _ ≤ _ + (dlen nd + _)
  omega
theorem rnAt.congr {A B : Nat → Int} {i p : Nat} {nd : Nd} (h : rnAt A i p nd) (h1 : ∀ w, w < 6 → B (45 + 6 * i + w) = A (45 + 6 * i + w)) (h2 : ∀ k, p ≤ k → k < p + dlen nd → B (6645 + k) = A (6645 + k)) : rnAt B i p nd := by
  obtain ⟨q1, q2, q3, q4, q5, q6, q7, q8⟩ := h
  unfold dlen at h2
  refine ⟨(h1 0 (by omega)).trans q1, (h1 1 (by omega)).trans q2, (h1 2 (by omega)).trans q3, (h1 3 (by omega)).trans q4, (h1 4 (by omega)).trans q5, (h1 5 (by omega)).trans q6, fun k hk => (h2 _ (by omega) (by omega)).trans (q7 k hk), fun k hk => ?_⟩
  exact (h2 _ (by omega) (by omega)).trans (q8 k hk)
theorem rw_app {L1 A : Nat → Int} {ns : List Nd} {kd v ch : Nat} (h : rwAt L1 A ns) (hn : ns.length ≤ 900) : rwAt L1 (appA A kd v ch) (ns ++ [(kd, v, ch, [], [])]) := by
  obtain ⟨h1, h2, h3, h4⟩ := h
  have e43 : (A 43).toNat = ns.length := by rw [h1]; exact Int.toNat_natCast _
  have out : ∀ j, j ≠ 43 → (j < 45 + 6 * ns.length ∨ 51 + 6 * ns.length ≤ j) → appA A kd v ch j = A j := fun j hj hc => by
    unfold appA
    rw [if_neg hj, if_neg (by omega), if_neg (by omega), if_neg (by omega), if_neg (by omega), if_neg (by omega), if_neg (by omega)]
  refine ⟨?_, ?_, fun i nd hi => ?_, fun j hj => (out j (by omega) (by omega)).trans (h4 j hj)⟩
  · show (if 43 = 43 then A 43 + 1 else _) = _
    rw [if_pos rfl, h1, List.length_append]
    rfl
  · rw [out 44 (by omega) (by omega), h2, dsum_app]
    rfl
  · by_cases c : i < ns.length
    · rw [List.getElem?_append_left c] at hi
      have hd := dsum_take_le ns i nd hi
      rw [List.take_append_of_le_length (by omega)]
      exact (h3 i nd hi).congr (fun w hw => out _ (by omega) (by omega)) (fun k hk hk' => out _ (by omega) (by omega))
    · have hil := lt_of_getE hi
      rw [List.length_append, List.length_singleton] at hil
      have hi' : i = ns.length := by omega
      subst hi'
      rw [List.getElem?_append_right (Nat.le_refl _), Nat.sub_self] at hi
      cases hi
      rw [List.take_append_of_le_length (Nat.le_refl _), List.take_length]
      have g : ∀ w : Nat, w < 6 → appA A kd v ch (45 + 6 * ns.length + w) = (match w with | 0 => (kd : Int) | 1 => (v : Int) | 2 => (ch : Int) | 3 => A 44 | _ => 0) := fun w hw => by
        unfold appA
        rw [e43]
        match w, hw with
        | 0, _ => rw [if_neg (by omega), if_pos (by omega)]; rfl
        | 1, _ => rw [if_neg (by omega), if_neg (by omega), if_pos (by omega)]; rfl
        | 2, _ => rw [if_neg (by omega), if_neg (by omega), if_neg (by omega), if_pos (by omega)]; rfl
        | 3, _ => rw [if_neg (by omega), if_neg (by omega), if_neg (by omega), if_neg (by omega), if_pos (by omega)]; rfl
        | 4, _ => rw [if_neg (by omega), if_neg (by omega), if_neg (by omega), if_neg (by omega), if_neg (by omega), if_pos (by omega)]; rfl
        | 5, _ => rw [if_neg (by omega), if_neg (by omega), if_neg (by omega), if_neg (by omega), if_neg (by omega), if_neg (by omega), if_pos (by omega)]; rfl
      exact ⟨g 0 (by omega), g 1 (by omega), g 2 (by omega), (g 3 (by omega)).trans h2, g 4 (by omega), g 5 (by omega), fun k hk => by simp at hk, fun k hk => by simp at hk⟩
def incC (nd : Nd) : Nd := (nd.1, nd.2.1, nd.2.2.1 + 1, nd.2.2.2)
theorem dlen_inc (nd : Nd) : dlen (incC nd) = dlen nd := rfl
theorem dsum_set {ns : List Nd} : ∀ {i : Nat} {nd : Nd}, ns[i]? = some nd → ∀ nd' : Nd, dlen nd' = dlen nd → dsum (ns.set i nd') = dsum ns := by
  induction ns with
  | nil => intro i nd h; simp at h
  | cons a ns ih =>
    intro i nd h nd' e
    cases i with
    | zero => simp at h; subst h; show dlen nd' + _ = dlen a + _; rw [e]
    | succ i => show dlen a + dsum (ns.set i nd') = _; rw [ih (by simpa using h) nd' e]; rfl
theorem rw_inc {L1 A : Nat → Int} {ns : List Nd} {i : Nat} {nd : Nd} (h : rwAt L1 A ns) (hn : ns.length ≤ 1000) (hi : ns[i]? = some nd) : rwAt L1 (uz A (45 + 6 * i + 2) ((nd.2.2.1 : Int) + 1)) (ns.set i (incC nd)) := by
  obtain ⟨h1, h2, h3, h4⟩ := h
  have hil := lt_of_getE hi
  have out : ∀ j, j ≠ 45 + 6 * i + 2 → uz A (45 + 6 * i + 2) ((nd.2.2.1 : Int) + 1) j = A j := fun j hj => if_neg hj
  refine ⟨by rw [out _ (by omega), h1, List.length_set], by rw [out _ (by omega), h2, dsum_set hi _ (dlen_inc nd)], fun k nk hk => ?_, fun j hj => (out j (by omega)).trans (h4 j hj)⟩
  have hkl := lt_of_getE hk
  rw [List.length_set] at hkl
  have et : dsum ((ns.set i (incC nd)).take k) = dsum (ns.take k) := by
    by_cases c : i < k
    · rw [List.take_set]
      exact dsum_set (nd := nd) (by rw [List.getElem?_take_of_lt c]; exact hi) _ (dlen_inc nd)
    · rw [List.take_set, List.set_eq_of_length_le (by rw [List.length_take]; omega)]
  rw [et]
  by_cases c : i = k
  · subst c
    rw [List.getElem?_set_self hil] at hk
    cases hk
    obtain ⟨q1, q2, q3, q4, q5, q6, q7, q8⟩ := h3 i nd hi
    refine ⟨(out _ (by omega)).trans q1, (out _ (by omega)).trans q2, ?_, (out _ (by omega)).trans q4, (out _ (by omega)).trans q5, (out _ (by omega)).trans q6, fun k hk => (out _ (by omega)).trans (q7 k hk), fun k hk => (out _ (by omega)).trans (q8 k hk)⟩
    show uz A (45 + 6 * i + 2) ((nd.2.2.1 : Int) + 1) (45 + 6 * i + 2) = ((nd.2.2.1 + 1 : Nat) : Int)
    rw [uz_same]; rfl
  · rw [List.getElem?_set_ne c] at hk
    exact (h3 k nk hk).congr (fun w hw => out _ (by omega)) (fun x _ _ => out _ (by omega))
def addD (nd : Nd) (x : Nat) : Nd := (nd.1, nd.2.1, nd.2.2.1, nd.2.2.2.1 ++ [x], nd.2.2.2.2)
def addS (nd : Nd) (x : Nat) : Nd := (nd.1, nd.2.1, nd.2.2.1, nd.2.2.2.1, nd.2.2.2.2 ++ [x])
theorem rw_add {L1 A : Nat → Int} {ns : List Nd} {nd nd' : Nd} {w x : Nat} (h : rwAt L1 A (ns ++ [nd])) (hn : ns.length ≤ 900) (hd : dsum (ns ++ [nd]) < 2000) (hw : (w = 4 ∧ nd.2.2.2.2 = [] ∧ nd' = addD nd x) ∨ (w = 5 ∧ nd' = addS nd x)) : rwAt L1 (addA A w (x : Int)) (ns ++ [nd']) := by
  obtain ⟨h1, h2, h3, h4⟩ := h
  have e43 : (A 43).toNat = ns.length + 1 := by rw [h1, List.length_append]; exact Int.toNat_natCast _
  have e44 : (A 44).toNat = dsum (ns ++ [nd]) := by rw [h2]; exact Int.toNat_natCast _
  have hw' : w = 4 ∨ w = 5 := by rcases hw with h | h; exact Or.inl h.1; exact Or.inr h.1
  have hl : dlen nd' = dlen nd + 1 := by
    rcases hw with ⟨-, -, rfl⟩ | ⟨-, rfl⟩
    · simp [dlen, addD]; omega
    · simp [dlen, addS]; omega
  have es : dsum (ns ++ [nd]) = dsum ns + dlen nd := by rw [dsum_app]; rfl
  have out : ∀ j, j ≠ 44 → j ≠ 6645 + dsum (ns ++ [nd]) → j ≠ 45 + 6 * ns.length + w → addA A w (x : Int) j = A j := fun j a b c => by
    unfold addA
    rw [if_neg a, if_neg (by omega), if_neg (by omega)]
  refine ⟨by rw [out 43 (by omega) (by omega) (by omega), h1]; simp, ?_, fun i nk hi => ?_, fun j hj => (out j (by omega) (by omega) (by omega)).trans (h4 j hj)⟩
  · unfold addA
    rw [if_pos rfl, h2, es, dsum_app]
    show _ = ((dsum ns + (dlen nd' + 0) : Nat) : Int)
    omega
  · by_cases c : i < ns.length
    · rw [List.getElem?_append_left c] at hi
      have q := h3 i nk (by rw [List.getElem?_append_left c]; exact hi)
      rw [List.take_append_of_le_length (by omega)] at q ⊢
      have hd := dsum_take_le ns i nk hi
      exact q.congr (fun w' hw'' => out _ (by omega) (by omega) (by omega)) (fun k hk hk' => out _ (by omega) (by omega) (by omega))
    · have hil := lt_of_getE hi
      rw [List.length_append, List.length_singleton] at hil
      have hi' : i = ns.length := by omega
      subst hi'
      rw [List.getElem?_append_right (Nat.le_refl _), Nat.sub_self] at hi
      cases hi
      have q := h3 ns.length nd (by rw [List.getElem?_append_right (Nat.le_refl _), Nat.sub_self]; rfl)
      rw [List.take_append_of_le_length (Nat.le_refl _), List.take_length] at q ⊢
      obtain ⟨q1, q2, q3, q4, q5, q6, q7, q8⟩ := q
      have hdl : dlen nd = nd.2.2.2.1.length + nd.2.2.2.2.length := rfl
      have new : addA A w (x : Int) (6645 + dsum (ns ++ [nd])) = x := by
        unfold addA
        rw [if_neg (by omega), if_pos (by omega)]
      rcases hw with ⟨rfl, hs0, rfl⟩ | ⟨rfl, rfl⟩
      · have hs : nd.2.2.2.2.length = 0 := by rw [hs0]; rfl
        refine ⟨(out _ (by omega) (by omega) (by omega)).trans q1, (out _ (by omega) (by omega) (by omega)).trans q2, (out _ (by omega) (by omega) (by omega)).trans q3, (out _ (by omega) (by omega) (by omega)).trans q4, ?_, (out _ (by omega) (by omega) (by omega)).trans q6, fun k hk => ?_, fun k hk => ?_⟩
        · unfold addA
          rw [if_neg (by omega), if_neg (by omega), if_pos (by omega), q5]
          simp [addD]
        · have hk2 : k < nd.2.2.2.1.length + 1 := by simpa [addD] using hk
          show _ = ((((nd.2.2.2.1 ++ [x]).getD k 0 : Nat)) : Int)
          by_cases ck : k < nd.2.2.2.1.length
          · rw [out _ (by omega) (by omega) (by omega), q7 k ck]
            simp [List.getD_eq_getElem?_getD, List.getElem?_append_left ck]
          · have : k = nd.2.2.2.1.length := by omega
            subst this
            rw [show 6645 + (dsum ns + nd.2.2.2.1.length) = 6645 + dsum (ns ++ [nd]) by omega, new]
            simp [List.getD_eq_getElem?_getD]
        · have : k < nd.2.2.2.2.length := hk
          omega
      · refine ⟨(out _ (by omega) (by omega) (by omega)).trans q1, (out _ (by omega) (by omega) (by omega)).trans q2, (out _ (by omega) (by omega) (by omega)).trans q3, (out _ (by omega) (by omega) (by omega)).trans q4, (out _ (by omega) (by omega) (by omega)).trans q5, ?_, fun k hk => ?_, fun k hk => ?_⟩
        · unfold addA
          rw [if_neg (by omega), if_neg (by omega), if_pos (by omega), q6]
          simp [addS]
        · have hk2 : k < nd.2.2.2.1.length := hk
          exact (out _ (by omega) (by omega) (by omega)).trans (q7 k hk2)
        · have hk2 : k < nd.2.2.2.2.length + 1 := by simpa [addS] using hk
          show addA A 5 (x : Int) (6645 + (dsum ns + nd.2.2.2.1.length + k)) = ((((nd.2.2.2.2 ++ [x]).getD k 0 : Nat)) : Int)
          by_cases ck : k < nd.2.2.2.2.length
          · rw [out _ (by omega) (by omega) (by omega), q8 k ck]
            simp [List.getD_eq_getElem?_getD, List.getElem?_append_left ck]
          · have : k = nd.2.2.2.2.length := by omega
            subst this
            rw [show 6645 + (dsum ns + nd.2.2.2.1.length + nd.2.2.2.2.length) = 6645 + dsum (ns ++ [nd]) by omega, new]
            simp [List.getD_eq_getElem?_getD]
end R2

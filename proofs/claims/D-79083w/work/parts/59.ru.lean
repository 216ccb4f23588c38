/-! reading: what is parsed is a tree; series and layers with one part are taken out (printed by gen/mkru.py) -/
section RU0
def kpNd (nd : Nd) : Bool := decide (nd.1 < 6) || decide (1 < nd.2.2.1)
def tidy (l : List Nd) : List Nd := l.filter kpNd
theorem tidy_app (l r : List Nd) : tidy (l ++ r) = tidy l ++ tidy r := List.filter_append ..
theorem tidy_flat (cs : List (List Nd)) : tidy cs.flatten = (cs.map tidy).flatten := by
  induction cs with
  | nil => rfl
  | cons c cs ih => rw [List.flatten_cons, tidy_app, ih]; rfl
theorem tidy_t {nd : Nd} {l : List Nd} (h : kpNd nd = true) : tidy (nd :: l) = nd :: tidy l := List.filter_cons_of_pos h
theorem tidy_f {nd : Nd} {l : List Nd} (h : kpNd nd = false) : tidy (nd :: l) = tidy l := List.filter_cons_of_neg (by rw [h]; decide)
def ndOkU (nd : Nd) : Prop := ndOk nd ∧ (3 ≤ nd.1 → nd.1 ≤ 5 → nd.2.2.1 = 1) ∧ (nd.1 = 3 → 2 ≤ nd.2.1)
theorem tidy_tree : ∀ (n : Nat) (l : List Nd), TR n l → TR n (tidy l) := by
  intro n
  induction n with
  | zero => intro l h; exact h.elim
  | succ n ih =>
    intro l h
    obtain ⟨nd, cs, rfl, hc, hk, hcs⟩ := h
    have hcs' : ∀ c ∈ cs.map tidy, TR n c := fun c hc => by
      obtain ⟨x, hx, rfl⟩ := List.mem_map.mp hc
      exact ih x (hcs x hx)
    cases hkp : kpNd nd with
    | true =>
      rw [tidy_t hkp, tidy_flat]
      exact ⟨nd, cs.map tidy, rfl, by rw [List.length_map]; exact hc, by rw [hk]; simp, hcs'⟩
    | false =>
      rw [tidy_f hkp, tidy_flat]
      unfold kpNd at hkp
      simp at hkp
      cases cs with
      | nil => have := hk.mpr rfl; omega
      | cons c1 cs =>
        cases cs with
        | nil =>
          simp only [List.map_cons, List.map_nil, List.flatten_cons, List.flatten_nil, List.append_nil]
          exact (hcs' (tidy c1) (by simp)).mono (Nat.le_succ n)
        | cons c2 cs => rw [hc] at hkp; simp at hkp
theorem tidy_ok {l : List Nd} (h : ∀ nd ∈ l, ndOkU nd) : ∀ nd ∈ tidy l, ndOk2 nd := fun nd hnd => by
  obtain ⟨h1, h2⟩ := List.mem_filter.mp hnd
  obtain ⟨a1, a2, a3⟩ := h nd h1
  refine ⟨a1, a2, fun q => ?_, a3⟩
  unfold kpNd at h2
  simp at h2
  omega
def dpP (m nst : Nat) : Nat := 4 * (10 - nst) + 1 + (if m = 0 then 0 else if m = 3 then 2 else 1)
/-- a row of parts: trees of a height, nodes in order, not more than there are signs -/
def okR (n : Nat) (rs : List (List Nd)) : Prop := ∀ row ∈ rs, TR n row ∧ ∀ nd ∈ row, ndOkU nd
theorem okR.flat {n : Nat} {rs : List (List Nd)} (h : okR n rs) : ∀ nd ∈ rs.flatten, ndOkU nd := fun nd hnd => by
  obtain ⟨row, h1, h2⟩ := List.mem_flatten.mp hnd
  exact (h row h1).2 nd h2
theorem okR.node {n : Nat} {rs : List (List Nd)} {nd : Nd} (h : okR n rs) (h1 : nd.2.2.1 = rs.length) (h2 : 3 ≤ nd.1) (h3 : rs ≠ []) (h4 : ndOkU nd) : okR (n + 1) [nd :: rs.flatten] := fun row hrow => by
  rw [List.mem_singleton] at hrow
  subst hrow
  refine ⟨⟨nd, rs, rfl, h1, ⟨fun q => by omega, fun q => absurd q h3⟩, fun c hc => (h c hc).1⟩, fun x hx => ?_⟩
  rcases List.mem_cons.mp hx with rfl | hx
  · exact h4
  · exact h.flat x hx
theorem okR.mono {n m : Nat} {rs : List (List Nd)} (h : okR n rs) (hm : n ≤ m) : okR m rs := fun row hrow => ⟨(h row hrow).1.mono hm, (h row hrow).2⟩
theorem okR.app {n : Nat} {rs rs' : List (List Nd)} (h : okR n rs) (h' : okR n rs') : okR n (rs ++ rs') := fun row hrow => by
  rcases List.mem_append.mp hrow with q | q
  · exact h row q
  · exact h' row q
theorem okU_inner {k v j : Nat} (hk : 3 ≤ k ∧ k ≤ 7) (hv : v ≤ 9) (hj : j ≤ 1100) (h1 : k ≤ 5 → j = 1) (h3 : k = 3 → 2 ≤ v) : ndOkU (k, v, j, [], []) :=
  ⟨⟨hk.2, hv, hj, fun q => by have : k ≤ 1 := q; omega⟩, fun _ q => h1 q, h3⟩
theorem prs_tree (c : List Nat) (hc : c.length ≤ 100) : ∀ (f m nst p : Nat) (r : List (List Nd) × Nat), m ≤ 3 → p ≤ c.length → nst ≤ 10 → prs c f m nst p = .ok r →
    okR (dpP m nst) r.1 ∧ r.1 ≠ [] ∧ r.1.length + p ≤ r.2 ∧ (m ≤ 1 → r.1.length = 1) := by
  intro f
  induction f with
  | zero => intro m nst p r _ _ _ h; cases h
  | succ f ih =>
    intro m nst p r hm hp hn h
    have hgo := prs_go c (f + 1) m nst p r hm hp h
    have phr : ∀ {k v p' : Nat}, m = 0 → k ≤ 1 → v ≤ 9 → p ≤ p' → p' ≤ c.length → phrP c k v p' = .ok r → okR (dpP 0 nst) r.1 ∧ r.1 ≠ [] ∧ r.1.length + p ≤ r.2 ∧ (m ≤ 1 → r.1.length = 1) := by
      intro k v p' hm0 hk hv h1 h2 h3
      obtain ⟨q1, q2⟩ := phrP_ok h3
      obtain ⟨b1, b2, b3, b4, b5⟩ := phrF_ok q1
      have a := phrF_le (b := true) h2
      rw [q2] at hgo ⊢
      dsimp only at hgo ⊢
      refine ⟨fun row hrow => ?_, by simp, by simp; omega, fun _ => rfl⟩
      rw [List.mem_singleton] at hrow
      subst hrow
      refine ⟨⟨(k, v, 0, (phrF c p' true).2.1, (phrF c p' true).2.2.1), [], rfl, rfl, ⟨fun _ => rfl, fun _ => by show k ≤ 2; omega⟩, by simp⟩, fun nd hnd => ?_⟩
      rw [List.mem_singleton] at hnd
      subst hnd
      exact ⟨⟨by show k ≤ 7; omega, hv, by show 0 ≤ 1100; omega, fun _ => ⟨b2, b3, fun i hi => getD_of b4 hi, fun i hi => getD_of b5 hi⟩⟩, fun q => by have : 3 ≤ k := q; omega, fun q => by have : k = 3 := q; omega⟩
    have opn : ∀ {p' : Nat} {r : List (List Nd) × Nat}, p ≤ p' → opnP c nst p' (prs c f 3 (nst + 1) (p' + 1)) = .ok r → nst ≤ 9 ∧ okR (dpP 0 nst - 1) r.1 ∧ r.1.length = 1 := by
      intro p' r h1 h3
      obtain ⟨q1, q2, q3⟩ := opnP_ok h3
      obtain ⟨r', q4, q5, q6⟩ := encP_ok q3
      have hlt := hrV_in q1 (by decide)
      obtain ⟨i1, i2, i3, i4⟩ := ih 3 (nst + 1) (p' + 1) r' (by omega) (by omega) (by omega) q4
      have := hrV_in q5 (by decide)
      rw [q6]
      refine ⟨q2, ?_, rfl⟩
      have e : dpP 0 nst - 1 = dpP 3 (nst + 1) + 1 := by unfold dpP; rw [if_pos rfl, if_neg (by omega), if_pos rfl]; omega
      rw [e]
      exact i1.node rfl (by show 3 ≤ 7; omega) i2 (okU_inner (by omega) (by omega) (by omega) (by omega) (by omega))
    have one : ∀ r' : List (List Nd) × Nat, r'.1.length = 1 → r'.1 ≠ [] := fun r' h q => by rw [q] at h; cases h
    rcases Nat.lt_or_ge m 1 with h0 | h0
    · obtain rfl : m = 0 := by omega
      rw [prs_0] at h
      split at h
      · cases h
        refine ⟨fun row hrow => ?_, by simp, by simp; omega, fun _ => rfl⟩
        rw [List.mem_singleton] at hrow
        subst hrow
        refine ⟨⟨(2, 0, 0, [], []), [], rfl, rfl, ⟨fun _ => rfl, fun _ => by show 2 ≤ 2; omega⟩, by simp⟩, fun nd hnd => ?_⟩
        rw [List.mem_singleton] at hnd
        subst hnd
        exact ⟨⟨by show 2 ≤ 7; omega, by show 0 ≤ 9; omega, by show 0 ≤ 1100; omega, fun q => by have : 2 ≤ 1 := q; omega⟩, fun q => by have : 3 ≤ 2 := q; omega, fun q => by have : 2 = 3 := q; omega⟩
      · split at h
        · rename_i q
          have := hrV_in q (by decide)
          split at h
          · rename_i q2
            have := hrV_ge (c := c) (p := p + 1) (by omega)
            exact phr rfl (by omega) (by omega) (by omega) (by omega) h
          · cases h
        · split at h
          · split at h
            · obtain ⟨r', q4, q5⟩ := mapP_ok h
              obtain ⟨i0, i1, i2⟩ := opn (p' := p + 1) (by omega) q4
              rw [q5] at hgo ⊢
              dsimp only at hgo ⊢
              refine ⟨?_, by simp, by simp; omega, fun _ => rfl⟩
              have e : dpP 0 nst = dpP 0 nst - 1 + 1 := by unfold dpP; omega
              rw [e]
              refine i1.node i2.symm ?_ (one r' i2) (okU_inner ?_ (by omega) (by omega) (by omega) ?_)
              · show 3 ≤ if _ then 4 else 5; split <;> omega
              · split <;> omega
              · split <;> omega
            · cases h
          · split at h
            · obtain ⟨i0, i1, i2⟩ := opn (Nat.le_refl _) h
              exact ⟨i1.mono (by omega), one r i2, by omega, fun _ => i2⟩
            · exact phr rfl (by omega) (by omega) (Nat.le_refl _) hp h
    · rcases Nat.lt_or_ge m 2 with h0 | h0
      · obtain rfl : m = 1 := by omega
        rw [prs_1] at h
        split at h
        · rename_i q
          have hp1 := isG_in q
          obtain ⟨r', q4, q5⟩ := mapP_ok h
          obtain ⟨i1, i2, i3, i4⟩ := ih 0 nst (p + 1) r' (by omega) (by omega) hn q4
          rw [q5] at hgo ⊢
          dsimp only at hgo ⊢
          refine ⟨?_, by simp, by simp; omega, fun _ => rfl⟩
          unfold isG at q
          simp at q
          exact i1.node (i4 (by omega)).symm (by show 3 ≤ 3; omega) i2 (okU_inner (by omega) (by omega) (by omega) (by omega) (by omega))
        · obtain ⟨i1, i2, i3, i4⟩ := ih 0 nst p r (by omega) hp hn h
          exact ⟨i1.mono (by unfold dpP; simp), i2, i3, fun _ => i4 (by omega)⟩
      · rcases Nat.lt_or_ge m 3 with h0 | h0
        · obtain rfl : m = 2 := by omega
          rw [prs_2] at h
          split at h
          · rename_i q
            obtain ⟨r', r'', q4, q5, q6⟩ := appP_ok h
            rw [q4] at q q5
            have hq := hrV_in q (by decide)
            obtain ⟨a1, a2, a3, a4⟩ := ih 1 nst p r' (by omega) hp hn q4
            obtain ⟨b1, b2, b3, b4⟩ := ih 2 nst (r'.2 + 1) r'' (by omega) hq hn q5
            have b3' : r''.1.length + (r'.2 + 1) ≤ r''.2 := b3
            rw [q6]
            exact ⟨a1.app b1, by simp [a2], by simp; omega, fun q => by omega⟩
          · obtain ⟨a1, a2, a3, a4⟩ := ih 1 nst p r (by omega) hp hn h
            exact ⟨a1, a2, a3, fun q => by omega⟩
        · obtain rfl : m = 3 := by omega
          have lay : ∀ r3 : List (List Nd) × Nat, prs c f 2 nst p = .ok r3 → okR (dpP 3 nst) [layR r3.1] ∧ p < r3.2 := by
            intro r3 q7
            obtain ⟨a1, a2, a3, a4⟩ := ih 2 nst p r3 (by omega) hp hn q7
            have hg := prs_go c f 2 nst p r3 (by omega) hp q7
            exact ⟨a1.node rfl (by show 3 ≤ 6; omega) a2 (okU_inner (by omega) (by omega) (by omega) (by omega) (by omega)), hg.1⟩
          rw [prs_3] at h
          split at h
          · rename_i q
            obtain ⟨r', r'', q4, q5, q6⟩ := appP_ok h
            obtain ⟨r3, q7, q8⟩ := layP_ok q4
            rw [q7] at q q5
            have hq := hrV_in q (by decide)
            obtain ⟨a1, a2⟩ := lay r3 q7
            obtain ⟨b1, b2, b3, b4⟩ := ih 3 nst (r3.2 + 1) r'' (by omega) hq hn q5
            have b3' : r''.1.length + (r3.2 + 1) ≤ r''.2 := b3
            rw [q6, q8]
            exact ⟨a1.app b1, by simp, by simp; omega, fun q => by omega⟩
          · obtain ⟨r3, q7, q8⟩ := layP_ok h
            obtain ⟨a1, a2⟩ := lay r3 q7
            rw [q8]
            exact ⟨a1, by simp, by simp; omega, fun q => by omega⟩
theorem parse_ok {c : List Nat} (hc : c.length ≤ 100) {l : List Nd} (h : parse c = .ok l) : TR 44 l ∧ ∀ nd ∈ l, ndOkU nd := by
  unfold parse at h
  cases hx : prs c (4 * c.length + 4) 3 0 0 with
  | error e => rw [hx] at h; cases h
  | ok r =>
    rw [hx] at h
    dsimp only at h
    split at h
    · cases h
      have hg := prs_go c _ 3 0 0 r (by omega) (Nat.zero_le _) hx
      obtain ⟨a1, a2, a3, a4⟩ := prs_tree c hc _ 3 0 0 r (by omega) (Nat.zero_le _) (by omega) hx
      exact (a1.node (nd := (7, 0, r.1.length, [], [])) rfl (by show 3 ≤ 7; omega) a2 (okU_inner (by omega) (by omega) (by omega) (by omega) (by omega))) _ (List.mem_singleton.mpr rfl)
    · cases h
theorem parse_pcOk {c : List Nat} (hc : c.length ≤ 100) {l : List Nd} (h : parse c = .ok l) : pcOk (tidy l) :=
  ⟨(tidy_tree 44 l (parse_ok hc h).1).mono (by omega), tidy_ok (parse_ok hc h).2⟩
theorem parse_err {c : List Nat} {e : Nat} (h : parse c = .error e) (hs : ∀ n ns lv, itM c n begR = (3, e, ns, lv) → e ≤ c.length) : e ≤ c.length := by
  have q := sim_all c
  rw [h] at q
  obtain ⟨ns, lv, n, hn⟩ := q
  exact hs n ns lv hn
end RU0

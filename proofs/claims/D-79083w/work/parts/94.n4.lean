/-! the length of a piece (printed by gen/mkn4.py) -/
section N4S
variable {g : GB} {M : MI} {d c k : Nat} {h : HM}
def lenA (nd : Nd) (vs : List Nat) : Nat := if nd.1 ≤ 1 then lsz nd else if nd.1 = 2 then 0 else if nd.1 = 3 then nd.2.1 * vs.headD 0 else if nd.1 ≤ 5 then vs.headD 0 else vs.foldl (lenF (decide (nd.1 = 6))) 0
def lenV (l : List Nd) : Nat := val lenA 0 l
/-- all parts of a node that is all right are so -/
theorem kids_ok {n : Nat} {nd : Nd} {cs : List (List Nd)} {P : Pt} (hc : nd.2.2.1 = cs.length) (hk : nd.1 ≤ 2 ↔ cs = []) (hcs : ∀ c ∈ cs, TR n c) (h : sem (nd :: cs.flatten) = .ok P) : ∀ c ∈ cs, ∃ P : Pt, sem c = .ok P := by
  intro c hm
  unfold sem at h
  rw [val_node semA _ hc hcs] at h
  unfold semA at h
  have h2 : ¬ nd.1 ≤ 2 := fun q => by rw [hk.mp q] at hm; cases hm
  rw [if_neg h2, closeV_eq] at h
  cases hf : (cs.map (val semA (.error (0, 0)))).foldl mergeE (.ok (openO nd)) with
  | error e => unfold semA at hf; rw [hf] at h; cases h
  | ok O =>
    obtain ⟨-, h3⟩ := fold_ok _ _ _ hf
    obtain ⟨P, e, -⟩ := h3 _ (List.mem_map.mpr ⟨c, hm, rfl⟩)
    exact ⟨P, e⟩
theorem fold_len : ∀ (cs : List (List Nd)) (O O' : Op), (∀ c ∈ cs, ∀ P : Pt, sem c = .ok P → lenV c = P.1.1) → (cs.map sem).foldl mergeE (.ok O) = .ok O' → O'.2.2.1.2 = false → O'.1.1 = O.1.1 ∧ O'.1.2.1 = O.1.2.1 ∧ O.2.2.1.2 = false ∧ O'.2.1.1 = (cs.map lenV).foldl (lenF (decide (O.1.1 = 6))) O.2.1.1 := by
  intro cs
  induction cs with
  | nil => intro O O' _ h hl; cases h; exact ⟨rfl, rfl, hl, rfl⟩
  | cons c cs ih =>
    intro O O' hw h hl
    rw [List.map_cons, List.foldl_cons] at h
    cases hs : sem c with
    | error e =>
      rw [hs] at h
      have : (cs.map sem).foldl mergeE (.error e) = .ok O' := h
      rw [foldl_err] at this
      cases this
    | ok P =>
      rw [hs] at h
      obtain ⟨h1, h2, h3, h4⟩ := ih (mergeO O P) O' (fun c' hc' => hw c' (List.mem_cons_of_mem _ hc')) h hl
      have e1 : (mergeO O P).1.1 = O.1.1 := rfl
      have e2 : (mergeO O P).1.2.1 = O.1.2.1 := rfl
      have e3 : mLong O P = false := h3
      have e4 : O.2.2.1.2 = false := by
        unfold mLong at e3
        cases hb : O.2.2.1.2 with
        | false => rfl
        | true => rw [hb] at e3; cases e3
      have e5 : (mergeO O P).2.1.1 = lenF (decide (O.1.1 = 6)) O.2.1.1 (lenV c) := by
        show (if mLong O P then O.2.1.1 else max (mFrom O + P.1.1) O.2.1.1) = _
        rw [e3, hw c List.mem_cons_self P hs]
        unfold mFrom lenF
        by_cases q : O.1.1 = 6
        · simp only [q, if_true, decide_true]; simp; omega
        · simp only [q, if_false, decide_false]; simp
      refine ⟨by rw [h1, e1], by rw [h2, e2], e4, ?_⟩
      rw [h4, e1, e5]
      rfl
theorem len_ok : ∀ (n : Nat) (l : List Nd), TR n l → (∀ nd ∈ l, ndOk2 nd) → ∀ P : Pt, sem l = .ok P → lenV l = P.1.1 ∧ P.1.1 ≤ 99 := by
  intro n
  induction n with
  | zero => intro l h; exact h.elim
  | succ n ih =>
    intro l H hok P hP
    obtain ⟨nd, cs, rfl, hc, hk, hcs⟩ := H
    have hv : lenV (nd :: cs.flatten) = lenA nd (cs.map lenV) := by unfold lenV; rw [val_node lenA 0 hc hcs]
    have hsub : ∀ c ∈ cs, ∀ Q : Pt, sem c = .ok Q → lenV c = Q.1.1 := fun c hm Q hQ => (ih c (hcs c hm) (fun x hx => hok x (List.mem_cons_of_mem _ (List.mem_flatten.mpr ⟨c, hm, hx⟩))) Q hQ).1
    rw [hv]
    have hs : sem (nd :: cs.flatten) = semA nd (cs.map sem) := by unfold sem; rw [val_node semA _ hc hcs]
    rw [hs] at hP
    unfold semA at hP
    by_cases h2 : nd.1 ≤ 2
    · rw [if_pos h2] at hP
      unfold leafE at hP
      unfold lenA
      by_cases q2 : nd.1 = 2
      · rw [if_pos q2] at hP; cases hP
        rw [if_neg (by omega), if_pos q2]; exact ⟨rfl, Nat.zero_le _⟩
      · rw [if_neg q2] at hP
        split at hP
        · cases hP
        · split at hP
          · cases hP
          · cases hP
            rw [if_pos (by omega)]
            exact ⟨rfl, by show lsz nd ≤ 99; omega⟩
    · rw [if_neg h2] at hP
      unfold closeV at hP
      cases hf : (cs.map sem).foldl mergeE (.ok (openO nd)) with
      | error e => rw [hf] at hP; cases hP
      | ok O =>
        rw [hf] at hP
        obtain ⟨c1, c2, c3, c4, c5⟩ := closeE_ok hP
        obtain ⟨f1, f2, f3, f4⟩ := fold_len cs _ _ hsub hf c2
        have hz : P.1.1 = O.2.1.1 * cTimes O := by rw [c5]
        have ho := hok nd List.mem_cons_self
        have f1' : O.1.1 = nd.1 := f1
        have f2' : O.1.2.1 = nd.2.1 := f2
        have f4' : O.2.1.1 = (cs.map lenV).foldl (lenF (decide (nd.1 = 6))) 0 := f4
        refine ⟨?_, by rw [hz]; exact c3⟩
        rw [hz, f4']
        unfold cTimes lenA
        rw [f1', f2', if_neg (by omega), if_neg (by omega)]
        by_cases q5 : nd.1 ≤ 5
        · have hl1 : cs.length = 1 := by rw [← hc]; exact ho.2.1 (by omega) q5
          obtain ⟨c, rfl⟩ := List.length_eq_one_iff.mp hl1
          have e0 : ([c].map lenV).foldl (lenF (decide (nd.1 = 6))) 0 = lenV c := by
            rw [show decide (nd.1 = 6) = false by simp; omega]
            show lenF false 0 (lenV c) = _
            unfold lenF; simp
          rw [e0]
          by_cases q3 : nd.1 = 3
          · rw [if_pos q3, if_pos q3]; exact Nat.mul_comm _ _
          · rw [if_neg q3, if_neg q3, if_pos q5]; exact (Nat.mul_one _).symm
        · rw [if_neg (by omega), if_neg q5, if_neg (by omega), Nat.mul_one]
end N4S

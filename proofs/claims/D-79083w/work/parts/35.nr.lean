/-! a meaning is nothing beyond its length and its dancers; its cues are as many as it says (printed by gen/mknr.py) -/
section NR
def sumN (f : Nat → Nat) : Nat → Nat
  | 0 => 0
  | k + 1 => sumN f k + f k
theorem sumN_add (f h : Nat → Nat) : ∀ n, sumN (fun k => f k + h k) n = sumN f n + sumN h n := by
  intro n
  induction n with
  | zero => rfl
  | succ n ih => show sumN (fun k => f k + h k) n + (f n + h n) = (sumN f n + f n) + (sumN h n + h n); rw [ih]; omega
theorem sumN_congr {f h : Nat → Nat} : ∀ n, (∀ k, k < n → f k = h k) → sumN f n = sumN h n := by
  intro n
  induction n with
  | zero => intro _; rfl
  | succ n ih => intro e; show sumN f n + f n = sumN h n + h n; rw [ih (fun k hk => e k (by omega)), e n (by omega)]
theorem sumN_zero : ∀ n, sumN (fun _ => 0) n = 0 := by
  intro n
  induction n with
  | zero => rfl
  | succ n ih => show sumN (fun _ => 0) n + 0 = 0; rw [ih]
theorem sumN_ext {f : Nat → Nat} {n : Nat} (h : ∀ k, n ≤ k → f k = 0) : ∀ m, n ≤ m → sumN f m = sumN f n := by
  intro m
  induction m with
  | zero => intro hm; rw [show n = 0 by omega]
  | succ m ih =>
    intro hm
    by_cases e : n = m + 1
    · rw [e]
    · show sumN f m + f m = _
      rw [ih (by omega), h m (by omega)]
      rfl
theorem sumN_shift {f : Nat → Nat} (F n : Nat) : sumN (fun k => if F ≤ k ∧ k ≤ F + n then f (k - F) else 0) (F + n + 1) = sumN f (n + 1) := by
  have key : ∀ m, m ≤ n + 1 → sumN (fun k => if F ≤ k ∧ k ≤ F + n then f (k - F) else 0) (F + m) = sumN f m := by
    intro m
    induction m with
    | zero =>
      intro _
      rw [Nat.add_zero, sumN_congr (h := fun _ => 0) F (fun k hk => if_neg (by omega)), sumN_zero]
      rfl
    | succ m ih =>
      intro hm
      show sumN (fun k => if F ≤ k ∧ k ≤ F + n then f (k - F) else 0) (F + m) + (if F ≤ F + m ∧ F + m ≤ F + n then f (F + m - F) else 0) = sumN f m + f m
      rw [ih (by omega), if_pos ⟨by omega, by omega⟩, Nat.add_sub_cancel_left]
  exact key (n + 1) (Nat.le_refl _)
theorem sumN_shift2 {f : Nat → Nat} (F n m : Nat) (hm : F + n < m) : sumN (fun k => if F ≤ k ∧ k ≤ F + n then f (k - F) else 0) m = sumN f (n + 1) := by
  rw [sumN_ext (n := F + n + 1) (fun k hk => if_neg (by omega)) m (by omega), sumN_shift]
theorem sumN_succ' (f : Nat → Nat) : ∀ n, sumN f (n + 1) = f 0 + sumN (fun k => f (k + 1)) n := by
  intro n
  induction n with
  | zero => simp [sumN]
  | succ n ih => show sumN f (n + 1) + f (n + 1) = f 0 + (sumN (fun k => f (k + 1)) n + f (n + 1)); rw [ih]; omega
theorem sumN_rev : ∀ (n : Nat) (f : Nat → Nat), sumN (fun k => f (n - k)) (n + 1) = sumN f (n + 1) := by
  intro n
  induction n with
  | zero => intro f; rfl
  | succ n ih =>
    intro f
    rw [sumN_succ']
    have e : sumN (fun k => f (n + 1 - (k + 1))) (n + 1) = sumN (fun k => f (n - k)) (n + 1) := sumN_congr _ (fun k _ => by rw [Nat.succ_sub_succ])
    rw [e, ih]
    show f (n + 1 - 0) + sumN f (n + 1) = sumN f (n + 1) + f (n + 1)
    rw [Nat.sub_zero, Nat.add_comm]
def cOk (n c : Nat) (f : Nat → Nat) : Prop := (∀ k, n < k → f k = 0) ∧ sumN f (n + 1) = c
def sOk (n u : Nat) (f : Nat → Nat → Nat) : Prop := ∀ e k : Nat, e < 8 → (n ≤ k ∨ u.testBit e = false) → f e k = 0
def nrP (P : Pt) : Prop := cOk P.1.1 P.1.2.2.2 P.2.2 ∧ sOk P.1.1 P.1.2.1 P.2.1
def nrO (O : Op) : Prop := O.2.2.1.2 = false → cOk O.2.1.1 O.2.1.2.2.2 O.2.2.2.2 ∧ sOk O.2.1.1 O.2.1.2.1 O.2.2.2.1
theorem nrO_merge {O : Op} {P : Pt} (hO : nrO O) (hP : nrP P) : nrO (mergeO O P) := by
  intro hl
  have hl' : mLong O P = false := hl
  have hol : O.2.2.1.2 = false := by unfold mLong at hl'; simp at hl'; exact hl'.1
  obtain ⟨⟨c1, c2⟩, s1⟩ := hO hol
  obtain ⟨⟨p1, p2⟩, s2⟩ := hP
  have e1 : (mergeO O P).2.1.1 = max (mFrom O + P.1.1) O.2.1.1 := by show (if mLong O P then _ else _) = _; rw [hl']; rfl
  have e2 : (mergeO O P).2.2.2.2 = mCues O P := by show (if mLong O P then _ else _) = _; rw [hl']; rfl
  have e3 : (mergeO O P).2.2.2.1 = mSteps O P := by show (if mLong O P then _ else _) = _; rw [hl']; rfl
  have e4 : (mergeO O P).2.1.2.1 = O.2.1.2.1 ||| P.1.2.1 := rfl
  have e5 : (mergeO O P).2.1.2.2.2 = O.2.1.2.2.2 + P.1.2.2.2 := rfl
  rw [e1, e2, e3, e4, e5]
  refine ⟨⟨fun k hk => ?_, ?_⟩, fun e k he hk => ?_⟩
  · unfold mCues
    rw [if_neg (by omega)]
    exact c1 k (by omega)
  · have q : ∀ k, mCues O P k = O.2.2.2.2 k + (if mFrom O ≤ k ∧ k ≤ mFrom O + P.1.1 then P.2.2 (k - mFrom O) else 0) := by
      intro k
      unfold mCues
      split <;> simp
    rw [sumN_congr (h := fun k => O.2.2.2.2 k + (if mFrom O ≤ k ∧ k ≤ mFrom O + P.1.1 then P.2.2 (k - mFrom O) else 0)) _ (fun k _ => q k), sumN_add, sumN_shift2 _ _ _ (by omega), p2, sumN_ext (n := O.2.1.1 + 1) (fun k hk => c1 k (by omega)) _ (by omega), c2]
  · unfold mSteps
    rw [Nat.testBit_or] at hk
    split
    · rename_i hc
      refine s2 e _ he ?_
      rcases hk with hk | hk
      · omega
      · right
        rw [hc.2.2] at hk
        simp at hk
    · refine s1 e k he ?_
      rcases hk with hk | hk
      · left; omega
      · right
        simp at hk
        exact hk.1
theorem onceC_sum (O : Op) : sumN (onceC O) (O.2.1.1 + 1) = sumN O.2.2.2.2 (O.2.1.1 + 1) := by
  by_cases h : O.1.1 = 5
  · have : onceC O = fun k => O.2.2.2.2 (O.2.1.1 - k) := by funext k; unfold onceC; rw [if_pos h]
    rw [this, sumN_rev]
  · have : onceC O = O.2.2.2.2 := by funext k; unfold onceC; rw [if_neg h]
    rw [this]
theorem timesC_sum {O : Op} {c : Nat} (h : sumN O.2.2.2.2 (O.2.1.1 + 1) = c) : ∀ (t m : Nat), O.2.1.1 * t < m → sumN (timesC O t) m = c * t := by
  intro t
  induction t with
  | zero => intro m _; exact sumN_zero m
  | succ t ih =>
    intro m hm
    rw [Nat.mul_succ] at hm
    rw [sumN_congr (f := timesC O (t + 1)) (h := fun k => timesC O t k + (if O.2.1.1 * t ≤ k ∧ k ≤ O.2.1.1 * t + O.2.1.1 then onceC O (k - O.2.1.1 * t) else 0)) _ (fun k _ => rfl), sumN_add, sumN_shift2 _ _ _ (by omega), onceC_sum, h, ih m (by omega), Nat.mul_succ]
theorem timesC_hi {O : Op} : ∀ (t k : Nat), O.2.1.1 * t < k → timesC O t k = 0 := by
  intro t
  induction t with
  | zero => intro k _; rfl
  | succ t ih =>
    intro k hk
    rw [Nat.mul_succ] at hk
    show timesC O t k + _ = 0
    rw [ih k (by omega), if_neg (by omega)]
theorem onceS_z {O : Op} (h : sOk O.2.1.1 O.2.1.2.1 O.2.2.2.1) {e : Nat} (he : e < 8) (hb : O.2.1.2.1.testBit e = false) (k : Nat) : onceS O e k = 0 := by
  unfold onceS
  have q : ∀ k, O.2.2.2.1 e k = 0 := fun k => h e k he (Or.inr hb)
  simp only [q]
  split
  · rfl
  · split <;> rfl
theorem timesS_z {O : Op} (h : sOk O.2.1.1 O.2.1.2.1 O.2.2.2.1) : ∀ (t e k : Nat), e < 8 → (O.2.1.1 * t ≤ k ∨ O.2.1.2.1.testBit e = false) → timesS O t e k = 0 := by
  intro t
  induction t with
  | zero => intro e k _ _; rfl
  | succ t ih =>
    intro e k he hk
    rw [Nat.mul_succ] at hk
    show (if _ then _ else _) = 0
    split
    · rcases hk with hk | hk
      · omega
      · exact onceS_z h he hk _
    · refine ih e k he ?_
      rcases hk with hk | hk
      · exact Or.inl (by omega)
      · exact Or.inr hk
theorem nrP_close {O : Op} {P : Pt} (hO : nrO O) (h : closeE O = .ok P) : nrP P := by
  obtain ⟨e1, e2, e3, e4, e5⟩ := closeE_ok h
  obtain ⟨⟨c1, c2⟩, s1⟩ := hO e2
  rw [e5]
  exact ⟨⟨fun k hk => timesC_hi _ k hk, timesC_sum c2 _ _ (Nat.lt_succ_self _)⟩, fun e k he hk => timesS_z s1 _ e k he hk⟩
theorem lst_z {off : Nat} {ds ss : List Nat} {n e k : Nat} (h : ∀ i, i < n → ds.getD i 0 = e → off * i + ss.length ≤ k) : lst off ds ss n e k = 0 := by
  induction n with
  | zero => rfl
  | succ n ih =>
    unfold lst
    rw [if_neg (by
      rintro ⟨q1, q2, q3⟩
      have := h n (by omega) q1.symm
      omega)]
    exact ih (fun i hi => h i (by omega))
theorem twl_used (ds : List Nat) (h8 : ∀ i, i < ds.length → ds.getD i 0 < 8) : ∀ n, n ≤ ds.length → ∀ e, e < 8 → ((twl (ds.take n)).2.testBit e = true ↔ ∃ i, i < n ∧ ds.getD i 0 = e) := by
  intro n
  induction n with
  | zero => intro _ e _; simp [twl]
  | succ n ih =>
    intro hn e he
    rw [twl_succ ds (by omega)]
    show ((twl (ds.take n)).2 ||| 1 <<< ds.getD n 0).testBit e = true ↔ _
    rw [Nat.testBit_or, Bool.or_eq_true, ih (by omega) e he]
    have hb : (1 <<< ds.getD n 0).testBit e = true ↔ ds.getD n 0 = e := by
      have : ∀ a b : Fin 8, (1 <<< a.val).testBit b.val = true ↔ a.val = b.val := by decide
      exact this ⟨_, h8 n (by omega)⟩ ⟨e, he⟩
    rw [hb]
    constructor
    · rintro (⟨i, q1, q2⟩ | q)
      · exact ⟨i, by omega, q2⟩
      · exact ⟨n, by omega, q⟩
    · rintro ⟨i, q1, q2⟩
      by_cases c : i = n
      · subst c; exact Or.inr q2
      · exact Or.inl ⟨i, by omega, q2⟩
theorem nrP_leaf {nd : Nd} {P : Pt} (hO : ndOk nd) (h2 : nd.1 ≤ 2) (h : leafE nd = .ok P) : nrP P := by
  unfold leafE at h
  split at h
  · cases h
    exact ⟨⟨fun k hk => if_neg (by have : 0 < k := hk; omega), rfl⟩, fun _ _ _ _ => rfl⟩
  · rename_i hk
    obtain ⟨hd1, -, h8, h4⟩ := hO.2.2.2 (by omega)
    split at h
    · cases h
    · split at h
      · cases h
      · cases h
        refine ⟨⟨fun _ _ => rfl, sumN_zero _⟩, fun e k he hk => ?_⟩
        show lst _ _ _ _ e k = 0
        refine lst_z (fun i hi q => ?_)
        rcases hk with hk | hk
        · have hk' : lsz nd ≤ k := hk
          unfold lsz at hk'
          have := Nat.mul_le_mul_left (offN nd) (show i ≤ nd.2.2.2.1.length - 1 by omega)
          omega
        · exfalso
          have q2 := (twl_used nd.2.2.2.1 h8 _ (Nat.le_refl _) e he).mpr ⟨i, hi, q⟩
          rw [List.take_length] at q2
          have hk2 : (twl nd.2.2.2.1).2.testBit e = false := hk
          rw [hk2] at q2
          cases q2
theorem nrP_sem : ∀ (n : Nat) (l : List Nd) (P : Pt), TR n l → (∀ nd ∈ l, ndOk2 nd) → sem l = .ok P → nrP P := by
  intro n
  induction n with
  | zero => intro l P h; exact h.elim
  | succ n ih =>
    intro l P h hok hs
    obtain ⟨nd, cs, rfl, hc, hk, hcs⟩ := h
    rw [sem_node hc hcs] at hs
    by_cases h2 : nd.1 ≤ 2
    · unfold semA at hs
      rw [if_pos h2] at hs
      exact nrP_leaf (hok nd List.mem_cons_self).1 h2 hs
    · unfold semA at hs
      rw [if_neg h2, closeV_eq] at hs
      have key : ∀ (cs : List (List Nd)) (O O' : Op), (∀ c ∈ cs, TR n c) → (∀ nd ∈ cs.flatten, ndOk2 nd) → nrO O → (cs.map sem).foldl mergeE (.ok O) = .ok O' → nrO O' := by
        intro cs
        induction cs with
        | nil => intro O O' _ _ hO h; cases h; exact hO
        | cons c cs ihc =>
          intro O O' hcs hok hO h
          rw [List.map_cons, List.foldl_cons] at h
          cases hv : sem c with
          | error e =>
            rw [hv] at h
            have : (cs.map sem).foldl mergeE (.error e) = .ok O' := h
            rw [foldl_err] at this
            cases this
          | ok Q =>
            rw [hv] at h
            exact ihc (mergeO O Q) O' (fun c' h' => hcs c' (List.mem_cons_of_mem _ h')) (fun nd h => hok nd (by rw [List.flatten_cons]; exact List.mem_append_right _ h)) (nrO_merge hO (ih c Q (hcs c List.mem_cons_self) (fun nd h => hok nd (by rw [List.flatten_cons]; exact List.mem_append_left _ h)) hv)) h
      cases hf : (cs.map sem).foldl mergeE (.ok (openO nd)) with
      | error e => rw [hf] at hs; cases hs
      | ok O =>
        rw [hf] at hs
        exact nrP_close (key cs _ O hcs (fun nd h => hok nd (List.mem_cons_of_mem _ h)) (fun _ => ⟨⟨fun _ _ => rfl, rfl⟩, fun _ _ _ _ => rfl⟩) hf) hs
theorem nr_mean {l : List Nd} (h : pcOk l) (hs : sem l = .ok (mean l)) : nrP (mean l) := nrP_sem 81 l _ h.1 h.2 hs
/-- the count of a cue -/
def cueF (c : Nat → Nat) : Nat → Nat → Nat → Nat
  | 0, k, _ => k
  | f + 1, k, left => if c k ≤ left then cueF c f (k + 1) (left - c k) else k
end NR

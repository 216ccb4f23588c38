/-! the machine with a row of open parts gives a piece's meaning (printed by gen/mksn.py) -/
section SN
def endM : List Op → Me → Except Er (List Op × Pt)
  | _, .error e => .error e
  | [], .ok P => .ok ([], P)
  | O :: σ, .ok P => if 0 < (mergeO O P).1.2.2 then .ok (mergeO O P :: σ, P) else endM σ (closeE (mergeO O P))
def runM : List Nd → List Op → Pt → Except Er (List Op × Pt)
  | [], σ, P => .ok (σ, P)
  | nd :: l, σ, P => if nd.1 ≤ 2 then (match endM σ (leafE nd) with
      | .error e => .error e
      | .ok q => runM l q.1 q.2) else runM l (openO nd :: σ) P
theorem endM_error (σ : List Op) (e : Er) : endM σ (.error e) = .error e := by cases σ <;> rfl
theorem endM_cons (O : Op) (σ : List Op) (P : Pt) : endM (O :: σ) (.ok P) = if 0 < (mergeO O P).1.2.2 then .ok (mergeO O P :: σ, P) else endM σ (closeE (mergeO O P)) := rfl
theorem mergeO_left (O : Op) (P : Pt) : (mergeO O P).1.2.2 = O.1.2.2 - 1 := rfl
theorem foldl_err (vs : List Me) (e : Er) : vs.foldl mergeE (.error e) = .error e := by
  induction vs with
  | nil => rfl
  | cons v vs ih => exact ih
def resM (r : Except Er (List Op × Pt)) (l : List Nd) : Except Er (List Op × Pt) := match r with
  | .error e => .error e
  | .ok q => runM l q.1 q.2
def foldE (r : Except Er Op) : Me := match r with
  | .error e => .error e
  | .ok O => closeE O
theorem closeV_eq (nd : Nd) (vs : List Me) : closeV nd vs = foldE (vs.foldl mergeE (.ok (openO nd))) := by
  unfold closeV foldE
  rfl
theorem run_tree : ∀ (n : Nat) (l : List Nd), TR n l → ∀ (r : List Nd) (σ : List Op) (P : Pt), runM (l ++ r) σ P = resM (endM σ (sem l)) r := by
  intro n
  induction n with
  | zero => intro l h; exact h.elim
  | succ n ih =>
    intro l h r σ P
    obtain ⟨nd, cs, rfl, hc, hk, hcs⟩ := h
    rw [sem_node hc hcs]
    by_cases h2 : nd.1 ≤ 2
    · have e := hk.mp h2
      subst e
      simp only [List.flatten_nil, List.cons_append, List.nil_append, runM, if_pos h2, semA, resM]
    · have key : ∀ (cs : List (List Nd)) (O : Op) (P : Pt), (∀ c ∈ cs, TR n c) → cs ≠ [] → O.1.2.2 = cs.length → runM (cs.flatten ++ r) (O :: σ) P = resM (endM σ (foldE ((cs.map sem).foldl mergeE (.ok O)))) r := by
        intro cs
        induction cs with
        | nil => intro O P _ q; exact absurd rfl q
        | cons c cs ihc =>
          intro O P hcs _ hl
          rw [List.flatten_cons, List.append_assoc, ih c (hcs c List.mem_cons_self)]
          rw [List.map_cons, List.foldl_cons]
          cases hv : sem c with
          | error e =>
            rw [endM_error]
            show resM (.error e) _ = resM (endM σ (foldE ((cs.map sem).foldl mergeE (.error e)))) r
            rw [foldl_err]
            show _ = resM (endM σ (.error e)) r
            rw [endM_error]
            rfl
          | ok Q =>
            show resM (endM (O :: σ) (.ok Q)) _ = resM (endM σ (foldE ((cs.map sem).foldl mergeE (.ok (mergeO O Q))))) r
            have hl2 : (mergeO O Q).1.2.2 = cs.length := by rw [mergeO_left, hl]; simp
            rw [endM_cons]
            by_cases hcn : cs = []
            · subst hcn
              rw [if_neg (by rw [hl2]; simp)]
              rfl
            · rw [if_pos (by rw [hl2]; exact List.length_pos_iff.mpr hcn)]
              show runM (cs.flatten ++ r) (mergeO O Q :: σ) Q = _
              exact ihc _ _ (fun c' h' => hcs c' (List.mem_cons_of_mem _ h')) hcn hl2
      have hcn : cs ≠ [] := fun q => h2 (hk.mpr q)
      show runM (nd :: (cs.flatten ++ r)) σ P = _
      unfold runM
      rw [if_neg h2, key cs (openO nd) P hcs hcn hc]
      unfold semA
      rw [if_neg h2, closeV_eq]
theorem run_piece {n : Nat} {l : List Nd} (h : TR n l) (P : Pt) : runM l [] P = match sem l with
    | .error e => .error e
    | .ok Q => .ok ([], Q) := by
  have q := run_tree n l h [] [] P
  rw [List.append_nil] at q
  rw [q]
  cases sem l <;> rfl
/-! bounds -/
def okPt (P : Pt) (n : Nat) : Prop := P.1.1 ≤ 99 ∧ P.1.2.1 < 256 ∧ P.1.2.2.1 + n ≤ 81 ∧ P.1.2.2.2 ≤ 999 ∧ ∀ e q : Nat, P.2.1 e q ≤ 4
def okOp (O : Op) (n : Nat) : Prop := 3 ≤ O.1.1 ∧ O.1.1 ≤ 7 ∧ O.1.2.1 ≤ 9 ∧ 1 ≤ cTimes O ∧ 1 ≤ O.1.2.2 ∧ O.2.1.1 ≤ 99 ∧ O.2.1.2.1 < 256 ∧ O.2.2.1.1 < 256 ∧ O.2.1.2.2.1 + n + 1 ≤ 81 ∧ O.2.1.2.2.2 + 999 * O.1.2.2 ≤ 999 * 1100 ∧ ∀ e q : Nat, O.2.2.2.1 e q ≤ 4
def okS : List Op → Prop
  | [] => True
  | O :: σ => okOp O σ.length ∧ okS σ
def ndOk2 (nd : Nd) : Prop := ndOk nd ∧ (3 ≤ nd.1 → nd.1 ≤ 5 → nd.2.2.1 = 1) ∧ (6 ≤ nd.1 → 2 ≤ nd.2.2.1) ∧ (nd.1 = 3 → 2 ≤ nd.2.1)
theorem cTimes_merge (O : Op) (P : Pt) : cTimes (mergeO O P) = cTimes O := rfl
theorem oppN_4 {x : Nat} (h : x ≤ 4) : oppN x ≤ 4 := by unfold oppN; split <;> (try split) <;> omega
theorem okOp_open {nd : Nd} (h : ndOk2 nd) (h3 : ¬ nd.1 ≤ 2) {n : Nat} (hn : n < 80) : okOp (openO nd) n := by
  obtain ⟨⟨h1, h2, h4, -⟩, h5, h5b, h6⟩ := h
  have h7 : 1 ≤ nd.2.2.1 := by
    rcases Nat.lt_or_ge 5 nd.1 with q | q
    · have := h5b q; omega
    · have := h5 (by omega) q; omega
  refine ⟨by show 3 ≤ nd.1; omega, h1, h2, ?_, h7, Nat.zero_le _, by show 0 < 256; decide, by show 0 < 256; decide, by show 0 + n + 1 ≤ 81; omega, by show 0 + 999 * nd.2.2.1 ≤ _; omega, fun _ _ => Nat.zero_le _⟩
  unfold cTimes
  show 1 ≤ if nd.1 = 3 then nd.2.1 else 1
  by_cases q : nd.1 = 3
  · rw [if_pos q]; have := h6 q; omega
  · rw [if_neg q]; exact Nat.le_refl _
theorem okOp_merge {O : Op} {P : Pt} {n : Nat} (hO : okOp O n) (hP : okPt P (n + 1)) (hl : 0 < (mergeO O P).1.2.2) : okOp (mergeO O P) n := by
  obtain ⟨o1, o2, o3, o4, o5, o6, o7, o8, o9, o10, o11⟩ := hO
  obtain ⟨p1, p2, p3, p4, p5⟩ := hP
  rw [mergeO_left] at hl
  refine ⟨o1, o2, o3, o4, by rw [mergeO_left]; omega, ?_, or_lt o7 p2, ?_, ?_, ?_, ?_⟩
  · show (if mLong O P then O.2.1.1 else max (mFrom O + P.1.1) O.2.1.1) ≤ 99
    by_cases q : mLong O P = true
    · rw [if_pos q]; exact o6
    · rw [if_neg q]
      unfold mLong at q
      simp only [Bool.or_eq_true, decide_eq_true_eq, not_or] at q
      omega
  · exact or_lt o8 (by split; exact and_lt o7; decide)
  · show max O.2.1.2.2.1 P.1.2.2.1 + n + 1 ≤ 81
    omega
  · show O.2.1.2.2.2 + P.1.2.2.2 + 999 * (O.1.2.2 - 1) ≤ _
    omega
  · intro e q
    show (if mLong O P then O.2.2.2.1 else mSteps O P) e q ≤ 4
    by_cases c : mLong O P = true
    · rw [if_pos c]; exact o11 e q
    · rw [if_neg c]
      unfold mSteps
      split
      · exact p5 _ _
      · exact o11 e q
/-- what a closed part needs -/
theorem okOp_last {O : Op} {P : Pt} {n : Nat} (hO : okOp O n) (hP : okPt P (n + 1)) : (mergeO O P).2.1.1 ≤ 99 ∧ (mergeO O P).2.1.2.1 < 256 ∧ (mergeO O P).2.1.2.2.2 ≤ 2000000 ∧ (mergeO O P).2.2.1.1 < 256 ∧ (mergeO O P).2.1.2.2.1 + n + 1 ≤ 81 ∧ ∀ e q : Nat, (mergeO O P).2.2.2.1 e q ≤ 4 := by
  obtain ⟨o1, o2, o3, o4, o5, o6, o7, o8, o9, o10, o11⟩ := hO
  obtain ⟨p1, p2, p3, p4, p5⟩ := hP
  refine ⟨?_, or_lt o7 p2, ?_, ?_, ?_, ?_⟩
  · show (if mLong O P then O.2.1.1 else max (mFrom O + P.1.1) O.2.1.1) ≤ 99
    by_cases q : mLong O P = true
    · rw [if_pos q]; exact o6
    · rw [if_neg q]
      unfold mLong at q
      simp only [Bool.or_eq_true, decide_eq_true_eq, not_or] at q
      omega
  · show O.2.1.2.2.2 + P.1.2.2.2 ≤ 2000000
    omega
  · exact or_lt o8 (by split; exact and_lt o7; decide)
  · show max O.2.1.2.2.1 P.1.2.2.1 + n + 1 ≤ 81
    omega
  · intro e q
    show (if mLong O P then O.2.2.2.1 else mSteps O P) e q ≤ 4
    by_cases c : mLong O P = true
    · rw [if_pos c]; exact o11 e q
    · rw [if_neg c]
      unfold mSteps
      split
      · exact p5 _ _
      · exact o11 e q
theorem onceS_le {O : Op} (h : ∀ e q : Nat, O.2.2.2.1 e q ≤ 4) (e q : Nat) : onceS O e q ≤ 4 := by
  unfold onceS
  split
  · exact oppN_4 (h _ _)
  · split
    · exact oppN_4 (h _ _)
    · exact h _ _
theorem timesS_le {O : Op} (h : ∀ e q : Nat, O.2.2.2.1 e q ≤ 4) : ∀ (t e q : Nat), timesS O t e q ≤ 4 := by
  intro t
  induction t with
  | zero => intro e q; exact Nat.zero_le _
  | succ t ih =>
    intro e q
    unfold timesS
    split
    · exact onceS_le h _ _
    · exact ih _ _
theorem okPt_close {O : Op} {n : Nat} {P : Pt} (h : closeE O = .ok P) (hu : O.2.1.2.1 < 256) (hd : O.2.1.2.2.1 + n + 1 ≤ 81) (hs : ∀ e q : Nat, O.2.2.2.1 e q ≤ 4) : okPt P n := by
  unfold closeE at h
  split at h
  · cases h
  · split at h
    · cases h
    · rename_i h1 h2
      cases h
      refine ⟨?_, hu, ?_, ?_, fun e q => timesS_le hs _ e q⟩
      · show O.2.1.1 * cTimes O ≤ 99
        exact Nat.le_of_not_lt (fun q => h2 (Or.inr (Or.inl q)))
      · show O.2.1.2.2.1 + 1 + n ≤ 81
        omega
      · show O.2.1.2.2.2 * cTimes O ≤ 999
        exact Nat.le_of_not_lt (fun q => h2 (Or.inr (Or.inr q)))
theorem lst_le {off : Nat} {ds ss : List Nat} (h : ∀ i, i < ss.length → ss.getD i 0 ≤ 4) : ∀ (i e q : Nat), lst off ds ss i e q ≤ 4 := by
  intro i
  induction i with
  | zero => intro e q; exact Nat.zero_le _
  | succ i ih =>
    intro e q
    unfold lst
    split
    · exact h _ (by omega)
    · exact ih _ _
theorem okPt_leaf {nd : Nd} {P : Pt} {n : Nat} (hn : n ≤ 80) (hO : ndOk nd) (h2 : nd.1 ≤ 2) (h : leafE nd = .ok P) : okPt P n := by
  unfold leafE at h
  split at h
  · cases h
    exact ⟨by decide, by decide, by show 1 + n ≤ 81; omega, by decide, fun _ _ => Nat.zero_le _⟩
  · rename_i hk
    obtain ⟨-, -, h8, h4⟩ := hO.2.2.2 (by omega)
    split at h
    · cases h
    · split at h
      · cases h
      · rename_i q1 q2
        cases h
        have ht := twl_lt _ h8 _ (Nat.le_refl _)
        rw [List.take_length] at ht
        exact ⟨by show lsz nd ≤ 99; omega, ht.2, by show 1 + n ≤ 81; omega, Nat.zero_le _, fun e q => lst_le h4 _ e q⟩
theorem okE : ∀ (σ : List Op) (P : Pt) (q : List Op × Pt), okS σ → okPt P σ.length → endM σ (.ok P) = .ok q → okS q.1 ∧ q.1.length ≤ σ.length ∧ (q.1 = [] → okPt q.2 0) := by
  intro σ
  induction σ with
  | nil => intro P q hs hP h; cases h; exact ⟨trivial, Nat.le_refl _, fun _ => hP⟩
  | cons O σ ih =>
    intro P q hs hP h
    unfold endM at h
    split at h
    · rename_i hl
      cases h
      exact ⟨⟨okOp_merge hs.1 hP hl, hs.2⟩, Nat.le_refl _, fun e => by cases e⟩
    · have hx := okOp_last hs.1 hP
      cases hc : closeE (mergeO O P) with
      | error e => rw [hc, endM_error] at h; cases h
      | ok P' =>
        rw [hc] at h
        obtain ⟨a, b, c⟩ := ih P' q hs.2 (okPt_close hc hx.2.1 hx.2.2.2.2.1 hx.2.2.2.2.2) h
        exact ⟨a, Nat.le_succ_of_le b, c⟩
/-- along a run no more than 80 parts are open -/
def runOk : List Nd → List Op → Pt → Prop
  | [], _, _ => True
  | nd :: l, σ, P => ndOk2 nd ∧ if nd.1 ≤ 2 then (match endM σ (leafE nd) with
      | .error _ => True
      | .ok q => runOk l q.1 q.2) else σ.length < 80 ∧ runOk l (openO nd :: σ) P
def resOk (r : Except Er (List Op × Pt)) (l : List Nd) : Prop := match r with
  | .error _ => True
  | .ok q => runOk l q.1 q.2
theorem endM_len : ∀ (σ : List Op) (v : Me) (q : List Op × Pt), endM σ v = .ok q → q.1.length ≤ σ.length := by
  intro σ
  induction σ with
  | nil =>
    intro v q h
    cases v with
    | error e => cases h
    | ok P => cases h; exact Nat.le_refl _
  | cons O σ ih =>
    intro v q h
    cases v with
    | error e => cases h
    | ok P =>
      unfold endM at h
      split at h
      · cases h; exact Nat.le_refl _
      · exact Nat.le_succ_of_le (ih _ q h)
theorem runOk_tree : ∀ (n : Nat) (l : List Nd), TR n l → (∀ nd ∈ l, ndOk2 nd) → ∀ (r : List Nd) (σ : List Op) (P : Pt), σ.length + n ≤ 81 → resOk (endM σ (sem l)) r → runOk (l ++ r) σ P := by
  intro n
  induction n with
  | zero => intro l h; exact h.elim
  | succ n ih =>
    intro l h hok r σ P hlen hr
    obtain ⟨nd, cs, rfl, hc, hk, hcs⟩ := h
    rw [sem_node hc hcs] at hr
    by_cases h2 : nd.1 ≤ 2
    · have e := hk.mp h2
      subst e
      simp only [List.flatten_nil, List.cons_append, List.nil_append, runOk, if_pos h2]
      refine ⟨hok nd List.mem_cons_self, ?_⟩
      unfold semA at hr
      rw [if_pos h2] at hr
      exact hr
    · have key : ∀ (cs : List (List Nd)) (O : Op) (P : Pt), (∀ c ∈ cs, TR n c) → (∀ nd ∈ cs.flatten, ndOk2 nd) → cs ≠ [] → O.1.2.2 = cs.length → resOk (endM σ (foldE ((cs.map sem).foldl mergeE (.ok O)))) r → runOk (cs.flatten ++ r) (O :: σ) P := by
        intro cs
        induction cs with
        | nil => intro O P _ _ q; exact absurd rfl q
        | cons c cs ihc =>
          intro O P hcs hokc _ hl hr
          rw [List.flatten_cons, List.append_assoc]
          refine ih c (hcs c List.mem_cons_self) (fun nd h => hokc nd (by rw [List.flatten_cons]; exact List.mem_append_left _ h)) _ (O :: σ) P (by simp only [List.length_cons]; omega) ?_
          rw [List.map_cons, List.foldl_cons] at hr
          cases hv : sem c with
          | error e => rw [endM_error]; exact trivial
          | ok Q =>
            rw [hv] at hr
            have hl2 : (mergeO O Q).1.2.2 = cs.length := by rw [mergeO_left, hl]; simp
            rw [endM_cons]
            by_cases hcn : cs = []
            · subst hcn
              rw [if_neg (by rw [hl2]; simp)]
              exact hr
            · rw [if_pos (by rw [hl2]; exact List.length_pos_iff.mpr hcn)]
              show runOk (cs.flatten ++ r) (mergeO O Q :: σ) Q
              exact ihc _ _ (fun c' h' => hcs c' (List.mem_cons_of_mem _ h')) (fun nd h => hokc nd (by rw [List.flatten_cons]; exact List.mem_append_right _ h)) hcn hl2 hr
      have hcn : cs ≠ [] := fun q => h2 (hk.mpr q)
      show runOk (nd :: (cs.flatten ++ r)) σ P
      unfold runOk
      refine ⟨hok nd List.mem_cons_self, ?_⟩
      rw [if_neg h2]
      have hn1 : 1 ≤ n := by
        cases cs with
        | nil => exact absurd rfl hcn
        | cons c cs =>
          have := hcs c List.mem_cons_self
          cases n with
          | zero => exact this.elim
          | succ n => omega
      refine ⟨by omega, key cs (openO nd) P hcs (fun nd h => hok nd (List.mem_cons_of_mem _ h)) hcn hc ?_⟩
      unfold semA at hr
      rw [if_neg h2, closeV_eq] at hr
      exact hr
theorem runOk_piece {n : Nat} {l : List Nd} (h : TR n l) (hok : ∀ nd ∈ l, ndOk2 nd) (hn : n ≤ 81) (P : Pt) : runOk l [] P := by
  have q := runOk_tree n l h hok [] [] P (by simpa using hn) (by unfold resOk; cases endM [] (sem l) <;> exact trivial)
  rwa [List.append_nil] at q
end SN

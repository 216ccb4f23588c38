/-! pieces that are turned or repeated (printed by gen/mkst.py) -/
section ST
theorem fold_ok : ∀ (vs : List Me) (O O' : Op), vs.foldl mergeE (.ok O) = .ok O' → O.2.1.2.2.1 ≤ O'.2.1.2.2.1 ∧ ∀ v ∈ vs, ∃ P : Pt, v = .ok P ∧ P.1.2.2.1 ≤ O'.2.1.2.2.1 := by
  intro vs
  induction vs with
  | nil => intro O O' h; cases h; exact ⟨Nat.le_refl _, fun v hv => by simp at hv⟩
  | cons v vs ih =>
    intro O O' h
    rw [List.foldl_cons] at h
    cases v with
    | error e =>
      have : vs.foldl mergeE (.error e) = .ok O' := h
      rw [foldl_err] at this
      cases this
    | ok P =>
      obtain ⟨h1, h2⟩ := ih (mergeO O P) O' h
      have e : (mergeO O P).2.1.2.2.1 = max O.2.1.2.2.1 P.1.2.2.1 := rfl
      rw [e] at h1
      refine ⟨by omega, fun w hw => ?_⟩
      rcases List.mem_cons.mp hw with rfl | hw
      · exact ⟨P, rfl, by omega⟩
      · exact h2 w hw
theorem closeE_ok {O : Op} {P : Pt} (h : closeE O = .ok P) : O.2.2.1.1 = 0 ∧ O.2.2.1.2 = false ∧ O.2.1.1 * cTimes O ≤ 99 ∧ O.2.1.2.2.2 * cTimes O ≤ 999 ∧ P = ((O.2.1.1 * cTimes O, O.2.1.2.1, O.2.1.2.2.1 + 1, O.2.1.2.2.2 * cTimes O), timesS O (cTimes O), timesC O (cTimes O)) := by
  unfold closeE at h
  split at h
  · cases h
  · split at h
    · cases h
    · rename_i h1 h2
      cases h
      refine ⟨Classical.not_not.mp h1, ?_, Nat.le_of_not_lt (fun q => h2 (Or.inr (Or.inl q))), Nat.le_of_not_lt (fun q => h2 (Or.inr (Or.inr q))), rfl⟩
      cases hb : O.2.2.1.2 with
      | false => rfl
      | true => exact absurd (Or.inl hb) h2
/-- a piece's depth is its height -/
theorem TR_depth : ∀ (n : Nat) (l : List Nd) (P : Pt), TR n l → sem l = .ok P → TR P.1.2.2.1 l := by
  intro n
  induction n with
  | zero => intro l P h; exact h.elim
  | succ n ih =>
    intro l P h hs
    obtain ⟨nd, cs, rfl, hc, hk, hcs⟩ := h
    rw [sem_node hc hcs] at hs
    by_cases h2 : nd.1 ≤ 2
    · have e := hk.mp h2
      subst e
      have h1 : P.1.2.2.1 = 1 := by
        unfold semA at hs
        rw [if_pos h2] at hs
        unfold leafE at hs
        split at hs
        · cases hs; rfl
        · split at hs
          · cases hs
          · split at hs
            · cases hs
            · cases hs; rfl
      rw [h1]
      exact ⟨nd, [], rfl, hc, hk, fun c h => by simp at h⟩
    · unfold semA at hs
      rw [if_neg h2, closeV_eq] at hs
      cases hf : (cs.map sem).foldl mergeE (.ok (openO nd)) with
      | error e => rw [hf] at hs; cases hs
      | ok O =>
        rw [hf] at hs
        obtain ⟨-, -, -, -, e⟩ := closeE_ok hs
        have hd : P.1.2.2.1 = O.2.1.2.2.1 + 1 := by rw [e]
        rw [hd]
        refine ⟨nd, cs, rfl, hc, hk, fun c hcm => ?_⟩
        obtain ⟨Pc, q1, q2⟩ := (fold_ok _ _ _ hf).2 (sem c) (List.mem_map.mpr ⟨c, hcm, rfl⟩)
        exact (ih c Pc (hcs c hcm) q1).mono q2
/-- a part around one part -/
theorem sem_single {n : Nat} {nd : Nd} {c : List Nd} (h1 : nd.2.2.1 = 1) (h3 : ¬ nd.1 ≤ 2) (hc : TR n c) : sem (nd :: c) = match sem c with
    | .error e => .error e
    | .ok P => closeE (mergeO (openO nd) P) := by
  have e := sem_node (nd := nd) (cs := [c]) (n := n) h1 (fun c' h => by rw [List.mem_singleton.mp h]; exact hc)
  rw [List.flatten_singleton] at e
  rw [e]
  unfold semA
  rw [if_neg h3, closeV_eq]
  cases hs : sem c with
  | error e' => simp only [List.map_cons, List.map_nil, List.foldl_cons, List.foldl_nil, hs]; rfl
  | ok P => simp only [List.map_cons, List.map_nil, List.foldl_cons, List.foldl_nil, hs]; rfl
theorem merge_open {nd : Nd} {P : Pt} (h6 : ¬ nd.1 = 6) (hs : P.1.1 ≤ 99) : (mergeO (openO nd) P).2.1 = (P.1.1, P.1.2.1, P.1.2.2.1, P.1.2.2.2) ∧ (mergeO (openO nd) P).2.2.1 = (0, false) ∧ (mergeO (openO nd) P).1.1 = nd.1 ∧ cTimes (mergeO (openO nd) P) = if nd.1 = 3 then nd.2.1 else 1 := by
  have hF : mFrom (openO nd) = 0 := by unfold mFrom; rw [if_neg (show ¬ (openO nd).1.1 = 6 from h6)]; rfl
  have hL : mLong (openO nd) P = false := by
    unfold mLong
    rw [hF]
    show (false || decide (0 + P.1.1 > 99)) = false
    simp
    omega
  refine ⟨?_, ?_, rfl, rfl⟩
  · unfold mergeO
    rw [hL, hF]
    simp [openO]
  · unfold mergeO
    rw [hL]
    have : ¬ (openO nd).1.1 = 6 := h6
    rw [if_neg this]
    simp [openO]
theorem sem_sgl_ok {n : Nat} {nd : Nd} {c : List Nd} {P : Pt} (h1 : nd.2.2.1 = 1) (h3 : 3 ≤ nd.1 ∧ nd.1 ≤ 5) (hc : TR n c) (hP : sem c = .ok P) (hs : P.1.1 ≤ 99) (hb : P.1.1 * (if nd.1 = 3 then nd.2.1 else 1) ≤ 99 ∧ P.1.2.2.2 * (if nd.1 = 3 then nd.2.1 else 1) ≤ 999) : ∃ Q : Pt, sem (nd :: c) = .ok Q ∧ Q.1 = (P.1.1 * (if nd.1 = 3 then nd.2.1 else 1), P.1.2.1, P.1.2.2.1 + 1, P.1.2.2.2 * (if nd.1 = 3 then nd.2.1 else 1)) := by
  rw [sem_single h1 (by omega) hc, hP]
  obtain ⟨m1, m2, m3, m4⟩ := merge_open (nd := nd) (P := P) (by omega) hs
  dsimp only
  unfold closeE
  rw [m1, m2, m4, if_neg (by simp), if_neg (by simp; omega)]
  exact ⟨_, rfl, rfl⟩
theorem sem_sgl_inv {n : Nat} {nd : Nd} {c : List Nd} {Q : Pt} (h1 : nd.2.2.1 = 1) (h3 : 3 ≤ nd.1 ∧ nd.1 ≤ 5) (hc : TR n c) (hQ : sem (nd :: c) = .ok Q) : ∃ P : Pt, sem c = .ok P ∧ P.1.1 ≤ 99 ∧ Q.1 = (P.1.1 * (if nd.1 = 3 then nd.2.1 else 1), P.1.2.1, P.1.2.2.1 + 1, P.1.2.2.2 * (if nd.1 = 3 then nd.2.1 else 1)) := by
  rw [sem_single h1 (by omega) hc] at hQ
  cases hs : sem c with
  | error e => rw [hs] at hQ; cases hQ
  | ok P =>
    rw [hs] at hQ
    obtain ⟨e1, e2, e3, e4, e5⟩ := closeE_ok hQ
    have hl : P.1.1 ≤ 99 := by
      have : mLong (openO nd) P = false := e2
      unfold mLong mFrom at this
      rw [if_neg (show ¬ (openO nd).1.1 = 6 from by show ¬ nd.1 = 6; omega)] at this
      have q : (false || decide (0 + P.1.1 > 99)) = false := this
      simp at q
      omega
    obtain ⟨m1, m2, m3, m4⟩ := merge_open (nd := nd) (P := P) (by omega) hl
    refine ⟨P, rfl, hl, ?_⟩
    rw [e5]
    rw [m1, m4]
theorem mean_of {l : List Nd} {P : Pt} (h : sem l = .ok P) : mean l = P := by unfold mean; rw [h]
/-- a piece with one child at its root -/
theorem TR_single {n : Nat} {nd : Nd} {c : List Nd} (h1 : nd.2.2.1 = 1) (h3 : 3 ≤ nd.1) (hc : TR n c) : TR (n + 1) (nd :: c) := ⟨nd, [c], by rw [List.flatten_singleton], h1, ⟨fun q => by omega, fun q => by cases q⟩, fun c' h => by rw [List.mem_singleton.mp h]; exact hc⟩
theorem TR_single_inv {n : Nat} {nd : Nd} {c : List Nd} (h1 : nd.2.2.1 = 1) (h : TR (n + 1) (nd :: c)) : TR n c := by
  obtain ⟨nd', cs, e, hc, hk, hcs⟩ := h
  cases e
  rw [h1] at hc
  cases cs with
  | nil => simp at hc
  | cons c' cs =>
    cases cs with
    | nil => rw [List.flatten_singleton]; exact hcs c' List.mem_cons_self
    | cons _ _ => simp at hc
def oneNd (k v : Nat) : Nd := (k, v, 1, [], [])
theorem ndOk2_one {k v : Nat} (h : 3 ≤ k ∧ k ≤ 5) (hv : v ≤ 9) (h3 : k = 3 → 2 ≤ v) : ndOk2 (oneNd k v) :=
  ⟨⟨by show k ≤ 7; omega, hv, by show 1 ≤ 1100; decide, fun q => by have : k ≤ 1 := q; omega⟩, fun _ _ => rfl, fun q => by have : 6 ≤ k := q; omega, h3⟩
/-- a piece gets a root with one child -/
theorem pc_one {l : List Nd} {P : Pt} {k v : Nat} (h : 3 ≤ k ∧ k ≤ 5) (hv : v ≤ 9) (h3 : k = 3 → 2 ≤ v) (hok : pcOk l) (hP : sem l = .ok P) (hd : P.1.2.2.1 ≤ 80) (hs : P.1.1 ≤ 99) (hb : P.1.1 * (if k = 3 then v else 1) ≤ 99 ∧ P.1.2.2.2 * (if k = 3 then v else 1) ≤ 999) : pcOk (oneNd k v :: l) ∧ ∃ Q : Pt, sem (oneNd k v :: l) = .ok Q ∧ Q.1 = (P.1.1 * (if k = 3 then v else 1), P.1.2.1, P.1.2.2.1 + 1, P.1.2.2.2 * (if k = 3 then v else 1)) :=
  ⟨⟨(TR_single rfl h.1 (TR_depth _ _ _ hok.1 hP)).mono (by omega), fun nd hn => by
      rcases List.mem_cons.mp hn with rfl | hn
      · exact ndOk2_one h hv h3
      · exact hok.2 nd hn⟩, sem_sgl_ok (nd := oneNd k v) rfl h hok.1 hP hs hb⟩
/-- .. and loses it -/
theorem pc_tail {nd : Nd} {t : List Nd} {Q : Pt} (h : nd.1 = 4 ∨ nd.1 = 5) (hok : pcOk (nd :: t)) (hQ : sem (nd :: t) = .ok Q) : pcOk t ∧ ∃ P : Pt, sem t = .ok P ∧ P.1.1 = Q.1.1 ∧ P.1.2.2.1 + 1 = Q.1.2.2.1 := by
  have h1 : nd.2.2.1 = 1 := (hok.2 nd List.mem_cons_self).2.1 (by omega) (by omega)
  have ht : TR 80 t := TR_single_inv h1 hok.1
  obtain ⟨P, p1, p2, p3⟩ := sem_sgl_inv h1 (by omega) ht hQ
  refine ⟨⟨ht.mono (by omega), fun n hn => hok.2 n (List.mem_cons_of_mem _ hn)⟩, P, p1, ?_, ?_⟩
  · rw [p3, if_neg (by omega)]; simp
  · rw [p3]
end ST

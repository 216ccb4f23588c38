/-! the piece with a plan behind it (pure; printed by gen/mkz_1.py) -/
section Z1S
theorem mergeO_sim {O1 O2 : Op} {P : Pt} (h1 : O1.1.1 = O2.1.1) (h2 : O1.2 = O2.2) : (mergeO O1 P).1.1 = (mergeO O2 P).1.1 ∧ (mergeO O1 P).2 = (mergeO O2 P).2 := by
  obtain ⟨⟨k1, r1⟩, x1⟩ := O1
  obtain ⟨⟨k2, r2⟩, x2⟩ := O2
  have h1' : k1 = k2 := h1
  have h2' : x1 = x2 := h2
  subst h1'
  subst h2'
  exact ⟨rfl, rfl⟩
theorem fold_sim : ∀ (vs : List Me) (O1 O2 O1' : Op), O1.1.1 = O2.1.1 → O1.2 = O2.2 → vs.foldl mergeE (.ok O1) = .ok O1' → ∃ O2' : Op, vs.foldl mergeE (.ok O2) = .ok O2' ∧ O1'.1.1 = O2'.1.1 ∧ O1'.2 = O2'.2 ∧ O1'.1.1 = O1.1.1 := by
  intro vs
  induction vs with
  | nil => intro O1 O2 O1' h1 h2 h; cases h; exact ⟨O2, rfl, h1, h2, rfl⟩
  | cons v vs ih =>
    intro O1 O2 O1' h1 h2 h
    rw [List.foldl_cons] at h
    cases v with
    | error e =>
      have : vs.foldl mergeE (.error e) = .ok O1' := h
      rw [foldl_err] at this
      cases this
    | ok P =>
      obtain ⟨m1, m2⟩ := mergeO_sim (P := P) h1 h2
      obtain ⟨O2', q1, q2, q3, q4⟩ := ih (mergeO O1 P) (mergeO O2 P) O1' m1 m2 h
      exact ⟨O2', q1, q2, q3, q4⟩
theorem ser_close {O : Op} {P : Pt} (h1 : O.1.1 = 7) (h2 : O.2.2.1 = (0, false)) (h3 : O.2.1.1 + P.1.1 ≤ 99) (h4 : O.2.1.2.2.2 + P.1.2.2.2 ≤ 999) : ∃ Q : Pt, closeE (mergeO O P) = .ok Q ∧ Q.1.1 = O.2.1.1 + P.1.1 ∧ Q.1.2.2.1 = max O.2.1.2.2.1 P.1.2.2.1 + 1 := by
  have hF : mFrom O = O.2.1.1 := by unfold mFrom; rw [if_neg (by rw [h1]; decide)]
  have hL : mLong O P = false := by
    unfold mLong
    rw [h2, hF]
    simp
    omega
  have e1 : (mergeO O P).2.2.1 = (0, false) := by
    show (O.2.2.1.1 ||| (if O.1.1 = 6 then O.2.1.2.1 &&& P.1.2.1 else 0), mLong O P) = _
    rw [if_neg (by rw [h1]; decide), hL, h2]
    rfl
  have e2 : (mergeO O P).2.1.1 = O.2.1.1 + P.1.1 := by
    show (if mLong O P then O.2.1.1 else max (mFrom O + P.1.1) O.2.1.1) = _
    rw [hL, if_neg (by decide), hF]
    omega
  have e3 : cTimes (mergeO O P) = 1 := by
    show (if O.1.1 = 3 then _ else 1) = 1
    rw [if_neg (by rw [h1]; decide)]
  have e4 : (mergeO O P).2.1.2.2.2 = O.2.1.2.2.2 + P.1.2.2.2 := rfl
  unfold closeE
  rw [e1, e2, e3, e4, if_neg (by simp), if_neg (by simp; omega)]
  exact ⟨_, rfl, Nat.mul_one _, rfl⟩
theorem openO_7 {nd : Nd} (h : nd.1 = 7) : (openO nd).1.1 = 7 := h
/-- its parts, its length, its depth, its meaning -/
theorem nxP_ok {l : List Nd} {P : Pt} {ys : List (Nat × List Nat)} (hk : pcOk l) (hs : sem l = .ok P) (h : ysOk ys) (hl : l.length ≤ 1000) : TR 82 (nxP l ys) ∧ (∀ nd ∈ nxP l ys, ndOk2 nd) ∧ (∃ cs : List (List Nd), nxP l ys = (7, 0, wthN l, [], []) :: cs.flatten ∧ wthN l = cs.length ∧ (∀ c ∈ cs, TR 81 c) ∧ (∀ c ∈ cs, ∃ P : Pt, sem c = .ok P) ∧ lenA (7, 0, wthN l, [], []) (cs.map lenV) = P.1.1 + longY ys) ∧ depV (nxP l ys) = (if rootK l = 7 then max (depV l) (depY ys + 1) else max (depV l) (depY ys) + 1) ∧ (P.1.1 + longY ys ≤ 99 → ∃ Q : Pt, sem (nxP l ys) = .ok Q ∧ Q.1.1 = P.1.1 + longY ys) := by
  obtain ⟨y1, y2, Py, y3, y4, y5, y6⟩ := layY_ok h
  have hlP := (len_ok 81 l hk.1 hk.2 P hs)
  have hlY := (len_ok 2 _ y1 y2 Py y3)
  have hdY : depV (layY ys) = depY ys := by rw [(pt_ok 2 _ y1 y2 Py y3).2.2, y5]
  have hcP := (pt_ok 81 l hk.1 hk.2 P hs)
  have hcu := (cuesV_le hk.1 hk.2 ⟨P, hs⟩).2
  by_cases h7 : rootK l = 7
  · obtain ⟨nd, cs, rfl, c1, c2, c3⟩ := id hk.1
    have k7 : nd.1 = 7 := h7
    have hw : wthN (nd :: cs.flatten) = (cs ++ [layY ys]).length := by
      unfold wthN
      rw [if_pos h7, List.length_append]
      show nd.2.2.1 + 1 = _
      rw [c1]; rfl
    have hnx : nxP (nd :: cs.flatten) ys = (7, 0, wthN (nd :: cs.flatten), [], []) :: (cs ++ [layY ys]).flatten := by
      unfold nxP wthL
      rw [if_pos h7, List.flatten_append, List.flatten_singleton]
      rfl
    have hT : ∀ c ∈ cs ++ [layY ys], TR 81 c := fun c hc => by
      rcases List.mem_append.mp hc with q | q
      · exact (c3 c q).mono (Nat.le_succ 80)
      · rw [List.mem_singleton.mp q]; exact y1.mono (by omega)
    have hkids := kids_ok c1 c2 c3 hs
    have hwl : ((7, 0, wthN (nd :: cs.flatten), [], []) : Nd).2.2.1 = (cs ++ [layY ys]).length := hw
    have hlen : lenA (7, 0, wthN (nd :: cs.flatten), [], []) ((cs ++ [layY ys]).map lenV) = P.1.1 + longY ys := by
      have e1 : lenV (nd :: cs.flatten) = lenA nd (cs.map lenV) := by unfold lenV; rw [val_node lenA 0 c1 c3]
      have e2 : lenA nd (cs.map lenV) = (cs.map lenV).foldl (lenF false) 0 := by
        unfold lenA
        rw [if_neg (by omega), if_neg (by omega), if_neg (by omega), if_neg (by omega), decide_eq_false (by omega)]
      show ((cs ++ [layY ys]).map lenV).foldl (lenF false) 0 = _
      rw [List.map_append, List.foldl_append, ← e2, ← e1, hlP.1]
      show P.1.1 + lenV (layY ys) = _
      rw [hlY.1, y4]
    have hch : nd.2.2.1 ≤ (nd :: cs.flatten).length := TR_ch 81 _ hk.1 nd List.mem_cons_self
    have hnd2 := (hk.2 nd List.mem_cons_self).2.2.1 (by omega)
    refine ⟨?_, ?_, ⟨_, hnx, hw, hT, ?_, hlen⟩, ?_, ?_⟩
    · rw [hnx]
      exact ⟨_, _, rfl, hwl, ⟨fun q => absurd (show 7 ≤ 2 from q) (by decide), fun q => by simp at q⟩, hT⟩
    · intro x hx
      rw [hnx] at hx
      rcases List.mem_cons.mp hx with q | q
      · rw [q]
        have hw2 : wthN (nd :: cs.flatten) = nd.2.2.1 + 1 := by unfold wthN; rw [if_pos h7]; rfl
        refine ⟨⟨by show 7 ≤ 7; omega, by show 0 ≤ 9; omega, by show wthN _ ≤ 1100; omega, fun q => absurd (show 7 ≤ 1 from q) (by decide)⟩, (fun _ q => absurd (show 7 ≤ 5 from q) (by decide)), (fun _ => by show 2 ≤ wthN _; omega), (fun q => absurd (show (7 : Nat) = 3 from q) (by decide))⟩
      · rw [List.flatten_append, List.flatten_singleton] at q
        rcases List.mem_append.mp q with q | q
        · exact hk.2 x (List.mem_cons_of_mem _ q)
        · exact y2 x q
    · intro c hc
      rcases List.mem_append.mp hc with q | q
      · exact hkids c q
      · rw [List.mem_singleton.mp q]; exact ⟨Py, y3⟩
    · rw [if_pos h7, hnx]
      have e1 : depV (nd :: cs.flatten) = 1 + (cs.map depV).foldl max 0 := by unfold depV; rw [val_node depA 0 c1 c3]; rfl
      have e2 : depV ((7, 0, wthN (nd :: cs.flatten), [], []) :: (cs ++ [layY ys]).flatten) = 1 + ((cs ++ [layY ys]).map depV).foldl max 0 := by unfold depV; rw [val_node depA 0 hwl hT]; rfl
      rw [e2, e1, List.map_append, List.foldl_append]
      show 1 + max _ (depV (layY ys)) = _
      rw [hdY]
      omega
    · intro h99
      rw [hnx, sem_node hwl hT]
      rw [sem_node c1 c3] at hs
      unfold semA at hs ⊢
      rw [if_neg (by omega), closeV_eq] at hs
      rw [if_neg (by show ¬ 7 ≤ 2; decide), closeV_eq]
      cases hf : (cs.map sem).foldl mergeE (.ok (openO nd)) with
      | error e => rw [hf] at hs; cases hs
      | ok O =>
        rw [hf] at hs
        obtain ⟨O2, q1, q2, q3, q4⟩ := fold_sim _ (openO nd) (openO (7, 0, wthN (nd :: cs.flatten), [], [])) O k7 rfl hf
        rw [List.map_append, List.foldl_append, q1]
        have hO7 : O.1.1 = 7 := q4.trans k7
        obtain ⟨a1, a2, a3, a4, a5⟩ := closeE_ok hs
        have hc1 : cTimes O = 1 := by unfold cTimes; rw [if_neg (by omega)]
        rw [hc1, Nat.mul_one] at a3 a4
        have hsz : P.1.1 = O.2.1.1 := by rw [a5, hc1]; exact Nat.mul_one _
        show ∃ Q : Pt, foldE ([sem (layY ys)].foldl mergeE (.ok O2)) = .ok Q ∧ _
        rw [y3]
        show ∃ Q : Pt, closeE (mergeO O2 Py) = .ok Q ∧ _
        obtain ⟨Q, g1, g2, g3⟩ := ser_close (O := O2) (P := Py) (q2 ▸ hO7) (by rw [← q3]; exact Prod.ext a1 a2) (by rw [← q3, ← hsz, y4]; exact h99) (by rw [← q3, y6]; omega)
        exact ⟨Q, g1, by rw [g2, ← q3, ← hsz, y4]⟩
  · have hw : wthN l = [l, layY ys].length := by unfold wthN; rw [if_neg h7]; rfl
    have hnx : nxP l ys = (7, 0, wthN l, [], []) :: [l, layY ys].flatten := by
      unfold nxP wthL
      rw [if_neg h7]
      simp
    have hT : ∀ c ∈ [l, layY ys], TR 81 c := fun c hc => by
      simp only [List.mem_cons, List.not_mem_nil, or_false] at hc
      rcases hc with rfl | rfl
      · exact hk.1
      · exact y1.mono (by omega)
    have hwl : ((7, 0, wthN l, [], []) : Nd).2.2.1 = [l, layY ys].length := hw
    refine ⟨?_, ?_, ⟨_, hnx, hw, hT, ?_, ?_⟩, ?_, ?_⟩
    · rw [hnx]
      exact ⟨_, _, rfl, hwl, ⟨fun q => absurd (show 7 ≤ 2 from q) (by decide), fun q => by cases q⟩, hT⟩
    · intro x hx
      rw [hnx] at hx
      rcases List.mem_cons.mp hx with q | q
      · rw [q]
        have hw2 : wthN l = 2 := by unfold wthN; rw [if_neg h7]
        refine ⟨⟨by show 7 ≤ 7; omega, by show 0 ≤ 9; omega, by show wthN _ ≤ 1100; omega, fun q => absurd (show 7 ≤ 1 from q) (by decide)⟩, (fun _ q => absurd (show 7 ≤ 5 from q) (by decide)), (fun _ => by show 2 ≤ wthN _; omega), (fun q => absurd (show (7 : Nat) = 3 from q) (by decide))⟩
      · have q2 : x ∈ l ++ layY ys := by simpa using q
        rcases List.mem_append.mp q2 with q | q
        · exact hk.2 x q
        · exact y2 x q
    · intro c hc
      simp only [List.mem_cons, List.not_mem_nil, or_false] at hc
      rcases hc with rfl | rfl
      · exact ⟨P, hs⟩
      · exact ⟨Py, y3⟩
    · show (0 + lenV l) + lenV (layY ys) = _
      rw [hlP.1, hlY.1, y4]; omega
    · rw [if_neg h7, hnx]
      have e2 : depV ((7, 0, wthN l, [], []) :: [l, layY ys].flatten) = 1 + ([l, layY ys].map depV).foldl max 0 := by unfold depV; rw [val_node depA 0 hwl hT]; rfl
      rw [e2]
      show 1 + max (max 0 (depV l)) (depV (layY ys)) = _
      rw [hdY]
      omega
    · intro h99
      rw [hnx, sem_node hwl hT]
      unfold semA
      rw [if_neg (by show ¬ 7 ≤ 2; decide), closeV_eq]
      show ∃ Q : Pt, foldE ([sem l, sem (layY ys)].foldl mergeE (.ok (openO (7, 0, wthN l, [], [])))) = .ok Q ∧ _
      rw [hs, y3]
      show ∃ Q : Pt, closeE (mergeO (mergeO (openO (7, 0, wthN l, [], [])) P) Py) = .ok Q ∧ _
      obtain ⟨m1, m2, m3, m4⟩ := merge_open (nd := (7, 0, wthN l, [], [])) (P := P) (by show ¬ (7 : Nat) = 6; decide) (by omega)
      obtain ⟨Q, g1, g2, g3⟩ := ser_close (O := mergeO (openO (7, 0, wthN l, [], [])) P) (P := Py) m3 m2 (by rw [m1, y4]; exact h99) (by rw [m1, y6]; show P.1.2.2.2 + 0 ≤ 999; rw [← hcP.2.1]; omega)
      exact ⟨Q, g1, by rw [g2, m1, y4]⟩
end Z1S

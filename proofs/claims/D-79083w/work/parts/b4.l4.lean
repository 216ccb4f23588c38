/-! PURE: what the parts of a node do to a score (printed by gen/mkl_4.py) -/
section L4S
/-- what an open part has done to a score, of which len counts from fm on are its own -/
def oS (O : Op) (len fm r : Nat) (b : Bool) (S : Nat → Nat → Int) : Nat → Nat → Int := fun e k => if fm ≤ k ∧ k < fm + len ∧ O.2.1.2.1.testBit e = true then ((sgN (ruN r (O.2.2.2.1 e (bkI b len (k - fm)))) : Nat) : Int) else S e k
def oC (O : Op) (len fm : Nat) (b : Bool) (C : Nat → Int) : Nat → Int := fun k => if fm ≤ k ∧ k ≤ fm + len then C k + ((O.2.2.2.2 (if b then len - (k - fm) else k - fm) : Nat) : Int) else C k
/-- where a part begins -/
def atF (b : Bool) (len fm first sz : Nat) : Nat := if b then fm + (len - first - sz) else fm + first
theorem oS_dot {O : Op} {P : Pt} {len fm r : Nat} {b : Bool} {S : Nat → Nat → Int} {first : Nat} (hO : sOk O.2.1.1 O.2.1.2.1 O.2.2.2.1) (hl : first + P.1.1 ≤ len) (hd : ∀ e k : Nat, e < 8 → P.1.2.1.testBit e = true → fm ≤ k → k < fm + len → S e k = 46)
    (hz : ∀ e : Nat, e < 8 → P.1.2.1.testBit e = true → ∀ q : Nat, first ≤ q → q < first + P.1.1 → O.2.2.2.1 e q = 0) : ∀ e : Nat, e < 8 → P.1.2.1.testBit e = true → ∀ k : Nat, atF b len fm first P.1.1 ≤ k → k < atF b len fm first P.1.1 + P.1.1 → oS O len fm r b S e k = 46 := by
  intro e he hb k h1 h2
  have hk : fm ≤ k ∧ k < fm + len := by unfold atF at h1 h2; cases b <;> simp only [if_true, if_false, Bool.false_eq_true] at h1 h2 <;> omega
  unfold oS
  by_cases hr : fm ≤ k ∧ k < fm + len ∧ O.2.1.2.1.testBit e = true
  · rw [if_pos hr]
    have : O.2.2.2.1 e (bkI b len (k - fm)) = 0 := by
      refine hz e he hb _ ?_ ?_ <;> (unfold bkI; unfold atF at h1 h2; cases b <;> simp only [if_true, if_false, Bool.false_eq_true] at h1 h2 ⊢ <;> omega)
    rw [this, ruN_0]; rfl
  · rw [if_neg hr]; exact hd e k he hb hk.1 hk.2
theorem oS_merge {O : Op} {P : Pt} {len fm r : Nat} {b : Bool} {S : Nat → Nat → Int} (hO : sOk O.2.1.1 O.2.1.2.1 O.2.2.2.1) (hP : sOk P.1.1 P.1.2.1 P.2.1) (hlg : mLong O P = false) (hl : mFrom O + P.1.1 ≤ len) (hd : ∀ e k : Nat, e < 8 → P.1.2.1.testBit e = true → fm ≤ k → k < fm + len → S e k = 46) :
    ∀ e k : Nat, e < 8 → pfS P (atF b len fm (mFrom O) P.1.1) r b (oS O len fm r b S) e k = oS (mergeO O P) len fm r b S e k := by
  intro e k he
  have hu : (mergeO O P).2.1.2.1 = O.2.1.2.1 ||| P.1.2.1 := rfl
  have hs : (mergeO O P).2.2.2.1 = mSteps O P := by show (if mLong O P then O.2.2.2.1 else mSteps O P) = _; rw [hlg]; rfl
  unfold pfS oS
  rw [hu, hs, Nat.testBit_or]
  by_cases hk : fm ≤ k ∧ k < fm + len
  · by_cases h1 : atF b len fm (mFrom O) P.1.1 ≤ k ∧ k < atF b len fm (mFrom O) P.1.1 + P.1.1 ∧ P.1.2.1.testBit e = true
    · rw [if_pos h1, if_pos ⟨hk.1, hk.2, by rw [h1.2.2, Bool.or_true]⟩]
      have e1 : mSteps O P e (bkI b len (k - fm)) = P.2.1 e (bkI b P.1.1 (k - atF b len fm (mFrom O) P.1.1)) := by
        unfold mSteps
        have c : mFrom O ≤ bkI b len (k - fm) ∧ bkI b len (k - fm) < mFrom O + P.1.1 ∧ P.1.2.1.testBit e = true := by
          refine ⟨?_, ?_, h1.2.2⟩ <;> (unfold bkI; unfold atF at h1; cases b <;> simp only [if_true, if_false, Bool.false_eq_true] at h1 ⊢ <;> omega)
        rw [if_pos c]
        have e9 : bkI b len (k - fm) - mFrom O = bkI b P.1.1 (k - atF b len fm (mFrom O) P.1.1) := by
          unfold bkI
          unfold atF at h1 ⊢
          cases b <;> simp only [if_true, if_false, Bool.false_eq_true] at h1 ⊢ <;> omega
        rw [e9]
      rw [e1]
    · rw [if_neg h1]
      have e1 : mSteps O P e (bkI b len (k - fm)) = O.2.2.2.1 e (bkI b len (k - fm)) := by
        unfold mSteps
        refine if_neg (fun c => h1 ⟨?_, ?_, c.2.2⟩) <;> (have c1 := c.1; have c2 := c.2.1; unfold bkI at c1 c2; unfold atF; cases b <;> simp only [if_true, if_false, Bool.false_eq_true] at c1 c2 ⊢ <;> omega)
      by_cases hob : O.2.1.2.1.testBit e = true
      · rw [if_pos ⟨hk.1, hk.2, hob⟩, if_pos ⟨hk.1, hk.2, by rw [hob]; rfl⟩, e1]
      · rw [if_neg (fun q => hob q.2.2)]
        by_cases hpb : P.1.2.1.testBit e = true
        · rw [if_pos ⟨hk.1, hk.2, by rw [hpb, Bool.or_true]⟩, e1, hO e _ he (Or.inr (by simpa using hob)), ruN_0, hd e k he hpb hk.1 hk.2]; rfl
        · rw [if_neg (fun q => by rw [Bool.or_eq_true] at q; exact q.2.2.elim hob hpb)]
  · have h1 : ¬ (atF b len fm (mFrom O) P.1.1 ≤ k ∧ k < atF b len fm (mFrom O) P.1.1 + P.1.1 ∧ P.1.2.1.testBit e = true) := fun c => hk (by have c1 := c.1; have c2 := c.2.1; unfold atF at c1 c2; cases b <;> simp only [if_true, if_false, Bool.false_eq_true] at c1 c2 <;> omega)
    rw [if_neg h1, if_neg (fun q => hk ⟨q.1, q.2.1⟩), if_neg (fun q => hk ⟨q.1, q.2.1⟩)]
theorem oC_merge {O : Op} {P : Pt} {len fm : Nat} {b : Bool} {C : Nat → Int} (hP : ∀ k, P.1.1 < k → P.2.2 k = 0) (hlg : mLong O P = false) (hl : mFrom O + P.1.1 ≤ len) : ∀ k : Nat, pfC P (atF b len fm (mFrom O) P.1.1) b (oC O len fm b C) k = oC (mergeO O P) len fm b C k := by
  intro k
  have hs : (mergeO O P).2.2.2.2 = mCues O P := by show (if mLong O P then O.2.2.2.2 else mCues O P) = _; rw [hlg]; rfl
  unfold pfC oC
  rw [hs]
  by_cases hk : fm ≤ k ∧ k ≤ fm + len
  · rw [if_pos hk, if_pos hk]
    unfold mCues
    by_cases h1 : atF b len fm (mFrom O) P.1.1 ≤ k ∧ k ≤ atF b len fm (mFrom O) P.1.1 + P.1.1
    · rw [if_pos h1, if_pos (show mFrom O ≤ (if b = true then len - (k - fm) else k - fm) ∧ (if b = true then len - (k - fm) else k - fm) ≤ mFrom O + P.1.1 by unfold atF at h1; cases b <;> simp only [if_true, if_false, Bool.false_eq_true] at h1 ⊢ <;> omega)]
      have e1 : (if b = true then P.1.1 - (k - atF b len fm (mFrom O) P.1.1) else k - atF b len fm (mFrom O) P.1.1) = (if b = true then len - (k - fm) else k - fm) - mFrom O := by unfold atF at h1 ⊢; cases b <;> simp only [if_true, if_false, Bool.false_eq_true] at h1 ⊢ <;> omega
      rw [e1]; omega
    · rw [if_neg h1, if_neg (show ¬ (mFrom O ≤ (if b = true then len - (k - fm) else k - fm) ∧ (if b = true then len - (k - fm) else k - fm) ≤ mFrom O + P.1.1) from fun c => h1 (by unfold atF; cases b <;> simp only [if_true, if_false, Bool.false_eq_true] at c ⊢ <;> omega))]
  · have h1 : ¬ (atF b len fm (mFrom O) P.1.1 ≤ k ∧ k ≤ atF b len fm (mFrom O) P.1.1 + P.1.1) := fun c => hk (by unfold atF at c; cases b <;> simp only [if_true, if_false, Bool.false_eq_true] at c <;> omega)
    rw [if_neg h1, if_neg hk, if_neg hk]
/-! a part that is closed -/
theorem closed_v {O : Op} {P : Pt} {fm r : Nat} {b : Bool} {S : Nat → Nat → Int} {C : Nat → Int} (hk : 6 ≤ O.1.1) (h : closeE O = .ok P) : P.1.1 = O.2.1.1 ∧ P.1.2.1 = O.2.1.2.1 ∧ (∀ e k : Nat, oS O P.1.1 fm r b S e k = pfS P fm r b S e k) ∧ ∀ k : Nat, oC O P.1.1 fm b C k = pfC P fm b C k := by
  obtain ⟨-, -, -, -, hP⟩ := closeE_ok h
  have ct : cTimes O = 1 := by unfold cTimes; exact if_neg (by omega)
  rw [ct, Nat.mul_one] at hP
  have h1 : P.1.1 = O.2.1.1 := by rw [hP]
  have h2 : P.1.2.1 = O.2.1.2.1 := by rw [hP]
  refine ⟨h1, h2, fun e k => ?_, fun k => ?_⟩
  · unfold oS pfS
    rw [h2]
    by_cases hr : fm ≤ k ∧ k < fm + P.1.1 ∧ O.2.1.2.1.testBit e = true
    · rw [if_pos hr, if_pos hr]
      have : P.2.1 e (bkI b P.1.1 (k - fm)) = O.2.2.2.1 e (bkI b P.1.1 (k - fm)) := by
        have hb := (bkI_inv (b := b) (len := P.1.1) (c := k - fm) (by omega)).2
        rw [hP]
        show timesS O 1 e _ = _
        unfold timesS
        rw [h1] at hb
        have hbb : bkI b O.2.1.1 (k - fm) < O.2.1.1 := hb
        rw [if_pos (show O.2.1.1 * 0 ≤ bkI b O.2.1.1 (k - fm) ∧ bkI b O.2.1.1 (k - fm) < O.2.1.1 * 0 + O.2.1.1 by omega)]
        unfold onceS
        rw [if_neg (show ¬ O.1.1 = 5 by omega), if_neg (show ¬ (O.1.1 = 4 ∧ _) from fun q => by omega), Nat.mul_zero, Nat.sub_zero]
      rw [this]
    · rw [if_neg hr, if_neg hr]
  · unfold oC pfC
    by_cases hr : fm ≤ k ∧ k ≤ fm + P.1.1
    · rw [if_pos hr, if_pos hr]
      have : P.2.2 (if b = true then P.1.1 - (k - fm) else k - fm) = O.2.2.2.2 (if b = true then P.1.1 - (k - fm) else k - fm) := by
        obtain ⟨c, hc⟩ : ∃ c, c = (if b = true then P.1.1 - (k - fm) else k - fm) := ⟨_, rfl⟩
        have hcl : c ≤ O.2.1.1 := by rw [hc]; cases b <;> simp only [if_true, if_false, Bool.false_eq_true] <;> omega
        rw [← hc, hP]
        show timesC O 1 c = _
        show 0 + (if O.2.1.1 * 0 ≤ c ∧ c ≤ O.2.1.1 * 0 + O.2.1.1 then onceC O (c - O.2.1.1 * 0) else 0) = _
        rw [if_pos (by omega), Nat.mul_zero, Nat.sub_zero, Nat.zero_add]
        unfold onceC
        rw [if_neg (show ¬ O.1.1 = 5 by omega)]
      rw [this]
    · rw [if_neg hr, if_neg hr]
/-- a node with one part: what it is -/
theorem single_pt {n : Nat} {nd : Nd} {c : List Nd} {P Q : Pt} (h1 : nd.2.2.1 = 1) (h3 : 3 ≤ nd.1 ∧ nd.1 ≤ 5) (hc : TR n c) (hP : sem c = .ok P) (hs : P.1.1 ≤ 99) (hQ : sem (nd :: c) = .ok Q) : Q.1.1 = P.1.1 * (if nd.1 = 3 then nd.2.1 else 1) ∧ Q.1.2.1 = P.1.2.1 ∧ Q.2.1 = timesS (mergeO (openO nd) P) (if nd.1 = 3 then nd.2.1 else 1) ∧ Q.2.2 = timesC (mergeO (openO nd) P) (if nd.1 = 3 then nd.2.1 else 1) := by
  rw [sem_single h1 (by omega) hc, hP] at hQ
  have hQ' : closeE (mergeO (openO nd) P) = .ok Q := hQ
  obtain ⟨m1, m2, m3, m4⟩ := merge_open (nd := nd) (P := P) (by omega) hs
  obtain ⟨-, -, -, -, hP9⟩ := closeE_ok hQ'
  rw [m4] at hP9
  rw [hP9]
  refine ⟨?_, ?_, rfl, rfl⟩
  · show (mergeO (openO nd) P).2.1.1 * _ = _; rw [m1]
  · show (mergeO (openO nd) P).2.1.2.1 = _; rw [m1]
theorem open_steps {nd : Nd} {P : Pt} (h6 : ¬ nd.1 = 6) (hs : P.1.1 ≤ 99) (hn : sOk P.1.1 P.1.2.1 P.2.1) {e : Nat} (he : e < 8) (k : Nat) : (mergeO (openO nd) P).2.2.2.1 e k = P.2.1 e k := by
  have hf : mFrom (openO nd) = 0 := by unfold mFrom; exact if_neg h6
  have hl : mLong (openO nd) P = false := by unfold mLong; rw [hf, decide_eq_false (by omega)]; rfl
  show (if mLong (openO nd) P then _ else mSteps (openO nd) P) e k = _
  rw [hl]
  show mSteps (openO nd) P e k = _
  unfold mSteps
  rw [hf]
  by_cases c : 0 ≤ k ∧ k < 0 + P.1.1 ∧ P.1.2.1.testBit e = true
  · rw [if_pos c, Nat.sub_zero]
  · rw [if_neg c]
    show 0 = _
    refine (hn e k he ?_).symm
    by_cases q : P.1.2.1.testBit e = true
    · exact Or.inl (Nat.le_of_not_lt (fun z => c ⟨Nat.zero_le _, by omega, q⟩))
    · exact Or.inr (by simpa using q)
theorem open_cues {nd : Nd} {P : Pt} (h6 : ¬ nd.1 = 6) (hs : P.1.1 ≤ 99) (hn : ∀ k, P.1.1 < k → P.2.2 k = 0) (k : Nat) : (mergeO (openO nd) P).2.2.2.2 k = P.2.2 k := by
  have hf : mFrom (openO nd) = 0 := by unfold mFrom; exact if_neg h6
  have hl : mLong (openO nd) P = false := by unfold mLong; rw [hf, decide_eq_false (by omega)]; rfl
  show (if mLong (openO nd) P then _ else mCues (openO nd) P) k = _
  rw [hl]
  show mCues (openO nd) P k = _
  unfold mCues
  rw [hf]
  by_cases c : 0 ≤ k ∧ k ≤ 0 + P.1.1
  · rw [if_pos c, Nat.sub_zero]; show 0 + _ = _; omega
  · rw [if_neg c]; show 0 = _; exact (hn k (by omega)).symm
theorem pf_mir {n : Nat} {nd : Nd} {c : List Nd} {P Q : Pt} {fm r : Nat} {b : Bool} {S : Nat → Nat → Int} {C : Nat → Int} (h1 : nd.2.2.1 = 1) (h4 : nd.1 = 4) (hc : TR n c) (hP : sem c = .ok P) (hs : P.1.1 ≤ 99) (hQ : sem (nd :: c) = .ok Q) (hn : nrP P) (hr : r < 4) (h4s : ∀ e q : Nat, P.2.1 e q ≤ 4) : Q.1.1 = P.1.1 ∧ Q.1.2.1 = P.1.2.1 ∧ (∀ e k : Nat, e < 8 → pfS P fm (r ^^^ 1) b S e k = pfS Q fm r b S e k) ∧ ∀ k : Nat, pfC P fm b C k = pfC Q fm b C k := by
  obtain ⟨q1, q2, q3, q4⟩ := single_pt h1 (by omega) hc hP hs hQ
  rw [if_neg (by omega), Nat.mul_one] at q1
  rw [if_neg (by omega)] at q3 q4
  obtain ⟨m1, m2, m3, m4⟩ := merge_open (nd := nd) (P := P) (by omega) hs
  have ms : (mergeO (openO nd) P).2.1.1 = P.1.1 := by rw [m1]
  refine ⟨q1, q2, fun e k he => ?_, fun k => ?_⟩
  · unfold pfS
    rw [q1, q2]
    by_cases hk : fm ≤ k ∧ k < fm + P.1.1 ∧ P.1.2.1.testBit e = true
    · rw [if_pos hk, if_pos hk]
      have hb := (bkI_inv (b := b) (len := P.1.1) (c := k - fm) (by omega)).2
      have : Q.2.1 e (bkI b P.1.1 (k - fm)) = mirN (P.2.1 e (bkI b P.1.1 (k - fm))) := by
        rw [q3]
        show (if (mergeO (openO nd) P).2.1.1 * 0 ≤ _ ∧ _ < (mergeO (openO nd) P).2.1.1 * 0 + (mergeO (openO nd) P).2.1.1 then onceS (mergeO (openO nd) P) e (_ - (mergeO (openO nd) P).2.1.1 * 0) else _) = _
        rw [ms, if_pos (by omega), Nat.mul_zero, Nat.sub_zero]
        unfold onceS
        rw [m3, if_neg (show ¬ nd.1 = 5 by omega), open_steps (by omega) hs hn.2 he]
        unfold mirN
        by_cases c2 : P.2.1 e (bkI b P.1.1 (k - fm)) > 2
        · rw [if_pos ⟨h4, c2⟩, if_pos c2]
        · rw [if_neg (fun q => c2 q.2), if_neg c2]
      rw [this, ruN_m hr (h4s _ _)]
    · rw [if_neg hk, if_neg hk]
  · unfold pfC
    rw [q1]
    by_cases hk : fm ≤ k ∧ k ≤ fm + P.1.1
    · rw [if_pos hk, if_pos hk]
      obtain ⟨x, hx⟩ : ∃ x, x = (if b = true then P.1.1 - (k - fm) else k - fm) := ⟨_, rfl⟩
      have hxl : x ≤ P.1.1 := by rw [hx]; cases b <;> simp only [if_true, if_false, Bool.false_eq_true] <;> omega
      rw [← hx]
      have : Q.2.2 x = P.2.2 x := by
        rw [q4]
        show 0 + (if (mergeO (openO nd) P).2.1.1 * 0 ≤ x ∧ x ≤ (mergeO (openO nd) P).2.1.1 * 0 + (mergeO (openO nd) P).2.1.1 then onceC (mergeO (openO nd) P) (x - (mergeO (openO nd) P).2.1.1 * 0) else 0) = _
        rw [ms, if_pos (by omega), Nat.mul_zero, Nat.sub_zero, Nat.zero_add]
        unfold onceC
        rw [m3, if_neg (show ¬ nd.1 = 5 by omega), open_cues (by omega) hs hn.1.1]
      rw [this]
    · rw [if_neg hk, if_neg hk]
theorem pf_rev {n : Nat} {nd : Nd} {c : List Nd} {P Q : Pt} {fm r : Nat} {b : Bool} {S : Nat → Nat → Int} {C : Nat → Int} (h1 : nd.2.2.1 = 1) (h5 : nd.1 = 5) (hc : TR n c) (hP : sem c = .ok P) (hs : P.1.1 ≤ 99) (hQ : sem (nd :: c) = .ok Q) (hn : nrP P) (hr : r < 4) (h4s : ∀ e q : Nat, P.2.1 e q ≤ 4) : Q.1.1 = P.1.1 ∧ Q.1.2.1 = P.1.2.1 ∧ (∀ e k : Nat, e < 8 → pfS P fm (r ^^^ 2) (!b) S e k = pfS Q fm r b S e k) ∧ ∀ k : Nat, pfC P fm (!b) C k = pfC Q fm b C k := by
  obtain ⟨q1, q2, q3, q4⟩ := single_pt h1 (by omega) hc hP hs hQ
  rw [if_neg (by omega), Nat.mul_one] at q1
  rw [if_neg (by omega)] at q3 q4
  obtain ⟨m1, m2, m3, m4⟩ := merge_open (nd := nd) (P := P) (by omega) hs
  have ms : (mergeO (openO nd) P).2.1.1 = P.1.1 := by rw [m1]
  refine ⟨q1, q2, fun e k he => ?_, fun k => ?_⟩
  · unfold pfS
    rw [q1, q2]
    by_cases hk : fm ≤ k ∧ k < fm + P.1.1 ∧ P.1.2.1.testBit e = true
    · rw [if_pos hk, if_pos hk]
      have hb := (bkI_inv (b := b) (len := P.1.1) (c := k - fm) (by omega)).2
      have : Q.2.1 e (bkI b P.1.1 (k - fm)) = oppN (P.2.1 e (bkI (!b) P.1.1 (k - fm))) := by
        rw [q3]
        show (if (mergeO (openO nd) P).2.1.1 * 0 ≤ _ ∧ _ < (mergeO (openO nd) P).2.1.1 * 0 + (mergeO (openO nd) P).2.1.1 then onceS (mergeO (openO nd) P) e (_ - (mergeO (openO nd) P).2.1.1 * 0) else _) = _
        rw [ms, if_pos (by omega), Nat.mul_zero, Nat.sub_zero]
        unfold onceS
        rw [m3, if_pos h5, ms, open_steps (by omega) hs hn.2 he]
        have e9 : P.1.1 - 1 - bkI b P.1.1 (k - fm) = bkI (!b) P.1.1 (k - fm) := by
          unfold bkI
          cases b <;> simp only [if_true, if_false, Bool.false_eq_true, Bool.not_true, Bool.not_false] <;> omega
        rw [e9]
      rw [this, ruN_t hr (h4s _ _)]
    · rw [if_neg hk, if_neg hk]
  · unfold pfC
    rw [q1]
    by_cases hk : fm ≤ k ∧ k ≤ fm + P.1.1
    · rw [if_pos hk, if_pos hk]
      obtain ⟨x, hx⟩ : ∃ x, x = (if b = true then P.1.1 - (k - fm) else k - fm) := ⟨_, rfl⟩
      have hxl : x ≤ P.1.1 := by rw [hx]; cases b <;> simp only [if_true, if_false, Bool.false_eq_true] <;> omega
      have hy : (if (!b) = true then P.1.1 - (k - fm) else k - fm) = P.1.1 - x := by rw [hx]; cases b <;> simp only [if_true, if_false, Bool.false_eq_true, Bool.not_true, Bool.not_false] <;> omega
      rw [← hx, hy]
      have : Q.2.2 x = P.2.2 (P.1.1 - x) := by
        rw [q4]
        show 0 + (if (mergeO (openO nd) P).2.1.1 * 0 ≤ x ∧ x ≤ (mergeO (openO nd) P).2.1.1 * 0 + (mergeO (openO nd) P).2.1.1 then onceC (mergeO (openO nd) P) (x - (mergeO (openO nd) P).2.1.1 * 0) else 0) = _
        rw [ms, if_pos (by omega), Nat.mul_zero, Nat.sub_zero, Nat.zero_add]
        unfold onceC
        rw [m3, if_pos h5, ms, open_cues (by omega) hs hn.1.1]
      rw [this]
    · rw [if_neg hk, if_neg hk]
/-! repeats -/
/-- after i times -/
def rpS (P : Pt) (fm r : Nat) (b : Bool) (S : Nat → Nat → Int) (i : Nat) : Nat → Nat → Int := fun e k => if fm ≤ k ∧ k < fm + P.1.1 * i ∧ P.1.2.1.testBit e = true then ((sgN (ruN r (P.2.1 e (bkI b P.1.1 ((k - fm) % P.1.1)))) : Nat) : Int) else S e k
def rpC (P : Pt) (fm : Nat) (b : Bool) (C : Nat → Int) (i : Nat) : Nat → Int := fun k => C k + ((sumN (fun j => if fm + P.1.1 * j ≤ k ∧ k ≤ fm + P.1.1 * j + P.1.1 then P.2.2 (if b then P.1.1 - (k - (fm + P.1.1 * j)) else k - (fm + P.1.1 * j)) else 0) i : Nat) : Int)
theorem rpS_step {P : Pt} {fm r : Nat} {b : Bool} {S : Nat → Nat → Int} {i : Nat} : ∀ e k : Nat, pfS P (fm + P.1.1 * i) r b (rpS P fm r b S i) e k = rpS P fm r b S (i + 1) e k := by
  intro e k
  unfold pfS rpS
  rw [Nat.mul_succ]
  by_cases h1 : fm + P.1.1 * i ≤ k ∧ k < fm + P.1.1 * i + P.1.1 ∧ P.1.2.1.testBit e = true
  · rw [if_pos h1, if_pos ⟨by omega, by omega, h1.2.2⟩]
    have : (k - fm) % P.1.1 = k - (fm + P.1.1 * i) := by
      have e1 : k - fm = (k - (fm + P.1.1 * i)) + P.1.1 * i := by omega
      rw [e1, Nat.add_mul_mod_self_left, Nat.mod_eq_of_lt (by omega)]
    rw [this]
  · rw [if_neg h1]
    by_cases h2 : fm ≤ k ∧ k < fm + P.1.1 * i ∧ P.1.2.1.testBit e = true
    · rw [if_pos h2, if_pos ⟨h2.1, by omega, h2.2.2⟩]
    · rw [if_neg h2, if_neg (fun q => by
        by_cases c : k < fm + P.1.1 * i
        · exact h2 ⟨q.1, c, q.2.2⟩
        · exact h1 ⟨by omega, by omega, q.2.2⟩)]
theorem rpC_step {P : Pt} {fm : Nat} {b : Bool} {C : Nat → Int} {i : Nat} : ∀ k : Nat, pfC P (fm + P.1.1 * i) b (rpC P fm b C i) k = rpC P fm b C (i + 1) k := by
  intro k
  unfold pfC rpC
  simp only [sumN]
  by_cases h1 : fm + P.1.1 * i ≤ k ∧ k ≤ fm + P.1.1 * i + P.1.1
  · rw [if_pos h1, if_pos h1]; omega
  · rw [if_neg h1, if_neg h1]; omega
theorem timesS_mod {O : Op} {e : Nat} : ∀ (t k : Nat), k < O.2.1.1 * t → timesS O t e k = onceS O e (k % O.2.1.1) := by
  intro t
  induction t with
  | zero => intro k h; omega
  | succ t ih =>
    intro k h
    rw [Nat.mul_succ] at h
    unfold timesS
    by_cases c : O.2.1.1 * t ≤ k ∧ k < O.2.1.1 * t + O.2.1.1
    · rw [if_pos c]
      have e1 : k = (k - O.2.1.1 * t) + O.2.1.1 * t := by omega
      have : k % O.2.1.1 = k - O.2.1.1 * t := by
        rw [e1, Nat.add_mul_mod_self_left, Nat.mod_eq_of_lt (by omega)]; omega
      rw [this]
    · rw [if_neg c]; exact ih k (by omega)
theorem timesC_sumN (O : Op) (k : Nat) : ∀ t : Nat, timesC O t k = sumN (fun i => if O.2.1.1 * i ≤ k ∧ k ≤ O.2.1.1 * i + O.2.1.1 then onceC O (k - O.2.1.1 * i) else 0) t := by
  intro t
  induction t with
  | zero => rfl
  | succ t ih => show timesC O t k + _ = sumN _ t + _; rw [ih]
theorem sumN_rev' (f : Nat → Nat) (t : Nat) : sumN (fun j => f (t - 1 - j)) t = sumN f t := by
  cases t with
  | zero => rfl
  | succ t => exact sumN_rev t f
theorem pf_rep {n : Nat} {nd : Nd} {c : List Nd} {P Q : Pt} {fm r : Nat} {b : Bool} {S : Nat → Nat → Int} {C : Nat → Int} (h1 : nd.2.2.1 = 1) (h3 : nd.1 = 3) (hc : TR n c) (hP : sem c = .ok P) (hs : P.1.1 ≤ 99) (hQ : sem (nd :: c) = .ok Q) (hn : nrP P) (ht : 1 ≤ nd.2.1) : Q.1.1 = P.1.1 * nd.2.1 ∧ Q.1.2.1 = P.1.2.1 ∧ (∀ e k : Nat, e < 8 → rpS P fm r b S nd.2.1 e k = pfS Q fm r b S e k) ∧ ∀ k : Nat, rpC P fm b C nd.2.1 k = pfC Q fm b C k := by
  obtain ⟨q1, q2, q3, q4⟩ := single_pt h1 (by omega) hc hP hs hQ
  rw [if_pos h3] at q1 q3 q4
  obtain ⟨m1, m2, m3, m4⟩ := merge_open (nd := nd) (P := P) (by omega) hs
  have ms : (mergeO (openO nd) P).2.1.1 = P.1.1 := by rw [m1]
  refine ⟨q1, q2, fun e k he => ?_, fun k => ?_⟩
  · unfold rpS pfS
    rw [q1, q2]
    by_cases hk : fm ≤ k ∧ k < fm + P.1.1 * nd.2.1 ∧ P.1.2.1.testBit e = true
    · rw [if_pos hk, if_pos hk]
      have hp : 0 < P.1.1 := by
        rcases Nat.eq_zero_or_pos P.1.1 with z | z
        · rw [z, Nat.zero_mul] at hk; omega
        · exact z
      have hb := (bkI_inv (b := b) (len := P.1.1 * nd.2.1) (c := k - fm) (by omega)).2
      have hm := Nat.mod_lt (k - fm) hp
      have : Q.2.1 e (bkI b (P.1.1 * nd.2.1) (k - fm)) = P.2.1 e (bkI b P.1.1 ((k - fm) % P.1.1)) := by
        rw [q3, timesS_mod _ _ (by rw [ms]; exact hb)]
        unfold onceS
        rw [m3, if_neg (show ¬ nd.1 = 5 by omega), if_neg (fun q => by omega), open_steps (by omega) hs hn.2 he, ms]
        congr 1
        unfold bkI
        cases b with
        | false => rfl
        | true =>
          simp only [if_true]
          obtain ⟨x, hx⟩ : ∃ x, x = (k - fm) / P.1.1 := ⟨_, rfl⟩
          obtain ⟨y, hy⟩ : ∃ y, y = (k - fm) % P.1.1 := ⟨_, rfl⟩
          have hxy : k - fm = P.1.1 * x + y := by rw [hx, hy]; exact (Nat.div_add_mod _ _).symm
          rw [← hy] at hm ⊢
          have hxt : x < nd.2.1 := by
            rcases Nat.lt_or_ge x nd.2.1 with z | z
            · exact z
            · have := Nat.mul_le_mul_left P.1.1 z; omega
          have e2 : P.1.1 * nd.2.1 - 1 - (k - fm) = (P.1.1 - 1 - y) + P.1.1 * (nd.2.1 - 1 - x) := by
            have : P.1.1 * nd.2.1 = P.1.1 * (nd.2.1 - 1 - x) + P.1.1 * x + P.1.1 := by
              rw [← Nat.mul_add, ← Nat.mul_succ]; congr 1; omega
            omega
          rw [e2, Nat.add_mul_mod_self_left, Nat.mod_eq_of_lt (by omega)]
      rw [this]
    · rw [if_neg hk, if_neg hk]
  · unfold rpC pfC
    rw [q1]
    by_cases hk : fm ≤ k ∧ k ≤ fm + P.1.1 * nd.2.1
    · rw [if_pos hk, q4, timesC_sumN]
      congr 2
      have hoc : ∀ x, onceC (mergeO (openO nd) P) x = P.2.2 x := fun x => by
        unfold onceC
        rw [m3, if_neg (show ¬ nd.1 = 5 by omega), open_cues (by omega) hs hn.1.1]
      simp only [hoc, ms]
      cases b with
      | false =>
        refine sumN_congr _ (fun j _ => ?_)
        simp only [Bool.false_eq_true, if_false]
        by_cases c1 : fm + P.1.1 * j ≤ k ∧ k ≤ fm + P.1.1 * j + P.1.1
        · rw [if_pos c1, if_pos (by omega), show k - (fm + P.1.1 * j) = k - fm - P.1.1 * j by omega]
        · rw [if_neg c1, if_neg (by omega)]
      | true =>
        rw [← sumN_rev' _ nd.2.1]
        refine sumN_congr _ (fun j hj => ?_)
        simp only [if_true]
        have e2 : P.1.1 * nd.2.1 = P.1.1 * (nd.2.1 - 1 - j) + P.1.1 * j + P.1.1 := by
          rw [← Nat.mul_add, ← Nat.mul_succ]; congr 1; omega
        by_cases c1 : fm + P.1.1 * (nd.2.1 - 1 - j) ≤ k ∧ k ≤ fm + P.1.1 * (nd.2.1 - 1 - j) + P.1.1
        · rw [if_pos c1, if_pos (by omega)]
          rw [show P.1.1 - (k - (fm + P.1.1 * (nd.2.1 - 1 - j))) = P.1.1 * nd.2.1 - (k - fm) - P.1.1 * j by omega]
        · rw [if_neg c1, if_neg (by omega)]
    · rw [if_neg hk]
      have : sumN (fun j => if fm + P.1.1 * j ≤ k ∧ k ≤ fm + P.1.1 * j + P.1.1 then P.2.2 (if b = true then P.1.1 - (k - (fm + P.1.1 * j)) else k - (fm + P.1.1 * j)) else 0) nd.2.1 = 0 := by
        rw [sumN_congr (h := fun _ => 0) nd.2.1 (fun j hj => if_neg (fun q => hk (by
          have : P.1.1 * (j + 1) ≤ P.1.1 * nd.2.1 := Nat.mul_le_mul_left _ hj
          rw [Nat.mul_succ] at this
          omega)))]
        exact sumN_zero _
      rw [this]; omega
end L4S

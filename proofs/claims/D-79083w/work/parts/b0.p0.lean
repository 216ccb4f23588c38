/-! THE COMPONENT: checkAll() (printed by gen) -/
section P0S
variable {g : GB} {M : MI} {d c k : Nat} {h : HM}
def errO (x : Me) : Option Er := match x with
  | .error e => some e
  | .ok _ => none
theorem fold_oks : ∀ (cs : List (List Nd)) (O : Op), (∀ c ∈ cs, ∃ P : Pt, sem c = .ok P) → ∃ O' : Op, (cs.map sem).foldl mergeE (.ok O) = .ok O' := by
  intro cs
  induction cs with
  | nil => intro O _; exact ⟨O, rfl⟩
  | cons c cs ih =>
    intro O h
    obtain ⟨P, hP⟩ := h c List.mem_cons_self
    rw [List.map_cons, List.foldl_cons, hP]
    exact ih (mergeO O P) (fun c' hc' => h c' (List.mem_cons_of_mem _ hc'))
theorem add_ge : ∀ (ws : List Nat) (z : Nat), z ≤ ws.foldl (· + ·) z := by
  intro ws
  induction ws with
  | nil => intro z; exact Nat.le_refl _
  | cons w t ih => intro z; exact Nat.le_trans (Nat.le_add_right z w) (ih (z + w))
theorem long_up : ∀ (cs : List (List Nd)) (O O' : Op), (cs.map sem).foldl mergeE (.ok O) = .ok O' → O.2.2.1.2 = true → O'.2.2.1.2 = true := by
  intro cs
  induction cs with
  | nil => intro O O' h hl; cases h; exact hl
  | cons c cs ih =>
    intro O O' h hl
    rw [List.map_cons, List.foldl_cons] at h
    cases hs : sem c with
    | error e =>
      rw [hs] at h
      have : (cs.map sem).foldl mergeE (.error e) = .ok O' := h
      rw [foldl_err] at this
      cases this
    | ok P =>
      rw [hs] at h
      refine ih (mergeO O P) O' h ?_
      show mLong O P = true
      unfold mLong; rw [hl]; rfl
theorem long_ser : ∀ (cs : List (List Nd)) (O O' : Op), (∀ c ∈ cs, ∀ P : Pt, sem c = .ok P → lenV c = P.1.1) → (cs.map sem).foldl mergeE (.ok O) = .ok O' → O.1.1 ≠ 6 → O.2.2.1.2 = false → O.2.1.1 ≤ 99 → (O'.2.2.1.2 = true ↔ (cs.map lenV).foldl (· + ·) O.2.1.1 > 99) := by
  intro cs
  induction cs with
  | nil => intro O O' _ h _ hl h9; cases h; rw [hl]; simp; exact h9
  | cons c cs ih =>
    intro O O' hw h h6 hl h9
    rw [List.map_cons, List.foldl_cons] at h
    cases hs : sem c with
    | error e =>
      rw [hs] at h
      have : (cs.map sem).foldl mergeE (.error e) = .ok O' := h
      rw [foldl_err] at this
      cases this
    | ok P =>
      rw [hs] at h
      have hlen := hw c List.mem_cons_self P hs
      have hf : mFrom O = O.2.1.1 := if_neg h6
      rw [List.map_cons, List.foldl_cons, hlen]
      by_cases hb : O.2.1.1 + P.1.1 > 99
      · have hm : mLong O P = true := by unfold mLong; rw [hf, decide_eq_true hb, Bool.or_true]
        have h1 := long_up cs (mergeO O P) O' h hm
        have h2 := add_ge (cs.map lenV) (O.2.1.1 + P.1.1)
        exact ⟨fun _ => by omega, fun _ => h1⟩
      · have hm : mLong O P = false := by unfold mLong; rw [hf, hl, decide_eq_false hb]; rfl
        have hz : (mergeO O P).2.1.1 = O.2.1.1 + P.1.1 := by
          show (if mLong O P then O.2.1.1 else max (mFrom O + P.1.1) O.2.1.1) = _
          rw [hm, hf, if_neg (by decide)]; omega
        have r := ih (mergeO O P) O' (fun c' hc' => hw c' (List.mem_cons_of_mem _ hc')) h h6 hm (by rw [hz]; omega)
        rw [hz] at r
        exact r
theorem long_lay : ∀ (cs : List (List Nd)) (O O' : Op), (∀ c ∈ cs, ∀ P : Pt, sem c = .ok P → P.1.1 ≤ 99) → (cs.map sem).foldl mergeE (.ok O) = .ok O' → O.1.1 = 6 → O.2.2.1.2 = false → O'.2.2.1.2 = false := by
  intro cs
  induction cs with
  | nil => intro O O' _ h _ hl; cases h; exact hl
  | cons c cs ih =>
    intro O O' hw h h6 hl
    rw [List.map_cons, List.foldl_cons] at h
    cases hs : sem c with
    | error e =>
      rw [hs] at h
      have : (cs.map sem).foldl mergeE (.error e) = .ok O' := h
      rw [foldl_err] at this
      cases this
    | ok P =>
      rw [hs] at h
      have h9 := hw c List.mem_cons_self P hs
      refine ih (mergeO O P) O' (fun c' hc' => hw c' (List.mem_cons_of_mem _ hc')) h h6 ?_
      show mLong O P = false
      have hf : mFrom O = 0 := if_pos h6
      unfold mLong; rw [hl, hf, decide_eq_false (by omega)]; rfl
theorem fold_tw : ∀ (cs : List (List Nd)) (O O' : Op), (∀ c ∈ cs, ∀ P : Pt, sem c = .ok P → usedV c = P.1.2.1) → (cs.map sem).foldl mergeE (.ok O) = .ok O' → O'.2.2.1.1 = ((cs.map usedV).foldl (fun p w => (p.1 ||| (if decide (O.1.1 = 6) = true then p.2 &&& w else 0), p.2 ||| w)) (O.2.2.1.1, O.2.1.2.1)).1 := by
  intro cs
  induction cs with
  | nil => intro O O' _ h; cases h; rfl
  | cons c cs ih =>
    intro O O' hw h
    rw [List.map_cons, List.foldl_cons] at h
    cases hs : sem c with
    | error e =>
      rw [hs] at h
      have : (cs.map sem).foldl mergeE (.error e) = .ok O' := h
      rw [foldl_err] at this
      cases this
    | ok P =>
      rw [hs] at h
      have hu := hw c List.mem_cons_self P hs
      have r := ih (mergeO O P) O' (fun c' hc' => hw c' (List.mem_cons_of_mem _ hc')) h
      rw [r, List.map_cons, List.foldl_cons, hu]
      have e1 : (mergeO O P).1.1 = O.1.1 := rfl
      have e2 : (mergeO O P).2.2.1.1 = O.2.2.1.1 ||| (if O.1.1 = 6 then O.2.1.2.1 &&& P.1.2.1 else 0) := rfl
      have e3 : (mergeO O P).2.1.2.1 = O.2.1.2.1 ||| P.1.2.1 := rfl
      rw [e1, e2, e3]
      by_cases q : O.1.1 = 6
      · simp [q]
      · simp [q]
/-- why a node is refused whose parts are all right -/
def chkT (nd : Nd) (ws : List Nat) : Nat := if nd.1 ≤ 1 then (twl nd.2.2.2.1).1 else if nd.1 ≤ 5 then 0 else (twV (decide (nd.1 = 6)) ws).1
theorem tw_ser : ∀ (ws : List Nat) (p : Nat × Nat), (ws.foldl (fun p w => (p.1 ||| (if false = true then p.2 &&& w else 0), p.2 ||| w)) p).1 = p.1 := by
  intro ws
  induction ws with
  | nil => intro p; rfl
  | cons w t ih => intro p; rw [List.foldl_cons, ih]; simp
theorem check_sem {n : Nat} {nd : Nd} {cs : List (List Nd)} (hc : nd.2.2.1 = cs.length) (hk : nd.1 ≤ 2 ↔ cs = []) (hcs : ∀ c ∈ cs, TR n c) (hok : ∀ x ∈ nd :: cs.flatten, ndOk2 x) (hch : ∀ c ∈ cs, ∃ P : Pt, sem c = .ok P) : errO (sem (nd :: cs.flatten)) = chE (chkT nd (cs.map usedV)) (lenA nd (cs.map lenV)) (cuesA nd (cs.map cuesV)) := by
  rw [sem_node hc hcs]
  unfold semA
  have hok2 : ∀ c ∈ cs, ∀ nd ∈ c, ndOk2 nd := fun c hc x hx => hok x (List.mem_cons_of_mem _ (List.mem_flatten.mpr ⟨c, hc, hx⟩))
  by_cases h2 : nd.1 ≤ 2
  · rw [if_pos h2]
    have hc0 := hk.mp h2
    subst hc0
    unfold leafE
    by_cases q2 : nd.1 = 2
    · rw [if_pos q2]
      have e1 : chkT nd ([].map usedV) = 0 := by unfold chkT; rw [if_neg (by omega), if_pos (by omega)]
      have e2 : lenA nd ([].map lenV) = 0 := by unfold lenA; rw [if_neg (by omega), if_pos q2]
      have e3 : cuesA nd ([].map cuesV) = 1 := by unfold cuesA; rw [if_pos q2]
      rw [e1, e2, e3]; rfl
    · rw [if_neg q2]
      have e1 : chkT nd ([].map usedV) = (twl nd.2.2.2.1).1 := by unfold chkT; rw [if_pos (by omega)]
      have e2 : lenA nd ([].map lenV) = lsz nd := by unfold lenA; rw [if_pos (by omega)]
      have e3 : cuesA nd ([].map cuesV) = 0 := by unfold cuesA; rw [if_neg q2, if_neg (by omega)]; rfl
      rw [e1, e2, e3]
      unfold chE
      by_cases ht : (twl nd.2.2.2.1).1 ≠ 0
      · rw [if_pos ht, if_pos ht]; rfl
      · rw [if_neg ht, if_neg ht]
        by_cases hl : lsz nd > 99
        · rw [if_pos hl, if_pos (Or.inl hl)]; rfl
        · rw [if_neg hl, if_neg (by omega)]; rfl
  · rw [if_neg h2]
    unfold closeV
    obtain ⟨O, hf⟩ := fold_oks cs (openO nd) hch
    rw [hf]
    have hpt : ∀ c ∈ cs, ∀ Q : Pt, sem c = .ok Q → usedV c = Q.1.2.1 ∧ cuesV c = Q.1.2.2.2 ∧ depV c = Q.1.2.2.1 := fun c hm => pt_ok n c (hcs c hm) (hok2 c hm)
    have hln : ∀ c ∈ cs, ∀ Q : Pt, sem c = .ok Q → lenV c = Q.1.1 ∧ Q.1.1 ≤ 99 := fun c hm => len_ok n c (hcs c hm) (hok2 c hm)
    obtain ⟨f1, f2, f3, f4, f5⟩ := fold_pt cs _ _ hpt hf
    have f4' : O.1.1 = nd.1 := f4
    have f5' : O.1.2.1 = nd.2.1 := f5
    have f2' : O.2.1.2.2.2 = (cs.map cuesV).foldl (· + ·) 0 := f2
    have ft : O.2.2.1.1 = chkT nd (cs.map usedV) := by
      rw [fold_tw cs _ _ (fun c hm Q hQ => (hpt c hm Q hQ).1) hf]
      have e0 : ((openO nd).2.2.1.1, (openO nd).2.1.2.1) = ((0 : Nat), (0 : Nat)) := rfl
      have e1 : (openO nd).1.1 = nd.1 := rfl
      rw [e0, e1]
      unfold chkT
      rw [if_neg (by omega)]
      by_cases q5 : nd.1 ≤ 5
      · rw [if_pos q5, show decide (nd.1 = 6) = false by simp; omega]
        exact tw_ser _ _
      · rw [if_neg q5]; rfl
    have hcue : O.2.1.2.2.2 * cTimes O = cuesA nd (cs.map cuesV) := by
      unfold cuesA cTimes
      rw [f4', f5', f2', if_neg (show ¬ nd.1 = 2 by omega)]
      by_cases q3 : nd.1 = 3
      · rw [if_pos q3, if_pos q3, Nat.mul_comm]
      · rw [if_neg q3, if_neg q3, Nat.mul_one]
    have hlong : (O.2.2.1.2 = true ∨ O.2.1.1 * cTimes O > 99) ↔ lenA nd (cs.map lenV) > 99 := by
      by_cases q5 : nd.1 ≤ 5
      · have ho := hok nd List.mem_cons_self
        have hl1 : cs.length = 1 := by rw [← hc]; exact ho.2.1 (by omega) q5
        obtain ⟨c, rfl⟩ := List.length_eq_one_iff.mp hl1
        obtain ⟨P, hP⟩ := hch c List.mem_cons_self
        obtain ⟨g1, g2⟩ := hln c List.mem_cons_self P hP
        have hl := long_ser [c] (openO nd) O (fun c hm Q hQ => (hln c hm Q hQ).1) hf (by show nd.1 ≠ 6; omega) rfl (Nat.zero_le _)
        have e1 : ([c].map lenV).foldl (· + ·) (openO nd).2.1.1 = lenV c := by show 0 + lenV c = lenV c; omega
        rw [e1] at hl
        have hfl : O.2.2.1.2 = false := by
          cases hb : O.2.2.1.2 with
          | false => rfl
          | true => have := hl.mp hb; omega
        obtain ⟨-, -, -, hz⟩ := fold_len [c] _ _ (fun c hm Q hQ => (hln c hm Q hQ).1) hf hfl
        have hz' : O.2.1.1 = lenV c := by
          rw [hz]
          show lenF (decide ((openO nd).1.1 = 6)) 0 (lenV c) = lenV c
          rw [show decide ((openO nd).1.1 = 6) = false by show decide (nd.1 = 6) = false; simp; omega]
          show 0 + lenV c = lenV c; omega
        have e2 : lenA nd ([c].map lenV) = O.2.1.1 * cTimes O := by
          unfold lenA cTimes
          rw [f4', f5', hz', if_neg (show ¬ nd.1 ≤ 1 by omega), if_neg (show ¬ nd.1 = 2 by omega)]
          by_cases q3 : nd.1 = 3
          · rw [if_pos q3, if_pos q3]; exact Nat.mul_comm _ _
          · rw [if_neg q3, if_neg q3, if_pos q5]; exact (Nat.mul_one _).symm
        rw [e2, hfl]; simp
      · have ct : cTimes O = 1 := by unfold cTimes; rw [f4']; exact if_neg (show ¬ nd.1 = 3 by omega)
        have el : lenA nd (cs.map lenV) = (cs.map lenV).foldl (lenF (decide (nd.1 = 6))) 0 := by unfold lenA; rw [if_neg (show ¬ nd.1 ≤ 1 by omega), if_neg (show ¬ nd.1 = 2 by omega), if_neg (show ¬ nd.1 = 3 by omega), if_neg q5]
        rw [ct, Nat.mul_one, el]
        by_cases q6 : nd.1 = 6
        · have hfl := long_lay cs (openO nd) O (fun c hm Q hQ => (hln c hm Q hQ).2) hf q6 rfl
          obtain ⟨-, -, -, hz⟩ := fold_len cs _ _ (fun c hm Q hQ => (hln c hm Q hQ).1) hf hfl
          have hz' : O.2.1.1 = (cs.map lenV).foldl (lenF (decide (nd.1 = 6))) 0 := hz
          rw [hfl, ← hz']; simp
        · have hl := long_ser cs (openO nd) O (fun c hm Q hQ => (hln c hm Q hQ).1) hf q6 rfl (Nat.zero_le _)
          have e6 : decide (nd.1 = 6) = false := by simp [q6]
          have e7 : (cs.map lenV).foldl (lenF (decide (nd.1 = 6))) 0 = (cs.map lenV).foldl (· + ·) 0 := by rw [e6]; rfl
          have hl' : O.2.2.1.2 = true ↔ (cs.map lenV).foldl (· + ·) 0 > 99 := hl
          rw [e7]
          constructor
          · rintro (q | q)
            · exact hl'.mp q
            · cases hb : O.2.2.1.2 with
              | true => exact hl'.mp hb
              | false =>
                obtain ⟨-, -, -, hz⟩ := fold_len cs _ _ (fun c hm Q hQ => (hln c hm Q hQ).1) hf hb
                have hz' : O.2.1.1 = (cs.map lenV).foldl (lenF (decide (nd.1 = 6))) 0 := hz
                rw [e7] at hz'
                omega
          · intro q; exact Or.inl (hl'.mpr q)
    show errO (closeE O) = _
    unfold closeE chE
    rw [ft, hcue]
    by_cases ht : chkT nd (cs.map usedV) ≠ 0
    · rw [if_pos ht, if_pos ht]; rfl
    · rw [if_neg ht, if_neg ht]
      by_cases hb : lenA nd (cs.map lenV) > 99 ∨ cuesA nd (cs.map cuesV) > 999
      · rw [if_pos hb, if_pos (hb.elim (fun q => (hlong.mpr q).elim Or.inl (fun r => Or.inr (Or.inl r))) (fun q => Or.inr (Or.inr q)))]; rfl
      · rw [if_neg hb, if_neg (fun q => q.elim (fun r => hb (Or.inl (hlong.mp (Or.inl r)))) (fun r => r.elim (fun r => hb (Or.inl (hlong.mp (Or.inr r)))) (fun r => hb (Or.inr r))))]; rfl
theorem sem_errC {n : Nat} {nd : Nd} {cs : List (List Nd)} {c : List Nd} {i : Nat} {e : Er} (hc : nd.2.2.1 = cs.length) (hk : nd.1 ≤ 2 ↔ cs = []) (hcs : ∀ c ∈ cs, TR n c) (hch : ∀ c ∈ cs.take i, ∃ P : Pt, sem c = .ok P) (hi : cs[i]? = some c) (he : sem c = .error e) : sem (nd :: cs.flatten) = .error e := by
  rw [sem_node hc hcs]
  have hl := (List.getElem?_eq_some_iff.mp hi).1
  unfold semA
  rw [if_neg (fun q => by rw [hk.mp q] at hl; simp at hl)]
  unfold closeV
  obtain ⟨O, hf⟩ := fold_oks (cs.take i) (openO nd) hch
  have es : cs = cs.take i ++ c :: cs.drop (i + 1) := by
    have e1 := List.getElem?_eq_some_iff.mp hi
    obtain ⟨h1, h2⟩ := e1
    rw [← h2, ← List.drop_eq_getElem_cons h1, List.take_append_drop]
  have : (cs.map sem).foldl mergeE (.ok (openO nd)) = .error e := by
    rw [es, List.map_append, List.foldl_append, hf, List.map_cons, List.foldl_cons, he]
    exact foldl_err _ _
  rw [this]
theorem cuesV_le {n : Nat} {l : List Nd} (H : TR n l) (hok : ∀ nd ∈ l, ndOk2 nd) (h : ∃ P : Pt, sem l = .ok P) : lenV l ≤ 99 ∧ cuesV l ≤ 999 := by
  obtain ⟨P, hP⟩ := h
  obtain ⟨h1, h2⟩ := len_ok n l H hok P hP
  obtain ⟨-, h3, -⟩ := pt_ok n l H hok P hP
  refine ⟨by omega, ?_⟩
  rw [h3]
  cases n with
  | zero => exact H.elim
  | succ n =>
    obtain ⟨nd, cs, rfl, hc, hk, hcs⟩ := H
    rw [sem_node hc hcs] at hP
    unfold semA at hP
    by_cases h2 : nd.1 ≤ 2
    · rw [if_pos h2] at hP
      unfold leafE at hP
      split at hP
      · cases hP; show 1 ≤ 999; omega
      · split at hP
        · cases hP
        · split at hP
          · cases hP
          · cases hP; show 0 ≤ 999; omega
    · rw [if_neg h2] at hP
      unfold closeV at hP
      split at hP
      · cases hP
      · rename_i O hO
        obtain ⟨c1, c2, c3, c4, c5⟩ := closeE_ok hP
        rw [c5]; exact c4
theorem sum_le {ws : List Nat} {B : Nat} (hw : ∀ w ∈ ws, w ≤ B) : ∀ z : Nat, ws.foldl (· + ·) z ≤ z + B * ws.length := by
  induction ws with
  | nil => intro z; simp
  | cons w t ih =>
    intro z
    have h1 := ih (fun x hx => hw x (List.mem_cons_of_mem _ hx)) (z + w)
    have h2 := hw w List.mem_cons_self
    rw [List.foldl_cons, List.length_cons, Nat.mul_add]
    omega
theorem lenF_le {b : Bool} {ws : List Nat} : ∀ z : Nat, ws.foldl (lenF b) z ≤ ws.foldl (· + ·) z := by
  cases b with
  | false => intro z; exact Nat.le_refl _
  | true =>
    induction ws with
    | nil => intro z; exact Nat.le_refl _
    | cons w t ih =>
      intro z
      refine Nat.le_trans (ih (max z w)) ?_
      have : ∀ (t : List Nat) (x y : Nat), x ≤ y → t.foldl (· + ·) x ≤ t.foldl (· + ·) y := by
        intro t
        induction t with
        | nil => intro x y h; exact h
        | cons a t ih => intro x y h; exact ih _ _ (Nat.add_le_add_right h a)
      exact this t _ _ (by show max z w ≤ z + w; omega)
/-- check() of a node whose parts are all right -/
theorem l_check {n a : Nat} {nd : Nd} {cs : List (List Nd)} {as : List Nat} (hG : GKx g) (e2 : nd.2.2.1 = cs.length) (e3 : nd.1 ≤ 2 ↔ cs = []) (e4 : as.length = cs.length) (e5 : ndC h a nd as) (e6 : ∀ (i q : Nat) (c : List Nd), cs[i]? = some c → as[i]? = some q → NodeAt h n q c) (hl : (nd :: cs.flatten).length < 1000000) (hok : ∀ x ∈ nd :: cs.flatten, ndOk2 x) (hch : ∀ c ∈ cs, ∃ P : Pt, sem c = .ok P) (hd : 6 * n + 11 ≤ d) : Kc g (fam_check nd.1) d 1 8 [.ref a] h (chQ g h (errO (sem (nd :: cs.flatten)))) := by
  have hcs : ∀ c ∈ cs, TR n c := fun c hc => by
    obtain ⟨i, hi⟩ := List.getElem?_of_mem hc
    have hl2 := (List.getElem?_eq_some_iff.mp hi).1
    exact (e6 i _ c hi (List.getElem?_eq_getElem (by omega : i < as.length))).tree
  have hok2 : ∀ c ∈ cs, ∀ nd ∈ c, ndOk2 nd := fun c hc x hx => hok x (List.mem_cons_of_mem _ (List.mem_flatten.mpr ⟨c, hc, hx⟩))
  have hlc : ∀ c ∈ cs, c.length < 1000000 := fun c hc => by have := flat_mem hc; simp only [List.length_cons] at hl; omega
  have hal : as.length < 1000000 := ndC.len (a := a) (nd := nd) e4 e6 hl
  have hPl : Prs g fam_length h (5 * n) as (cs.map lenV) := Prs.of e4 e6 (fun q c hc hn2 => n_len hG n q c hn2 (hlc c hc) (hok2 c hc) (hch c hc))
  have hPc : Prs g fam_cues h (6 * n) as (cs.map cuesV) := Prs.of e4 e6 (fun q c hc hn2 => n_cues hG n q c hn2 (hlc c hc))
  have hPu : Prs g fam_used h (5 * n) as (cs.map usedV) := Prs.of e4 e6 (fun q c hc hn2 => n_used hG n q c hn2 (hlc c hc) (hok2 c hc))
  have hle : ∀ c ∈ cs, lenV c ≤ 99 ∧ cuesV c ≤ 999 := fun c hc => cuesV_le (hcs c hc) (hok2 c hc) (hch c hc)
  have ho := hok nd List.mem_cons_self
  have hlen := l_len (d := 6 * n + 6) hG e5 ho hPl (fun w hw => by obtain ⟨c, hc, rfl⟩ := List.mem_map.mp hw; have := (hle c hc).1; omega) hal (by omega)
  have hcue := l_cuesN (d := 6 * n + 6) hG e5 hPc hal (by omega)
  have sl : (cs.map lenV).foldl (· + ·) 0 ≤ 0 + 99 * (cs.map lenV).length := sum_le (fun w hw => by obtain ⟨c, hc, rfl⟩ := List.mem_map.mp hw; exact (hle c hc).1) 0
  have sc : (cs.map cuesV).foldl (· + ·) 0 ≤ 0 + 999 * (cs.map cuesV).length := sum_le (fun w hw => by obtain ⟨c, hc, rfl⟩ := List.mem_map.mp hw; exact (hle c hc).2) 0
  rw [List.length_map] at sl sc
  have hv9 : nd.2.1 ≤ 9 := ho.1.2.1
  have hwl : nd.1 ≤ 1 → nd.2.2.2.1.length < 1000000 ∧ nd.2.2.2.2.length < 1000000 := fun q => by
    obtain ⟨da, st, sv, D, -, -, -, -, ⟨A, x, y, -, -, -, h9⟩, -, h10⟩ := e5.1 q
    exact ⟨h10, by rw [List.length_map] at h9; exact h9⟩
  have hw : lenA nd (cs.map lenV) < 2000000000 := by
    unfold lenA
    split
    · rename_i q
      obtain ⟨w1, w2⟩ := hwl q
      unfold lsz
      have h9 : offN nd ≤ 9 := by unfold offN; split <;> omega
      have : offN nd * (nd.2.2.2.1.length - 1) ≤ 9 * (nd.2.2.2.1.length - 1) := Nat.mul_le_mul_right _ h9
      omega
    · split
      · omega
      · have hh : (cs.map lenV).headD 0 ≤ 99 := by
          cases cs with
          | nil => simp
          | cons c t => exact (hle c List.mem_cons_self).1
        split
        · have : nd.2.1 * (cs.map lenV).headD 0 ≤ 9 * (cs.map lenV).headD 0 := Nat.mul_le_mul_right _ hv9
          omega
        · split
          · omega
          · have := lenF_le (b := decide (nd.1 = 6)) (ws := cs.map lenV) 0
            omega
  have hu : cuesA nd (cs.map cuesV) < 2000000000 := by
    unfold cuesA
    split
    · omega
    · split
      · rename_i q1 q3
        have hl1 : cs.length = 1 := by rw [← e2]; exact ho.2.1 (by omega) (by omega)
        have : nd.2.1 * (cs.map cuesV).foldl (· + ·) 0 ≤ 9 * (cs.map cuesV).foldl (· + ·) 0 := Nat.mul_le_mul_right _ hv9
        omega
      · omega
  rw [check_sem e2 e3 hcs hok hch]
  by_cases h1 : nd.1 ≤ 1
  · have et : chkT nd (cs.map usedV) = (twl nd.2.2.2.1).1 := by unfold chkT; rw [if_pos h1]
    rw [et]
    have ef : fam_check nd.1 = mX13_check := by
      obtain ⟨k, r⟩ := nd
      match k, h1 with
      | 0, _ => rfl
      | 1, _ => rfl
    have ef1 : fam_length nd.1 = fam_length 0 := by
      obtain ⟨k, r⟩ := nd
      match k, h1 with
      | 0, _ => rfl
      | 1, _ => rfl
    have ef2 : fam_cues nd.1 = fam_cues 0 := by
      obtain ⟨k, r⟩ := nd
      match k, h1 with
      | 0, _ => rfl
      | 1, _ => rfl
    rw [ef]
    rw [ef1] at hlen
    rw [ef2] at hcue
    exact k_chkP hG e5 h1 ho hlen hcue hw hu (by omega)
  · by_cases h5 : nd.1 ≤ 5
    · have et : chkT nd (cs.map usedV) = 0 := by unfold chkT; rw [if_neg h1, if_pos h5]
      rw [et]
      have ef : fam_check nd.1 = mX8_check := by
        obtain ⟨k, r⟩ := nd
        match k, h1, h5 with
        | 0, h, _ => exact absurd (Nat.zero_le _) h
        | 1, h, _ => exact absurd (Nat.le_refl _) h
        | 2, _, _ | 3, _, _ | 4, _, _ | 5, _, _ => rfl
        | k + 6, _, h => exact absurd h (by simp)
      rw [ef]
      exact k_chk8 hG e5.cls hlen hcue hw hu (by omega)
    · have et : chkT nd (cs.map usedV) = (twV (decide (nd.1 = 6)) (cs.map usedV)).1 := by unfold chkT; rw [if_neg h1, if_neg h5]
      rw [et]
      have efs : fam_check nd.1 = mX16_check ∧ fam_length nd.1 = fam_length 6 ∧ fam_cues nd.1 = fam_cues 6 := by
        obtain ⟨k, r⟩ := nd
        match k, h5 with
        | 0, h | 1, h | 2, h | 3, h | 4, h | 5, h => exact absurd (by simp) h
        | k + 6, _ => exact ⟨rfl, rfl, rfl⟩
      obtain ⟨ef, ef1, ef2⟩ := efs
      rw [ef]
      rw [ef1] at hlen
      rw [ef2] at hcue
      obtain ⟨pl, v', cp, mc, f, f1, f2, f3, f4, f5⟩ := e5.2.2.2.2.2 (by omega)
      exact k_chkV hG (by rw [bI_dec]; exact f1) f2 f3 f4 f5 hPu (fun w hw => by obtain ⟨c, hc, rfl⟩ := List.mem_map.mp hw; exact usedV_lt n c (hcs c hc) (hok2 c hc)) hal hlen hcue hw hu (by omega)
theorem fcA (κ : Nat) : fam_checkAll κ = mX8_checkAll := match κ with
  | 0 | 1 | 2 | 3 | 4 | 5 | _ + 6 => rfl
theorem drop_len {cs : List (List Nd)} {i : Nat} {c : List Nd} (h : cs[i]? = some c) : (cs.drop i).flatten.length = c.length + (cs.drop (i + 1)).flatten.length := by
  obtain ⟨h1, h2⟩ := List.getElem?_eq_some_iff.mp h
  rw [List.drop_eq_getElem_cons h1, List.flatten_cons, List.length_append, h2]
set_option maxRecDepth 100000 in
set_option maxHeartbeats 4000000 in
theorem l_checkAll {n a D : Nat} {nd : Nd} {cs : List (List Nd)} {as : List Nat} (hG : GKx g) (e2 : nd.2.2.1 = cs.length) (e3 : nd.1 ≤ 2 ↔ cs = []) (e4 : as.length = cs.length) (e5 : ndC h a nd as) (e6 : ∀ (i q : Nat) (c : List Nd), cs[i]? = some c → as[i]? = some q → NodeAt h n q c) (hl : (nd :: cs.flatten).length < 1000000) (hok : ∀ x ∈ nd :: cs.flatten, ndOk2 x) (hkid : ∀ (i q : Nat) (c : List Nd), cs[i]? = some c → as[i]? = some q → Kc g (fam_checkAll (rootK c)) D c.length (8 * c.length) [.ref q] h (chQ g h (errO (sem c)))) (hd : 6 * n + 12 ≤ d ∧ D + 1 ≤ d) : Kc g mX8_checkAll d ((nd :: cs.flatten).length) (8 * (nd :: cs.flatten).length) [.ref a] h (chQ g h (errO (sem (nd :: cs.flatten)))) := by
  refine Kc.of (ls := [some (.ref a), none]) (by decide +kernel) (Nat.le_of_ble_eq_true rfl) rfl ?_
  have hal : as.length < 1000000 := ndC.len (a := a) (nd := nd) e4 e6 hl
  have hcs : ∀ c ∈ cs, TR n c := fun c hc => by
    obtain ⟨i, hi⟩ := List.getElem?_of_mem hc
    have hl2 := (List.getElem?_eq_some_iff.mp hi).1
    exact (e6 i _ c hi (List.getElem?_eq_getElem (by omega : i < as.length))).tree
  refine ev_iconstZ dX8_checkAll_0 ?_
  refine ev_istore_n dX8_checkAll_1 (by decide) rfl ?_
  dsimp only [List.set]
  refine ev_forB as.length (fun i => 1 + (cs.drop i).flatten.length) (fun i => 8 * (1 + (cs.drop i).flatten.length)) (fun i h1 => h1 = h ∧ ∀ c ∈ cs.take i, ∃ P : Pt, sem c = .ok P) (fun i => [some (.ref a), some (vz ((i : Nat) : Int))]) 0 (Nat.zero_le _) ⟨rfl, fun c hc => by simp at hc⟩ (by simp only [List.drop_zero, List.length_cons]; omega) (by simp only [List.drop_zero, List.length_cons]; omega) ⟨rfl, rfl, trivial⟩ (fun i h1 _ hi eh hN => ?_) (fun h1 eh => ?_)
  · obtain ⟨rfl, hall⟩ := eh
    obtain ⟨c, hcq⟩ : ∃ c, cs[i]? = some c := ⟨_, List.getElem?_eq_getElem (by omega)⟩
    obtain ⟨q, hq⟩ : ∃ q, as[i]? = some q := ⟨_, List.getElem?_eq_getElem (by omega)⟩
    have hkq := (e6 i q c hcq hq).cls
    have hdl := drop_len hcq
    have hb1 : c.length ≤ 1 + (cs.drop i).flatten.length := by omega
    have hb2 : 8 * c.length ≤ 8 * (1 + (cs.drop i).flatten.length) := by omega
    refine ev_iload_n dX8_checkAll_2 rfl ?_
    refine ev_aload_n dX8_checkAll_3 rfl ?_
    refine ev_callNE dX8_checkAll_4 (nv_X8_9 hG) fe_partCount (e5.cls) rfl rfl (n_pc e5 (d := 1) (Nat.le_refl _)) (by omega) (Nat.le_of_ble_eq_true rfl) ?_
    refine ev_icmp_geZ (tgt := 24) dX8_checkAll_7 (by decide) (by omega) (by omega) (fun c7 => by omega) (fun c7 => ?_)
    refine ev_aload_n dX8_checkAll_10 rfl ?_
    refine ev_iload_n dX8_checkAll_11 rfl ?_
    refine ev_callNE dX8_checkAll_12 (nv_X8_15 hG) fe_part (e5.cls) rfl rfl (n_part e5 (d := 3) hq hkq hal (Nat.le_refl _)) (by omega) (Nat.le_of_ble_eq_true rfl) ?_
    refine ev_callNQ dX8_checkAll_15 (nv_X8_39 hG) fe_checkAll hkq rfl rfl (hkid i q c hcq hq) (by omega) hb1 hb2 (Nat.le_of_ble_eq_true rfl) (fun v h2 q2 => ?_) (fun E x h2 r2 => evx_out rfl ?_)
    · obtain ⟨he2, rfl, rfl⟩ := chQ_inl q2
      refine ev_iincZ dX8_checkAll_18 rfl (by decide) rfl ?_
      dsimp only [List.set]
      refine ev_goto (tgt := 2) dX8_checkAll_21 (by decide) ?_
      refine hN _ _ _ _ ?_ ?_ ⟨rfl, vz_eq (by omega), trivial⟩ ⟨rfl, fun c' hc' => ?_⟩
      · omega
      · omega
      · rw [take_snoc hcq] at hc'
        rcases List.mem_append.mp hc' with r | r
        · exact hall c' r
        · rw [List.mem_singleton.mp r]
          cases hs : sem c with
          | ok P => exact ⟨P, rfl⟩
          | error e => rw [hs] at he2; cases he2
    · cases hs : sem c with
      | ok P => rw [hs] at r2; cases r2.1
      | error e => rw [hs] at r2; rw [sem_errC e2 e3 hcs hall hcq hs]; exact r2
  · obtain ⟨rfl, hall⟩ := eh
    rw [show as.length = cs.length from e4, List.take_length] at hall
    rw [show 1 + (cs.drop as.length).flatten.length = 1 by rw [List.drop_eq_nil_of_le (by omega)]; rfl]
    refine ev_iload_n dX8_checkAll_2 rfl ?_
    refine ev_aload_n dX8_checkAll_3 rfl ?_
    refine ev_callNE dX8_checkAll_4 (nv_X8_9 hG) fe_partCount (e5.cls) rfl rfl (n_pc e5 (d := 1) (Nat.le_refl _)) (by omega) (Nat.le_of_ble_eq_true rfl) ?_
    refine ev_icmp_geZ (tgt := 24) dX8_checkAll_7 (by decide) (by omega) (by omega) (fun c7 => ?_) (fun c7 => by omega)
    refine ev_aload_n dX8_checkAll_24 rfl ?_
    refine ev_callNQ dX8_checkAll_25 (nv_X8_42 hG) fe_check e5.cls rfl rfl (l_check (d := 6 * n + 11) hG e2 e3 e4 e5 e6 hl hok hall (Nat.le_refl _)) (by omega) (by omega) (by omega) (Nat.le_of_ble_eq_true rfl) (fun v h2 q2 => ?_) (fun E x h2 r2 => evx_out rfl r2)
    obtain ⟨he2, rfl, rfl⟩ := chQ_inl q2
    refine ev_return dX8_checkAll_28 rfl ?_
    rw [he2]
    exact ⟨rfl, rfl⟩
/-- checkAll() -/
theorem n_checkAll (hG : GKx g) : ∀ (n a : Nat) (l : List Nd), NodeAt h n a l → l.length < 1000000 → (∀ nd ∈ l, ndOk2 nd) → Kc g mX8_checkAll (7 * n + 5) l.length (8 * l.length) [.ref a] h (chQ g h (errO (sem l))) := by
  intro n
  induction n with
  | zero => intro a l H; exact H.elim
  | succ n ih =>
    intro a l H hl hok
    obtain ⟨nd, cs, as, rfl, e2, e3, e4, e5, e6⟩ := H
    exact l_checkAll (D := 7 * n + 5) hG e2 e3 e4 e5 e6 hl hok (fun i q c hc hq => by rw [fcA]; exact ih q c (e6 i q c hc hq) (by have := flat_mem (List.mem_of_getElem? hc); simp only [List.length_cons] at hl; omega) (fun x hx => hok x (List.mem_cons_of_mem _ (List.mem_flatten.mpr ⟨c, List.mem_of_getElem? hc, hx⟩)))) (by omega)
end P0S

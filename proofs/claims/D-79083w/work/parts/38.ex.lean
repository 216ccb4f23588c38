/-! pieces with exchanged dancers (printed by gen/mkex.py) -/
section EX
def exN (a b x : Nat) : Nat := if x = a then b else if x = b then a else x
def exNd (a b : Nat) (nd : Nd) : Nd := if nd.1 ≤ 1 then (nd.1, nd.2.1, nd.2.2.1, nd.2.2.2.1.map (exN a b), nd.2.2.2.2) else nd
def exL (a b : Nat) (l : List Nd) : List Nd := l.map (exNd a b)
def cntD (a b : Nat) (ds : List Nat) : Nat → Nat
  | 0 => 0
  | k + 1 => cntD a b ds k + (if ds.getD k 0 = a ∨ ds.getD k 0 = b then 1 else 0)
def cntL (a b : Nat) (l : List Nd) : Nat → Nat
  | 0 => 0
  | i + 1 => cntL a b l i + (if (l.getD i noNd).1 ≤ 1 then cntD a b (l.getD i noNd).2.2.2.1 (l.getD i noNd).2.2.2.1.length else 0)
variable {a b : Nat}
theorem exN_lt (ha : a < 8) (hb : b < 8) {x : Nat} (hx : x < 8) : exN a b x < 8 := by unfold exN; split <;> (try split) <;> omega
theorem exN_inv (x : Nat) : exN a b (exN a b x) = x := by
  unfold exN
  by_cases h1 : x = a
  · rw [if_pos h1]
    by_cases h2 : b = a
    · rw [if_pos h2]; omega
    · rw [if_neg h2, if_pos rfl]; omega
  · rw [if_neg h1]
    by_cases h2 : x = b
    · rw [if_pos h2, if_pos rfl]; omega
    · rw [if_neg h2, if_neg h1, if_neg h2]
theorem exN_inj {x y : Nat} (h : exN a b x = exN a b y) : x = y := by rw [← exN_inv (a := a) (b := b) x, h, exN_inv]
theorem exNd_1 (nd : Nd) : (exNd a b nd).1 = nd.1 := by unfold exNd; split <;> rfl
theorem exNd_2 (nd : Nd) : (exNd a b nd).2.1 = nd.2.1 := by unfold exNd; split <;> rfl
theorem exNd_3 (nd : Nd) : (exNd a b nd).2.2.1 = nd.2.2.1 := by unfold exNd; split <;> rfl
theorem exNd_5 (nd : Nd) : (exNd a b nd).2.2.2.2 = nd.2.2.2.2 := by unfold exNd; split <;> rfl
theorem exNd_len (nd : Nd) : (exNd a b nd).2.2.2.1.length = nd.2.2.2.1.length := by unfold exNd; split <;> simp
theorem exNd_get {nd : Nd} (h : nd.1 ≤ 1) {i : Nat} (hi : i < nd.2.2.2.1.length) : (exNd a b nd).2.2.2.1.getD i 0 = exN a b (nd.2.2.2.1.getD i 0) := by
  unfold exNd
  rw [if_pos h]
  simp only [List.getD_eq_getElem?_getD, List.getElem?_map, List.getElem?_eq_getElem hi, Option.map_some, Option.getD_some]
theorem TR_ex : ∀ (n : Nat) (l : List Nd), TR n l → TR n (exL a b l) := by
  intro n
  induction n with
  | zero => intro l h; exact h
  | succ n ih =>
    intro l h
    obtain ⟨nd, cs, rfl, hc, hk, hcs⟩ := h
    refine ⟨exNd a b nd, cs.map (exL a b), ?_, by rw [exNd_3, hc, List.length_map], ?_, fun c hc' => ?_⟩
    · unfold exL
      rw [List.map_cons, List.map_flatten]
    · rw [exNd_1, hk]
      simp
    · obtain ⟨c', h1, rfl⟩ := List.mem_map.mp hc'
      exact ih c' (hcs c' h1)
theorem ndOk2_ex (ha : a < 8) (hb : b < 8) {nd : Nd} (h : ndOk2 nd) : ndOk2 (exNd a b nd) := by
  obtain ⟨⟨h1, h2, h3, h4⟩, h5, h6, h7⟩ := h
  refine ⟨⟨by rw [exNd_1]; exact h1, by rw [exNd_2]; exact h2, by rw [exNd_3]; exact h3, fun hk => ?_⟩, by rw [exNd_1, exNd_3]; exact h5, by rw [exNd_1, exNd_3]; exact h6, by rw [exNd_1, exNd_2]; exact h7⟩
  rw [exNd_1] at hk
  obtain ⟨q1, q2, q3, q4⟩ := h4 hk
  rw [exNd_len, exNd_5]
  exact ⟨q1, q2, fun i hi => by rw [exNd_get hk hi]; exact exN_lt ha hb (q3 i hi), q4⟩
/-- two sets of dancers: one is the other, exchanged -/
def uRel (a b u v : Nat) : Prop := u < 256 ∧ v < 256 ∧ ∀ e : Nat, e < 8 → v.testBit (exN a b e) = u.testBit e
theorem bits0 {u : Nat} (hu : u < 256) (h : ∀ e : Nat, e < 8 → u.testBit e = false) : u = 0 := by
  apply Nat.eq_of_testBit_eq
  intro i
  rw [Nat.zero_testBit]
  by_cases c : i < 8
  · exact h i c
  · exact Nat.testBit_lt_two_pow (Nat.lt_of_lt_of_le hu (Nat.le_trans (by decide : 256 ≤ 2 ^ 8) (Nat.pow_le_pow_right (by decide) (by omega))))
theorem uRel.zero (ha : a < 8) (hb : b < 8) {u v : Nat} (h : uRel a b u v) : u = 0 ↔ v = 0 := by
  obtain ⟨h1, h2, h3⟩ := h
  constructor
  · intro q
    subst q
    refine bits0 h2 (fun e he => ?_)
    have := h3 (exN a b e) (exN_lt ha hb he)
    rw [exN_inv] at this
    rw [this, Nat.zero_testBit]
  · intro q
    subst q
    refine bits0 h1 (fun e he => ?_)
    rw [← h3 e he, Nat.zero_testBit]
theorem uRel.or {u v u' v' : Nat} (h : uRel a b u v) (h' : uRel a b u' v') : uRel a b (u ||| u') (v ||| v') := ⟨or_lt h.1 h'.1, or_lt h.2.1 h'.2.1, fun e he => by rw [Nat.testBit_or, Nat.testBit_or, h.2.2 e he, h'.2.2 e he]⟩
theorem uRel.and {u v u' v' : Nat} (h : uRel a b u v) (h' : uRel a b u' v') : uRel a b (u &&& u') (v &&& v') := ⟨and_lt h.1, and_lt h.2.1, fun e he => by rw [Nat.testBit_and, Nat.testBit_and, h.2.2 e he, h'.2.2 e he]⟩
theorem uRel.z : uRel a b 0 0 := ⟨by decide, by decide, fun e _ => by rw [Nat.zero_testBit, Nat.zero_testBit]⟩
theorem bit_t : ∀ x e : Fin 8, (1 <<< x.val).testBit e.val = decide (x.val = e.val) := by decide
theorem bit_te {x e : Nat} (hx : x < 8) (he : e < 8) : (1 <<< x).testBit e = decide (x = e) := bit_t ⟨x, hx⟩ ⟨e, he⟩
theorem uRel.one (ha : a < 8) (hb : b < 8) {x : Nat} (hx : x < 8) : uRel a b (1 <<< x) (1 <<< exN a b x) := ⟨shl_lt hx, shl_lt (exN_lt ha hb hx), fun e he => by
  rw [bit_te (exN_lt ha hb hx) (exN_lt ha hb he), bit_te hx he]
  by_cases c : x = e
  · rw [c]; simp
  · rw [decide_eq_false c, decide_eq_false (fun q => c (exN_inj q))]⟩
theorem twl_ex (ha : a < 8) (hb : b < 8) (ds : List Nat) (h8 : ∀ i, i < ds.length → ds.getD i 0 < 8) : ∀ n, n ≤ ds.length → uRel a b (twl (ds.take n)).1 (twl ((ds.map (exN a b)).take n)).1 ∧ uRel a b (twl (ds.take n)).2 (twl ((ds.map (exN a b)).take n)).2 := by
  intro n
  induction n with
  | zero => intro _; exact ⟨uRel.z, uRel.z⟩
  | succ n ih =>
    intro hn
    rw [twl_succ ds (by omega), twl_succ (ds.map (exN a b)) (by rw [List.length_map]; omega)]
    have e : (ds.map (exN a b)).getD n 0 = exN a b (ds.getD n 0) := by
      simp only [List.getD_eq_getElem?_getD, List.getElem?_map, List.getElem?_eq_getElem (show n < ds.length by omega), Option.map_some, Option.getD_some]
    rw [e]
    obtain ⟨q1, q2⟩ := ih (by omega)
    have q3 := uRel.one ha hb (h8 n (by omega))
    exact ⟨q1.or (q2.and q3), q2.or q3⟩
/-- two meanings: one is the other, exchanged -/
def pRel (a b : Nat) (P P' : Pt) : Prop := P'.1.1 = P.1.1 ∧ uRel a b P.1.2.1 P'.1.2.1 ∧ P'.1.2.2 = P.1.2.2 ∧ (∀ e k : Nat, e < 8 → P'.2.1 (exN a b e) k = P.2.1 e k) ∧ P'.2.2 = P.2.2
def oRel (a b : Nat) (O O' : Op) : Prop := O'.1 = O.1 ∧ O'.2.1.1 = O.2.1.1 ∧ uRel a b O.2.1.2.1 O'.2.1.2.1 ∧ O'.2.1.2.2 = O.2.1.2.2 ∧ uRel a b O.2.2.1.1 O'.2.2.1.1 ∧ O'.2.2.1.2 = O.2.2.1.2 ∧ (∀ e k : Nat, e < 8 → O'.2.2.2.1 (exN a b e) k = O.2.2.2.1 e k) ∧ O'.2.2.2.2 = O.2.2.2.2
def vRel (a b : Nat) : Me → Me → Prop
  | .error _, .error _ => True
  | .ok P, .ok P' => pRel a b P P'
  | _, _ => False
theorem oRel_merge {O O' : Op} {P P' : Pt} (hO : oRel a b O O') (hP : pRel a b P P') : oRel a b (mergeO O P) (mergeO O' P') := by
  obtain ⟨o1, o2, o3, o4, o5, o6, o7, o8⟩ := hO
  obtain ⟨p1, p2, p3, p4, p5⟩ := hP
  have eF : mFrom O' = mFrom O := by unfold mFrom; rw [o1, o2]
  have eL : mLong O' P' = mLong O P := by unfold mLong; rw [eF, p1, o6]
  refine ⟨?_, ?_, o3.or p2, ?_, ?_, eL, fun e k he => ?_, ?_⟩
  · show (O'.1.1, O'.1.2.1, O'.1.2.2 - 1) = (O.1.1, O.1.2.1, O.1.2.2 - 1); rw [o1]
  · show (if mLong O' P' then O'.2.1.1 else max (mFrom O' + P'.1.1) O'.2.1.1) = _; rw [eL, eF, o2, p1]; rfl
  · show (max O'.2.1.2.2.1 P'.1.2.2.1, O'.2.1.2.2.2 + P'.1.2.2.2) = _; rw [o4, p3]; rfl
  · show uRel a b (O.2.2.1.1 ||| (if O.1.1 = 6 then O.2.1.2.1 &&& P.1.2.1 else 0)) (O'.2.2.1.1 ||| (if O'.1.1 = 6 then O'.2.1.2.1 &&& P'.1.2.1 else 0))
    rw [o1]
    by_cases c : O.1.1 = 6
    · rw [if_pos c, if_pos c]; exact o5.or (o3.and p2)
    · rw [if_neg c, if_neg c]; exact o5.or uRel.z
  · show (if mLong O' P' then O'.2.2.2.1 else mSteps O' P') (exN a b e) k = (if mLong O P then O.2.2.2.1 else mSteps O P) e k
    rw [eL]
    by_cases c : mLong O P = true
    · rw [if_pos c, if_pos c]; exact o7 e k he
    · rw [if_neg c, if_neg c]
      unfold mSteps
      rw [eF, p1, p2.2.2 e he, p4 e _ he, o7 e k he]
  · show (if mLong O' P' then O'.2.2.2.2 else mCues O' P') = (if mLong O P then O.2.2.2.2 else mCues O P)
    rw [eL, o8]
    have : mCues O' P' = mCues O P := by funext k; unfold mCues; rw [eF, p1, p5, o8]
    rw [this]
theorem timesS_rel {O O' : Op} (hO : oRel a b O O') : ∀ (t e k : Nat), e < 8 → timesS O' t (exN a b e) k = timesS O t e k := by
  obtain ⟨o1, o2, o3, o4, o5, o6, o7, o8⟩ := hO
  have h1 : ∀ e k : Nat, e < 8 → onceS O' (exN a b e) k = onceS O e k := by
    intro e k he
    unfold onceS
    rw [o1, o2, o7 e _ he, o7 e _ he]
  intro t
  induction t with
  | zero => intro e k _; rfl
  | succ t ih =>
    intro e k he
    show (if _ then _ else _) = (if _ then _ else _)
    rw [o2, h1 e _ he, ih e k he]
theorem timesC_rel {O O' : Op} (hO : oRel a b O O') : ∀ t : Nat, timesC O' t = timesC O t := by
  obtain ⟨o1, o2, o3, o4, o5, o6, o7, o8⟩ := hO
  have h1 : onceC O' = onceC O := by funext k; unfold onceC; rw [o1, o2, o8]
  intro t
  induction t with
  | zero => rfl
  | succ t ih => funext k; show timesC O' t k + _ = timesC O t k + _; rw [ih, o2, h1]
theorem closeE_rel (ha : a < 8) (hb : b < 8) {O O' : Op} (hO : oRel a b O O') : vRel a b (closeE O) (closeE O') := by
  have hO' := hO
  obtain ⟨o1, o2, o3, o4, o5, o6, o7, o8⟩ := hO
  have eT : cTimes O' = cTimes O := by unfold cTimes; rw [o1]
  have e4 : O'.2.1.2.2.2 = O.2.1.2.2.2 := by rw [o4]
  have e5 : O'.2.1.2.2.1 = O.2.1.2.2.1 := by rw [o4]
  unfold closeE
  by_cases c1 : O.2.2.1.1 ≠ 0
  · rw [if_pos c1, if_pos (show O'.2.2.1.1 ≠ 0 from fun q => c1 ((o5.zero ha hb).mpr q))]; exact trivial
  · rw [if_neg c1, if_neg (show ¬ O'.2.2.1.1 ≠ 0 from fun q => c1 (fun q2 => q ((o5.zero ha hb).mp q2)))]
    rw [o6, o2, eT, e4]
    by_cases c2 : O.2.2.1.2 = true ∨ O.2.1.1 * cTimes O > 99 ∨ O.2.1.2.2.2 * cTimes O > 999
    · rw [if_pos c2, if_pos c2]; exact trivial
    · rw [if_neg c2, if_neg c2]
      refine ⟨rfl, o3, ?_, fun e k he => timesS_rel hO' _ e k he, timesC_rel hO' _⟩
      show (O'.2.1.2.2.1 + 1, O.2.1.2.2.2 * cTimes O) = _
      rw [e5]
theorem lst_rel {off : Nat} {ds ss : List Nat} : ∀ (n e k : Nat), n ≤ ds.length → lst off (ds.map (exN a b)) ss n (exN a b e) k = lst off ds ss n e k := by
  intro n
  induction n with
  | zero => intro e k _; rfl
  | succ n ih =>
    intro e k hn
    have q : (ds.map (exN a b)).getD n 0 = exN a b (ds.getD n 0) := by
      simp only [List.getD_eq_getElem?_getD, List.getElem?_map, List.getElem?_eq_getElem (show n < ds.length by omega), Option.map_some, Option.getD_some]
    unfold lst
    rw [ih e k (by omega), q]
    by_cases c : e = ds.getD n 0 ∧ off * n ≤ k ∧ k < off * n + ss.length
    · rw [if_pos c, if_pos ⟨by rw [c.1], c.2⟩]
    · rw [if_neg c, if_neg (fun h => c ⟨exN_inj h.1, h.2⟩)]
theorem leafE_rel (ha : a < 8) (hb : b < 8) {nd : Nd} (hO : ndOk nd) (h2 : nd.1 ≤ 2) : vRel a b (leafE nd) (leafE (exNd a b nd)) := by
  by_cases hk : nd.1 = 2
  · have e : exNd a b nd = nd := by unfold exNd; rw [if_neg (by omega)]
    rw [e]
    unfold leafE
    rw [if_pos hk]
    exact ⟨rfl, uRel.z, rfl, fun _ _ _ => rfl, rfl⟩
  · have hk1 : nd.1 ≤ 1 := by omega
    obtain ⟨hd1, hd2, h8, h4⟩ := hO.2.2.2 hk1
    obtain ⟨t1, t2⟩ := twl_ex ha hb nd.2.2.2.1 h8 _ (Nat.le_refl _)
    rw [List.take_length, List.take_of_length_le (by rw [List.length_map]; exact Nat.le_refl _)] at t1 t2
    have e : exNd a b nd = (nd.1, nd.2.1, nd.2.2.1, nd.2.2.2.1.map (exN a b), nd.2.2.2.2) := by unfold exNd; rw [if_pos hk1]
    have es : lsz (exNd a b nd) = lsz nd := by rw [e]; unfold lsz offN; simp
    have eo : offN (exNd a b nd) = offN nd := by rw [e]; rfl
    have e4 : (exNd a b nd).2.2.2.1 = nd.2.2.2.1.map (exN a b) := by rw [e]
    have e5 := exNd_5 (a := a) (b := b) nd
    unfold leafE
    rw [if_neg hk, if_neg (show ¬ (exNd a b nd).1 = 2 by rw [exNd_1]; exact hk), es, e4, e5, eo]
    by_cases c1 : (twl nd.2.2.2.1).1 ≠ 0
    · rw [if_pos c1, if_pos (show (twl (nd.2.2.2.1.map (exN a b))).1 ≠ 0 from fun q => c1 ((t1.zero ha hb).mpr q))]; exact trivial
    · rw [if_neg c1, if_neg (show ¬ (twl (nd.2.2.2.1.map (exN a b))).1 ≠ 0 from fun q => c1 (fun q2 => q ((t1.zero ha hb).mp q2)))]
      by_cases c2 : lsz nd > 99
      · rw [if_pos c2, if_pos c2]; exact trivial
      · rw [if_neg c2, if_neg c2]
        refine ⟨rfl, t2, rfl, fun e k _ => ?_, rfl⟩
        show lst _ _ _ (nd.2.2.2.1.map (exN a b)).length _ _ = lst _ _ _ nd.2.2.2.1.length _ _
        rw [List.length_map]
        exact lst_rel _ e k (Nat.le_refl _)
theorem sem_ex (ha : a < 8) (hb : b < 8) : ∀ (n : Nat) (l : List Nd), TR n l → (∀ nd ∈ l, ndOk2 nd) → vRel a b (sem l) (sem (exL a b l)) := by
  intro n
  induction n with
  | zero => intro l h; exact h.elim
  | succ n ih =>
    intro l h hok
    obtain ⟨nd, cs, rfl, hc, hk, hcs⟩ := h
    have el : exL a b (nd :: cs.flatten) = exNd a b nd :: (cs.map (exL a b)).flatten := by unfold exL; rw [List.map_cons, List.map_flatten]
    rw [el, sem_node hc hcs, sem_node (n := n) (by rw [exNd_3, hc, List.length_map]) (fun c hc' => by
      obtain ⟨c', h1, rfl⟩ := List.mem_map.mp hc'
      exact TR_ex n c' (hcs c' h1))]
    unfold semA
    rw [exNd_1]
    by_cases h2 : nd.1 ≤ 2
    · rw [if_pos h2, if_pos h2]
      exact leafE_rel ha hb (hok nd List.mem_cons_self).1 h2
    · rw [if_neg h2, if_neg h2, closeV_eq, closeV_eq]
      have en : exNd a b nd = nd := by unfold exNd; rw [if_neg (by omega)]
      rw [en]
      have key : ∀ (cs : List (List Nd)) (O O' : Op), (∀ c ∈ cs, TR n c) → (∀ nd ∈ cs.flatten, ndOk2 nd) → oRel a b O O' → vRel a b (foldE ((cs.map sem).foldl mergeE (.ok O))) (foldE (((cs.map (exL a b)).map sem).foldl mergeE (.ok O'))) := by
        intro cs
        induction cs with
        | nil => intro O O' _ _ hO; exact closeE_rel ha hb hO
        | cons c cs ihc =>
          intro O O' hcs hok hO
          have hv := ih c (hcs c List.mem_cons_self) (fun nd h => hok nd (by rw [List.flatten_cons]; exact List.mem_append_left _ h))
          simp only [List.map_cons, List.foldl_cons]
          cases h1 : sem c with
          | error e =>
            cases h2 : sem (exL a b c) with
            | error e' =>
              show vRel a b (foldE ((cs.map sem).foldl mergeE (.error e))) (foldE (((cs.map (exL a b)).map sem).foldl mergeE (.error e')))
              rw [foldl_err, foldl_err]
              exact trivial
            | ok P' => rw [h1, h2] at hv; exact hv.elim
          | ok P =>
            cases h2 : sem (exL a b c) with
            | error e' => rw [h1, h2] at hv; exact hv.elim
            | ok P' =>
              rw [h1, h2] at hv
              exact ihc (mergeO O P) (mergeO O' P') (fun c' h' => hcs c' (List.mem_cons_of_mem _ h')) (fun nd h => hok nd (by rw [List.flatten_cons]; exact List.mem_append_right _ h)) (oRel_merge hO hv)
      exact key cs _ _ hcs (fun nd h => hok nd (List.mem_cons_of_mem _ h)) ⟨rfl, rfl, uRel.z, rfl, uRel.z, rfl, fun _ _ _ => rfl, rfl⟩
theorem pc_ex (ha : a < 8) (hb : b < 8) {l : List Nd} (hok : pcOk l) (hs : sem l = .ok (mean l)) : pcOk (exL a b l) ∧ sem (exL a b l) = .ok (mean (exL a b l)) ∧ pRel a b (mean l) (mean (exL a b l)) := by
  have hv := sem_ex ha hb 81 l hok.1 hok.2
  rw [hs] at hv
  cases h : sem (exL a b l) with
  | error e => rw [h] at hv; exact hv.elim
  | ok P =>
    rw [h] at hv
    rw [mean_of h]
    exact ⟨⟨TR_ex _ _ hok.1, fun nd hn => by
      obtain ⟨nd', h1, rfl⟩ := List.mem_map.mp hn
      exact ndOk2_ex ha hb (hok.2 nd' h1)⟩, rfl, hv⟩
end EX

/-! the reference reads: what stands alone is taken out (printed by gen) -/
section RB
variable {L1 : Nat → Int} {g : GB} {M : MI} {d c k : Nat} {Q : RS → HM → Prop} {pc : Nat} {ls : List (Option Value)} {st : List Value} {h : HM} {a b : Int} {ad : Nat → Nat} {o : Nat} {h0 : HM} {s : MSt}
/-- the nodes with the places of their data *-/
def offL : Nat → List Nd → List (Nd × Nat)
  | _, [] => []
  | a, nd :: l => (nd, a) :: offL (a + dlen nd) l
def tdL (l : List Nd) : List (Nd × Nat) := (offL 0 l).filter (fun x => kpNd x.1)
theorem offL_app (l r : List Nd) : ∀ a, offL a (l ++ r) = offL a l ++ offL (a + dsum l) r := by
  induction l with
  | nil => intro a; rfl
  | cons nd l ih =>
    intro a
    show (nd, a) :: offL (a + dlen nd) (l ++ r) = _
    rw [ih]
    show _ = (nd, a) :: (offL (a + dlen nd) l ++ offL (a + (dlen nd + dsum l)) r)
    rw [Nat.add_assoc]
theorem offL_in (l : List Nd) : ∀ a, ∀ x ∈ offL a l, a ≤ x.2 ∧ x.2 + dlen x.1 ≤ a + dsum l ∧ x.1 ∈ l := by
  induction l with
  | nil => intro a x h; simp [offL] at h
  | cons nd l ih =>
    intro a x h
    rcases List.mem_cons.mp h with rfl | h
    · refine ⟨Nat.le_refl _, ?_, by simp⟩
      show a + dlen nd ≤ a + (dlen nd + dsum l)
      omega
    · obtain ⟨h1, h2, h3⟩ := ih _ x h
      refine ⟨by omega, ?_, List.mem_cons_of_mem _ h3⟩
      show _ ≤ a + (dlen nd + dsum l)
      omega
theorem offL_ord (l : List Nd) : ∀ a, (offL a l).Pairwise (fun x y => x.2 + dlen x.1 ≤ y.2) := by
  induction l with
  | nil => intro a; exact List.Pairwise.nil
  | cons nd l ih => intro a; exact List.Pairwise.cons (fun y hy => (offL_in l _ y hy).1) (ih _)
theorem offL_fst (l : List Nd) : ∀ a, (offL a l).map Prod.fst = l := by
  induction l with
  | nil => intro a; rfl
  | cons nd l ih => intro a; show nd :: _ = _; rw [ih]
theorem tdL_fst (l : List Nd) : (tdL l).map Prod.fst = tidy l := by
  unfold tdL tidy
  have h : ∀ L : List (Nd × Nat), (L.filter (fun x => kpNd x.1)).map Prod.fst = (L.map Prod.fst).filter kpNd := by
    intro L
    induction L with
    | nil => rfl
    | cons x L ih =>
      cases hk : kpNd x.1 with
      | true => rw [List.filter_cons_of_pos (by exact hk), List.map_cons, List.map_cons, List.filter_cons_of_pos hk, ih]
      | false => rw [List.filter_cons_of_neg (by rw [hk]; decide), List.map_cons, List.filter_cons_of_neg (by rw [hk]; decide), ih]
  rw [h, offL_fst]
theorem tdL_take {l : List Nd} {n : Nat} {nd : Nd} (h : l[n]? = some nd) : tdL (l.take (n + 1)) = tdL (l.take n) ++ (if kpNd nd then [(nd, dsum (l.take n))] else []) := by
  rw [List.take_add_one, h]
  show tdL (l.take n ++ [nd]) = _
  unfold tdL
  rw [offL_app, List.filter_append, Nat.zero_add]
  congr 1
  show List.filter _ [(nd, dsum (l.take n))] = _
  cases hk : kpNd nd with
  | true => rw [List.filter_cons_of_pos (by exact hk)]; rfl
  | false => rw [List.filter_cons_of_neg (by show ¬ kpNd nd = true; rw [hk]; decide)]; rfl
theorem tdL_len (l : List Nd) : (tdL l).length ≤ l.length := by
  have := congrArg List.length (tdL_fst l)
  rw [List.length_map] at this
  rw [this]
  exact List.length_filter_le ..
def copA (A : Nat → Int) (m n k : Nat) : Nat → Int := fun j => if 45 + 6 * m ≤ j ∧ j < 45 + 6 * m + k then A (j + 6 * (n - m)) else A j
theorem copA_0 (A : Nat → Int) (m n : Nat) : copA A m n 0 = A := by
  funext j
  unfold copA
  rw [if_neg (by omega)]
/-- what the row holds while it is tidied *-/
def tdAt (A B : Nat → Int) (l : List Nd) (n : Nat) : Prop := (∀ j, j < 45 → B j = A j) ∧ (∀ j, 45 + 6 * n ≤ j → B j = A j) ∧ ∀ (i : Nat) (x : Nd × Nat), (tdL (l.take n))[i]? = some x → rnAt B i x.2 x.1
theorem tdAt_0 (A : Nat → Int) (l : List Nd) : tdAt A A l 0 := ⟨fun _ _ => rfl, fun _ _ => rfl, fun i x h => by simp [tdL, offL] at h⟩
theorem tdAt_no {A B : Nat → Int} {l : List Nd} {n : Nat} {nd : Nd} (h : tdAt A B l n) (hn : l[n]? = some nd) (hk : kpNd nd = false) : tdAt A B l (n + 1) := by
  refine ⟨h.1, fun j hj => h.2.1 j (by omega), fun i x hx => ?_⟩
  rw [tdL_take hn, if_neg (by rw [hk]; decide), List.append_nil] at hx
  exact h.2.2 i x hx
theorem tdAt_yes {A B : Nat → Int} {l : List Nd} {n : Nat} {nd : Nd} (hA : rwAt L1 A l) (hl : l.length ≤ 1000) (h : tdAt A B l n) (hn : l[n]? = some nd) (hk : kpNd nd = true) : tdAt A (copA B (tdL (l.take n)).length n 6) l (n + 1) := by
  have hnl := lt_of_getE hn
  have hm : (tdL (l.take n)).length ≤ n := by have := tdL_len (l.take n); rw [List.length_take] at this; omega
  generalize hM : (tdL (l.take n)).length = m at *
  have out : ∀ j, j < 45 + 6 * m ∨ 45 + 6 * m + 6 ≤ j → copA B m n 6 j = B j := fun j hj => by unfold copA; rw [if_neg (by omega)]
  have inn : ∀ w, w < 6 → copA B m n 6 (45 + 6 * m + w) = B (45 + 6 * n + w) := fun w hw => by
    unfold copA
    rw [if_pos (by omega)]
    congr 1
    omega
  refine ⟨fun j hj => by rw [out j (by omega)]; exact h.1 j hj, fun j hj => by rw [out j (by omega)]; exact h.2.1 j (by omega), fun i x hx => ?_⟩
  rw [tdL_take hn, if_pos hk] at hx
  by_cases c : i < m
  · rw [List.getElem?_append_left (by omega)] at hx
    have q := h.2.2 i x hx
    exact q.congr (fun w hw => out _ (by omega)) (fun k _ _ => out _ (by omega))
  · have hil := lt_of_getE hx
    rw [List.length_append, hM] at hil
    have hi : i = m := by simp at hil; omega
    subst hi
    rw [List.getElem?_append_right (by omega), hM, Nat.sub_self] at hx
    cases hx
    obtain ⟨q1, q2, q3, q4, q5, q6, q7, q8⟩ := hA.2.2.1 n nd hn
    have g : ∀ w, w < 6 → copA B i n 6 (45 + 6 * i + w) = A (45 + 6 * n + w) := fun w hw => (inn w hw).trans (h.2.1 _ (by omega))
    have gd : ∀ k, copA B i n 6 (6645 + k) = A (6645 + k) := fun k => (out _ (by omega)).trans (h.2.1 _ (by omega))
    exact ⟨(g 0 (by omega)).trans q1, (g 1 (by omega)).trans q2, (g 2 (by omega)).trans q3, (g 3 (by omega)).trans q4, (g 4 (by omega)).trans q5, (g 5 (by omega)).trans q6, fun k hk => (gd _).trans (q7 k hk), fun k hk => (gd _).trans (q8 k hk)⟩
theorem pw_get {α : Type} {R : α → α → Prop} {l : List α} (h : l.Pairwise R) {i j : Nat} {x y : α} (hij : i < j) (hx : l[i]? = some x) (hy : l[j]? = some y) : R x y := by
  rw [List.pairwise_iff_getElem] at h
  have h1 := lt_of_getE hx
  have h2 := lt_of_getE hy
  have e1 := List.getElem?_eq_getElem h1
  have e2 := List.getElem?_eq_getElem h2
  rw [hx] at e1
  rw [hy] at e2
  cases e1
  cases e2
  exact h i j h1 h2 hij
theorem td_dn {A : Nat → Int} {l : List Nd} (hl : l.length ≤ 900) (hds : dsum l ≤ 100) (h43 : A 43 = (tidy l).length) (h44 : A 44 = dsum l) (h : ∀ (i : Nat) (x : Nd × Nat), (tdL l)[i]? = some x → rnAt A i x.2 x.1) : pcAt A (tidy l) ∧ dtAt A (tidy l) := by
  have get : ∀ (i : Nat) (nd : Nd), (tidy l)[i]? = some nd → ∃ a, (tdL l)[i]? = some (nd, a) ∧ a + dlen nd ≤ dsum l := by
    intro i nd hi
    rw [← tdL_fst, List.getElem?_map] at hi
    cases hx : (tdL l)[i]? with
    | none => rw [hx] at hi; cases hi
    | some x =>
      rw [hx] at hi
      have e : x.1 = nd := by simpa using hi
      refine ⟨x.2, by rw [← e], ?_⟩
      have hm : x ∈ offL 0 l := (List.mem_filter.mp (List.mem_of_getElem? hx)).1
      have := (offL_in l 0 x hm).2.1
      rw [← e]
      omega
  refine ⟨⟨h43, by have := List.length_filter_le kpNd l; unfold tidy; omega, fun i nd hi => ?_⟩, dsum l, h44, by omega, fun i nd hi _ => ?_, fun i j nd nd' hij hi hj _ _ => ?_⟩
  · obtain ⟨a, ha, hb⟩ := get i nd hi
    obtain ⟨q1, q2, q3, q4, q5, q6, q7, q8⟩ := h i _ ha
    have hdl : dlen nd = nd.2.2.2.1.length + nd.2.2.2.2.length := rfl
    exact ⟨q1, q2, q3, fun _ => ⟨a, q4, q5, q6, by omega, q7, q8⟩⟩
  · obtain ⟨a, ha, hb⟩ := get i nd hi
    have q4 := (h i _ ha).2.2.2.1
    have hdl : dlen nd = nd.2.2.2.1.length + nd.2.2.2.2.length := rfl
    rw [q4]
    dsimp only
    omega
  · obtain ⟨a, ha, hb⟩ := get i nd hi
    obtain ⟨a', ha', hb'⟩ := get j nd' hj
    have o := pw_get (l := tdL l) (R := fun x y => x.2 + dlen x.1 ≤ y.2) (by unfold tdL; exact (offL_ord l 0).filter _) hij ha ha'
    have q4 := (h i _ ha).2.2.2.1
    have q4' := (h j _ ha').2.2.2.1
    have hdl : dlen nd = nd.2.2.2.1.length + nd.2.2.2.2.length := rfl
    rw [q4, q4']
    dsimp only at o ⊢
    omega
set_option maxRecDepth 100000 in
set_option maxHeartbeats 4000000 in
theorem k_tidies {l : List Nd} (hM : MX g ad o h0 s h) (hrw : rwAt L1 (s.2 1) l) (hll : l.length ≤ 900) (hkd : ∀ nd ∈ l, nd.1 ≤ 7 ∧ nd.2.2.1 ≤ 1100) (hd : 3 ≤ d) : Kc g mX3_tidies d 0 0 [.ref o] h (mP g ad o h0 (fun v s' => v = none ∧ fr s s' [] [1] ∧ (∀ j, j < 43 → s'.2 1 j = s.2 1 j) ∧ s'.2 1 43 = (tidy l).length ∧ s'.2 1 44 = dsum l ∧ ∀ (i : Nat) (x : Nd × Nat), (tdL l)[i]? = some x → rnAt (s'.2 1) i x.2 x.1)) := by
  refine Kc.of (ls := [some (.ref o), none, none, none]) (by decide +kernel) (Nat.le_of_ble_eq_true rfl) rfl ?_
  refine ev_iconstZ dX3_tidies_0 ?_
  refine ev_istore_n dX3_tidies_1 (by decide) rfl ?_
  dsimp only [List.set]
  refine ev_iconstZ dX3_tidies_2 ?_
  refine ev_istore_n dX3_tidies_3 (by decide) rfl ?_
  dsimp only [List.set]
  refine ev_for l.length (fun n h => ∃ B : Nat → Int, MX g ad o h0 (uF s 1 B) h ∧ tdAt (s.2 1) B l n) (fun n => [some (.ref o), some (vz (((tdL (l.take n)).length : Nat) : Int)), some (vz (n : Int)), none]) 0 (by omega) ⟨s.2 1, MX.congr2 hM (by intro j _ _; rfl) (by intro j i hj; simp only [uS_1, uA_1, uF_1, uS_2, uA_2a, uF_2a, Nat.reduceEqDiff, reduceIte, Int.reduceToNat, Int.toNat_natCast]; split <;> simp_all), tdAt_0 _ _⟩ (by repeat' first | exact rfl | exact trivial | exact vz_eq (by omega) | refine And.intro ?_ ?_) (fun n h hi1 hi2 hX hN => ?_) (fun h hX => ?_)
  · clear hM
    obtain ⟨B, hM, hB⟩ := hX
    obtain ⟨nd, hnd⟩ : ∃ nd, l[n]? = some nd := ⟨_, List.getElem?_eq_getElem hi2⟩
    have hq := hrw.2.2.1 n nd hnd
    have hq1 := hq.1
    have hq3 := hq.2.2.1
    obtain ⟨hk1, hk2⟩ := hkd nd (List.mem_of_getElem? hnd)
    have htl : (tdL (l.take n)).length ≤ n := by have := tdL_len (l.take n); rw [List.length_take] at this; omega
    have T64 : ∀ (h : HM) (B' : Nat → Int) (m' : Int) (kx : Option Value), MX g ad o h0 (uF s 1 B') h → tdAt (s.2 1) B' l (n + 1) → m' = ((tdL (l.take (n + 1))).length : Nat) → Ev g mX3_tidies d 0 0 (mP g ad o h0 (fun v s' => v = none ∧ fr s s' [] [1] ∧ (∀ j, j < 43 → s'.2 1 j = s.2 1 j) ∧ s'.2 1 43 = (tidy l).length ∧ s'.2 1 44 = dsum l ∧ ∀ (i : Nat) (x : Nd × Nat), (tdL l)[i]? = some x → rnAt (s'.2 1) i x.2 x.1)) 64 [some (.ref o), some (vz m'), some (vz (n : Int)), kx] [] h := by
      intro h B' m' kx hM hB' hm'
      refine ev_iincZ dX3_tidies_64 rfl (by decide) rfl ?_
      dsimp only [List.set]
      refine ev_goto (tgt := 4) dX3_tidies_67 (by decide) ?_
      exact hN _ _ (by rw [hm']; repeat' first | exact rfl | exact trivial | exact vz_eq (by omega) | refine And.intro ?_ ?_) ⟨B', hM, hB'⟩
    have T35 : ∀ (h : HM) {kx : Option Value}, MX g ad o h0 (uF s 1 B) h → kpNd nd = true → Ev g mX3_tidies d 0 0 (mP g ad o h0 (fun v s' => v = none ∧ fr s s' [] [1] ∧ (∀ j, j < 43 → s'.2 1 j = s.2 1 j) ∧ s'.2 1 43 = (tidy l).length ∧ s'.2 1 44 = dsum l ∧ ∀ (i : Nat) (x : Nd × Nat), (tdL l)[i]? = some x → rnAt (s'.2 1) i x.2 x.1)) 35 [some (.ref o), some (vz (((tdL (l.take n)).length : Nat) : Int)), some (vz (n : Int)), kx] [] h := by
      intro h kx hM hk
      have T61 : ∀ (h : HM) {kx : Option Value}, MX g ad o h0 (uF s 1 (copA B (tdL (l.take n)).length n 6)) h → Ev g mX3_tidies d 0 0 (mP g ad o h0 (fun v s' => v = none ∧ fr s s' [] [1] ∧ (∀ j, j < 43 → s'.2 1 j = s.2 1 j) ∧ s'.2 1 43 = (tidy l).length ∧ s'.2 1 44 = dsum l ∧ ∀ (i : Nat) (x : Nd × Nat), (tdL l)[i]? = some x → rnAt (s'.2 1) i x.2 x.1)) 61 [some (.ref o), some (vz (((tdL (l.take n)).length : Nat) : Int)), some (vz (n : Int)), kx] [] h := by
        intro h kx hM
        refine ev_iincZ dX3_tidies_61 rfl (by decide) rfl ?_
        dsimp only [List.set]
        exact T64 h _ _ _ hM (tdAt_yes hrw (by omega) hB hnd hk) (by rw [tdL_take hnd, if_pos hk, List.length_append]; rfl)
      refine ev_iconstZ dX3_tidies_35 ?_
      refine ev_istore_n dX3_tidies_36 (by decide) rfl ?_
      dsimp only [List.set]
      refine ev_for (6) (fun i h => MX g ad o h0 (uF s 1 (copA B (tdL (l.take n)).length n i)) h) (fun i => [some (.ref o), some (vz (((tdL (l.take n)).length : Nat) : Int)), some (vz (n : Int)), some (vz (i : Int))]) (0) (by omega) ((by rw [copA_0]; exact hM)) (by repeat' first | exact rfl | exact trivial | exact vz_eq (by omega) | refine And.intro ?_ ?_) (fun i h hi1 hi2 hX hN => ?_) (fun h hX => ?_)
      · clear hM
        have hM : MX g ad o h0 (uF s 1 (copA B (tdL (l.take n)).length n i)) h := hX
        clear hX
        refine ev_iload_n dX3_tidies_37 rfl ?_
        refine ev_bipushZ dX3_tidies_38 rfl ?_
        refine ev_icmp_geZ (tgt := 61) dX3_tidies_40 (by decide) (by omega) (by omega) (fun c40 => absurd c40 (by omega)) (fun c40 => ?_)
        refine ev_aload_n dX3_tidies_43 rfl ?_
        refine ev_iload_n dX3_tidies_44 rfl ?_
        refine ev_iload_n dX3_tidies_45 rfl ?_
        refine ev_aload_n dX3_tidies_46 rfl ?_
        refine ev_iload_n dX3_tidies_47 rfl ?_
        refine ev_iload_n dX3_tidies_48 rfl ?_
        refine mx_call dX3_tidies_49 cv_X3_133_X3 ce_X3_of hM rfl rfl (k_of (n := (n : Int)) (w := (i : Int)) (d := d - 1) (by omega) hM (by omega)) (by omega) (Nat.le_of_ble_eq_true rfl) (fun h hM => ?_)
        rw [show (45 + 6 * (n : Int) + (i : Int)).toNat = 45 + 6 * n + i by omega]
        refine mx_callv dX3_tidies_52 cv_X3_137_X3 ce_X3_put hM rfl rfl (k_put (n := (((tdL (l.take n)).length : Nat) : Int)) (w := (i : Int)) (d := d - 1) (by omega) hM (by omega)) (by omega) (Nat.le_of_ble_eq_true rfl) (fun h hM => ?_)
        rw [show (45 + 6 * (((tdL (l.take n)).length : Nat) : Int) + (i : Int)).toNat = 45 + 6 * (tdL (l.take n)).length + i by omega] at hM
        refine ev_iincZ dX3_tidies_55 rfl (by decide) rfl ?_
        dsimp only [List.set]
        refine ev_goto (tgt := 37) dX3_tidies_58 (by decide) ?_
        exact hN _ _ (by repeat' first | exact rfl | exact trivial | exact vz_eq (by omega) | refine And.intro ?_ ?_) (MX.congr2 hM (by intro j _ _; rfl) (by intro j i hj; (try simp only [uS_1, uA_1, uF_1, uS_2, uA_2a, uF_2a, Nat.reduceEqDiff, reduceIte, Int.reduceToNat, Int.toNat_natCast, copA]) <;> grind (splits := 40) [aN1, aN2, aN3, aN4, aN9, aN12, aN21, aN22]))
      · clear hM
        have hM : MX g ad o h0 (uF s 1 (copA B (tdL (l.take n)).length n 6)) h := hX
        clear hX
        refine ev_iload_n dX3_tidies_37 rfl ?_
        refine ev_bipushZ dX3_tidies_38 rfl ?_
        refine ev_icmp_geZ (tgt := 61) dX3_tidies_40 (by decide) (by omega) (by omega) (fun c40 => ?_) (fun c40 => absurd (by omega) c40)
        exact T61 h hM
    refine ev_iload_n dX3_tidies_4 rfl ?_
    refine ev_aload_n dX3_tidies_5 rfl ?_
    refine mx_getA hM dX3_tidies_6 gf_X3_7_X3 rfl ?_
    refine ev_bipushZ dX3_tidies_9 rfl ?_
    refine mx_iald hM rfl dX3_tidies_11 (by omega) ?_
    try simp only [uS_1, uA_1, uF_1, uS_2, uA_2a, uF_2a, Nat.reduceEqDiff, reduceIte, Int.reduceToNat, Int.toNat_natCast]
    rw [hB.1 43 (by omega), hrw.1]
    refine ev_icmp_geZ (tgt := 70) dX3_tidies_12 (by decide) (by omega) (by omega) (fun c => absurd c (by omega)) (fun c12 => ?_)
    refine ev_aload_n dX3_tidies_15 rfl ?_
    refine ev_iload_n dX3_tidies_16 rfl ?_
    refine mx_call dX3_tidies_17 cv_X3_162_X3 ce_X3_kind hM rfl rfl (k_kindN (n := n) (x := (nd.1 : Int)) (d := d - 1) (by omega) hM (by omega) (by simp only [uS_1, uA_1, uF_1, uS_2, uA_2a, uF_2a, Nat.reduceEqDiff, reduceIte, Int.reduceToNat, Int.toNat_natCast]; rw [hB.2.1 _ (by omega)]; exact hq1)) (by omega) (Nat.le_of_ble_eq_true rfl) (fun h hM => ?_)
    refine ev_bipushZ dX3_tidies_20 rfl ?_
    refine ev_icmp_ltZ (tgt := 35) dX3_tidies_22 (by decide) (by omega) (by omega) (fun c22 => ?_) (fun c22 => ?_)
    · exact T35 h hM (by unfold kpNd; rw [decide_eq_true (show nd.1 < 6 by omega)]; rfl)
    · refine ev_aload_n dX3_tidies_25 rfl ?_
      refine ev_iload_n dX3_tidies_26 rfl ?_
      refine ev_iconstZ dX3_tidies_27 ?_
      refine mx_call dX3_tidies_28 cv_X3_133_X3 ce_X3_of hM rfl rfl (k_ofN (n := n) (w := 2) (x := (nd.2.2.1 : Int)) (d := d - 1) (by omega) hM (by omega) (by simp only [uS_1, uA_1, uF_1, uS_2, uA_2a, uF_2a, Nat.reduceEqDiff, reduceIte, Int.reduceToNat, Int.toNat_natCast]; rw [hB.2.1 _ (by omega)]; exact hq3)) (by omega) (Nat.le_of_ble_eq_true rfl) (fun h hM => ?_)
      refine ev_iconstZ dX3_tidies_31 ?_
      refine ev_icmp_leZ (tgt := 64) dX3_tidies_32 (by decide) (by omega) (by omega) (fun c32 => ?_) (fun c32 => ?_)
      · have hk : kpNd nd = false := by unfold kpNd; rw [decide_eq_false (show ¬ nd.1 < 6 by omega), decide_eq_false (show ¬ 1 < nd.2.2.1 by omega)]; rfl
        exact T64 h B _ _ hM (tdAt_no hB hnd hk) (by rw [tdL_take hnd, if_neg (by rw [hk]; decide), List.append_nil])
      · exact T35 h hM (by unfold kpNd; rw [decide_eq_true (show 1 < nd.2.2.1 by omega), Bool.or_true])
  · clear hM
    obtain ⟨B, hM, hB⟩ := hX
    refine ev_iload_n dX3_tidies_4 rfl ?_
    refine ev_aload_n dX3_tidies_5 rfl ?_
    refine mx_getA hM dX3_tidies_6 gf_X3_7_X3 rfl ?_
    refine ev_bipushZ dX3_tidies_9 rfl ?_
    refine mx_iald hM rfl dX3_tidies_11 (by omega) ?_
    try simp only [uS_1, uA_1, uF_1, uS_2, uA_2a, uF_2a, Nat.reduceEqDiff, reduceIte, Int.reduceToNat, Int.toNat_natCast]
    rw [hB.1 43 (by omega), hrw.1]
    refine ev_icmp_geZ (tgt := 70) dX3_tidies_12 (by decide) (by omega) (by omega) (fun _ => ?_) (fun c => absurd (by omega) c)
    refine ev_aload_n dX3_tidies_70 rfl ?_
    refine mx_getA hM dX3_tidies_71 gf_X3_7_X3 rfl ?_
    refine ev_bipushZ dX3_tidies_74 rfl ?_
    refine ev_iload_n dX3_tidies_76 rfl ?_
    refine mx_iast hM rfl dX3_tidies_77 (by omega) (fun h hM => ?_)
    refine ev_return dX3_tidies_78 rfl ?_
    rw [List.take_length] at hM
    have etl : (tdL l).length = (tidy l).length := by rw [← tdL_fst, List.length_map]
    refine ⟨none, _, rfl, ⟨rfl, fr.A (fr.F (fr.refl _ _ _) rfl) rfl, fun j hj => ?_, ?_, ?_, fun i x hx => ?_⟩, hM⟩
    · simp only [uS_1, uA_1, uF_1, uS_2, uA_2a, uF_2a, Nat.reduceEqDiff, reduceIte, Int.reduceToNat, Int.toNat_natCast]; rw [if_neg (by omega)]; exact hB.1 j (by omega)
    · simp only [uS_1, uA_1, uF_1, uS_2, uA_2a, uF_2a, Nat.reduceEqDiff, reduceIte, Int.reduceToNat, Int.toNat_natCast]; rw [etl]
    · simp only [uS_1, uA_1, uF_1, uS_2, uA_2a, uF_2a, Nat.reduceEqDiff, reduceIte, Int.reduceToNat, Int.toNat_natCast]; rw [hB.1 44 (by omega)]; exact hrw.2.1
    · have q := hB.2.2 i x (by rw [List.take_length]; exact hx)
      exact q.congr (fun w hw => by simp only [uS_1, uA_1, uF_1, uS_2, uA_2a, uF_2a, Nat.reduceEqDiff, reduceIte, Int.reduceToNat, Int.toNat_natCast]; rw [if_neg (by omega)]) (fun k _ _ => by simp only [uS_1, uA_1, uF_1, uS_2, uA_2a, uF_2a, Nat.reduceEqDiff, reduceIte, Int.reduceToNat, Int.toNat_natCast]; rw [if_neg (by omega)])
end RB

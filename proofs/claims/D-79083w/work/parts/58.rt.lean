/-! reading: the machine of the reference runs as the parser says (printed by gen/mkrt.py) -/
section RT0
theorem incB_len (j : Nat) (ns : List Nd) (i : Nat) : (incB j ns i).length = ns.length := by unfold incB; rw [List.length_set]
theorem incB_app {j : Nat} {ns r : List Nd} {i : Nat} (h : i < ns.length) : incB j (ns ++ r) i = incB j ns i ++ r := by
  unfold incB
  rw [List.set_append_left _ _ h, List.getD_eq_getElem?_getD, List.getD_eq_getElem?_getD, List.getElem?_append_left h]
theorem incB_last {j : Nat} {ns : List Nd} {nd : Nd} : incB j (ns ++ [nd]) ns.length = ns ++ [addC nd j] := by
  unfold incB
  rw [List.set_append_right _ _ (Nat.le_refl _), Nat.sub_self, List.getD_eq_getElem?_getD, List.getElem?_append_right (Nat.le_refl _), Nat.sub_self]
  rfl
theorem incB_add {j k : Nat} {ns : List Nd} {i : Nat} (h : i < ns.length) : incB k (incB j ns i) i = incB (j + k) ns i := by
  unfold incB
  rw [List.set_set]
  congr 1
  rw [List.getD_eq_getElem?_getD (l := ns.set _ _), List.getElem?_set_self h]
  simp [addC, Nat.add_assoc]
theorem incB_0 {ns : List Nd} {i : Nat} (h : i < ns.length) : incB 0 ns i = ns := by
  unfold incB
  rw [List.getD_eq_getElem?_getD, List.getElem?_eq_getElem h]
  show ns.set i (addC ns[i] 0) = ns
  have : addC ns[i] 0 = ns[i] := rfl
  rw [this, List.set_getElem_self]
/-- from S the machine comes where the parser's answer x says -/
def outM (c : List Nat) (S : Rm) (x : PR) (G : List (List Nd) × Nat → Rm → Prop) : Prop := match x with
  | .error e => ∃ (ns : List Nd) (lv : List (Nat × Nat)), rch c S (3, e, ns, lv)
  | .ok r => ∃ S' : Rm, rch c S S' ∧ G r S'
theorem outM.mono {c : List Nat} {S : Rm} {x : PR} {G G' : List (List Nd) × Nat → Rm → Prop} (h : outM c S x G) (hG : ∀ r S', x = .ok r → G r S' → G' r S') : outM c S x G' := by
  cases x with
  | error e => exact h
  | ok r => obtain ⟨S', h1, h2⟩ := h; exact ⟨S', h1, hG r S' rfl h2⟩
theorem outM.pre {c : List Nat} {S S0 : Rm} {x : PR} {G : List (List Nd) × Nat → Rm → Prop} (h0 : rch c S0 S) (h : outM c S x G) : outM c S0 x G := by
  cases x with
  | error e => obtain ⟨ns, lv, h1⟩ := h; exact ⟨ns, lv, h0.trans h1⟩
  | ok r => obtain ⟨S', h1, h2⟩ := h; exact ⟨S', h0.trans h1, h2⟩
abbrev GU (ns : List Nd) (lv : List (Nat × Nat)) : List (List Nd) × Nat → Rm → Prop := fun r S => r.1.length = 1 ∧ S = (1, r.2, ns ++ r.1.flatten, lv)
theorem out_phr (c : List Nat) (k v p : Nat) (ns : List Nd) (lv : List (Nat × Nat)) : outM c (phrM c k v p true ns lv) (phrP c k v p) (GU ns lv) := by
  unfold phrM phrP
  split
  · exact ⟨_, rch.refl _ _, rfl, by simp⟩
  · exact ⟨_, _, rch.refl _ _⟩
theorem out_map {c : List Nat} {S : Rm} {x : PR} {ns : List Nd} {nd : Nd} {lv : List (Nat × Nat)} (h : outM c S x (GU (ns ++ [nd]) lv)) : outM c S (mapP nd x) (GU ns lv) := by
  cases x with
  | error e => exact h
  | ok r =>
    obtain ⟨S', h1, h2, rfl⟩ := h
    refine ⟨_, h1, rfl, ?_⟩
    simp
abbrev G3 (c : List Nat) (ns : List Nd) (si : Nat) (lv : List (Nat × Nat)) : List (List Nd) × Nat → Rm → Prop := fun r S => hrV c r.2 ≠ 124 ∧ hrV c r.2 ≠ 59 ∧ 1 ≤ r.1.length ∧ ∃ li : Nat, S = (1, r.2, incB (r.1.length - 1) ns si ++ r.1.flatten, (si, li) :: lv)
theorem out_opn {c : List Nat} {nst p : Nat} {x : PR} {ns : List Nd} {lv : List (Nat × Nat)} (hl : lv.length = nst + 1)
    (ih : outM c (0, p + 1, (ns ++ [(7, 0, 1, [], [])]) ++ [(6, 0, 0, [], [])], (ns.length, (ns ++ [((7, 0, 1, [], []) : Nd)]).length) :: lv) x (G3 c (ns ++ [(7, 0, 1, [], [])]) ns.length lv)) :
    outM c (opnM c p ns lv) (opnP c nst p x) (GU ns lv) := by
  unfold opnM opnP
  by_cases h : hrV c p = 40 ∧ nst ≤ 9
  · rw [if_pos h, if_pos ⟨h.1, by omega⟩]
    have e : serN ns = (ns ++ [(7, 0, 1, [], [])]) ++ [(6, 0, 0, [], [])] := by simp [serN]
    have e2 : (ns ++ [((7, 0, 1, [], []) : Nd)]).length = ns.length + 1 := by simp
    rw [e2] at ih
    rw [e]
    cases x with
    | error e' => exact ih
    | ok r =>
      obtain ⟨S', h1, h2, h3, h4, li, rfl⟩ := ih
      have eX : incB (r.1.length - 1) (ns ++ [(7, 0, 1, [], [])]) ns.length ++ r.1.flatten = ns ++ serR r.1 := by
        rw [incB_last]
        simp only [addC, serR, List.append_assoc, List.cons_append, List.nil_append]
        rw [show 1 + (r.1.length - 1) = r.1.length by omega]
      rw [eX] at h1
      unfold encP
      dsimp only
      by_cases h41 : hrV c r.2 = 41
      · rw [if_pos h41]
        refine ⟨_, h1.trans (rch.step (S' := (1, r.2 + 1, ns ++ serR r.1, lv)) ?_), rfl, by simp⟩
        show folM c r.2 (ns ++ serR r.1) ((ns.length, li) :: lv) = _
        unfold folM
        rw [if_pos ⟨by rw [List.length_cons]; omega, h41⟩]
        rfl
      · rw [if_neg h41]
        refine ⟨_, _, h1.trans (rch.step (S' := (3, r.2, ns ++ serR r.1, (ns.length, li) :: lv)) ?_)⟩
        show folM c r.2 (ns ++ serR r.1) ((ns.length, li) :: lv) = _
        unfold folM
        rw [if_neg (fun q => h41 q.2), if_neg h3, if_neg h2, if_neg (fun q => by rw [List.length_cons] at q; omega)]
  · rw [if_neg h, if_neg (fun q => h ⟨q.1, by omega⟩)]
    exact ⟨_, _, rch.refl _ _⟩
theorem sim (c : List Nat) : ∀ (f m nst p : Nat), m ≤ 3 → p ≤ c.length → 4 * (c.length - p) + m + 1 ≤ f →
    (m = 0 → ∀ (ns : List Nd) (lv : List (Nat × Nat)), lv.length = nst + 1 → outM c (untM c p ns lv) (prs c f 0 nst p) (GU ns lv)) ∧
    (m = 1 → ∀ (ns : List Nd) (lv : List (Nat × Nat)), lv.length = nst + 1 → outM c (0, p, ns, lv) (prs c f 1 nst p) (GU (incB 1 ns (topL lv).2) lv)) ∧
    (m = 2 → ∀ (ns : List Nd) (lv : List (Nat × Nat)), lv.length = nst + 1 → (topL lv).2 < ns.length → outM c (0, p, ns, lv) (prs c f 2 nst p) (fun r S => hrV c r.2 ≠ 124 ∧ S = (1, r.2, incB r.1.length ns (topL lv).2 ++ r.1.flatten, lv))) ∧
    (m = 3 → ∀ (ns : List Nd) (si : Nat) (lv : List (Nat × Nat)), lv.length = nst → si < ns.length → outM c (0, p, ns ++ [(6, 0, 0, [], [])], (si, ns.length) :: lv) (prs c f 3 nst p) (G3 c ns si lv)) := by
  intro f
  induction f with
  | zero => intro m nst p _ _ h; omega
  | succ f ih =>
    intro m nst p hm hp hf
    refine ⟨fun e ns lv hl => ?_, fun e ns lv hl => ?_, fun e ns lv hl htop => ?_, fun e ns si lv hl hsi => ?_⟩
    · subst e
      have opn : ∀ (p' : Nat) (ns : List Nd), p ≤ p' → p' ≤ c.length → outM c (opnM c p' ns lv) (opnP c nst p' (prs c f 3 (nst + 1) (p' + 1))) (GU ns lv) := by
        intro p' ns h1 h1b
        by_cases q : hrV c p' = 40
        · have hlt := hrV_in q (by decide)
          exact out_opn hl ((ih 3 (nst + 1) (p' + 1) (by omega) (by omega) (by omega)).2.2.2 rfl (ns ++ [(7, 0, 1, [], [])]) ns.length lv hl (by simp))
        · unfold opnM opnP
          rw [if_neg (fun h => q h.1), if_neg (fun h => q h.1)]
          exact ⟨_, _, rch.refl _ _⟩
      rw [prs_0]
      unfold untM
      by_cases q1 : hrV c p = 33
      · rw [if_pos q1, if_pos q1]
        exact ⟨_, rch.refl _ _, rfl, by simp⟩
      · rw [if_neg q1, if_neg q1]
        by_cases q2 : hrV c p = 99
        · rw [if_pos q2, if_pos q2]
          by_cases q3 : 49 ≤ hrV c (p + 1) ∧ hrV c (p + 1) ≤ 57
          · rw [if_pos q3, if_pos q3]
            exact out_phr c 1 _ (p + 2) ns lv
          · rw [if_neg q3, if_neg q3]
            exact ⟨_, _, rch.refl _ _⟩
        · rw [if_neg q2, if_neg q2]
          by_cases q3 : hrV c p = 109 ∨ hrV c p = 114
          · rw [if_pos q3, if_pos q3]
            have hlt : p < c.length := by
              rcases q3 with q | q
              · exact hrV_in q (by decide)
              · exact hrV_in q (by decide)
            by_cases q4 : nst ≤ 9
            · rw [if_pos q4, if_pos (show lv.length ≤ 10 by omega)]
              exact out_map (opn (p + 1) _ (by omega) (by omega))
            · rw [if_neg q4, if_neg (show ¬ lv.length ≤ 10 by omega)]
              exact ⟨_, _, rch.refl _ _⟩
          · rw [if_neg q3, if_neg q3]
            by_cases q4 : hrV c p = 40
            · rw [if_pos q4, if_pos q4]
              exact opn p ns (Nat.le_refl _) hp
            · rw [if_neg q4, if_neg q4]
              exact out_phr c 0 0 p ns lv
    · subst e
      refine outM.pre (rch.step (S' := begM c p ns lv) rfl) ?_
      rw [prs_1]
      unfold begM
      by_cases q : isG c p = true
      · rw [if_pos q, if_pos q]
        have := isG_in q
        exact out_map ((ih 0 nst (p + 1) (by omega) (by omega) (by omega)).1 rfl _ lv hl)
      · rw [if_neg q, if_neg q]
        exact (ih 0 nst p (by omega) hp (by omega)).1 rfl _ lv hl
    · subst e
      have h1 := (ih 1 nst p (by omega) hp (by omega)).2.1 rfl ns lv hl
      rw [prs_2]
      have hgo := prs_go c f 1 nst p
      cases hx : prs c f 1 nst p with
      | error e =>
        rw [hx] at h1
        have : (if hrV c (endP (.error e)) = 124 then appP (.error e) (prs c f 2 nst (endP (.error e) + 1)) else .error e) = (.error e : PR) := by split <;> rfl
        rw [this]
        exact h1
      | ok r =>
        rw [hx] at h1
        obtain ⟨S', g1, g2, rfl⟩ := h1
        have hg := hgo r (by omega) hp hx
        show outM c _ (if hrV c r.2 = 124 then _ else _) _
        by_cases q : hrV c r.2 = 124
        · rw [if_pos q]
          have hlt := hrV_in q (by decide)
          have h2 := (ih 2 nst (r.2 + 1) (by omega) (by omega) (by omega)).2.2.1 rfl (incB 1 ns (topL lv).2 ++ r.1.flatten) lv hl (by rw [List.length_append, incB_len]; omega)
          have st : rch c (1, r.2, incB 1 ns (topL lv).2 ++ r.1.flatten, lv) (0, r.2 + 1, incB 1 ns (topL lv).2 ++ r.1.flatten, lv) := rch.step (by
            show folM c r.2 _ lv = _
            unfold folM
            rw [if_neg (fun h => by rw [q] at h; exact absurd h.2 (by decide)), if_neg (by rw [q]; decide), if_pos q])
          have h3 := outM.pre (g1.trans st) h2
          show outM c _ (appP (.ok r) (prs c f 2 nst (r.2 + 1))) _
          cases hy : prs c f 2 nst (r.2 + 1) with
          | error e => rw [hy] at h3; exact h3
          | ok r' =>
            rw [hy] at h3
            obtain ⟨S'', k1, k2, rfl⟩ := h3
            refine ⟨_, k1, k2, ?_⟩
            show (1, r'.2, _, lv) = (1, r'.2, _, lv)
            rw [incB_app (by rw [incB_len]; exact htop), incB_add htop]
            simp [g2]
        · rw [if_neg q]
          exact ⟨_, g1, q, by rw [g2]⟩
    · subst e
      have h1 := (ih 2 nst p (by omega) hp (by omega)).2.2.1 rfl (ns ++ [(6, 0, 0, [], [])]) ((si, ns.length) :: lv) (by rw [List.length_cons, hl]) (by show ns.length < _; simp)
      rw [prs_3]
      have hgo := prs_go c f 2 nst p
      cases hx : prs c f 2 nst p with
      | error e =>
        rw [hx] at h1
        have : (if hrV c (endP (.error e)) = 59 then appP (layP (.error e)) (prs c f 3 nst (endP (.error e) + 1)) else layP (.error e)) = (.error e : PR) := by split <;> rfl
        rw [this]
        exact h1
      | ok r =>
        rw [hx] at h1
        obtain ⟨S', g1, g2, rfl⟩ := h1
        have hg := hgo r (by omega) hp hx
        have eX : incB r.1.length (ns ++ [(6, 0, 0, [], [])]) (topL ((si, ns.length) :: lv)).2 ++ r.1.flatten = ns ++ layR r.1 := by
          show incB r.1.length (ns ++ [(6, 0, 0, [], [])]) ns.length ++ r.1.flatten = _
          rw [incB_last]
          simp [addC, layR]
        rw [eX] at g1
        show outM c _ (if hrV c r.2 = 59 then _ else _) _
        by_cases q : hrV c r.2 = 59
        · rw [if_pos q]
          have hlt := hrV_in q (by decide)
          have st : rch c (1, r.2, ns ++ layR r.1, (si, ns.length) :: lv) (0, r.2 + 1, (incB 1 ns si ++ layR r.1) ++ [(6, 0, 0, [], [])], (si, (incB 1 ns si ++ layR r.1).length) :: lv) := rch.step (by
            show folM c r.2 _ ((si, ns.length) :: lv) = _
            unfold folM
            rw [if_neg (fun h => by rw [q] at h; exact absurd h.2 (by decide)), if_pos q]
            show (0, r.2 + 1, incB 1 (ns ++ layR r.1) si ++ [(6, 0, 0, [], [])], (si, (ns ++ layR r.1).length) :: lv) = _
            rw [incB_app hsi, List.length_append, List.length_append, incB_len])
          have h2 := (ih 3 nst (r.2 + 1) (by omega) (by omega) (by omega)).2.2.2 rfl (incB 1 ns si ++ layR r.1) si lv hl (by rw [List.length_append, incB_len]; omega)
          have h3 := outM.pre (g1.trans st) h2
          show outM c _ (appP (.ok ([layR r.1], r.2)) (prs c f 3 nst (r.2 + 1))) _
          cases hy : prs c f 3 nst (r.2 + 1) with
          | error e => rw [hy] at h3; exact h3
          | ok r' =>
            rw [hy] at h3
            obtain ⟨S'', k1, k2, k3, k4, li, rfl⟩ := h3
            refine ⟨_, k1, k2, k3, by simp, li, ?_⟩
            show (1, r'.2, _, _) = (1, r'.2, _, _)
            rw [incB_app (by rw [incB_len]; exact hsi), incB_add hsi]
            have el : 1 + (r'.1.length - 1) = ([layR r.1] ++ r'.1).length - 1 := by simp; omega
            rw [el]
            simp
        · rw [if_neg q]
          refine ⟨_, g1, g2, q, by simp, ns.length, ?_⟩
          show (1, r.2, _, _) = (1, r.2, _, _)
          rw [show ([layR r.1] : List (List Nd)).length - 1 = 0 from rfl, incB_0 hsi]
          simp
/-- the parser of a whole text -/
def parse (c : List Nat) : Except Nat (List Nd) := match prs c (4 * c.length + 4) 3 0 0 with
  | .error e => .error e
  | .ok r => if r.2 = c.length then .ok (serR r.1) else .error r.2
/-- how the machine begins -/
def begR : Rm := (0, 0, serN [], [(0, 1)])
theorem sim_all (c : List Nat) : match parse c with
    | .error e => ∃ (ns : List Nd) (lv : List (Nat × Nat)), rch c begR (3, e, ns, lv)
    | .ok l => ∃ lv : List (Nat × Nat), rch c begR (2, c.length, l, lv) := by
  have h := (sim c (4 * c.length + 4) 3 0 0 (by omega) (Nat.zero_le _) (by omega)).2.2.2 rfl [(7, 0, 1, [], [])] 0 [] rfl (by simp)
  unfold parse
  cases hx : prs c (4 * c.length + 4) 3 0 0 with
  | error e => rw [hx] at h; exact h
  | ok r =>
    rw [hx] at h
    obtain ⟨S', g1, g2, g3, g4, li, rfl⟩ := h
    have hg := prs_go c _ 3 0 0 r (by omega) (Nat.zero_le _) hx
    have eX : incB (r.1.length - 1) [(7, 0, 1, [], [])] 0 ++ r.1.flatten = serR r.1 := by
      simp only [incB, List.getD_cons_zero, List.set_cons_zero, addC, serR, List.cons_append, List.nil_append]
      rw [show 1 + (r.1.length - 1) = r.1.length by omega]
    rw [eX] at g1
    dsimp only
    by_cases q : r.2 = c.length
    · rw [if_pos q]
      refine ⟨[(0, li)], g1.trans (rch.step ?_)⟩
      show folM c r.2 (serR r.1) [(0, li)] = _
      unfold folM
      rw [if_neg (fun h => by simp at h), if_neg g3, if_neg g2, if_pos ⟨rfl, q⟩, q]
    · rw [if_neg q]
      refine ⟨serR r.1, [(0, li)], g1.trans (rch.step ?_)⟩
      show folM c r.2 (serR r.1) [(0, li)] = _
      unfold folM
      rw [if_neg (fun h => by simp at h), if_neg g3, if_neg g2, if_neg (fun h => q h.2)]
end RT0

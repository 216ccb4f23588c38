/-! a piece as a text (printed by gen/mktx.py) -/
section TX
def sgN (x : Nat) : Nat := if x = 1 then 110 else if x = 2 then 115 else if x = 3 then 101 else if x = 4 then 119 else 46
/-- whether a part stands in parentheses (9: no parent) -/
def insB (kd pa : Nat) : Bool := if pa = 9 ∨ pa = 4 ∨ pa = 5 then false else decide (kd = 7) || (decide (kd = 6) && decide (pa ≠ 7)) || (decide (kd = 3) && decide (pa = 3))
def leafT (nd : Nd) : List Nat := if nd.1 = 2 then [33] else (if nd.1 = 1 then [99, 48 + nd.2.1] else []) ++ nd.2.2.2.1.map (65 + ·) ++ [58] ++ nd.2.2.2.2.map sgN
def headT (nd : Nd) : List Nat := if nd.1 = 3 then [48 + nd.2.1] else if nd.1 = 4 then [109, 40] else if nd.1 = 5 then [114, 40] else []
def tailT (kd : Nat) : List Nat := if kd = 4 ∨ kd = 5 then [41] else []
def sepT (kd : Nat) : List Nat := [if kd = 7 then 59 else 124]
def lp (b : Bool) : List Nat := if b then [40] else []
def rp (b : Bool) : List Nat := if b then [41] else []
/-- the parts' texts one behind the other; n of them stand already -/
def joinT (kd : Nat) : Nat → List (Nat → List Nat) → List Nat
  | _, [] => []
  | n, v :: vs => (if 0 < n then sepT kd else []) ++ v kd ++ joinT kd (n + 1) vs
def txtA (nd : Nd) (vs : List (Nat → List Nat)) : Nat → List Nat := fun pa =>
  if nd.1 ≤ 2 then leafT nd else lp (insB nd.1 pa) ++ headT nd ++ joinT nd.1 0 vs ++ tailT nd.1 ++ rp (insB nd.1 pa)
/-- the text of a piece below a parent -/
def txt (l : List Nd) (pa : Nat) : List Nat := val txtA (fun _ => []) l pa
theorem txt_node {n : Nat} {nd : Nd} {cs : List (List Nd)} (hc : nd.2.2.1 = cs.length) (hcs : ∀ c ∈ cs, TR n c) (pa : Nat) : txt (nd :: cs.flatten) pa = txtA nd (cs.map txt) pa := congrFun (val_node txtA _ hc hcs) pa
/-- an open part while writing: kind, left, parts so far, in parentheses -/
abbrev Wo : Type := Nat × Nat × Nat × Bool
def paW : List Wo → Nat
  | [] => 9
  | O :: _ => O.1
def sepW : List Wo → List Nat
  | [] => []
  | O :: _ => if 0 < O.2.2.1 then sepT O.1 else []
def bumpW : List Wo → List Wo
  | [] => []
  | O :: σ => (O.1, O.2.1, O.2.2.1 + 1, O.2.2.2) :: σ
def endW : List Wo → List Nat × List Wo
  | [] => ([], [])
  | O :: σ => if 0 < O.2.1 - 1 then ([], (O.1, O.2.1 - 1, O.2.2.1, O.2.2.2) :: σ) else (tailT O.1 ++ rp O.2.2.2 ++ (endW σ).1, (endW σ).2)
def runW : List Nd → List Wo → List Nat × List Wo
  | [], σ => ([], σ)
  | nd :: l, σ => if nd.1 ≤ 2 then (sepW σ ++ leafT nd ++ (endW (bumpW σ)).1 ++ (runW l (endW (bumpW σ)).2).1, (runW l (endW (bumpW σ)).2).2)
      else (sepW σ ++ lp (insB nd.1 (paW σ)) ++ headT nd ++ (runW l ((nd.1, nd.2.2.1, 0, insB nd.1 (paW σ)) :: bumpW σ)).1, (runW l ((nd.1, nd.2.2.1, 0, insB nd.1 (paW σ)) :: bumpW σ)).2)
theorem runW_tree : ∀ (n : Nat) (l : List Nd), TR n l → ∀ (r : List Nd) (σ : List Wo), runW (l ++ r) σ = (sepW σ ++ txt l (paW σ) ++ (endW (bumpW σ)).1 ++ (runW r (endW (bumpW σ)).2).1, (runW r (endW (bumpW σ)).2).2) := by
  intro n
  induction n with
  | zero => intro l h; exact h.elim
  | succ n ih =>
    intro l h r σ
    obtain ⟨nd, cs, rfl, hc, hk, hcs⟩ := h
    rw [txt_node hc hcs]
    by_cases h2 : nd.1 ≤ 2
    · have e := hk.mp h2
      subst e
      simp only [List.flatten_nil, List.cons_append, List.nil_append, runW, if_pos h2, txtA]
    · have hcn : cs ≠ [] := fun q => h2 (hk.mpr q)
      have key : ∀ (cs : List (List Nd)) (O : Wo) (τ : List Wo), (∀ c ∈ cs, TR n c) → cs ≠ [] → O.2.1 = cs.length → runW (cs.flatten ++ r) (O :: τ) = (joinT O.1 O.2.2.1 (cs.map txt) ++ tailT O.1 ++ rp O.2.2.2 ++ (endW τ).1 ++ (runW r (endW τ).2).1, (runW r (endW τ).2).2) := by
        intro cs
        induction cs with
        | nil => intro O τ _ q; exact absurd rfl q
        | cons c cs ihc =>
          intro O τ hcs _ hl
          rw [List.flatten_cons, List.append_assoc, ih c (hcs c List.mem_cons_self)]
          rw [List.length_cons] at hl
          by_cases hcn : cs = []
          · subst hcn
            have e1 : endW (bumpW (O :: τ)) = (tailT O.1 ++ rp O.2.2.2 ++ (endW τ).1, (endW τ).2) := by
              show (if 0 < O.2.1 - 1 then _ else _) = _
              rw [if_neg (by simp at hl; omega)]
            rw [e1]
            simp only [List.flatten_nil, List.nil_append, List.map_cons, List.map_nil, joinT, sepW, paW, List.append_assoc, List.append_nil]
          · have hp : 0 < cs.length := List.length_pos_iff.mpr hcn
            have e1 : endW (bumpW (O :: τ)) = ([], (O.1, O.2.1 - 1, O.2.2.1 + 1, O.2.2.2) :: τ) := by
              show (if 0 < O.2.1 - 1 then _ else _) = _
              rw [if_pos (by omega)]
            rw [e1]
            dsimp only
            rw [ihc _ τ (fun c' h' => hcs c' (List.mem_cons_of_mem _ h')) hcn (by show O.2.1 - 1 = _; omega)]
            simp only [List.map_cons, joinT, sepW, paW, List.append_assoc, List.append_nil]
      show runW (nd :: (cs.flatten ++ r)) σ = _
      rw [runW, if_neg h2, key cs _ _ hcs hcn hc]
      unfold txtA
      rw [if_neg h2]
      simp only [List.append_assoc]
theorem runW_piece {n : Nat} {l : List Nd} (h : TR n l) : runW l [] = (txt l 9, []) := by
  have q := runW_tree n l h [] []
  rw [List.append_nil] at q
  rw [q]
  simp [sepW, paW, bumpW, endW, runW]
/-- how much a row of nodes may write -/
def budT : List Nd → Nat
  | [] => 0
  | nd :: l => 6 + (if nd.1 ≤ 1 then nd.2.2.2.1.length + nd.2.2.2.2.length else 0) + budT l
theorem budT_app (l r : List Nd) : budT (l ++ r) = budT l + budT r := by
  induction l with
  | nil => simp [budT]
  | cons nd l ih => show 6 + _ + budT (l ++ r) = 6 + _ + budT l + budT r; rw [ih]; omega
theorem leafT_le (nd : Nd) (h2 : nd.1 ≤ 2) : (leafT nd).length ≤ 3 + (if nd.1 ≤ 1 then nd.2.2.2.1.length + nd.2.2.2.2.length else 0) := by
  unfold leafT
  by_cases h : nd.1 = 2
  · rw [if_pos h]; show 1 ≤ 3 + _; omega
  · rw [if_neg h, if_pos (show nd.1 ≤ 1 by omega)]
    simp only [List.length_append, List.length_map, List.length_singleton]
    split <;> simp <;> omega
theorem tailT_le (kd : Nat) : (tailT kd).length ≤ 1 := by unfold tailT; split <;> simp
theorem rp_le (b : Bool) : (rp b).length ≤ 1 := by unfold rp; split <;> simp
theorem lp_le (b : Bool) : (lp b).length ≤ 1 := by unfold lp; split <;> simp
theorem headT_le (nd : Nd) : (headT nd).length ≤ 2 := by unfold headT; split <;> (try split) <;> (try split) <;> simp
theorem sepW_le (σ : List Wo) : (sepW σ).length ≤ 1 := by cases σ with | nil => simp [sepW] | cons O σ => simp only [sepW]; split <;> simp [sepT]
theorem endW_le : ∀ σ : List Wo, (endW σ).1.length + 2 * (endW σ).2.length ≤ 2 * σ.length := by
  intro σ
  induction σ with
  | nil => simp [endW]
  | cons O σ ih =>
    unfold endW
    split
    · simp
    · have a := tailT_le O.1
      have b := rp_le O.2.2.2
      simp only [List.length_append, List.length_cons]
      omega
theorem bumpW_len (σ : List Wo) : (bumpW σ).length = σ.length := by cases σ <;> rfl
theorem sgN_lt {x : Nat} : sgN x < 256 := by unfold sgN; repeat' split
                                             all_goals omega
theorem sgn_N {x : Nat} (h : x ≤ 4) : sgn (x : Int) = (sgN x : Nat) := by
  have : ∀ x : Fin 5, sgn ((x.val : Nat) : Int) = (sgN x.val : Nat) := by decide
  exact this ⟨x, by omega⟩
/-- the data that a row of nodes has -/
theorem bud_le {A : Nat → Int} {l : List Nd} (hp : pcAt A l) (hd : dtAt A l) (h99 : (mean l).1.1 ≤ 99) : ∀ (i : Nat), i ≤ l.length → ∃ m : Nat, budT (l.take i) ≤ 6 * i + m ∧ m ≤ 1684 ∧ ∀ (j : Nat) (nd : Nd), i ≤ j → l[j]? = some nd → nd.1 ≤ 1 → (m : Int) ≤ A (45 + 6 * j + 3) := by
  intro i
  induction i with
  | zero =>
    intro _
    refine ⟨0, by simp [budT], by omega, fun j nd _ h hk => ?_⟩
    obtain ⟨p, p1, -⟩ := (hp.2.2 j nd h).2.2.2 hk
    rw [p1]; omega
  | succ i ih =>
    intro hi
    obtain ⟨m, m1, m2, m3⟩ := ih (by omega)
    have hg : l[i]? = some l[i] := List.getElem?_eq_getElem (by omega)
    have et : l.take (i + 1) = l.take i ++ [l[i]] := by rw [List.take_add_one, hg]; rfl
    rw [et, budT_app]
    obtain ⟨M, M1, M2, M3, M4⟩ := hd
    by_cases hk : l[i].1 ≤ 1
    · obtain ⟨p, p1, p2, p3, p4, -⟩ := (hp.2.2 i _ hg).2.2.2 hk
      have a := M3 i _ hg hk
      have b := m3 i _ (Nat.le_refl _) hg hk
      rw [p1] at a b
      refine ⟨p + l[i].2.2.2.1.length + l[i].2.2.2.2.length, ?_, ?_, fun j nd hj h hk' => ?_⟩
      · simp only [budT, if_pos hk]; omega
      · have hs : (mean l).1.1 ≤ 99 ∨ True := Or.inr trivial
        omega
      · have := M4 i j _ nd (by omega) hg h hk hk'
        rw [p1] at this
        omega
    · exact ⟨m, by simp only [budT, if_neg hk]; omega, m2, fun j nd hj h hk' => m3 j nd (by omega) h hk'⟩
end TX

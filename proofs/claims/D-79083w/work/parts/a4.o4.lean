/-! THE COMPONENT: a tree writes itself (printed by gen/mko4.py) -/
section O4S
variable {g : GB} {M : MI} {d c k : Nat} {h : HM}
abbrev rn : List (List Nat) := []
/-- a node's chunks from its parts' kinds and chunks -/
def chC (nd : Nd) (vs : List (Nat × List (List Nat))) : List (List Nat) :=
  if nd.1 ≤ 1 then phW (offN nd) nd.2.2.2.1 (nd.2.2.2.2.map sgN)
  else if nd.1 = 2 then rn ++ [strB "!"]
  else if nd.1 = 3 then (rn ++ [[48 + nd.2.1]]) ++ wpW (decide (6 ≤ (vs.headD (0, rn)).1) || decide ((vs.headD (0, rn)).1 = 3)) (vs.headD (0, rn)).2
  else if nd.1 = 4 then (rn ++ [strB "m"]) ++ wpW true (vs.headD (0, rn)).2
  else if nd.1 = 5 then (rn ++ [strB "r"]) ++ wpW true (vs.headD (0, rn)).2
  else sevW (decide (nd.1 = 6)) 0 vs
def chA (nd : Nd) (vs : List (Nat × List (List Nat))) : Nat × List (List Nat) := (nd.1, chC nd vs)
def chP (l : List Nd) : Nat × List (List Nat) := val chA (0, rn) l
def chV (l : List Nd) : List (List Nat) := (chP l).2
theorem chP_node {n : Nat} {nd : Nd} {cs : List (List Nd)} (hc : nd.2.2.1 = cs.length) (hcs : ∀ c ∈ cs, TR n c) : chP (nd :: cs.flatten) = (nd.1, chC nd (cs.map chP)) := by
  unfold chP; rw [val_node chA _ hc hcs]; rfl
theorem chP_root : ∀ {n : Nat} {l : List Nd}, TR n l → chP l = (rootK l, chV l) := by
  intro n l H
  cases n with
  | zero => exact H.elim
  | succ n =>
    obtain ⟨nd, cs, rfl, hc, hk, hcs⟩ := H
    unfold chV
    rw [chP_node hc hcs]
    rfl
theorem bI_dec (p : Prop) [Decidable p] : bI (decide p) = if p then 1 else 0 := by
  unfold bI
  by_cases h : p <;> simp [h]
theorem mem_lt {ds : List Nat} {B : Nat} (h : ∀ i, i < ds.length → ds.getD i 0 < B) : ∀ x ∈ ds, x < B := fun x hx => by
  obtain ⟨i, hi⟩ := List.getElem?_of_mem hx
  have hl := (List.getElem?_eq_some_iff.mp hi).1
  have := h i hl
  rw [List.getD_eq_getElem?_getD, hi] at this
  exact this
/-- how a tree writes itself -/
theorem n_write {I : HM} (hG : GKx g) : ∀ (n a : Nat) (l : List Nd), NodeAt I n a l → l.length < 1000000 → (∀ nd ∈ l, ndOk2 nd) → Wk g I (8 * n) (rootK l) a (chV l) := by
  intro n
  induction n with
  | zero => intro a l H; exact H.elim
  | succ n ih =>
    intro a l H hl hok
    obtain ⟨nd, cs, as, rfl, e2, e3, e4, e5, e6⟩ := H
    have hcs : ∀ c ∈ cs, TR n c := fun c hc => by
      obtain ⟨i, hi⟩ := List.getElem?_of_mem hc
      have hl2 := (List.getElem?_eq_some_iff.mp hi).1
      exact (e6 i _ c hi (List.getElem?_eq_getElem (by omega : i < as.length))).tree
    have hok2 : ∀ c ∈ cs, ∀ nd ∈ c, ndOk2 nd := fun c hc x hx => hok x (List.mem_cons_of_mem _ (List.mem_flatten.mpr ⟨c, hc, hx⟩))
    have hkid : ∀ (i q : Nat) (c : List Nd), cs[i]? = some c → as[i]? = some q → (∃ fs, I q = some (.inr (nCi (rootK c), fs))) ∧ Wk g I (8 * n) (rootK c) q (chV c) := fun i q c hc hq =>
      ⟨(e6 i q c hc hq).cls, ih q c (e6 i q c hc hq) (by have := flat_mem (List.mem_of_getElem? hc); simp only [List.length_cons] at hl; omega) (hok2 c (List.mem_of_getElem? hc))⟩
    have hlen : as.length < 1000000 := ndC.len (a := a) (nd := nd) e4 e6 hl
    have ho := hok nd List.mem_cons_self
    have hv : chV (nd :: cs.flatten) = chC nd (cs.map chP) := by unfold chV; rw [chP_node e2 hcs]
    rw [hv]
    show Wk g I (8 * (n + 1)) nd.1 a _
    obtain ⟨k, v, ch, ds, ss⟩ := nd
    obtain ⟨h1, h2, h3, h4, h5, h6⟩ := e5
    obtain ⟨⟨-, hv9, -, hk1⟩, hone, -⟩ := id ho
    have one : 3 ≤ k → k ≤ 5 → ∃ p c, as = [p] ∧ cs = [c] := fun q1 q2 => by
      have hl1 : cs.length = 1 := by rw [← e2]; exact hone q1 q2
      obtain ⟨c, hc⟩ := List.length_eq_one_iff.mp hl1
      obtain ⟨p, hp⟩ := List.length_eq_one_iff.mp (e4.trans hl1)
      exact ⟨p, c, hp, hc⟩
    intro h b v0 cap B t hI K H hIb hIv hB hB4
    match k with
    | 0 =>
      obtain ⟨da, st, sv, D', rfl, e1, e2, e3, e4, -, e6⟩ := h1 (by simp)
      exact k_wrX13 hG hI K H hIb hIv e1 e2 e3 e4 (mem_lt (hk1 (by simp)).2.2.1) e6 (by show (0 : Nat) < 10; omega) hB hB4 (by omega)
    | 1 =>
      obtain ⟨da, st, sv, D', rfl, e1, e2, e3, e4, -, e6⟩ := h1 (by simp)
      exact k_wrX13 hG hI K H hIb hIv e1 e2 e3 e4 (mem_lt (hk1 (by simp)).2.2.1) e6 (by show v < 10; have hv9 : v ≤ 9 := hv9; omega) hB hB4 (by omega)
    | 2 => exact k_wrC hG K H hB hB4 (by omega)
    | 3 =>
      obtain ⟨p, rfl, e⟩ := h3 rfl
      obtain ⟨p', c, hp, rfl⟩ := one (by omega) (by omega)
      obtain ⟨k1, k2⟩ := hkid 0 p c rfl rfl
      rw [List.map_singleton, chP_root (hcs c List.mem_cons_self)] at hB ⊢
      have hv9 : v ≤ 9 := hv9
      by_cases q6 : 6 ≤ rootK c
      · have e9 : chC (3, v, ch, ds, ss) [(rootK c, chV c)] = (rn ++ [[48 + v]]) ++ wpW true (chV c) := by
          show (rn ++ [[48 + v]]) ++ wpW (decide (6 ≤ rootK c) || decide (rootK c = 3)) (chV c) = _
          rw [decide_eq_true q6]; rfl
        rw [e9] at hB ⊢
        exact k_wrX10a hG hI K H hIb hIv e (by omega) k1 k2 hB hB4 (by omega) q6
      · by_cases q3 : rootK c = 3
        · have e9 : chC (3, v, ch, ds, ss) [(rootK c, chV c)] = (rn ++ [[48 + v]]) ++ wpW true (chV c) := by
            show (rn ++ [[48 + v]]) ++ wpW (decide (6 ≤ rootK c) || decide (rootK c = 3)) (chV c) = _
            rw [decide_eq_true q3, Bool.or_true]
          rw [e9] at hB ⊢
          exact k_wrX10b hG hI K H hIb hIv e (by omega) k1 k2 hB hB4 (by omega) q3
        · have e9 : chC (3, v, ch, ds, ss) [(rootK c, chV c)] = (rn ++ [[48 + v]]) ++ wpW false (chV c) := by
            show (rn ++ [[48 + v]]) ++ wpW (decide (6 ≤ rootK c) || decide (rootK c = 3)) (chV c) = _
            rw [decide_eq_false q6, decide_eq_false q3]; rfl
          rw [e9] at hB ⊢
          exact k_wrX10c hG hI K H hIb hIv e (by omega) k1 k2 hB hB4 (by omega) ⟨q6, q3⟩
    | 4 =>
      obtain ⟨p, rfl, e⟩ := h4 rfl
      obtain ⟨p', c, hp, rfl⟩ := one (by omega) (by omega)
      obtain ⟨k1, k2⟩ := hkid 0 p c rfl rfl
      rw [List.map_singleton, chP_root (hcs c List.mem_cons_self)] at hB ⊢
      exact k_wrX14 hG hI K H hIb hIv e k1 k2 hB hB4 (by omega)
    | 5 =>
      obtain ⟨p, rfl, e⟩ := h5 rfl
      obtain ⟨p', c, hp, rfl⟩ := one (by omega) (by omega)
      obtain ⟨k1, k2⟩ := hkid 0 p c rfl rfl
      rw [List.map_singleton, chP_root (hcs c List.mem_cons_self)] at hB ⊢
      exact k_wrX15 hG hI K H hIb hIv e k1 k2 hB hB4 (by omega)
    | k + 6 =>
      obtain ⟨pl, v', cp, mc, f, f1, f2, f3, f4, f5⟩ := h6 (by simp)
      have e9 : chC (k + 6, v, ch, ds, ss) (cs.map chP) = sevW (decide (k + 6 = 6)) 0 (cs.map chP) := by
        unfold chC; rw [if_neg (by simp), if_neg (by simp), if_neg (by simp), if_neg (by simp), if_neg (by simp)]
      rw [e9] at hB ⊢
      refine k_wrX16 (D := 8 * n) hG hI K H hIb hIv (by rw [bI_dec]; exact f1) f2 f3 f4 f5 hlen (by rw [List.length_map]; exact e4.symm) (fun i q κ rk hq hp => ?_) hB hB4 (by omega)
      rw [List.getElem?_map] at hp
      cases hc : cs[i]? with
      | none => rw [hc] at hp; cases hp
      | some c =>
        rw [hc] at hp
        have hp' : chP c = (κ, rk) := Option.some.inj hp
        rw [chP_root (hcs c (List.mem_of_getElem? hc))] at hp'
        cases hp'
        obtain ⟨k1, k2⟩ := hkid i q c hc hq
        refine ⟨k1, k2, fun q6 => ?_⟩
        have hN := e6 i q c hc hq
        cases n with
        | zero => exact hN.elim
        | succ n =>
          obtain ⟨nd2, cs2, as2, rfl, -, -, -, g5, -⟩ := hN
          obtain ⟨pl2, v2, cp2, mc2, f2', g1, -⟩ := g5.2.2.2.2.2 q6
          exact ⟨pl2, g1⟩
/-- the text of the chunks is the piece's text -/
theorem insB_eq (κ pa : Nat) (hκ : κ ≤ 7) : insB κ pa = if pa = 9 ∨ pa = 4 ∨ pa = 5 then false else decide (κ = 7) || (decide (κ = 6) && decide (pa ≠ 7)) || (decide (κ = 3) && decide (pa = 3)) := rfl
theorem wpW_flat (e : Bool) (r : List (List Nat)) : (wpW e r).flatten = lp e ++ r.flatten ++ rp e := by
  cases e <;> simp [wpW, lp, rp, opS, clS, strB]
theorem spS_flat (lay : Bool) (i kd : Nat) (hk : kd = if lay then 6 else 7) : strB (spS lay i) = if 0 < i then sepT kd else [] := by
  subst hk
  unfold spS sepT
  by_cases h : i = 0
  · subst h; rfl
  · have hi : 0 < i := by omega
    rw [if_neg h, if_pos hi]; cases lay <;> rfl
theorem sev_flat (lay : Bool) (kd : Nat) (hk : kd = if lay then 6 else 7) : ∀ (ps : List (Nat × List (List Nat))) (vs : List (Nat → List Nat)) (i : Nat), ps.length = vs.length → (∀ (j κ : Nat) (r : List (List Nat)) (v : Nat → List Nat), ps[j]? = some (κ, r) → vs[j]? = some v → v kd = lp (encS lay κ) ++ r.flatten ++ rp (encS lay κ)) → (sevW lay i ps).flatten = joinT kd i vs := by
  intro ps
  induction ps with
  | nil => intro vs i hl _; cases vs with | nil => rfl | cons v vs => simp at hl
  | cons p ps ih =>
    intro vs i hl H
    cases vs with
    | nil => simp at hl
    | cons v vs =>
      obtain ⟨κ, r⟩ := p
      show (([strB (spS lay i)] ++ wpW (encS lay κ) r) ++ sevW lay (i + 1) ps).flatten = (if 0 < i then sepT kd else []) ++ v kd ++ joinT kd (i + 1) vs
      rw [List.flatten_append, List.flatten_append, wpW_flat, ih vs (i + 1) (by simpa using hl) (fun j κ r v h1 h2 => H (j + 1) κ r v (by simpa using h1) (by simpa using h2)), H 0 κ r v rfl rfl, List.flatten_singleton, spS_flat lay i kd hk]
theorem ch_txt : ∀ (n : Nat) (l : List Nd), TR n l → (∀ nd ∈ l, ndOk2 nd ∧ (nd.1 = 1 → 1 ≤ nd.2.1)) → ∀ pa : Nat, txt l pa = lp (insB (rootK l) pa) ++ (chV l).flatten ++ rp (insB (rootK l) pa) := by
  intro n
  induction n with
  | zero => intro l h; exact h.elim
  | succ n ih =>
    intro l H hok pa
    obtain ⟨nd, cs, rfl, hc, hk, hcs⟩ := H
    have hok2 : ∀ c ∈ cs, ∀ nd ∈ c, ndOk2 nd ∧ (nd.1 = 1 → 1 ≤ nd.2.1) := fun c hc x hx => hok x (List.mem_cons_of_mem _ (List.mem_flatten.mpr ⟨c, hc, hx⟩))
    rw [txt_node hc hcs]
    have hv : chV (nd :: cs.flatten) = chC nd (cs.map chP) := by unfold chV; rw [chP_node hc hcs]
    rw [hv]
    have hr : rootK (nd :: cs.flatten) = nd.1 := rfl
    rw [hr]
    obtain ⟨ho, ho1⟩ := hok nd List.mem_cons_self
    obtain ⟨k, v, ch, ds, ss⟩ := nd
    obtain ⟨⟨hk7, hv9, -, hk1⟩, hone, -⟩ := id ho
    dsimp only at hk7 hv9 hone ho1 ⊢
    have rk7 : ∀ c ∈ cs, rootK c ≤ 7 := fun c hc => by
      obtain ⟨nd', cs', rfl⟩ : ∃ nd' cs', c = nd' :: cs' := by
        cases c with
        | nil => exact absurd rfl (hcs [] hc).ne
        | cons a b => exact ⟨a, b, rfl⟩
      exact (hok2 _ hc nd' List.mem_cons_self).1.1.1
    by_cases h2 : k ≤ 2
    · have hi : insB k pa = false := by unfold insB; split <;> simp; omega
      rw [hi]
      unfold txtA
      rw [if_pos h2]
      show leafT _ = ([] ++ _) ++ []
      rw [List.append_nil, List.nil_append]
      by_cases q : k = 2
      · subst q; rfl
      · have el : leafT (k, v, ch, ds, ss) = (if k = 1 then [99, 48 + v] else []) ++ ds.map (65 + ·) ++ [58] ++ ss.map sgN := by unfold leafT; exact if_neg q
        have ec : chC (k, v, ch, ds, ss) (cs.map chP) = phW (offN (k, v, ch, ds, ss)) ds (ss.map sgN) := by unfold chC; exact if_pos (show k ≤ 1 by omega)
        rw [el, ec]
        have ef : ∀ ds : List Nat, (ds.map (fun x => [65 + x])).flatten = ds.map (65 + ·) := fun ds => by induction ds with | nil => rfl | cons a t ih => simp only [List.map_cons, List.flatten_cons, ih]; rfl
        by_cases q1 : k = 1
        · have ho : offN (k, v, ch, ds, ss) = v := by unfold offN; exact if_pos q1
          rw [ho, if_pos q1]
          unfold phW
          rw [if_pos (show 0 < v from ho1 q1), List.flatten_append, List.flatten_append, ef]
          simp [strB]
        · have ho : offN (k, v, ch, ds, ss) = 0 := by unfold offN; exact if_neg q1
          rw [ho, if_neg q1]
          unfold phW
          rw [if_neg (show ¬ 0 < 0 by omega), List.flatten_append, List.flatten_append, ef]
          simp [strB]
    · unfold txtA
      rw [if_neg (by exact h2)]
      have e9 : headT (k, v, ch, ds, ss) ++ joinT k 0 (cs.map txt) ++ tailT k = (chC (k, v, ch, ds, ss) (cs.map chP)).flatten := by
        by_cases q5 : k ≤ 5
        · obtain ⟨c, rfl⟩ : ∃ c, cs = [c] := List.length_eq_one_iff.mp (by rw [← hc]; exact hone (by omega) q5)
          have et : ∀ pa, txt c pa = _ := ih c (hcs c List.mem_cons_self) (hok2 c List.mem_cons_self)
          have r7 := rk7 c List.mem_cons_self
          have ej : joinT k 0 ([c].map txt) = lp (insB (rootK c) k) ++ (chV c).flatten ++ rp (insB (rootK c) k) := by
            show (if 0 < 0 then sepT k else []) ++ txt c k ++ [] = _
            rw [if_neg (by omega), List.nil_append, List.append_nil, et k]
          rw [ej, List.map_singleton, chP_root (hcs c List.mem_cons_self)]
          by_cases q3 : k = 3
          · subst q3
            have ei : insB (rootK c) 3 = (decide (6 ≤ rootK c) || decide (rootK c = 3)) := by
              unfold insB
              rw [if_neg (show ¬ (3 = 9 ∨ 3 = 4 ∨ 3 = 5) by omega)]
              have : rootK c = 6 ∨ rootK c = 7 ∨ rootK c = 3 ∨ (rootK c ≠ 6 ∧ rootK c ≠ 7 ∧ rootK c ≠ 3) := by omega
              rcases this with q | q | q | ⟨q1, q2, q3⟩
              · rw [q]; rfl
              · rw [q]; rfl
              · rw [q]; rfl
              · have : ¬ 6 ≤ rootK c := by omega
                simp [q1, q2, q3, this]
            have ec : chC (3, v, ch, ds, ss) [(rootK c, chV c)] = (rn ++ [[48 + v]]) ++ wpW (decide (6 ≤ rootK c) || decide (rootK c = 3)) (chV c) := rfl
            have eh : headT (3, v, ch, ds, ss) = [48 + v] := rfl
            have et2 : tailT 3 = [] := rfl
            rw [ec, eh, et2, ei, List.flatten_append, wpW_flat]
            simp
          · have ei : insB (rootK c) k = false := by unfold insB; rw [if_pos (show k = 9 ∨ k = 4 ∨ k = 5 by omega)]
            rw [ei]
            by_cases q4 : k = 4
            · subst q4
              have ec : chC (4, v, ch, ds, ss) [(rootK c, chV c)] = (rn ++ [strB "m"]) ++ wpW true (chV c) := rfl
              have eh : headT (4, v, ch, ds, ss) = [109, 40] := rfl
              have et2 : tailT 4 = [41] := rfl
              rw [ec, eh, et2, List.flatten_append, wpW_flat]
              simp [lp, rp, strB]
            · have q5' : k = 5 := by omega
              subst q5'
              have ec : chC (5, v, ch, ds, ss) [(rootK c, chV c)] = (rn ++ [strB "r"]) ++ wpW true (chV c) := rfl
              have eh : headT (5, v, ch, ds, ss) = [114, 40] := rfl
              have et2 : tailT 5 = [41] := rfl
              rw [ec, eh, et2, List.flatten_append, wpW_flat]
              simp [lp, rp, strB]
        · have eh : headT (k, v, ch, ds, ss) = [] := by unfold headT; dsimp only; rw [if_neg (show ¬ k = 3 by omega), if_neg (show ¬ k = 4 by omega), if_neg (show ¬ k = 5 by omega)]
          have etl : tailT k = [] := by unfold tailT; exact if_neg (show ¬ (k = 4 ∨ k = 5) by omega)
          rw [eh, etl, List.nil_append, List.append_nil]
          unfold chC
          dsimp only
          rw [if_neg (show ¬ k ≤ 1 by omega), if_neg (show ¬ k = 2 by omega), if_neg (show ¬ k = 3 by omega), if_neg (show ¬ k = 4 by omega), if_neg (show ¬ k = 5 by omega)]
          have ek : k = if decide (k = 6) then 6 else 7 := by by_cases q : k = 6 <;> simp [q] <;> omega
          refine (sev_flat (decide (k = 6)) k ek (cs.map chP) (cs.map txt) 0 (by rw [List.length_map, List.length_map]) (fun j κ r w h1 h2 => ?_)).symm
          rw [List.getElem?_map] at h1 h2
          cases hj : cs[j]? with
          | none => rw [hj] at h1; cases h1
          | some c =>
            rw [hj] at h1 h2
            have hm := List.mem_of_getElem? hj
            have h1' : chP c = (κ, r) := Option.some.inj h1
            have h2' : txt c = w := Option.some.inj h2
            rw [chP_root (hcs c hm)] at h1'
            cases h1'
            rw [← h2', ih c (hcs c hm) (hok2 c hm) k]
            have r7 := rk7 c hm
            have ei : insB (rootK c) k = encS (decide (k = 6)) (rootK c) := by
              unfold insB encS
              rw [if_neg (show ¬ (k = 9 ∨ k = 4 ∨ k = 5) by omega)]
              have k67 : k = 6 ∨ k = 7 := by omega
              have : rootK c = 6 ∨ rootK c = 7 ∨ rootK c = 3 ∨ (rootK c ≠ 6 ∧ rootK c ≠ 7 ∧ rootK c ≠ 3) := by omega
              rcases k67 with q0 | q0 <;> rw [q0] <;> rcases this with q | q | q | ⟨q1, q2, q3⟩
              · rw [q]; rfl
              · rw [q]; rfl
              · rw [q]; rfl
              · have : ¬ 7 ≤ rootK c := by omega
                simp [q1, q2, q3, this]
              · rw [q]; rfl
              · rw [q]; rfl
              · rw [q]; rfl
              · have : ¬ 7 ≤ rootK c := by omega
                simp [q1, q2, q3, this]
            rw [ei]
      rw [← e9]
      simp only [List.append_assoc]
/-- below no parent -/
theorem ch_txt9 {n : Nat} {l : List Nd} (H : TR n l) (hok : ∀ nd ∈ l, ndOk2 nd ∧ (nd.1 = 1 → 1 ≤ nd.2.1)) : txt l 9 = (chV l).flatten := by
  rw [ch_txt n l H hok 9]
  have : insB (rootK l) 9 = false := by unfold insB; rw [if_pos (Or.inl rfl)]
  rw [this]
  simp [lp, rp]
end O4S

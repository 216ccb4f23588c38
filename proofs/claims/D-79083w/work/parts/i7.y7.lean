/-! how much a piece weighs (printed by gen/mky_7.py) -/
section Y7S
def wtN (nd : Nd) : Nat := 6 + nd.2.2.2.1.length + nd.2.2.2.2.length
def wtL (l : List Nd) : Nat := (l.map wtN).sum
theorem wtL_nil : wtL [] = 0 := rfl
theorem wtL_cons (nd : Nd) (l : List Nd) : wtL (nd :: l) = wtN nd + wtL l := rfl
theorem wtL_app (a b : List Nd) : wtL (a ++ b) = wtL a + wtL b := by unfold wtL; rw [List.map_append, List.sum_append]
theorem wtL_len (l : List Nd) : 6 * l.length ≤ wtL l := by
  induction l with
  | nil => exact Nat.le_refl _
  | cons nd l ih => rw [wtL_cons, List.length_cons]; unfold wtN; omega
theorem wtL_tidy (l : List Nd) : wtL (tidy l) ≤ wtL l := by
  induction l with
  | nil => exact Nat.le_refl _
  | cons nd l ih =>
    cases h : kpNd nd with
    | true => rw [tidy_t h, wtL_cons, wtL_cons]; omega
    | false => rw [tidy_f h, wtL_cons]; omega
theorem wtL_serR (rs : List (List Nd)) : wtL (serR rs) = 6 + wtL rs.flatten := rfl
theorem wtL_layR (rs : List (List Nd)) : wtL (layR rs) = 6 + wtL rs.flatten := rfl
theorem prs_wt (c : List Nat) : ∀ (f m nst p : Nat) (r : List (List Nd) × Nat), m ≤ 3 → p ≤ c.length → prs c f m nst p = .ok r → wtL r.1.flatten + (if m = 3 then 6 else 12) + 18 * p ≤ 18 * r.2 := by
  intro f
  induction f with
  | zero => intro m nst p r _ _ h; cases h
  | succ f ih =>
    intro m nst p r hm hp h
    have phr : ∀ {k v p' : Nat}, p ≤ p' → p' ≤ c.length → phrP c k v p' = .ok r → wtL r.1.flatten + 12 + 18 * p ≤ 18 * r.2 := by
      intro k v p' h1 h2 h3
      obtain ⟨q1, q2⟩ := phrP_ok h3
      have a := phrF_le (b := true) h2
      have b := phrF_ok q1
      rw [q2]
      show (6 + (phrF c p' true).2.1.length + (phrF c p' true).2.2.1.length + 0) + 12 + 18 * p ≤ 18 * (phrF c p' true).2.2.2
      omega
    have opn : ∀ {p' : Nat} {r : List (List Nd) × Nat}, p ≤ p' → opnP c nst p' (prs c f 3 (nst + 1) (p' + 1)) = .ok r → wtL r.1.flatten + 36 + 18 * p' ≤ 18 * r.2 := by
      intro p' r h1 h3
      obtain ⟨q1, q2, q3⟩ := opnP_ok h3
      obtain ⟨r', q4, q5, q6⟩ := encP_ok q3
      have hlt := hrV_in q1 (by decide)
      have a := ih 3 (nst + 1) (p' + 1) r' (by omega) (by omega) q4
      rw [if_pos rfl] at a
      rw [q6]
      show wtL [serR r'.1].flatten + 36 + 18 * p' ≤ 18 * (r'.2 + 1)
      rw [List.flatten_singleton, wtL_serR]
      omega
    rcases Nat.lt_or_ge m 1 with h0 | h0
    · obtain rfl : m = 0 := by omega
      rw [if_neg (by decide)]
      rw [prs_0] at h
      split at h
      · rename_i q; cases h; show (6 + 0 + 0 + 0) + 12 + 18 * p ≤ 18 * (p + 1); omega
      · split at h
        · rename_i q
          have := hrV_in q (by decide)
          split at h
          · rename_i q2
            have := hrV_ge (c := c) (p := p + 1) (by omega)
            exact phr (by omega) (by omega) h
          · cases h
        · split at h
          · split at h
            · obtain ⟨r', q4, q5⟩ := mapP_ok h
              have a := opn (p' := p + 1) (by omega) q4
              rw [q5]
              dsimp only
              rw [List.flatten_singleton, wtL_cons]
              have : wtN (if hrV c p = 109 then 4 else 5, 0, 1, [], []) = 6 := rfl
              omega
            · cases h
          · split at h
            · have := opn (Nat.le_refl _) h; omega
            · exact phr (Nat.le_refl _) hp h
    · rcases Nat.lt_or_ge m 2 with h0 | h0
      · obtain rfl : m = 1 := by omega
        rw [if_neg (by decide)]
        rw [prs_1] at h
        split at h
        · rename_i q
          have := isG_in q
          obtain ⟨r', q4, q5⟩ := mapP_ok h
          have a := ih 0 nst (p + 1) r' (by omega) (by omega) q4
          rw [if_neg (by decide)] at a
          rw [q5]
          dsimp only
          rw [List.flatten_singleton, wtL_cons]
          have : wtN (3, (hrV c p - 48).toNat, 1, [], []) = 6 := rfl
          omega
        · have := ih 0 nst p r (by omega) hp h
          rwa [if_neg (by decide)] at this
      · rcases Nat.lt_or_ge m 3 with h0 | h0
        · obtain rfl : m = 2 := by omega
          rw [if_neg (by decide)]
          rw [prs_2] at h
          split at h
          · rename_i q
            obtain ⟨r', r'', q4, q5, q6⟩ := appP_ok h
            rw [q4] at q q5
            have hq := hrV_in q (by decide)
            have a := ih 1 nst p r' (by omega) hp q4
            have b := ih 2 nst (r'.2 + 1) r'' (by omega) hq q5
            rw [if_neg (by decide)] at a b
            rw [q6]
            dsimp only
            rw [List.flatten_append, wtL_app]
            omega
          · have := ih 1 nst p r (by omega) hp h
            rwa [if_neg (by decide)] at this
        · obtain rfl : m = 3 := by omega
          rw [if_pos rfl]
          rw [prs_3] at h
          split at h
          · rename_i q
            obtain ⟨r', r'', q4, q5, q6⟩ := appP_ok h
            obtain ⟨r3, q7, q8⟩ := layP_ok q4
            rw [q7] at q q5
            have hq := hrV_in q (by decide)
            have a := ih 2 nst p r3 (by omega) hp q7
            have b := ih 3 nst (r3.2 + 1) r'' (by omega) hq q5
            rw [if_neg (by decide)] at a
            rw [if_pos rfl] at b
            rw [q6]
            dsimp only
            rw [q8]
            dsimp only
            rw [List.flatten_append, wtL_app, List.flatten_singleton, wtL_layR]
            omega
          · obtain ⟨r3, q7, q8⟩ := layP_ok h
            have a := ih 2 nst p r3 (by omega) hp q7
            rw [if_neg (by decide)] at a
            rw [q8]
            dsimp only
            rw [List.flatten_singleton, wtL_layR]
            omega
/-- what is read weighs not more than eighteen a sign -/
theorem parse_wt {c : List Nat} {l : List Nd} (h : parse c = .ok l) : wtL (tidy l) ≤ 18 * c.length := by
  refine Nat.le_trans (wtL_tidy l) ?_
  unfold parse at h
  cases hx : prs c (4 * c.length + 4) 3 0 0 with
  | error e => rw [hx] at h; cases h
  | ok r =>
    rw [hx] at h
    dsimp only at h
    split at h
    · cases h
      have hg := prs_go c _ 3 0 0 r (by omega) (Nat.zero_le _) hx
      have a := prs_wt c _ 3 0 0 r (by omega) (Nat.zero_le _) hx
      rw [if_pos rfl] at a
      show 6 + wtL r.1.flatten ≤ _
      omega
    · cases h
variable {g : GB} {M : MI} {d c k : Nat} {h : HM} {Q : RS → HM → Prop} {pc : Nat} {ls : List (Option Value)}
/-- a class of the program is caught -/
theorem evx_catchT {E name : String} {q : Nat} (pre : List ExceptionTableEntry) (x : ExceptionTableEntry) (suf : List ExceptionTableEntry) (hsplit : hTab M = pre ++ x :: suf) (hpass : ∀ z ∈ pre, Pass g M.1.cls pc E z) (hx : covers x pc = true) (h0 : x.catchType ≠ 0) (hlink : (Jvm.Cond.classLink M.1.cls x.catchType name) ∈ lw_all) (hcast : (Jvm.Cond.castable E name) ∈ lw_tbl) (kk : Ev g M d c k Q x.handlerPc ls [.ref q] h) : EvX g M d c k Q pc ls h E q := by
  intro p l e R s m args below meth cd H locs cells slots mc ms lz ce rest F hc hk hmc hms hL hR hz hl hce hcv hcl
  refine vx_catch F.own pre x suf (by rw [F.tab]; exact hsplit) (fun z hzz => ?_) hx h0 (F.words _ hlink) (F.nw _ hcast rfl) hce hcv hcl (kk p l e R s m args below meth cd H locs cells slots mc ms lz F hc hk hmc hms hL hR hz hl)
  rcases hpass z hzz with q1 | ⟨q1, nm, q2, q3⟩
  · exact Or.inl q1
  · exact Or.inr ⟨q1, nm, F.words _ q2, q3 s F.gk⟩
/-- a row of another class is passed -/
theorem Pass.of {i : Nat} {E nm own : String} {z : ExceptionTableEntry} (hG : GKx g) (hi : ncL[i]? = some (E, nm)) (hz : z.catchType ≠ 0) (hl : (Jvm.Cond.classLink own z.catchType nm) ∈ lw_all) : Pass g own pc E z := Or.inr ⟨hz, nm, hl, fun U hU => (hG U hU).2.2.2.1 i _ hi⟩
end Y7S

/-! the reference reads: a phrase (printed by gen) -/
section R6
variable {L1 : Nat → Int} {g : GB} {M : MI} {d c k : Nat} {Q : RS → HM → Prop} {pc : Nat} {ls : List (Option Value)} {st : List Value} {h : HM} {a b : Int} {ad : Nat → Nat} {o : Nat} {h0 : HM} {s : MSt}
def isD (c : List Nat) (p : Nat) : Bool := decide (65 ≤ hrV c p ∧ hrV c p ≤ 72)
def stN (x : Int) : Nat := (stp x).toNat
def isS (c : List Nat) (p : Nat) : Bool := decide (stp (hrV c p) ≠ -1)
/-- the dancers, the steps that stand at p -/
def runD (c : List Nat) : Nat → Nat → List Nat × Nat
  | 0, p => ([], p)
  | f + 1, p => if isD c p then ((hrV c p - 65).toNat :: (runD c f (p + 1)).1, (runD c f (p + 1)).2) else ([], p)
def runS (c : List Nat) : Nat → Nat → List Nat × Nat
  | 0, p => ([], p)
  | f + 1, p => if isS c p then (stN (hrV c p) :: (runS c f (p + 1)).1, (runS c f (p + 1)).2) else ([], p)
/-- a phrase at p: all right, dancers, steps, where it ends -/
def phrF (c : List Nat) (p : Nat) (b : Bool) : Bool × List Nat × List Nat × Nat :=
  let b2 := b && isD c p
  let r := if b2 then runD c (c.length + 1) p else ([], p)
  let b3 := b2 && decide (hrV c r.2 = 58)
  let p3 := if b3 then r.2 + 1 else r.2
  let b4 := b3 && isS c p3
  let t := if b4 then runS c (c.length + 1) p3 else ([], p3)
  (b4, r.1, t.1, t.2)
theorem isD_lt {c : List Nat} {p : Nat} (h : isD c p = true) : p < c.length := by
  unfold isD hrV at h
  simp at h
  by_cases q : p < c.length
  · exact q
  · rw [if_neg q] at h; omega
theorem isS_lt {c : List Nat} {p : Nat} (h : isS c p = true) : p < c.length := by
  unfold isS hrV at h
  simp at h
  by_cases q : p < c.length
  · exact q
  · rw [if_neg q] at h; exact absurd rfl h
theorem psAt.addN {s : MSt} {c : List Nat} {p : Nat} {b : Bool} {ns : List Nd} {nd nd' : Nd} {lv : List (Nat × Nat)} {w x : Nat} (h : psAt L1 s c p b (ns ++ [nd]) lv) (hn : ns.length ≤ 900) (hd : dsum (ns ++ [nd]) < 2000) (hw : (w = 4 ∧ nd.2.2.2.2 = [] ∧ nd' = addD nd x) ∨ (w = 5 ∧ nd' = addS nd x)) : psAt L1 (uF s 1 (addA (s.2 1) w (x : Int))) c p b (ns ++ [nd']) lv :=
  ⟨h.1.fr (fr.F (fr.refl s [] [1]) rfl) rfl rfl, rw_add h.2.1 hn hd hw, h.2.2.1, lvAt.low (s := s) (s' := uF s 1 (addA (s.2 1) w (x : Int))) (n := lv.length) (fun _ _ => ⟨rfl, rfl⟩) (Nat.le_refl _) h.2.2.2⟩
theorem psAt.frr {s s' : MSt} {c : List Nat} {p : Nat} {b : Bool} {ns : List Nd} {lv : List (Nat × Nat)} {c' : List Nat} {p' : Nat} {b' : Bool} {K J : List Nat} (h : psAt L1 s c p b ns lv) (hr : rdAt s' c' p' b') (hf : fr s s' K J) (hK : K.contains 37 = false) (hJ : [1, 38, 39].all (fun x => ! J.contains x) = true) : psAt L1 s' c' p' b' ns lv := by
  have key : ∀ j, j ∈ [1, 38, 39] → s'.2 j = s.2 j := fun j hj => hf.2 j (by
    have := List.all_eq_true.mp hJ j hj
    simpa using this)
  refine ⟨hr, by rw [key 1 (by simp)]; exact h.2.1, by rw [hf.1 37 (fun q => by simp at hK; exact hK q)]; exact h.2.2.1, lvAt.low (s := s) (s' := s') (n := lv.length) (fun i _ => ⟨by rw [key 38 (by simp)], by rw [key 39 (by simp)]⟩) (Nat.le_refl _) h.2.2.2⟩
end R6

/-! what a piece means: rows of nodes, their meaning as a fold (printed by gen/mksm.py) -/
section SM
/-- a node: kind, value, number of children, dancers, steps -/
abbrev Nd : Type := Nat × Nat × Nat × List Nat × List Nat
/-- what a part is: (size, used, depth, cues), steps, cues at counts -/
abbrev Pt : Type := (Nat × Nat × Nat × Nat) × (Nat → Nat → Nat) × (Nat → Nat)
/-- an open part: (kind, value, left), (size, used, depth, cues), (twice, long), steps, cues at counts -/
abbrev Op : Type := (Nat × Nat × Nat) × (Nat × Nat × Nat × Nat) × (Nat × Bool) × (Nat → Nat → Nat) × (Nat → Nat)
abbrev Er : Type := Nat × Int
abbrev Me : Type := Except Er Pt
section
variable {α : Type}
/-- a row of nodes is worked off from its end with a stack -/
def stk (f : Nd → List α → α) (l : List Nd) (st : List α) : List α := l.foldr (fun nd st => f nd (st.take nd.2.2.1) :: st.drop nd.2.2.1) st
def val (f : Nd → List α → α) (z : α) (l : List Nd) : α := (stk f l []).headD z
/-- a row of nodes is one tree of a height up to n -/
def TR : Nat → List Nd → Prop
  | 0, _ => False
  | n + 1, l => ∃ (nd : Nd) (cs : List (List Nd)), l = nd :: cs.flatten ∧ nd.2.2.1 = cs.length ∧ (nd.1 ≤ 2 ↔ cs = []) ∧ ∀ c ∈ cs, TR n c
theorem stk_app (f : Nd → List α → α) (l l' : List Nd) (st : List α) : stk f (l ++ l') st = stk f l (stk f l' st) := by simp [stk]
theorem stk_cons (f : Nd → List α → α) (nd : Nd) (l : List Nd) (st : List α) : stk f (nd :: l) st = f nd ((stk f l st).take nd.2.2.1) :: (stk f l st).drop nd.2.2.1 := rfl
theorem stk_tree (f : Nd → List α → α) (z : α) : ∀ (n : Nat) (l : List Nd), TR n l → ∀ st, stk f l st = val f z l :: st := by
  intro n
  induction n with
  | zero => intro l h; exact h.elim
  | succ n ih =>
    intro l h st
    obtain ⟨nd, cs, rfl, hc, -, hcs⟩ := h
    have key : ∀ (cs : List (List Nd)), (∀ c ∈ cs, TR n c) → ∀ st, stk f cs.flatten st = cs.map (val f z) ++ st := by
      intro cs
      induction cs with
      | nil => intro _ st; rfl
      | cons c cs ihc =>
        intro hcs st
        rw [List.flatten_cons, stk_app, ihc (fun c' h => hcs c' (List.mem_cons_of_mem _ h)), ih c (hcs c List.mem_cons_self)]
        rfl
    have e : ∀ st, stk f (nd :: cs.flatten) st = f nd (cs.map (val f z)) :: st := by
      intro st
      rw [stk_cons, key cs hcs, hc]
      rw [List.take_left' (by simp), List.drop_left' (by simp)]
    rw [e]
    unfold val
    rw [e]
    rfl
theorem stk_forest (f : Nd → List α → α) (z : α) {n : Nat} {cs : List (List Nd)} (hcs : ∀ c ∈ cs, TR n c) (st : List α) : stk f cs.flatten st = cs.map (val f z) ++ st := by
  induction cs with
  | nil => rfl
  | cons c cs ihc =>
    rw [List.flatten_cons, stk_app, ihc (fun c' h => hcs c' (List.mem_cons_of_mem _ h)), stk_tree f z n c (hcs c List.mem_cons_self)]
    rfl
theorem val_node (f : Nd → List α → α) (z : α) {n : Nat} {nd : Nd} {cs : List (List Nd)} (hc : nd.2.2.1 = cs.length) (hcs : ∀ c ∈ cs, TR n c) : val f z (nd :: cs.flatten) = f nd (cs.map (val f z)) := by
  unfold val
  rw [stk_cons, stk_forest f z hcs, hc]
  rw [List.take_left' (by simp)]
  rfl
end
theorem TR.mono : ∀ {n m : Nat} {l : List Nd}, TR n l → n ≤ m → TR m l := by
  intro n
  induction n with
  | zero => intro m l h; exact h.elim
  | succ n ih =>
    intro m l h hm
    obtain ⟨nd, cs, e, hc, hk, hcs⟩ := h
    cases m with
    | zero => omega
    | succ m => exact ⟨nd, cs, e, hc, hk, fun c h => ih (hcs c h) (by omega)⟩
theorem TR.ne {n : Nat} {l : List Nd} (h : TR n l) : l ≠ [] := by
  cases n with
  | zero => exact h.elim
  | succ n => obtain ⟨nd, cs, rfl, -⟩ := h; simp
/-- the lowest bit of a set of dancers -/
def low (n : Nat) : Nat := ((List.range 8).find? (fun i => n.testBit i)).getD 0
def twl (ds : List Nat) : Nat × Nat := ds.foldl (fun p d => (p.1 ||| (p.2 &&& 1 <<< d), p.2 ||| 1 <<< d)) (0, 0)
/-- the steps of a phrase or canon, after its first i dancers -/
def lst (off : Nat) (ds ss : List Nat) : Nat → Nat → Nat → Nat
  | 0, _, _ => 0
  | i + 1, d, k => if d = ds.getD i 0 ∧ off * i ≤ k ∧ k < off * i + ss.length then ss.getD (k - off * i) 0 else lst off ds ss i d k
def offN (nd : Nd) : Nat := if nd.1 = 1 then nd.2.1 else 0
def lsz (nd : Nd) : Nat := nd.2.2.2.2.length + offN nd * (nd.2.2.2.1.length - 1)
def leafE (nd : Nd) : Me :=
  if nd.1 = 2 then .ok ((0, 0, 1, 1), fun _ _ => 0, fun k => if k = 0 then 1 else 0)
  else if (twl nd.2.2.2.1).1 ≠ 0 then .error (1, (low (twl nd.2.2.2.1).1 : Nat))
  else if lsz nd > 99 then .error (2, -1)
  else .ok ((lsz nd, (twl nd.2.2.2.1).2, 1, 0), lst (offN nd) nd.2.2.2.1 nd.2.2.2.2 nd.2.2.2.1.length, fun _ => 0)
def openO (nd : Nd) : Op := ((nd.1, nd.2.1, nd.2.2.1), (0, 0, 0, 0), (0, false), fun _ _ => 0, fun _ => 0)
def mFrom (O : Op) : Nat := if O.1.1 = 6 then 0 else O.2.1.1
def mLong (O : Op) (P : Pt) : Bool := O.2.2.1.2 || decide (mFrom O + P.1.1 > 99)
def mSteps (O : Op) (P : Pt) : Nat → Nat → Nat := fun d k => if mFrom O ≤ k ∧ k < mFrom O + P.1.1 ∧ P.1.2.1.testBit d then P.2.1 d (k - mFrom O) else O.2.2.2.1 d k
def mCues (O : Op) (P : Pt) : Nat → Nat := fun k => if mFrom O ≤ k ∧ k ≤ mFrom O + P.1.1 then O.2.2.2.2 k + P.2.2 (k - mFrom O) else O.2.2.2.2 k
def mergeO (O : Op) (P : Pt) : Op :=
  ((O.1.1, O.1.2.1, O.1.2.2 - 1),
   (if mLong O P then O.2.1.1 else max (mFrom O + P.1.1) O.2.1.1, O.2.1.2.1 ||| P.1.2.1, max O.2.1.2.2.1 P.1.2.2.1, O.2.1.2.2.2 + P.1.2.2.2),
   (O.2.2.1.1 ||| (if O.1.1 = 6 then O.2.1.2.1 &&& P.1.2.1 else 0), mLong O P),
   if mLong O P then O.2.2.2.1 else mSteps O P,
   if mLong O P then O.2.2.2.2 else mCues O P)
def oppN (x : Nat) : Nat := if x = 0 then 0 else if x % 2 = 1 then x + 1 else x - 1
def cTimes (O : Op) : Nat := if O.1.1 = 3 then O.1.2.1 else 1
/-- one time of a part that is closed: its steps, its cues -/
def onceS (O : Op) : Nat → Nat → Nat := fun d k =>
  if O.1.1 = 5 then oppN (O.2.2.2.1 d (O.2.1.1 - 1 - k)) else if O.1.1 = 4 ∧ O.2.2.2.1 d k > 2 then oppN (O.2.2.2.1 d k) else O.2.2.2.1 d k
def onceC (O : Op) : Nat → Nat := fun k => O.2.2.2.2 (if O.1.1 = 5 then O.2.1.1 - k else k)
/-- after t times -/
def timesS (O : Op) : Nat → Nat → Nat → Nat
  | 0, _, _ => 0
  | t + 1, d, k => if O.2.1.1 * t ≤ k ∧ k < O.2.1.1 * t + O.2.1.1 then onceS O d (k - O.2.1.1 * t) else timesS O t d k
def timesC (O : Op) : Nat → Nat → Nat
  | 0, _ => 0
  | t + 1, k => timesC O t k + (if O.2.1.1 * t ≤ k ∧ k ≤ O.2.1.1 * t + O.2.1.1 then onceC O (k - O.2.1.1 * t) else 0)
def closeE (O : Op) : Me :=
  if O.2.2.1.1 ≠ 0 then .error (1, (low O.2.2.1.1 : Nat))
  else if O.2.2.1.2 = true ∨ O.2.1.1 * cTimes O > 99 ∨ O.2.1.2.2.2 * cTimes O > 999 then .error (2, -1)
  else .ok ((O.2.1.1 * cTimes O, O.2.1.2.1, O.2.1.2.2.1 + 1, O.2.1.2.2.2 * cTimes O), timesS O (cTimes O), timesC O (cTimes O))
def mergeE : Except Er Op → Me → Except Er Op
  | .error e, _ => .error e
  | .ok _, .error e => .error e
  | .ok O, .ok P => .ok (mergeO O P)
def closeV (nd : Nd) (vs : List Me) : Me := match vs.foldl mergeE (.ok (openO nd)) with
  | .error e => .error e
  | .ok O => closeE O
def semA (nd : Nd) (vs : List Me) : Me := if nd.1 ≤ 2 then leafE nd else closeV nd vs
/-- the meaning of a piece -/
def sem (l : List Nd) : Me := val semA (.error (0, 0)) l
theorem sem_node {n : Nat} {nd : Nd} {cs : List (List Nd)} (hc : nd.2.2.1 = cs.length) (hcs : ∀ c ∈ cs, TR n c) : sem (nd :: cs.flatten) = semA nd (cs.map sem) := val_node semA _ hc hcs
end SM

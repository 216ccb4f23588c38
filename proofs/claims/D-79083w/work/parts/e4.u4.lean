/-! THE COMPONENT: the parser sees what the reference sees (printed by gen) -/
section U4S
variable {g : GB} {M : MI} {d c k : Nat} {h : HM}
theorem hrV_some {t : List Nat} {pos u : Nat} (h : t[pos]? = some u) : hrV t pos = (u : Int) := by
  unfold hrV
  rw [if_pos (List.getElem?_eq_some_iff.mp h).1, List.getD_eq_getElem?_getD, h]; rfl
theorem hrV_none {t : List Nat} {pos : Nat} (h : t.length ≤ pos) : hrV t pos = -1 := by
  unfold hrV; rw [if_neg (by omega)]
theorem nx_hrV {t : List Nat} {pos lo hi : Nat} : nx t pos lo hi = decide ((lo : Int) ≤ hrV t pos ∧ hrV t pos ≤ hi) := by
  cases q : t[pos]? with
  | none =>
    have hl : t.length ≤ pos := List.getElem?_eq_none_iff.mp q
    rw [nx_none hl, hrV_none hl, decide_eq_false (by omega)]
  | some u =>
    rw [nx_some q, hrV_some q]
    by_cases c : lo ≤ u ∧ u ≤ hi
    · rw [decide_eq_true c, decide_eq_true (by omega)]
    · rw [decide_eq_false c, decide_eq_false (by omega)]
theorem nx_eq {t : List Nat} {pos lo : Nat} : nx t pos lo lo = decide (hrV t pos = (lo : Int)) := by
  rw [nx_hrV]
  by_cases c : hrV t pos = (lo : Int)
  · rw [decide_eq_true c, decide_eq_true (by omega)]
  · rw [decide_eq_false c, decide_eq_false (by omega)]
theorem nx_D {t : List Nat} {pos : Nat} : nx t pos 65 72 = isD t pos := nx_hrV
theorem nx_G {t : List Nat} {pos : Nat} : nx t pos 50 57 = isG t pos := nx_hrV
theorem idx_F : ∀ u : Fin 128, decide (0 ≤ idxO (strB "nesw.") u.val) = decide (stp (u.val : Int) ≠ -1) := by decide +kernel
theorem isS_idx {t : List Nat} {pos u : Nat} (h : t[pos]? = some u) (hu : u < 128) : isS t pos = decide (0 ≤ idxO (strB "nesw.") u) := by
  unfold isS
  rw [hrV_some h]
  exact (idx_F ⟨u, hu⟩).symm
end U4S

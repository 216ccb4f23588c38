/-! THE COMPONENT: checks by their outcome; isTaken (printed by gen) -/
section U5S
variable {g : GB} {M : MI} {d c k : Nat} {h : HM}
set_option maxRecDepth 100000 in
set_option maxHeartbeats 4000000 in
theorem k_checkArgument1  : Kc g mX1_checkArgument d (0) (0) [vz (bI true)] h (sR none h) := by
  refine Kc.of (ls := [some (vz (bI true))]) (by decide +kernel) (Nat.le_of_ble_eq_true rfl) rfl ?_
  refine ev_iload_n dX1_checkArgument_0 rfl ?_
  refine ev_if_neB (tgt := 12) dX1_checkArgument_1 (by decide) (fun c1 => ?_) (fun c1 => by cases c1)
  refine ev_return dX1_checkArgument_12 rfl ?_
  exact ⟨rfl, rfl⟩
theorem k_checkArgumentT {b : Bool} (hb : b = true) : Kc g mX1_checkArgument d 0 0 [vz (bI b)] h (sR none h) := by rw [hb]; exact k_checkArgument1
theorem k_checkArgumentF {b : Bool} (hG : GKx g) (hb : b = false) : Kc g mX1_checkArgument 6 1 6 [vz (bI b)] h (fun r h' => ∃ q : Nat, r = .inr ("java/lang/IllegalArgumentException", q) ∧ h' = h) := by have := k_checkArgument (b := b) (h := h) hG; rw [hb] at this ⊢; exact this
set_option maxRecDepth 100000 in
set_option maxHeartbeats 4000000 in
theorem k_checkIndex1  : Kc g mX1_checkIndex d (0) (0) [vz (bI true)] h (sR none h) := by
  refine Kc.of (ls := [some (vz (bI true))]) (by decide +kernel) (Nat.le_of_ble_eq_true rfl) rfl ?_
  refine ev_iload_n dX1_checkIndex_0 rfl ?_
  refine ev_if_neB (tgt := 12) dX1_checkIndex_1 (by decide) (fun c1 => ?_) (fun c1 => by cases c1)
  refine ev_return dX1_checkIndex_12 rfl ?_
  exact ⟨rfl, rfl⟩
theorem k_checkIndexT {b : Bool} (hb : b = true) : Kc g mX1_checkIndex d 0 0 [vz (bI b)] h (sR none h) := by rw [hb]; exact k_checkIndex1
theorem k_checkIndexF {b : Bool} (hG : GKx g) (hb : b = false) : Kc g mX1_checkIndex 6 1 6 [vz (bI b)] h (fun r h' => ∃ q : Nat, r = .inr ("java/lang/IndexOutOfBoundsException", q) ∧ h' = h) := by have := k_checkIndex (b := b) (h := h) hG; rw [hb] at this ⊢; exact this
set_option maxRecDepth 100000 in
set_option maxHeartbeats 4000000 in
theorem k_checkElement1  : Kc g mX1_checkElement d (0) (0) [vz (bI true)] h (sR none h) := by
  refine Kc.of (ls := [some (vz (bI true))]) (by decide +kernel) (Nat.le_of_ble_eq_true rfl) rfl ?_
  refine ev_iload_n dX1_checkElement_0 rfl ?_
  refine ev_if_neB (tgt := 12) dX1_checkElement_1 (by decide) (fun c1 => ?_) (fun c1 => by cases c1)
  refine ev_return dX1_checkElement_12 rfl ?_
  exact ⟨rfl, rfl⟩
theorem k_checkElementT {b : Bool} (hb : b = true) : Kc g mX1_checkElement d 0 0 [vz (bI b)] h (sR none h) := by rw [hb]; exact k_checkElement1
theorem k_checkElementF {b : Bool} (hG : GKx g) (hb : b = false) : Kc g mX1_checkElement 6 1 6 [vz (bI b)] h (fun r h' => ∃ q : Nat, r = .inr ("java/util/NoSuchElementException", q) ∧ h' = h) := by have := k_checkElement (b := b) (h := h) hG; rw [hb] at this ⊢; exact this
set_option maxRecDepth 100000 in
set_option maxHeartbeats 4000000 in
theorem k_checkAllowed1  : Kc g mX1_checkAllowed d (0) (0) [vz (bI true)] h (sR none h) := by
  refine Kc.of (ls := [some (vz (bI true))]) (by decide +kernel) (Nat.le_of_ble_eq_true rfl) rfl ?_
  refine ev_iload_n dX1_checkAllowed_0 rfl ?_
  refine ev_if_neB (tgt := 12) dX1_checkAllowed_1 (by decide) (fun c1 => ?_) (fun c1 => by cases c1)
  refine ev_return dX1_checkAllowed_12 rfl ?_
  exact ⟨rfl, rfl⟩
theorem k_checkAllowedT {b : Bool} (hb : b = true) : Kc g mX1_checkAllowed d 0 0 [vz (bI b)] h (sR none h) := by rw [hb]; exact k_checkAllowed1
theorem k_checkAllowedF {b : Bool} (hG : GKx g) (hb : b = false) : Kc g mX1_checkAllowed 6 1 6 [vz (bI b)] h (fun r h' => ∃ q : Nat, r = .inr ("java/lang/UnsupportedOperationException", q) ∧ h' = h) := by have := k_checkAllowed (b := b) (h := h) hG; rw [hb] at this ⊢; exact this
set_option maxRecDepth 100000 in
set_option maxHeartbeats 4000000 in
theorem k_isTakenX1 {st : Nat} {x p : Int} {A F : Nat → Int} (hst : h st = some (.inl (0, (8, .inl (fun j => zI (A j)))))) (hA : ∀ e : Nat, e < 8 → A e = F e) (hr : ∀ e : Nat, e < 8 → inR (F e)) (hx : inR x ∧ inR p) : Kc g mX1_isTaken d (0) (0) [vz x, vz p, .ref st] h (sR (some (vz (bI (takB F x p 8)))) h) := by
  refine Kc.of (ls := [some (vz x), some (vz p), some (.ref st), none, none]) (by decide +kernel) (Nat.le_of_ble_eq_true rfl) rfl ?_
  refine ev_iconstZ dX1_isTaken_0 ?_
  refine ev_istore_n dX1_isTaken_1 (by decide) rfl ?_
  dsimp only [List.set]
  refine ev_iconstZ dX1_isTaken_2 ?_
  refine ev_istore dX1_isTaken_3 (by decide) rfl ?_
  dsimp only [List.set]
  refine ev_for (st := []) 8 (fun i h1 => h1 = h) (fun i => [some (vz x), some (vz p), some (.ref st), some (vz (bI (takB F x p i))), some (vz ((i : Nat) : Int))]) 0 (Nat.zero_le _) rfl ⟨rfl, rfl, rfl, rfl, rfl, trivial⟩ (fun i h1 _ hi eh hK => ?_) (fun h1 eh => ?_)
  · subst eh
    have hr9 := hr i hi
    refine ev_iload dX1_isTaken_5 rfl ?_
    refine ev_bipushZ dX1_isTaken_7 rfl ?_
    refine ev_icmp_geZ (tgt := 45) dX1_isTaken_9 (by decide) (by omega) (by omega) (fun c9 => by omega) (fun c9 => ?_)
    refine ev_iload_n dX1_isTaken_12 rfl ?_
    refine ev_to (b := (((if takB F x p i then 1 else 0 : Nat)) : Int)) (by unfold bI; split <;> rfl) ?_
    refine ev_iload dX1_isTaken_13 rfl ?_
    refine ev_iload_n dX1_isTaken_15 rfl ?_
    refine ev_icmp_eqZ (tgt := 36) dX1_isTaken_16 (by decide) (by omega) (by omega) (fun c16 => ?_) (fun c16 => ?_)
    · refine ev_iconstZ dX1_isTaken_36 ?_
      refine ev_iorZ (a := (if takB F x p i then 1 else 0)) (b := 0) dX1_isTaken_37 (by split <;> omega) (by omega) ?_
      refine ev_istore_n dX1_isTaken_38 (by decide) rfl ?_
      dsimp only [List.set]
      refine ev_iincZ dX1_isTaken_39 rfl (by decide) rfl ?_
      dsimp only [List.set]
      refine ev_goto (tgt := 5) dX1_isTaken_42 (by decide) ?_
      refine hK _ _ ⟨rfl, rfl, rfl, vz_eq ?_, vz_eq (by omega), trivial⟩ rfl
      show _ = bI (takB F x p i || (decide (((i : Nat) : Int) ≠ x) && (decide (p ≠ -1) && decide (F i = p))))
      first | (rw [show (decide (((i : Nat) : Int) ≠ x) && (decide (p ≠ -1) && decide (F i = p))) = true by (simp <;> omega)]; cases takB F x p i <;> rfl) | (rw [show (decide (((i : Nat) : Int) ≠ x) && (decide (p ≠ -1) && decide (F i = p))) = false by (simp <;> omega)]; cases takB F x p i <;> rfl)
    · refine ev_iload_n dX1_isTaken_19 rfl ?_
      refine ev_iconstZ dX1_isTaken_20 ?_
      refine ev_icmp_eqZ (tgt := 36) dX1_isTaken_21 (by decide) (by omega) (by omega) (fun c21 => ?_) (fun c21 => ?_)
      · refine ev_iconstZ dX1_isTaken_36 ?_
        refine ev_iorZ (a := (if takB F x p i then 1 else 0)) (b := 0) dX1_isTaken_37 (by split <;> omega) (by omega) ?_
        refine ev_istore_n dX1_isTaken_38 (by decide) rfl ?_
        dsimp only [List.set]
        refine ev_iincZ dX1_isTaken_39 rfl (by decide) rfl ?_
        dsimp only [List.set]
        refine ev_goto (tgt := 5) dX1_isTaken_42 (by decide) ?_
        refine hK _ _ ⟨rfl, rfl, rfl, vz_eq ?_, vz_eq (by omega), trivial⟩ rfl
        show _ = bI (takB F x p i || (decide (((i : Nat) : Int) ≠ x) && (decide (p ≠ -1) && decide (F i = p))))
        first | (rw [show (decide (((i : Nat) : Int) ≠ x) && (decide (p ≠ -1) && decide (F i = p))) = true by (simp <;> omega)]; cases takB F x p i <;> rfl) | (rw [show (decide (((i : Nat) : Int) ≠ x) && (decide (p ≠ -1) && decide (F i = p))) = false by (simp <;> omega)]; cases takB F x p i <;> rfl)
      · refine ev_aload_n dX1_isTaken_24 rfl ?_
        refine ev_iload dX1_isTaken_25 rfl ?_
        refine ev_ialdY dX1_isTaken_27 hst (by omega) ?_
        rw [Int.toNat_natCast, hA i hi]
        refine ev_iload_n dX1_isTaken_28 rfl ?_
        refine ev_icmp_neZ (tgt := 36) dX1_isTaken_29 (by decide) (by omega) (by omega) (fun c29 => ?_) (fun c29 => ?_)
        · refine ev_iconstZ dX1_isTaken_36 ?_
          refine ev_iorZ (a := (if takB F x p i then 1 else 0)) (b := 0) dX1_isTaken_37 (by split <;> omega) (by omega) ?_
          refine ev_istore_n dX1_isTaken_38 (by decide) rfl ?_
          dsimp only [List.set]
          refine ev_iincZ dX1_isTaken_39 rfl (by decide) rfl ?_
          dsimp only [List.set]
          refine ev_goto (tgt := 5) dX1_isTaken_42 (by decide) ?_
          refine hK _ _ ⟨rfl, rfl, rfl, vz_eq ?_, vz_eq (by omega), trivial⟩ rfl
          show _ = bI (takB F x p i || (decide (((i : Nat) : Int) ≠ x) && (decide (p ≠ -1) && decide (F i = p))))
          first | (rw [show (decide (((i : Nat) : Int) ≠ x) && (decide (p ≠ -1) && decide (F i = p))) = true by (simp <;> omega)]; cases takB F x p i <;> rfl) | (rw [show (decide (((i : Nat) : Int) ≠ x) && (decide (p ≠ -1) && decide (F i = p))) = false by (simp <;> omega)]; cases takB F x p i <;> rfl)
        · refine ev_iconstZ dX1_isTaken_32 ?_
          refine ev_goto (tgt := 37) dX1_isTaken_33 (by decide) ?_
          refine ev_iorZ (a := (if takB F x p i then 1 else 0)) (b := 1) dX1_isTaken_37 (by split <;> omega) (by omega) ?_
          refine ev_istore_n dX1_isTaken_38 (by decide) rfl ?_
          dsimp only [List.set]
          refine ev_iincZ dX1_isTaken_39 rfl (by decide) rfl ?_
          dsimp only [List.set]
          refine ev_goto (tgt := 5) dX1_isTaken_42 (by decide) ?_
          refine hK _ _ ⟨rfl, rfl, rfl, vz_eq ?_, vz_eq (by omega), trivial⟩ rfl
          show _ = bI (takB F x p i || (decide (((i : Nat) : Int) ≠ x) && (decide (p ≠ -1) && decide (F i = p))))
          first | (rw [show (decide (((i : Nat) : Int) ≠ x) && (decide (p ≠ -1) && decide (F i = p))) = true by (simp <;> omega)]; cases takB F x p i <;> rfl) | (rw [show (decide (((i : Nat) : Int) ≠ x) && (decide (p ≠ -1) && decide (F i = p))) = false by (simp <;> omega)]; cases takB F x p i <;> rfl)
  · subst eh
    refine ev_iload dX1_isTaken_5 rfl ?_
    refine ev_bipushZ dX1_isTaken_7 rfl ?_
    refine ev_icmp_geZ (tgt := 45) dX1_isTaken_9 (by decide) (by omega) (by omega) (fun c9 => ?_) (fun c9 => by omega)
    refine ev_iload_n dX1_isTaken_45 rfl ?_
    refine ev_zreturn dX1_isTaken_46 rfl (by cases takB F x p 8 <;> rfl) ?_
    exact ⟨rfl, rfl⟩
end U5S

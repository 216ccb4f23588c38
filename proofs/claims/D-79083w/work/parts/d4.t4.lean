/-! THE COMPONENT: comparing longs, inRange, the checks (printed by gen) -/
section T4S
variable {g : GB} {M : MI} {d c k : Nat} {h : HM}
section
variable {Q : RS → HM → Prop} {pc : Nat} {ls : List (Option Value)} {st : List Value}
abbrev vl (a : Int) : Value := .long (zI a).toInt64
def cmI (a b : Int) : Int := if b < a then 1 else if a = b then 0 else -1
theorem ev_lcmpZ {a b : Int} (hd : decode M.2.1 pc = .ok (.lcmp, 1)) (ha : inR a) (hb : inR b) (kk : Ev g M d c k Q (pc + 1) ls (vz (cmI a b) :: st) h) : Ev g M d c k Q pc ls (vl b :: vl a :: st) h := by
  refine ev_lcmp (v := zI (cmI a b)) hd ?_ kk
  have e1 : ((zI a).toInt64 > (zI b).toInt64) = (b < a) := by
    show ((zI b).toInt64 < (zI a).toInt64) = _
    rw [Int32.toInt64_lt, zI_lt hb ha]
  have e2 : ((zI a).toInt64 = (zI b).toInt64) = (a = b) := by
    exact propext ⟨fun q => by have h1 := congrArg Int64.toInt q; rw [Int32.toInt_toInt64, Int32.toInt_toInt64, zI_toInt ha, zI_toInt hb] at h1; exact h1, fun q => by rw [q]⟩
  have e3 : (if (zI a).toInt64 > (zI b).toInt64 then (1 : Int32) else if (zI a).toInt64 = (zI b).toInt64 then 0 else -1) = zI (cmI a b) := by
    unfold cmI
    by_cases q1 : b < a
    · rw [if_pos (e1.mpr q1), if_pos q1]; rfl
    · rw [if_neg (fun q => q1 (e1.mp q)), if_neg q1]
      by_cases q2 : a = b
      · rw [if_pos (e2.mpr q2), if_pos q2]; rfl
      · rw [if_neg (fun q => q2 (e2.mp q)), if_neg q2]; rfl
  rw [← e3]; rfl
theorem ev_lconst0 (hd : decode M.2.1 pc = .ok (.lconst 0, 1)) (kk : Ev g M d c k Q (pc + 1) ls (vl 0 :: st) h) : Ev g M d c k Q pc ls st h := ev_lconst hd (by rw [show Int64.ofNat (0 : Fin 2) = (zI 0).toInt64 by decide]; exact kk)
theorem ev_lconst1 (hd : decode M.2.1 pc = .ok (.lconst 1, 1)) (kk : Ev g M d c k Q (pc + 1) ls (vl 1 :: st) h) : Ev g M d c k Q pc ls st h := ev_lconst hd (by rw [show Int64.ofNat (1 : Fin 2) = (zI 1).toInt64 by decide]; exact kk)
end
set_option maxRecDepth 100000 in
set_option maxHeartbeats 4000000 in
theorem k_inRange {a lo hi : Int} (ha : inR a ∧ inR lo ∧ inR hi) : Kc g mX1_inRange d (0) (0) [vl a, vl lo, vl hi] h (sR (some (vz (bI (decide (lo ≤ a ∧ a ≤ hi))))) h) := by
  refine Kc.of (ls := [some (vl a), none, some (vl lo), none, some (vl hi), none]) (by decide +kernel) (Nat.le_of_ble_eq_true rfl) rfl ?_
  refine ev_lload_n dX1_inRange_0 rfl ?_
  refine ev_lload_n dX1_inRange_1 rfl ?_
  refine ev_lcmpZ dX1_inRange_2 (by omega) (by omega) ?_
  refine ev_if_ltZ (tgt := 17) dX1_inRange_3 (by decide) (by unfold cmI; (repeat' split) <;> omega) (fun c3 => ?_) (fun c3 => ?_)
  · have e1 : ¬ lo ≤ a := fun q => by unfold cmI at c3; (repeat' split at c3) <;> omega
    refine ev_iconstZ dX1_inRange_17 ?_
    refine ev_zreturn dX1_inRange_18 rfl rfl ?_
    exact ⟨congrArg Sum.inl (congrArg some (by rw [bI_dec]; first | rw [if_pos (by omega)] | rw [if_neg (by omega)])), rfl⟩
  · have e1 : lo ≤ a := Decidable.byContradiction (fun q => by unfold cmI at c3; (repeat' split at c3) <;> omega)
    refine ev_lload_n dX1_inRange_6 rfl ?_
    refine ev_lload dX1_inRange_7 rfl ?_
    refine ev_lcmpZ dX1_inRange_9 (by omega) (by omega) ?_
    refine ev_if_gtZ (tgt := 17) dX1_inRange_10 (by decide) (by unfold cmI; (repeat' split) <;> omega) (fun c10 => ?_) (fun c10 => ?_)
    · have e2 : ¬ a ≤ hi := fun q => by unfold cmI at c10; (repeat' split at c10) <;> omega
      refine ev_iconstZ dX1_inRange_17 ?_
      refine ev_zreturn dX1_inRange_18 rfl rfl ?_
      exact ⟨congrArg Sum.inl (congrArg some (by rw [bI_dec]; first | rw [if_pos (by omega)] | rw [if_neg (by omega)])), rfl⟩
    · have e2 : a ≤ hi := Decidable.byContradiction (fun q => by unfold cmI at c10; (repeat' split at c10) <;> omega)
      refine ev_iconstZ dX1_inRange_13 ?_
      refine ev_goto (tgt := 18) dX1_inRange_14 (by decide) ?_
      refine ev_zreturn dX1_inRange_18 rfl rfl ?_
      exact ⟨congrArg Sum.inl (congrArg some (by rw [bI_dec]; first | rw [if_pos (by omega)] | rw [if_neg (by omega)])), rfl⟩
set_option maxRecDepth 100000 in
set_option maxHeartbeats 4000000 in
theorem k_checkArgument {b : Bool} (hG : GKx g) : Kc g mX1_checkArgument 6 (1) (6) [vz (bI b)] h (if b then fun r h' => r = .inl none ∧ h' = h else fun r h' => ∃ q : Nat, r = .inr ("java/lang/IllegalArgumentException", q) ∧ h' = h) := by
  refine Kc.of (ls := [some (vz (bI b))]) (by decide +kernel) (Nat.le_of_ble_eq_true rfl) rfl ?_
  refine ev_iload_n dX1_checkArgument_0 rfl ?_
  refine ev_if_neB (tgt := 12) dX1_checkArgument_1 (by decide) (fun c1 => ?_) (fun c1 => ?_)
  · subst c1
    refine ev_return dX1_checkArgument_12 rfl ?_
    exact ⟨rfl, rfl⟩
  · subst c1
    refine ev_throw0 (cls := "java/lang/IllegalArgumentException") (names := ["java/lang/RuntimeException", "java/lang/Exception"]) (ik := 1) (ic := 3) hG (by decide +kernel) (by decide +kernel) q1415 q133 [130, 400, 409, 419, 422, 424, 401, 402, 183, 184, 403, 408, 420, 643, 390, 644, 392, 645, 394, 404, 406, 396, 1417, 1418, 1419, 848, 381, 848, 849, 850, 851, 383, 851, 852, 853, 401, 385, 1416, 615, 616, 617, 415, 618, 619, 620, 621, 641, 398, 622] (by decide +kernel) (by decide +kernel) (by decide +kernel) dX1_checkArgument_4 dX1_checkArgument_7 dX1_checkArgument_8 dX1_checkArgument_11 (by decide +kernel) (by simp only [List.length_cons, List.length_nil]; omega) (Nat.le_of_ble_eq_true rfl) (by omega) (by omega) (fun q => ⟨q, rfl, rfl⟩)
set_option maxRecDepth 100000 in
set_option maxHeartbeats 4000000 in
theorem k_checkIndex {b : Bool} (hG : GKx g) : Kc g mX1_checkIndex 6 (1) (6) [vz (bI b)] h (if b then fun r h' => r = .inl none ∧ h' = h else fun r h' => ∃ q : Nat, r = .inr ("java/lang/IndexOutOfBoundsException", q) ∧ h' = h) := by
  refine Kc.of (ls := [some (vz (bI b))]) (by decide +kernel) (Nat.le_of_ble_eq_true rfl) rfl ?_
  refine ev_iload_n dX1_checkIndex_0 rfl ?_
  refine ev_if_neB (tgt := 12) dX1_checkIndex_1 (by decide) (fun c1 => ?_) (fun c1 => ?_)
  · subst c1
    refine ev_return dX1_checkIndex_12 rfl ?_
    exact ⟨rfl, rfl⟩
  · subst c1
    refine ev_throw0 (cls := "java/lang/IndexOutOfBoundsException") (names := ["java/lang/RuntimeException", "java/lang/Exception"]) (ik := 7) (ic := 9) hG (by decide +kernel) (by decide +kernel) q1465 q134 [130, 400, 409, 419, 422, 424, 401, 402, 183, 184, 403, 408, 420, 643, 390, 644, 392, 645, 394, 404, 406, 396, 882, 883, 884, 848, 381, 848, 849, 850, 851, 383, 851, 852, 853, 401, 385, 1466, 379, 380, 387, 388, 389, 391, 393, 395, 641, 398, 397] (by decide +kernel) (by decide +kernel) (by decide +kernel) dX1_checkIndex_4 dX1_checkIndex_7 dX1_checkIndex_8 dX1_checkIndex_11 (by decide +kernel) (by simp only [List.length_cons, List.length_nil]; omega) (Nat.le_of_ble_eq_true rfl) (by omega) (by omega) (fun q => ⟨q, rfl, rfl⟩)
set_option maxRecDepth 100000 in
set_option maxHeartbeats 4000000 in
theorem k_checkElement {b : Bool} (hG : GKx g) : Kc g mX1_checkElement 6 (1) (6) [vz (bI b)] h (if b then fun r h' => r = .inl none ∧ h' = h else fun r h' => ∃ q : Nat, r = .inr ("java/util/NoSuchElementException", q) ∧ h' = h) := by
  refine Kc.of (ls := [some (vz (bI b))]) (by decide +kernel) (Nat.le_of_ble_eq_true rfl) rfl ?_
  refine ev_iload_n dX1_checkElement_0 rfl ?_
  refine ev_if_neB (tgt := 12) dX1_checkElement_1 (by decide) (fun c1 => ?_) (fun c1 => ?_)
  · subst c1
    refine ev_return dX1_checkElement_12 rfl ?_
    exact ⟨rfl, rfl⟩
  · subst c1
    refine ev_throw0 (cls := "java/util/NoSuchElementException") (names := ["java/lang/RuntimeException", "java/lang/Exception"]) (ik := 10) (ic := 12) hG (by decide +kernel) (by decide +kernel) q2108 q139 [130, 400, 409, 419, 422, 424, 401, 402, 183, 184, 403, 408, 420, 643, 390, 644, 392, 645, 394, 404, 406, 396, 845, 846, 847, 848, 381, 848, 849, 850, 851, 383, 851, 852, 853, 401, 385, 2109, 836, 837, 838, 418, 839, 840, 841, 842, 641, 398, 843] (by decide +kernel) (by decide +kernel) (by decide +kernel) dX1_checkElement_4 dX1_checkElement_7 dX1_checkElement_8 dX1_checkElement_11 (by decide +kernel) (by simp only [List.length_cons, List.length_nil]; omega) (Nat.le_of_ble_eq_true rfl) (by omega) (by omega) (fun q => ⟨q, rfl, rfl⟩)
set_option maxRecDepth 100000 in
set_option maxHeartbeats 4000000 in
theorem k_checkAllowed {b : Bool} (hG : GKx g) : Kc g mX1_checkAllowed 6 (1) (6) [vz (bI b)] h (if b then fun r h' => r = .inl none ∧ h' = h else fun r h' => ∃ q : Nat, r = .inr ("java/lang/UnsupportedOperationException", q) ∧ h' = h) := by
  refine Kc.of (ls := [some (vz (bI b))]) (by decide +kernel) (Nat.le_of_ble_eq_true rfl) rfl ?_
  refine ev_iload_n dX1_checkAllowed_0 rfl ?_
  refine ev_if_neB (tgt := 12) dX1_checkAllowed_1 (by decide) (fun c1 => ?_) (fun c1 => ?_)
  · subst c1
    refine ev_return dX1_checkAllowed_12 rfl ?_
    exact ⟨rfl, rfl⟩
  · subst c1
    refine ev_throw0 (cls := "java/lang/UnsupportedOperationException") (names := ["java/lang/RuntimeException", "java/lang/Exception"]) (ik := 13) (ic := 15) hG (by decide +kernel) (by decide +kernel) q1566 q149 [130, 400, 409, 419, 422, 424, 401, 402, 183, 184, 403, 408, 420, 643, 390, 644, 392, 645, 394, 404, 406, 396, 1576, 1577, 1578, 848, 381, 848, 849, 850, 851, 383, 851, 852, 853, 401, 385, 1575, 1567, 1568, 1569, 417, 1570, 1571, 1572, 1573, 641, 398, 1574] (by decide +kernel) (by decide +kernel) (by decide +kernel) dX1_checkAllowed_4 dX1_checkAllowed_7 dX1_checkAllowed_8 dX1_checkAllowed_11 (by decide +kernel) (by simp only [List.length_cons, List.length_nil]; omega) (Nat.le_of_ble_eq_true rfl) (by omega) (by omega) (fun q => ⟨q, rfl, rfl⟩)
end T4S

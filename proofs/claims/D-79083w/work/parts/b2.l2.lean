/-! THE COMPONENT: functions of steps, the rules of a score (printed by gen) -/
section L2S
variable {g : GB} {M : MI} {d c k : Nat} {h : HM}
def mirN (x : Nat) : Nat := if x > 2 then oppN x else x
/-- what becomes of a step by a rule -/
def ruN (r x : Nat) : Nat := match r with
  | 0 => x
  | 1 => mirN x
  | 2 => oppN x
  | _ => mirN (oppN x)
theorem ruN_4 {r x : Nat} (hx : x ≤ 4) : ruN r x ≤ 4 := by
  have h : ∀ x : Fin 5, mirN x.val ≤ 4 ∧ oppN x.val ≤ 4 ∧ mirN (oppN x.val) ≤ 4 := by decide
  obtain ⟨h1, h2, h3⟩ := h ⟨x, by omega⟩
  unfold ruN
  split
  · exact hx
  · exact h1
  · exact h2
  · exact h3
theorem ruN_0 (r : Nat) : ruN r 0 = 0 := by unfold ruN; split <;> rfl
theorem ruN_m {r x : Nat} (hr : r < 4) (hx : x ≤ 4) : ruN r (mirN x) = ruN (r ^^^ 1) x := by
  have h : ∀ (r : Fin 4) (x : Fin 5), ruN r.val (mirN x.val) = ruN (r.val ^^^ 1) x.val := by decide
  exact h ⟨r, hr⟩ ⟨x, by omega⟩
theorem ruN_t {r x : Nat} (hr : r < 4) (hx : x ≤ 4) : ruN r (oppN x) = ruN (r ^^^ 2) x := by
  have h : ∀ (r : Fin 4) (x : Fin 5), ruN r.val (oppN x.val) = ruN (r.val ^^^ 2) x.val := by decide
  exact h ⟨r, hr⟩ ⟨x, by omega⟩
set_option maxRecDepth 100000 in
set_option maxHeartbeats 4000000 in
theorem k_rowsOf {x : Nat} (hx : x ≤ 4) : Kc g mX1_rowsOf d 0 0 [vz ((sgN x : Nat) : Int)] h (sR (some (vz (alo (x : Int)))) h) := by
  have hc : x = 0 ∨ x = 1 ∨ x = 2 ∨ x = 3 ∨ x = 4 := by omega
  rcases hc with rfl | rfl | rfl | rfl | rfl
  · show Kc g mX1_rowsOf d 0 0 [vz 46] h (sR (some (vz (0))) h)
    refine Kc.of (ls := [some (vz 46)]) (by decide +kernel) (Nat.le_of_ble_eq_true rfl) rfl ?_
    refine ev_iload_n dX1_rowsOf_0 rfl ?_
    refine ev_bipushZ dX1_rowsOf_1 rfl ?_
    refine ev_icmp_neZ (tgt := 10) dX1_rowsOf_3 (by decide) (by omega) (by omega) (fun c3 => ?_) (fun c3 => by omega)
    refine ev_iload_n dX1_rowsOf_10 rfl ?_
    refine ev_bipushZ dX1_rowsOf_11 rfl ?_
    refine ev_icmp_neZ (tgt := 20) dX1_rowsOf_13 (by decide) (by omega) (by omega) (fun c13 => ?_) (fun c13 => by omega)
    refine ev_iconstZ dX1_rowsOf_20 ?_
    refine ev_ireturn dX1_rowsOf_21 rfl ?_
    exact ⟨rfl, rfl⟩
  · show Kc g mX1_rowsOf d 0 0 [vz 110] h (sR (some (vz (1))) h)
    refine Kc.of (ls := [some (vz 110)]) (by decide +kernel) (Nat.le_of_ble_eq_true rfl) rfl ?_
    refine ev_iload_n dX1_rowsOf_0 rfl ?_
    refine ev_bipushZ dX1_rowsOf_1 rfl ?_
    refine ev_icmp_neZ (tgt := 10) dX1_rowsOf_3 (by decide) (by omega) (by omega) (fun c3 => by omega) (fun c3 => ?_)
    refine ev_iconstZ dX1_rowsOf_6 ?_
    refine ev_goto (tgt := 21) dX1_rowsOf_7 (by decide) ?_
    refine ev_ireturn dX1_rowsOf_21 rfl ?_
    exact ⟨rfl, rfl⟩
  · show Kc g mX1_rowsOf d 0 0 [vz 115] h (sR (some (vz (-1))) h)
    refine Kc.of (ls := [some (vz 115)]) (by decide +kernel) (Nat.le_of_ble_eq_true rfl) rfl ?_
    refine ev_iload_n dX1_rowsOf_0 rfl ?_
    refine ev_bipushZ dX1_rowsOf_1 rfl ?_
    refine ev_icmp_neZ (tgt := 10) dX1_rowsOf_3 (by decide) (by omega) (by omega) (fun c3 => ?_) (fun c3 => by omega)
    refine ev_iload_n dX1_rowsOf_10 rfl ?_
    refine ev_bipushZ dX1_rowsOf_11 rfl ?_
    refine ev_icmp_neZ (tgt := 20) dX1_rowsOf_13 (by decide) (by omega) (by omega) (fun c13 => by omega) (fun c13 => ?_)
    refine ev_iconstZ dX1_rowsOf_16 ?_
    refine ev_goto (tgt := 21) dX1_rowsOf_17 (by decide) ?_
    refine ev_ireturn dX1_rowsOf_21 rfl ?_
    exact ⟨rfl, rfl⟩
  · show Kc g mX1_rowsOf d 0 0 [vz 101] h (sR (some (vz (0))) h)
    refine Kc.of (ls := [some (vz 101)]) (by decide +kernel) (Nat.le_of_ble_eq_true rfl) rfl ?_
    refine ev_iload_n dX1_rowsOf_0 rfl ?_
    refine ev_bipushZ dX1_rowsOf_1 rfl ?_
    refine ev_icmp_neZ (tgt := 10) dX1_rowsOf_3 (by decide) (by omega) (by omega) (fun c3 => ?_) (fun c3 => by omega)
    refine ev_iload_n dX1_rowsOf_10 rfl ?_
    refine ev_bipushZ dX1_rowsOf_11 rfl ?_
    refine ev_icmp_neZ (tgt := 20) dX1_rowsOf_13 (by decide) (by omega) (by omega) (fun c13 => ?_) (fun c13 => by omega)
    refine ev_iconstZ dX1_rowsOf_20 ?_
    refine ev_ireturn dX1_rowsOf_21 rfl ?_
    exact ⟨rfl, rfl⟩
  · show Kc g mX1_rowsOf d 0 0 [vz 119] h (sR (some (vz (0))) h)
    refine Kc.of (ls := [some (vz 119)]) (by decide +kernel) (Nat.le_of_ble_eq_true rfl) rfl ?_
    refine ev_iload_n dX1_rowsOf_0 rfl ?_
    refine ev_bipushZ dX1_rowsOf_1 rfl ?_
    refine ev_icmp_neZ (tgt := 10) dX1_rowsOf_3 (by decide) (by omega) (by omega) (fun c3 => ?_) (fun c3 => by omega)
    refine ev_iload_n dX1_rowsOf_10 rfl ?_
    refine ev_bipushZ dX1_rowsOf_11 rfl ?_
    refine ev_icmp_neZ (tgt := 20) dX1_rowsOf_13 (by decide) (by omega) (by omega) (fun c13 => ?_) (fun c13 => by omega)
    refine ev_iconstZ dX1_rowsOf_20 ?_
    refine ev_ireturn dX1_rowsOf_21 rfl ?_
    exact ⟨rfl, rfl⟩
set_option maxRecDepth 100000 in
set_option maxHeartbeats 4000000 in
theorem k_columnsOf {x : Nat} (hx : x ≤ 4) : Kc g mX1_columnsOf d 0 0 [vz ((sgN x : Nat) : Int)] h (sR (some (vz (acr (x : Int)))) h) := by
  have hc : x = 0 ∨ x = 1 ∨ x = 2 ∨ x = 3 ∨ x = 4 := by omega
  rcases hc with rfl | rfl | rfl | rfl | rfl
  · show Kc g mX1_columnsOf d 0 0 [vz 46] h (sR (some (vz (0))) h)
    refine Kc.of (ls := [some (vz 46)]) (by decide +kernel) (Nat.le_of_ble_eq_true rfl) rfl ?_
    refine ev_iload_n dX1_columnsOf_0 rfl ?_
    refine ev_bipushZ dX1_columnsOf_1 rfl ?_
    refine ev_icmp_neZ (tgt := 10) dX1_columnsOf_3 (by decide) (by omega) (by omega) (fun c3 => ?_) (fun c3 => by omega)
    refine ev_iload_n dX1_columnsOf_10 rfl ?_
    refine ev_bipushZ dX1_columnsOf_11 rfl ?_
    refine ev_icmp_neZ (tgt := 20) dX1_columnsOf_13 (by decide) (by omega) (by omega) (fun c13 => ?_) (fun c13 => by omega)
    refine ev_iconstZ dX1_columnsOf_20 ?_
    refine ev_ireturn dX1_columnsOf_21 rfl ?_
    exact ⟨rfl, rfl⟩
  · show Kc g mX1_columnsOf d 0 0 [vz 110] h (sR (some (vz (0))) h)
    refine Kc.of (ls := [some (vz 110)]) (by decide +kernel) (Nat.le_of_ble_eq_true rfl) rfl ?_
    refine ev_iload_n dX1_columnsOf_0 rfl ?_
    refine ev_bipushZ dX1_columnsOf_1 rfl ?_
    refine ev_icmp_neZ (tgt := 10) dX1_columnsOf_3 (by decide) (by omega) (by omega) (fun c3 => ?_) (fun c3 => by omega)
    refine ev_iload_n dX1_columnsOf_10 rfl ?_
    refine ev_bipushZ dX1_columnsOf_11 rfl ?_
    refine ev_icmp_neZ (tgt := 20) dX1_columnsOf_13 (by decide) (by omega) (by omega) (fun c13 => ?_) (fun c13 => by omega)
    refine ev_iconstZ dX1_columnsOf_20 ?_
    refine ev_ireturn dX1_columnsOf_21 rfl ?_
    exact ⟨rfl, rfl⟩
  · show Kc g mX1_columnsOf d 0 0 [vz 115] h (sR (some (vz (0))) h)
    refine Kc.of (ls := [some (vz 115)]) (by decide +kernel) (Nat.le_of_ble_eq_true rfl) rfl ?_
    refine ev_iload_n dX1_columnsOf_0 rfl ?_
    refine ev_bipushZ dX1_columnsOf_1 rfl ?_
    refine ev_icmp_neZ (tgt := 10) dX1_columnsOf_3 (by decide) (by omega) (by omega) (fun c3 => ?_) (fun c3 => by omega)
    refine ev_iload_n dX1_columnsOf_10 rfl ?_
    refine ev_bipushZ dX1_columnsOf_11 rfl ?_
    refine ev_icmp_neZ (tgt := 20) dX1_columnsOf_13 (by decide) (by omega) (by omega) (fun c13 => ?_) (fun c13 => by omega)
    refine ev_iconstZ dX1_columnsOf_20 ?_
    refine ev_ireturn dX1_columnsOf_21 rfl ?_
    exact ⟨rfl, rfl⟩
  · show Kc g mX1_columnsOf d 0 0 [vz 101] h (sR (some (vz (1))) h)
    refine Kc.of (ls := [some (vz 101)]) (by decide +kernel) (Nat.le_of_ble_eq_true rfl) rfl ?_
    refine ev_iload_n dX1_columnsOf_0 rfl ?_
    refine ev_bipushZ dX1_columnsOf_1 rfl ?_
    refine ev_icmp_neZ (tgt := 10) dX1_columnsOf_3 (by decide) (by omega) (by omega) (fun c3 => by omega) (fun c3 => ?_)
    refine ev_iconstZ dX1_columnsOf_6 ?_
    refine ev_goto (tgt := 21) dX1_columnsOf_7 (by decide) ?_
    refine ev_ireturn dX1_columnsOf_21 rfl ?_
    exact ⟨rfl, rfl⟩
  · show Kc g mX1_columnsOf d 0 0 [vz 119] h (sR (some (vz (-1))) h)
    refine Kc.of (ls := [some (vz 119)]) (by decide +kernel) (Nat.le_of_ble_eq_true rfl) rfl ?_
    refine ev_iload_n dX1_columnsOf_0 rfl ?_
    refine ev_bipushZ dX1_columnsOf_1 rfl ?_
    refine ev_icmp_neZ (tgt := 10) dX1_columnsOf_3 (by decide) (by omega) (by omega) (fun c3 => ?_) (fun c3 => by omega)
    refine ev_iload_n dX1_columnsOf_10 rfl ?_
    refine ev_bipushZ dX1_columnsOf_11 rfl ?_
    refine ev_icmp_neZ (tgt := 20) dX1_columnsOf_13 (by decide) (by omega) (by omega) (fun c13 => by omega) (fun c13 => ?_)
    refine ev_iconstZ dX1_columnsOf_16 ?_
    refine ev_goto (tgt := 21) dX1_columnsOf_17 (by decide) ?_
    refine ev_ireturn dX1_columnsOf_21 rfl ?_
    exact ⟨rfl, rfl⟩
set_option maxRecDepth 100000 in
set_option maxHeartbeats 4000000 in
theorem k_mirrored {x : Nat} (hx : x ≤ 4) : Kc g mX1_mirrored d 0 0 [vz ((sgN x : Nat) : Int)] h (sR (some (vz ((sgN (mirN x) : Nat) : Int))) h) := by
  have hc : x = 0 ∨ x = 1 ∨ x = 2 ∨ x = 3 ∨ x = 4 := by omega
  rcases hc with rfl | rfl | rfl | rfl | rfl
  · show Kc g mX1_mirrored d 0 0 [vz 46] h (sR (some (vz (46))) h)
    refine Kc.of (ls := [some (vz 46)]) (by decide +kernel) (Nat.le_of_ble_eq_true rfl) rfl ?_
    refine ev_iload_n dX1_mirrored_0 rfl ?_
    refine ev_bipushZ dX1_mirrored_1 rfl ?_
    refine ev_icmp_neZ (tgt := 11) dX1_mirrored_3 (by decide) (by omega) (by omega) (fun c3 => ?_) (fun c3 => by omega)
    refine ev_iload_n dX1_mirrored_11 rfl ?_
    refine ev_bipushZ dX1_mirrored_12 rfl ?_
    refine ev_icmp_neZ (tgt := 22) dX1_mirrored_14 (by decide) (by omega) (by omega) (fun c14 => ?_) (fun c14 => by omega)
    refine ev_iload_n dX1_mirrored_22 rfl ?_
    refine ev_zreturn dX1_mirrored_23 rfl (by decide +kernel) ?_
    exact ⟨rfl, rfl⟩
  · show Kc g mX1_mirrored d 0 0 [vz 110] h (sR (some (vz (110))) h)
    refine Kc.of (ls := [some (vz 110)]) (by decide +kernel) (Nat.le_of_ble_eq_true rfl) rfl ?_
    refine ev_iload_n dX1_mirrored_0 rfl ?_
    refine ev_bipushZ dX1_mirrored_1 rfl ?_
    refine ev_icmp_neZ (tgt := 11) dX1_mirrored_3 (by decide) (by omega) (by omega) (fun c3 => ?_) (fun c3 => by omega)
    refine ev_iload_n dX1_mirrored_11 rfl ?_
    refine ev_bipushZ dX1_mirrored_12 rfl ?_
    refine ev_icmp_neZ (tgt := 22) dX1_mirrored_14 (by decide) (by omega) (by omega) (fun c14 => ?_) (fun c14 => by omega)
    refine ev_iload_n dX1_mirrored_22 rfl ?_
    refine ev_zreturn dX1_mirrored_23 rfl (by decide +kernel) ?_
    exact ⟨rfl, rfl⟩
  · show Kc g mX1_mirrored d 0 0 [vz 115] h (sR (some (vz (115))) h)
    refine Kc.of (ls := [some (vz 115)]) (by decide +kernel) (Nat.le_of_ble_eq_true rfl) rfl ?_
    refine ev_iload_n dX1_mirrored_0 rfl ?_
    refine ev_bipushZ dX1_mirrored_1 rfl ?_
    refine ev_icmp_neZ (tgt := 11) dX1_mirrored_3 (by decide) (by omega) (by omega) (fun c3 => ?_) (fun c3 => by omega)
    refine ev_iload_n dX1_mirrored_11 rfl ?_
    refine ev_bipushZ dX1_mirrored_12 rfl ?_
    refine ev_icmp_neZ (tgt := 22) dX1_mirrored_14 (by decide) (by omega) (by omega) (fun c14 => ?_) (fun c14 => by omega)
    refine ev_iload_n dX1_mirrored_22 rfl ?_
    refine ev_zreturn dX1_mirrored_23 rfl (by decide +kernel) ?_
    exact ⟨rfl, rfl⟩
  · show Kc g mX1_mirrored d 0 0 [vz 101] h (sR (some (vz (119))) h)
    refine Kc.of (ls := [some (vz 101)]) (by decide +kernel) (Nat.le_of_ble_eq_true rfl) rfl ?_
    refine ev_iload_n dX1_mirrored_0 rfl ?_
    refine ev_bipushZ dX1_mirrored_1 rfl ?_
    refine ev_icmp_neZ (tgt := 11) dX1_mirrored_3 (by decide) (by omega) (by omega) (fun c3 => by omega) (fun c3 => ?_)
    refine ev_bipushZ dX1_mirrored_6 rfl ?_
    refine ev_goto (tgt := 23) dX1_mirrored_8 (by decide) ?_
    refine ev_zreturn dX1_mirrored_23 rfl (by decide +kernel) ?_
    exact ⟨rfl, rfl⟩
  · show Kc g mX1_mirrored d 0 0 [vz 119] h (sR (some (vz (101))) h)
    refine Kc.of (ls := [some (vz 119)]) (by decide +kernel) (Nat.le_of_ble_eq_true rfl) rfl ?_
    refine ev_iload_n dX1_mirrored_0 rfl ?_
    refine ev_bipushZ dX1_mirrored_1 rfl ?_
    refine ev_icmp_neZ (tgt := 11) dX1_mirrored_3 (by decide) (by omega) (by omega) (fun c3 => ?_) (fun c3 => by omega)
    refine ev_iload_n dX1_mirrored_11 rfl ?_
    refine ev_bipushZ dX1_mirrored_12 rfl ?_
    refine ev_icmp_neZ (tgt := 22) dX1_mirrored_14 (by decide) (by omega) (by omega) (fun c14 => by omega) (fun c14 => ?_)
    refine ev_bipushZ dX1_mirrored_17 rfl ?_
    refine ev_goto (tgt := 23) dX1_mirrored_19 (by decide) ?_
    refine ev_zreturn dX1_mirrored_23 rfl (by decide +kernel) ?_
    exact ⟨rfl, rfl⟩
set_option maxRecDepth 100000 in
set_option maxHeartbeats 4000000 in
theorem k_oppositeC {x : Nat} (hx : x ≤ 4) (hd : 2 ≤ d) : Kc g mX1_opposite d 0 0 [vz ((sgN x : Nat) : Int)] h (sR (some (vz ((sgN (oppN x) : Nat) : Int))) h) := by
  have hc : x = 0 ∨ x = 1 ∨ x = 2 ∨ x = 3 ∨ x = 4 := by omega
  rcases hc with rfl | rfl | rfl | rfl | rfl
  · show Kc g mX1_opposite d 0 0 [vz 46] h (sR (some (vz (46))) h)
    refine Kc.of (ls := [some (vz 46)]) (by decide +kernel) (Nat.le_of_ble_eq_true rfl) rfl ?_
    refine ev_iload_n dX1_opposite_0 rfl ?_
    refine ev_bipushZ dX1_opposite_1 rfl ?_
    refine ev_icmp_neZ (tgt := 11) dX1_opposite_3 (by decide) (by omega) (by omega) (fun c3 => ?_) (fun c3 => by omega)
    refine ev_iload_n dX1_opposite_11 rfl ?_
    refine ev_bipushZ dX1_opposite_12 rfl ?_
    refine ev_icmp_neZ (tgt := 22) dX1_opposite_14 (by decide) (by omega) (by omega) (fun c14 => ?_) (fun c14 => by omega)
    refine ev_iload_n dX1_opposite_22 rfl ?_
    refine ev_callSE dX1_opposite_23 cs_X1_25 ce_X1_mirrored rfl rfl (k_mirrored (d := 1) (x := 0) (by decide)) (by omega) (Nat.le_of_ble_eq_true rfl) ?_
    refine ev_zreturn dX1_opposite_26 rfl (by decide +kernel) ?_
    exact ⟨rfl, rfl⟩
  · show Kc g mX1_opposite d 0 0 [vz 110] h (sR (some (vz (115))) h)
    refine Kc.of (ls := [some (vz 110)]) (by decide +kernel) (Nat.le_of_ble_eq_true rfl) rfl ?_
    refine ev_iload_n dX1_opposite_0 rfl ?_
    refine ev_bipushZ dX1_opposite_1 rfl ?_
    refine ev_icmp_neZ (tgt := 11) dX1_opposite_3 (by decide) (by omega) (by omega) (fun c3 => by omega) (fun c3 => ?_)
    refine ev_bipushZ dX1_opposite_6 rfl ?_
    refine ev_goto (tgt := 26) dX1_opposite_8 (by decide) ?_
    refine ev_zreturn dX1_opposite_26 rfl (by decide +kernel) ?_
    exact ⟨rfl, rfl⟩
  · show Kc g mX1_opposite d 0 0 [vz 115] h (sR (some (vz (110))) h)
    refine Kc.of (ls := [some (vz 115)]) (by decide +kernel) (Nat.le_of_ble_eq_true rfl) rfl ?_
    refine ev_iload_n dX1_opposite_0 rfl ?_
    refine ev_bipushZ dX1_opposite_1 rfl ?_
    refine ev_icmp_neZ (tgt := 11) dX1_opposite_3 (by decide) (by omega) (by omega) (fun c3 => ?_) (fun c3 => by omega)
    refine ev_iload_n dX1_opposite_11 rfl ?_
    refine ev_bipushZ dX1_opposite_12 rfl ?_
    refine ev_icmp_neZ (tgt := 22) dX1_opposite_14 (by decide) (by omega) (by omega) (fun c14 => by omega) (fun c14 => ?_)
    refine ev_bipushZ dX1_opposite_17 rfl ?_
    refine ev_goto (tgt := 26) dX1_opposite_19 (by decide) ?_
    refine ev_zreturn dX1_opposite_26 rfl (by decide +kernel) ?_
    exact ⟨rfl, rfl⟩
  · show Kc g mX1_opposite d 0 0 [vz 101] h (sR (some (vz (119))) h)
    refine Kc.of (ls := [some (vz 101)]) (by decide +kernel) (Nat.le_of_ble_eq_true rfl) rfl ?_
    refine ev_iload_n dX1_opposite_0 rfl ?_
    refine ev_bipushZ dX1_opposite_1 rfl ?_
    refine ev_icmp_neZ (tgt := 11) dX1_opposite_3 (by decide) (by omega) (by omega) (fun c3 => ?_) (fun c3 => by omega)
    refine ev_iload_n dX1_opposite_11 rfl ?_
    refine ev_bipushZ dX1_opposite_12 rfl ?_
    refine ev_icmp_neZ (tgt := 22) dX1_opposite_14 (by decide) (by omega) (by omega) (fun c14 => ?_) (fun c14 => by omega)
    refine ev_iload_n dX1_opposite_22 rfl ?_
    refine ev_callSE dX1_opposite_23 cs_X1_25 ce_X1_mirrored rfl rfl (k_mirrored (d := 1) (x := 3) (by decide)) (by omega) (Nat.le_of_ble_eq_true rfl) ?_
    refine ev_zreturn dX1_opposite_26 rfl (by decide +kernel) ?_
    exact ⟨rfl, rfl⟩
  · show Kc g mX1_opposite d 0 0 [vz 119] h (sR (some (vz (101))) h)
    refine Kc.of (ls := [some (vz 119)]) (by decide +kernel) (Nat.le_of_ble_eq_true rfl) rfl ?_
    refine ev_iload_n dX1_opposite_0 rfl ?_
    refine ev_bipushZ dX1_opposite_1 rfl ?_
    refine ev_icmp_neZ (tgt := 11) dX1_opposite_3 (by decide) (by omega) (by omega) (fun c3 => ?_) (fun c3 => by omega)
    refine ev_iload_n dX1_opposite_11 rfl ?_
    refine ev_bipushZ dX1_opposite_12 rfl ?_
    refine ev_icmp_neZ (tgt := 22) dX1_opposite_14 (by decide) (by omega) (by omega) (fun c14 => ?_) (fun c14 => by omega)
    refine ev_iload_n dX1_opposite_22 rfl ?_
    refine ev_callSE dX1_opposite_23 cs_X1_25 ce_X1_mirrored rfl rfl (k_mirrored (d := 1) (x := 4) (by decide)) (by omega) (Nat.le_of_ble_eq_true rfl) ?_
    refine ev_zreturn dX1_opposite_26 rfl (by decide +kernel) ?_
    exact ⟨rfl, rfl⟩
set_option maxRecDepth 100000 in
set_option maxHeartbeats 4000000 in
theorem k_lam0 {x : Nat} (hx : x ≤ 4) (hd : 4 ≤ d) : Kc g mX5_lambda_new_0 d 0 0 [vz ((sgN x : Nat) : Int)] h (sR (some (vz ((sgN (ruN 0 x) : Nat) : Int))) h) := by
  have hc : x = 0 ∨ x = 1 ∨ x = 2 ∨ x = 3 ∨ x = 4 := by omega
  rcases hc with rfl | rfl | rfl | rfl | rfl
  · show Kc g mX5_lambda_new_0 d 0 0 [vz 46] h (sR (some (vz (46))) h)
    refine Kc.of (ls := [some (vz 46)]) (by decide +kernel) (Nat.le_of_ble_eq_true rfl) rfl ?_
    refine ev_iload_n dX5_lambda_new_0_0 rfl ?_
    refine ev_zreturn dX5_lambda_new_0_1 rfl (by decide +kernel) ?_
    exact ⟨rfl, rfl⟩
  · show Kc g mX5_lambda_new_0 d 0 0 [vz 110] h (sR (some (vz (110))) h)
    refine Kc.of (ls := [some (vz 110)]) (by decide +kernel) (Nat.le_of_ble_eq_true rfl) rfl ?_
    refine ev_iload_n dX5_lambda_new_0_0 rfl ?_
    refine ev_zreturn dX5_lambda_new_0_1 rfl (by decide +kernel) ?_
    exact ⟨rfl, rfl⟩
  · show Kc g mX5_lambda_new_0 d 0 0 [vz 115] h (sR (some (vz (115))) h)
    refine Kc.of (ls := [some (vz 115)]) (by decide +kernel) (Nat.le_of_ble_eq_true rfl) rfl ?_
    refine ev_iload_n dX5_lambda_new_0_0 rfl ?_
    refine ev_zreturn dX5_lambda_new_0_1 rfl (by decide +kernel) ?_
    exact ⟨rfl, rfl⟩
  · show Kc g mX5_lambda_new_0 d 0 0 [vz 101] h (sR (some (vz (101))) h)
    refine Kc.of (ls := [some (vz 101)]) (by decide +kernel) (Nat.le_of_ble_eq_true rfl) rfl ?_
    refine ev_iload_n dX5_lambda_new_0_0 rfl ?_
    refine ev_zreturn dX5_lambda_new_0_1 rfl (by decide +kernel) ?_
    exact ⟨rfl, rfl⟩
  · show Kc g mX5_lambda_new_0 d 0 0 [vz 119] h (sR (some (vz (119))) h)
    refine Kc.of (ls := [some (vz 119)]) (by decide +kernel) (Nat.le_of_ble_eq_true rfl) rfl ?_
    refine ev_iload_n dX5_lambda_new_0_0 rfl ?_
    refine ev_zreturn dX5_lambda_new_0_1 rfl (by decide +kernel) ?_
    exact ⟨rfl, rfl⟩
set_option maxRecDepth 100000 in
set_option maxHeartbeats 4000000 in
theorem k_lam1 {x : Nat} (hx : x ≤ 4) (hd : 4 ≤ d) : Kc g mX5_lambda_new_1 d 0 0 [vz ((sgN x : Nat) : Int)] h (sR (some (vz ((sgN (ruN 1 x) : Nat) : Int))) h) := by
  have hc : x = 0 ∨ x = 1 ∨ x = 2 ∨ x = 3 ∨ x = 4 := by omega
  rcases hc with rfl | rfl | rfl | rfl | rfl
  · show Kc g mX5_lambda_new_1 d 0 0 [vz 46] h (sR (some (vz (46))) h)
    refine Kc.of (ls := [some (vz 46)]) (by decide +kernel) (Nat.le_of_ble_eq_true rfl) rfl ?_
    refine ev_iload_n dX5_lambda_new_1_0 rfl ?_
    refine ev_callSE dX5_lambda_new_1_1 cs_X5_41 ce_X1_mirrored rfl rfl (k_mirrored (d := 1) (x := 0) (by decide)) (by omega) (Nat.le_of_ble_eq_true rfl) ?_
    refine ev_zreturn dX5_lambda_new_1_4 rfl (by decide +kernel) ?_
    exact ⟨rfl, rfl⟩
  · show Kc g mX5_lambda_new_1 d 0 0 [vz 110] h (sR (some (vz (110))) h)
    refine Kc.of (ls := [some (vz 110)]) (by decide +kernel) (Nat.le_of_ble_eq_true rfl) rfl ?_
    refine ev_iload_n dX5_lambda_new_1_0 rfl ?_
    refine ev_callSE dX5_lambda_new_1_1 cs_X5_41 ce_X1_mirrored rfl rfl (k_mirrored (d := 1) (x := 1) (by decide)) (by omega) (Nat.le_of_ble_eq_true rfl) ?_
    refine ev_zreturn dX5_lambda_new_1_4 rfl (by decide +kernel) ?_
    exact ⟨rfl, rfl⟩
  · show Kc g mX5_lambda_new_1 d 0 0 [vz 115] h (sR (some (vz (115))) h)
    refine Kc.of (ls := [some (vz 115)]) (by decide +kernel) (Nat.le_of_ble_eq_true rfl) rfl ?_
    refine ev_iload_n dX5_lambda_new_1_0 rfl ?_
    refine ev_callSE dX5_lambda_new_1_1 cs_X5_41 ce_X1_mirrored rfl rfl (k_mirrored (d := 1) (x := 2) (by decide)) (by omega) (Nat.le_of_ble_eq_true rfl) ?_
    refine ev_zreturn dX5_lambda_new_1_4 rfl (by decide +kernel) ?_
    exact ⟨rfl, rfl⟩
  · show Kc g mX5_lambda_new_1 d 0 0 [vz 101] h (sR (some (vz (119))) h)
    refine Kc.of (ls := [some (vz 101)]) (by decide +kernel) (Nat.le_of_ble_eq_true rfl) rfl ?_
    refine ev_iload_n dX5_lambda_new_1_0 rfl ?_
    refine ev_callSE dX5_lambda_new_1_1 cs_X5_41 ce_X1_mirrored rfl rfl (k_mirrored (d := 1) (x := 3) (by decide)) (by omega) (Nat.le_of_ble_eq_true rfl) ?_
    refine ev_zreturn dX5_lambda_new_1_4 rfl (by decide +kernel) ?_
    exact ⟨rfl, rfl⟩
  · show Kc g mX5_lambda_new_1 d 0 0 [vz 119] h (sR (some (vz (101))) h)
    refine Kc.of (ls := [some (vz 119)]) (by decide +kernel) (Nat.le_of_ble_eq_true rfl) rfl ?_
    refine ev_iload_n dX5_lambda_new_1_0 rfl ?_
    refine ev_callSE dX5_lambda_new_1_1 cs_X5_41 ce_X1_mirrored rfl rfl (k_mirrored (d := 1) (x := 4) (by decide)) (by omega) (Nat.le_of_ble_eq_true rfl) ?_
    refine ev_zreturn dX5_lambda_new_1_4 rfl (by decide +kernel) ?_
    exact ⟨rfl, rfl⟩
set_option maxRecDepth 100000 in
set_option maxHeartbeats 4000000 in
theorem k_lam2 {x : Nat} (hx : x ≤ 4) (hd : 4 ≤ d) : Kc g mX5_lambda_new_2 d 0 0 [vz ((sgN x : Nat) : Int)] h (sR (some (vz ((sgN (ruN 2 x) : Nat) : Int))) h) := by
  have hc : x = 0 ∨ x = 1 ∨ x = 2 ∨ x = 3 ∨ x = 4 := by omega
  rcases hc with rfl | rfl | rfl | rfl | rfl
  · show Kc g mX5_lambda_new_2 d 0 0 [vz 46] h (sR (some (vz (46))) h)
    refine Kc.of (ls := [some (vz 46)]) (by decide +kernel) (Nat.le_of_ble_eq_true rfl) rfl ?_
    refine ev_iload_n dX5_lambda_new_2_0 rfl ?_
    refine ev_callSE dX5_lambda_new_2_1 cs_X5_37 ce_X1_opposite rfl rfl (k_oppositeC (d := 2) (x := 0) (by decide) (by omega)) (by omega) (Nat.le_of_ble_eq_true rfl) ?_
    refine ev_zreturn dX5_lambda_new_2_4 rfl (by decide +kernel) ?_
    exact ⟨rfl, rfl⟩
  · show Kc g mX5_lambda_new_2 d 0 0 [vz 110] h (sR (some (vz (115))) h)
    refine Kc.of (ls := [some (vz 110)]) (by decide +kernel) (Nat.le_of_ble_eq_true rfl) rfl ?_
    refine ev_iload_n dX5_lambda_new_2_0 rfl ?_
    refine ev_callSE dX5_lambda_new_2_1 cs_X5_37 ce_X1_opposite rfl rfl (k_oppositeC (d := 2) (x := 1) (by decide) (by omega)) (by omega) (Nat.le_of_ble_eq_true rfl) ?_
    refine ev_zreturn dX5_lambda_new_2_4 rfl (by decide +kernel) ?_
    exact ⟨rfl, rfl⟩
  · show Kc g mX5_lambda_new_2 d 0 0 [vz 115] h (sR (some (vz (110))) h)
    refine Kc.of (ls := [some (vz 115)]) (by decide +kernel) (Nat.le_of_ble_eq_true rfl) rfl ?_
    refine ev_iload_n dX5_lambda_new_2_0 rfl ?_
    refine ev_callSE dX5_lambda_new_2_1 cs_X5_37 ce_X1_opposite rfl rfl (k_oppositeC (d := 2) (x := 2) (by decide) (by omega)) (by omega) (Nat.le_of_ble_eq_true rfl) ?_
    refine ev_zreturn dX5_lambda_new_2_4 rfl (by decide +kernel) ?_
    exact ⟨rfl, rfl⟩
  · show Kc g mX5_lambda_new_2 d 0 0 [vz 101] h (sR (some (vz (119))) h)
    refine Kc.of (ls := [some (vz 101)]) (by decide +kernel) (Nat.le_of_ble_eq_true rfl) rfl ?_
    refine ev_iload_n dX5_lambda_new_2_0 rfl ?_
    refine ev_callSE dX5_lambda_new_2_1 cs_X5_37 ce_X1_opposite rfl rfl (k_oppositeC (d := 2) (x := 3) (by decide) (by omega)) (by omega) (Nat.le_of_ble_eq_true rfl) ?_
    refine ev_zreturn dX5_lambda_new_2_4 rfl (by decide +kernel) ?_
    exact ⟨rfl, rfl⟩
  · show Kc g mX5_lambda_new_2 d 0 0 [vz 119] h (sR (some (vz (101))) h)
    refine Kc.of (ls := [some (vz 119)]) (by decide +kernel) (Nat.le_of_ble_eq_true rfl) rfl ?_
    refine ev_iload_n dX5_lambda_new_2_0 rfl ?_
    refine ev_callSE dX5_lambda_new_2_1 cs_X5_37 ce_X1_opposite rfl rfl (k_oppositeC (d := 2) (x := 4) (by decide) (by omega)) (by omega) (Nat.le_of_ble_eq_true rfl) ?_
    refine ev_zreturn dX5_lambda_new_2_4 rfl (by decide +kernel) ?_
    exact ⟨rfl, rfl⟩
set_option maxRecDepth 100000 in
set_option maxHeartbeats 4000000 in
theorem k_lam3 {x : Nat} (hx : x ≤ 4) (hd : 4 ≤ d) : Kc g mX5_lambda_new_3 d 0 0 [vz ((sgN x : Nat) : Int)] h (sR (some (vz ((sgN (ruN 3 x) : Nat) : Int))) h) := by
  have hc : x = 0 ∨ x = 1 ∨ x = 2 ∨ x = 3 ∨ x = 4 := by omega
  rcases hc with rfl | rfl | rfl | rfl | rfl
  · show Kc g mX5_lambda_new_3 d 0 0 [vz 46] h (sR (some (vz (46))) h)
    refine Kc.of (ls := [some (vz 46)]) (by decide +kernel) (Nat.le_of_ble_eq_true rfl) rfl ?_
    refine ev_iload_n dX5_lambda_new_3_0 rfl ?_
    refine ev_callSE dX5_lambda_new_3_1 cs_X5_37 ce_X1_opposite rfl rfl (k_oppositeC (d := 2) (x := 0) (by decide) (by omega)) (by omega) (Nat.le_of_ble_eq_true rfl) ?_
    refine ev_callSE dX5_lambda_new_3_4 cs_X5_41 ce_X1_mirrored rfl rfl (k_mirrored (d := 1) (x := 0) (by decide)) (by omega) (Nat.le_of_ble_eq_true rfl) ?_
    refine ev_zreturn dX5_lambda_new_3_7 rfl (by decide +kernel) ?_
    exact ⟨rfl, rfl⟩
  · show Kc g mX5_lambda_new_3 d 0 0 [vz 110] h (sR (some (vz (115))) h)
    refine Kc.of (ls := [some (vz 110)]) (by decide +kernel) (Nat.le_of_ble_eq_true rfl) rfl ?_
    refine ev_iload_n dX5_lambda_new_3_0 rfl ?_
    refine ev_callSE dX5_lambda_new_3_1 cs_X5_37 ce_X1_opposite rfl rfl (k_oppositeC (d := 2) (x := 1) (by decide) (by omega)) (by omega) (Nat.le_of_ble_eq_true rfl) ?_
    refine ev_callSE dX5_lambda_new_3_4 cs_X5_41 ce_X1_mirrored rfl rfl (k_mirrored (d := 1) (x := 2) (by decide)) (by omega) (Nat.le_of_ble_eq_true rfl) ?_
    refine ev_zreturn dX5_lambda_new_3_7 rfl (by decide +kernel) ?_
    exact ⟨rfl, rfl⟩
  · show Kc g mX5_lambda_new_3 d 0 0 [vz 115] h (sR (some (vz (110))) h)
    refine Kc.of (ls := [some (vz 115)]) (by decide +kernel) (Nat.le_of_ble_eq_true rfl) rfl ?_
    refine ev_iload_n dX5_lambda_new_3_0 rfl ?_
    refine ev_callSE dX5_lambda_new_3_1 cs_X5_37 ce_X1_opposite rfl rfl (k_oppositeC (d := 2) (x := 2) (by decide) (by omega)) (by omega) (Nat.le_of_ble_eq_true rfl) ?_
    refine ev_callSE dX5_lambda_new_3_4 cs_X5_41 ce_X1_mirrored rfl rfl (k_mirrored (d := 1) (x := 1) (by decide)) (by omega) (Nat.le_of_ble_eq_true rfl) ?_
    refine ev_zreturn dX5_lambda_new_3_7 rfl (by decide +kernel) ?_
    exact ⟨rfl, rfl⟩
  · show Kc g mX5_lambda_new_3 d 0 0 [vz 101] h (sR (some (vz (101))) h)
    refine Kc.of (ls := [some (vz 101)]) (by decide +kernel) (Nat.le_of_ble_eq_true rfl) rfl ?_
    refine ev_iload_n dX5_lambda_new_3_0 rfl ?_
    refine ev_callSE dX5_lambda_new_3_1 cs_X5_37 ce_X1_opposite rfl rfl (k_oppositeC (d := 2) (x := 3) (by decide) (by omega)) (by omega) (Nat.le_of_ble_eq_true rfl) ?_
    refine ev_callSE dX5_lambda_new_3_4 cs_X5_41 ce_X1_mirrored rfl rfl (k_mirrored (d := 1) (x := 4) (by decide)) (by omega) (Nat.le_of_ble_eq_true rfl) ?_
    refine ev_zreturn dX5_lambda_new_3_7 rfl (by decide +kernel) ?_
    exact ⟨rfl, rfl⟩
  · show Kc g mX5_lambda_new_3 d 0 0 [vz 119] h (sR (some (vz (119))) h)
    refine Kc.of (ls := [some (vz 119)]) (by decide +kernel) (Nat.le_of_ble_eq_true rfl) rfl ?_
    refine ev_iload_n dX5_lambda_new_3_0 rfl ?_
    refine ev_callSE dX5_lambda_new_3_1 cs_X5_37 ce_X1_opposite rfl rfl (k_oppositeC (d := 2) (x := 4) (by decide) (by omega)) (by omega) (Nat.le_of_ble_eq_true rfl) ?_
    refine ev_callSE dX5_lambda_new_3_4 cs_X5_41 ce_X1_mirrored rfl rfl (k_mirrored (d := 1) (x := 3) (by decide)) (by omega) (Nat.le_of_ble_eq_true rfl) ?_
    refine ev_zreturn dX5_lambda_new_3_7 rfl (by decide +kernel) ?_
    exact ⟨rfl, rfl⟩
section
variable {Q : RS → HM → Prop} {pc : Nat} {ls : List (Option Value)} {st : List Value}
theorem ev_rule {r idx count x : Nat} {rest : List Value} (hG : GKx g) (hr : r < 4) (hx : x ≤ 4) (hd : decode M.2.1 pc = .ok (.invokeinterface idx count, 5)) (hl9 : (Jvm.Cond.methodLink M.1.cls idx ⟨"DanceNotation$StepRule", "of", "(C)C"⟩) ∈ lw_all) (hdd : 6 ≤ d) (hW8 : (rest.map fun v => v.category).sum ≤ 8) (kk : Ev g M d c k Q (pc + 5) ls (vz ((sgN (ruN r x) : Nat) : Int) :: rest) h) : Ev g M d c k Q pc ls (vz ((sgN x : Nat) : Int) :: .ref (g.2.2.2.2 (56 + r)) :: rest) h := by
  have hn : ∀ y : Nat, narrow .char (vz ((sgN y : Nat) : Int)) = vz ((sgN y : Nat) : Int) := fun y => nar_c ⟨by omega, by have := sgN_lt (x := y); omega⟩
  match r, hr with
  | 0, _ => exact ev_lam (My := mX5_lambda_new_0) hG (by omega) hd hl9 q1224 q1223 rfl q1147 q145 q1146 (by decide +kernel) (k_lam0 (d := 4) hx (by omega)) hdd (by decide) (hn _) hW8 kk
  | 1, _ => exact ev_lam (My := mX5_lambda_new_1) hG (by omega) hd hl9 q1224 q1223 rfl q1149 q145 q1148 (by decide +kernel) (k_lam1 (d := 4) hx (by omega)) hdd (by decide) (hn _) hW8 kk
  | 2, _ => exact ev_lam (My := mX5_lambda_new_2) hG (by omega) hd hl9 q1224 q1223 rfl q1154 q145 q1153 (by decide +kernel) (k_lam2 (d := 4) hx (by omega)) hdd (by decide) (hn _) hW8 kk
  | 3, _ => exact ev_lam (My := mX5_lambda_new_3) hG (by omega) hd hl9 q1224 q1223 rfl q1160 q145 q1159 (by decide +kernel) (k_lam3 (d := 4) hx (by omega)) hdd (by decide) (hn _) hW8 kk
end
end L2S

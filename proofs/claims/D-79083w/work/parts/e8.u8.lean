/-! THE COMPONENT: checkDancer, checkFormation (printed by gen) -/
section U8S
variable {g : GB} {M : MI} {d c k : Nat} {h : HM}
section
variable {Q : RS → HM → Prop} {pc : Nat} {ls : List (Option Value)} {st : List Value}
theorem ev_ldc2V {index : Nat} {x : Int} {v : Int64} (hd : decode M.2.1 pc = .ok (.ldc2_w index, 3)) (hw : (Jvm.Cond.constantLong M.1.cls index v) ∈ lw_all) (hv : v = (zI x).toInt64) (kk : Ev g M d c k Q (pc + 3) ls (vl x :: st) h) : Ev g M d c k Q pc ls st h := by
  subst hv; exact ev_ldc2 hd hw kk
end
set_option maxRecDepth 100000 in
set_option maxHeartbeats 4000000 in
theorem k_checkDancerT {x : Int} (hr : inR x) (hx : 0 ≤ x ∧ x ≤ 7) : Kc g mX1_checkDancer (d + 1) (0) (0) [vz x] h (sR none h) := by
  refine Kc.of (ls := [some (vz x)]) (by decide +kernel) (Nat.le_of_ble_eq_true rfl) rfl ?_
  refine ev_iload_n dX1_checkDancer_0 rfl ?_
  refine ev_i2l dX1_checkDancer_1 ?_
  refine ev_lconst0 dX1_checkDancer_2 ?_
  refine ev_ldc2V (x := 7) dX1_checkDancer_3 q1461 (by decide) ?_
  refine ev_callSE dX1_checkDancer_6 cs_X1_108 ce_X1_inRange rfl rfl (k_inRange (d := 0) (a := x) (lo := 0) (hi := 7) (by omega)) (by omega) (Nat.le_of_ble_eq_true rfl) ?_
  refine ev_callSN dX1_checkDancer_9 cs_X1_112 ce_X1_checkIndex rfl rfl (k_checkIndexT (d := 0) (decide_eq_true hx)) (by omega) (Nat.le_of_ble_eq_true rfl) ?_
  refine ev_return dX1_checkDancer_12 rfl ?_
  exact ⟨rfl, rfl⟩
set_option maxRecDepth 100000 in
set_option maxHeartbeats 4000000 in
theorem k_checkDancerF {x : Int} (hG : GKx g) (hr : inR x) (hx : ¬ (0 ≤ x ∧ x ≤ 7)) : Kc g mX1_checkDancer 7 (1) (6) [vz x] h (fun r h' => ∃ q : Nat, r = .inr ("java/lang/IndexOutOfBoundsException", q) ∧ h' = h) := by
  refine Kc.of (ls := [some (vz x)]) (by decide +kernel) (Nat.le_of_ble_eq_true rfl) rfl ?_
  refine ev_iload_n dX1_checkDancer_0 rfl ?_
  refine ev_i2l dX1_checkDancer_1 ?_
  refine ev_lconst0 dX1_checkDancer_2 ?_
  refine ev_ldc2V (x := 7) dX1_checkDancer_3 q1461 (by decide) ?_
  refine ev_callSE dX1_checkDancer_6 cs_X1_108 ce_X1_inRange rfl rfl (k_inRange (d := 0) (a := x) (lo := 0) (hi := 7) (by omega)) (by omega) (Nat.le_of_ble_eq_true rfl) ?_
  refine ev_callS dX1_checkDancer_9 cs_X1_112 ce_X1_checkIndex rfl rfl (k_checkIndexF hG (decide_eq_false hx)) (by omega) (by omega) (by omega) (Nat.le_of_ble_eq_true rfl) (fun v h2 q => ?_) (fun E q h2 r => ?_)
  · obtain ⟨q9, e9, -⟩ := q; cases e9
  · obtain ⟨q9, e9, rfl⟩ := r
    cases e9
    exact evx_out rfl ⟨_, rfl, rfl⟩
set_option maxRecDepth 100000 in
set_option maxHeartbeats 4000000 in
theorem k_checkFormationT {x : Int} (hr : inR x) (hx : 0 ≤ x ∧ x ≤ 3) : Kc g mX1_checkFormation (d + 1) (0) (0) [vz x] h (sR none h) := by
  refine Kc.of (ls := [some (vz x)]) (by decide +kernel) (Nat.le_of_ble_eq_true rfl) rfl ?_
  refine ev_iload_n dX1_checkFormation_0 rfl ?_
  refine ev_i2l dX1_checkFormation_1 ?_
  refine ev_lconst0 dX1_checkFormation_2 ?_
  refine ev_ldc2V (x := 3) dX1_checkFormation_3 q2410 (by decide) ?_
  refine ev_callSE dX1_checkFormation_6 cs_X1_108 ce_X1_inRange rfl rfl (k_inRange (d := 0) (a := x) (lo := 0) (hi := 3) (by omega)) (by omega) (Nat.le_of_ble_eq_true rfl) ?_
  refine ev_callSN dX1_checkFormation_9 cs_X1_112 ce_X1_checkIndex rfl rfl (k_checkIndexT (d := 0) (decide_eq_true hx)) (by omega) (Nat.le_of_ble_eq_true rfl) ?_
  refine ev_return dX1_checkFormation_12 rfl ?_
  exact ⟨rfl, rfl⟩
set_option maxRecDepth 100000 in
set_option maxHeartbeats 4000000 in
theorem k_checkFormationF {x : Int} (hG : GKx g) (hr : inR x) (hx : ¬ (0 ≤ x ∧ x ≤ 3)) : Kc g mX1_checkFormation 7 (1) (6) [vz x] h (fun r h' => ∃ q : Nat, r = .inr ("java/lang/IndexOutOfBoundsException", q) ∧ h' = h) := by
  refine Kc.of (ls := [some (vz x)]) (by decide +kernel) (Nat.le_of_ble_eq_true rfl) rfl ?_
  refine ev_iload_n dX1_checkFormation_0 rfl ?_
  refine ev_i2l dX1_checkFormation_1 ?_
  refine ev_lconst0 dX1_checkFormation_2 ?_
  refine ev_ldc2V (x := 3) dX1_checkFormation_3 q2410 (by decide) ?_
  refine ev_callSE dX1_checkFormation_6 cs_X1_108 ce_X1_inRange rfl rfl (k_inRange (d := 0) (a := x) (lo := 0) (hi := 3) (by omega)) (by omega) (Nat.le_of_ble_eq_true rfl) ?_
  refine ev_callS dX1_checkFormation_9 cs_X1_112 ce_X1_checkIndex rfl rfl (k_checkIndexF hG (decide_eq_false hx)) (by omega) (by omega) (by omega) (Nat.le_of_ble_eq_true rfl) (fun v h2 q => ?_) (fun E q h2 r => ?_)
  · obtain ⟨q9, e9, -⟩ := q; cases e9
  · obtain ⟨q9, e9, rfl⟩ := r
    cases e9
    exact evx_out rfl ⟨_, rfl, rfl⟩
end U8S

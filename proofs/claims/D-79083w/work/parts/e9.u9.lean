/-! THE COMPONENT: checkReason, checkPlace (printed by gen) -/
section U9S
variable {g : GB} {M : MI} {d c k : Nat} {h : HM}
set_option maxRecDepth 100000 in
set_option maxHeartbeats 4000000 in
theorem k_checkReason1 {o : Nat} {y0 y1 y2 y3 y4 y5 y6 y7 y8 y9 : Value} (HO : h o = some (.inr (0, [y0, y1, y2, y3, y4, y5, y6, y7, y8, y9]))) (hB : gB g ≤ o) {y : Int} : Kc g mX1_checkReason d (0) (0) [.ref o, vz (bI true), vz y] h (sR none h) := by
  refine Kc.of (ls := [some (.ref o), some (vz (bI true)), some (vz y)]) (by decide +kernel) (Nat.le_of_ble_eq_true rfl) rfl ?_
  refine ev_iload_n dX1_checkReason_0 rfl ?_
  refine ev_if_neB (tgt := 17) dX1_checkReason_1 (by decide) (fun c1 => ?_) (fun c1 => by cases c1)
  refine ev_return dX1_checkReason_17 rfl ?_
  exact ⟨rfl, rfl⟩
set_option maxRecDepth 100000 in
set_option maxHeartbeats 4000000 in
theorem k_checkReason0 {o : Nat} {y0 y1 y2 y3 y4 y5 y6 y7 y8 y9 : Value} (HO : h o = some (.inr (0, [y0, y1, y2, y3, y4, y5, y6, y7, y8, y9]))) (hB : gB g ≤ o) {y : Int} (hG : GKx g) : Kc g mX1_checkReason 6 (1) (6) [.ref o, vz (bI false), vz y] h (fun r h' => ∃ q : Nat, r = .inr ("java/lang/IllegalStateException", q) ∧ h' o = some (.inr (0, [y0, y1, y2, y3, y4, y5, y6, y7, y8, vz y])) ∧ Fr g h h' [o]) := by
  refine Kc.of (ls := [some (.ref o), some (vz (bI false)), some (vz y)]) (by decide +kernel) (Nat.le_of_ble_eq_true rfl) rfl ?_
  refine ev_iload_n dX1_checkReason_0 rfl ?_
  refine ev_if_neB (tgt := 17) dX1_checkReason_1 (by decide) (fun c1 => by cases c1) (fun c1 => ?_)
  refine ev_aload_n dX1_checkReason_4 rfl ?_
  refine ev_iload_n dX1_checkReason_5 rfl ?_
  refine ev_putC [y0, y1, y2, y3, y4, y5, y6, y7, y8, vz y] dX1_checkReason_6 gf_X1_16_X1 HO hB (Or.inl rfl) rfl rfl (Nat.le_of_ble_eq_true rfl) rfl (fun hp_1 HO_2 f3 => ?_)
  have F4 := ((Fr.refl (g := g) _ [o])).write (Or.inl ⟨_, HO_2⟩) f3 hB (by simp)
  refine ev_throw0 (cls := "java/lang/IllegalStateException") (names := ["java/lang/RuntimeException", "java/lang/Exception"]) (ik := 22) (ic := 24) hG (by decide +kernel) (by decide +kernel) q2133 q141 [130, 400, 409, 419, 422, 424, 401, 402, 183, 184, 403, 408, 420, 643, 390, 644, 392, 645, 394, 404, 406, 396, 2135, 2136, 2137, 848, 381, 848, 849, 850, 851, 383, 851, 852, 853, 401, 385, 2134, 1527, 1528, 1529, 416, 1530, 1531, 1532, 1533, 641, 398, 1534] (by decide +kernel) (by decide +kernel) (by decide +kernel) dX1_checkReason_9 dX1_checkReason_12 dX1_checkReason_13 dX1_checkReason_16 (by decide +kernel) (by simp only [List.length_cons, List.length_nil]; omega) (Nat.le_of_ble_eq_true rfl) (by omega) (by omega) (fun q => ⟨q, rfl, HO_2, F4⟩)
theorem k_checkReasonT {o : Nat} {y0 y1 y2 y3 y4 y5 y6 y7 y8 y9 : Value} (HO : h o = some (.inr (0, [y0, y1, y2, y3, y4, y5, y6, y7, y8, y9]))) (hB : gB g ≤ o) {y : Int} {b : Bool} (hb : b = true) : Kc g mX1_checkReason d 0 0 [.ref o, vz (bI b), vz y] h (sR none h) := by rw [hb]; exact k_checkReason1 HO hB
theorem k_checkReasonF {o : Nat} {y0 y1 y2 y3 y4 y5 y6 y7 y8 y9 : Value} (HO : h o = some (.inr (0, [y0, y1, y2, y3, y4, y5, y6, y7, y8, y9]))) (hB : gB g ≤ o) {y : Int} {b : Bool} (hG : GKx g) (hb : b = false) : Kc g mX1_checkReason 6 1 6 [.ref o, vz (bI b), vz y] h (fun r h' => ∃ q : Nat, r = .inr ("java/lang/IllegalStateException", q) ∧ h' o = some (.inr (0, [y0, y1, y2, y3, y4, y5, y6, y7, y8, vz y])) ∧ Fr g h h' [o]) := by rw [hb]; exact k_checkReason0 HO hB hG
set_option maxRecDepth 100000 in
set_option maxHeartbeats 4000000 in
theorem k_checkPlaceT {I : HM} {a st fo : Nat} {D : Dn} (H : DnC g I h a st fo D) {o : Nat} {y1 y2 y3 y4 y5 y6 y7 y8 y9 : Value} (HO : h o = some (.inr (0, [.ref a, y1, y2, y3, y4, y5, y6, y7, y8, y9]))) (hD : D.1.1 ≤ 9 ∧ D.1.2 ≤ 9) {x : Int} (hr : inR x) (hx : -1 ≤ x ∧ x ≤ ((D.1.1 : Nat) : Int) * ((D.1.2 : Nat) : Int) - 1) : Kc g mX1_checkPlace (d + 1) (0) (0) [.ref o, vz x] h (sR none h) := by
  refine Kc.of (ls := [some (.ref o), some (vz x)]) (by decide +kernel) (Nat.le_of_ble_eq_true rfl) rfl ?_
  obtain ⟨A, B, pv, sv, K, hA, hB9, hV⟩ := id H
  obtain ⟨k1, k2, k3, k4, k5, k6, k7, k8⟩ := id K
  have hcr : ((D.1.1 : Nat) : Int) * ((D.1.2 : Nat) : Int) ≤ 9 * 9 := Int.mul_le_mul (by omega) (by omega) (by omega) (by omega)
  have hcr0 : 0 ≤ ((D.1.1 : Nat) : Int) * ((D.1.2 : Nat) : Int) := Int.mul_nonneg (by omega) (by omega)
  refine ev_iload_n dX1_checkPlace_0 rfl ?_
  refine ev_i2l dX1_checkPlace_1 ?_
  refine ev_ldc2V (x := (-1)) dX1_checkPlace_2 q1471 (by decide) ?_
  refine ev_aload_n dX1_checkPlace_5 rfl ?_
  refine ev_getf dX1_checkPlace_6 gf_X1_37_X1 HO rfl ?_
  refine ev_callVE dX1_checkPlace_9 cv_X1_118_X2 ce_X2_places k1 rfl rfl rfl (k_placesX2 (d := 0) H) (by omega) (Nat.le_of_ble_eq_true rfl) ?_
  refine ev_iconstZ dX1_checkPlace_12 ?_
  refine ev_isubZ dX1_checkPlace_13 ?_
  refine ev_i2l dX1_checkPlace_14 ?_
  refine ev_callSE dX1_checkPlace_15 cs_X1_108 ce_X1_inRange rfl rfl (k_inRange (d := 0) (a := x) (lo := -1) (hi := ((D.1.1 : Nat) : Int) * ((D.1.2 : Nat) : Int) - 1) (by omega)) (by omega) (Nat.le_of_ble_eq_true rfl) ?_
  refine ev_callSN dX1_checkPlace_18 cs_X1_112 ce_X1_checkIndex rfl rfl (k_checkIndexT (d := 0) (decide_eq_true hx)) (by omega) (Nat.le_of_ble_eq_true rfl) ?_
  refine ev_return dX1_checkPlace_21 rfl ?_
  exact ⟨rfl, rfl⟩
set_option maxRecDepth 100000 in
set_option maxHeartbeats 4000000 in
theorem k_checkPlaceF {I : HM} {a st fo : Nat} {D : Dn} (H : DnC g I h a st fo D) {o : Nat} {y1 y2 y3 y4 y5 y6 y7 y8 y9 : Value} (HO : h o = some (.inr (0, [.ref a, y1, y2, y3, y4, y5, y6, y7, y8, y9]))) (hD : D.1.1 ≤ 9 ∧ D.1.2 ≤ 9) {x : Int} (hG : GKx g) (hr : inR x) (hx : ¬ (-1 ≤ x ∧ x ≤ ((D.1.1 : Nat) : Int) * ((D.1.2 : Nat) : Int) - 1)) : Kc g mX1_checkPlace 7 (1) (6) [.ref o, vz x] h (fun r h' => ∃ q : Nat, r = .inr ("java/lang/IndexOutOfBoundsException", q) ∧ h' = h) := by
  refine Kc.of (ls := [some (.ref o), some (vz x)]) (by decide +kernel) (Nat.le_of_ble_eq_true rfl) rfl ?_
  obtain ⟨A, B, pv, sv, K, hA, hB9, hV⟩ := id H
  obtain ⟨k1, k2, k3, k4, k5, k6, k7, k8⟩ := id K
  have hcr : ((D.1.1 : Nat) : Int) * ((D.1.2 : Nat) : Int) ≤ 9 * 9 := Int.mul_le_mul (by omega) (by omega) (by omega) (by omega)
  have hcr0 : 0 ≤ ((D.1.1 : Nat) : Int) * ((D.1.2 : Nat) : Int) := Int.mul_nonneg (by omega) (by omega)
  refine ev_iload_n dX1_checkPlace_0 rfl ?_
  refine ev_i2l dX1_checkPlace_1 ?_
  refine ev_ldc2V (x := (-1)) dX1_checkPlace_2 q1471 (by decide) ?_
  refine ev_aload_n dX1_checkPlace_5 rfl ?_
  refine ev_getf dX1_checkPlace_6 gf_X1_37_X1 HO rfl ?_
  refine ev_callVE dX1_checkPlace_9 cv_X1_118_X2 ce_X2_places k1 rfl rfl rfl (k_placesX2 (d := 0) H) (by omega) (Nat.le_of_ble_eq_true rfl) ?_
  refine ev_iconstZ dX1_checkPlace_12 ?_
  refine ev_isubZ dX1_checkPlace_13 ?_
  refine ev_i2l dX1_checkPlace_14 ?_
  refine ev_callSE dX1_checkPlace_15 cs_X1_108 ce_X1_inRange rfl rfl (k_inRange (d := 0) (a := x) (lo := -1) (hi := ((D.1.1 : Nat) : Int) * ((D.1.2 : Nat) : Int) - 1) (by omega)) (by omega) (Nat.le_of_ble_eq_true rfl) ?_
  refine ev_callS dX1_checkPlace_18 cs_X1_112 ce_X1_checkIndex rfl rfl (k_checkIndexF hG (decide_eq_false hx)) (by omega) (by omega) (by omega) (Nat.le_of_ble_eq_true rfl) (fun v h2 q => ?_) (fun E q h2 r => ?_)
  · obtain ⟨q9, e9, -⟩ := q; cases e9
  · obtain ⟨q9, e9, rfl⟩ := r
    cases e9
    exact evx_out rfl ⟨_, rfl, rfl⟩
end U9S

/-! THE COMPONENT: checkPiece (printed by gen) -/
section V0S
variable {g : GB} {M : MI} {d c k : Nat} {h : HM}
set_option maxRecDepth 100000 in
set_option maxHeartbeats 4000000 in
theorem k_checkPieceT {I : HM} {a st fo : Nat} {D : Dn} (H : DnC g I h a st fo D) {o : Nat} {y1 y2 y3 y4 y5 y6 y7 y8 y9 : Value} (HO : h o = some (.inr (0, [.ref a, y1, y2, y3, y4, y5, y6, y7, y8, y9]))) (hB : gB g ≤ o) {l : List Nd} (hp9 : D.2.2.2 = some l) : Kc g mX1_checkPiece (d + 1) (0) (0) [.ref o] h (sR none h) := by
  refine Kc.of (ls := [some (.ref o)]) (by decide +kernel) (Nat.le_of_ble_eq_true rfl) rfl ?_
  obtain ⟨A, B, pv, sv, K, hA, hB9, hV⟩ := id H
  rw [hp9] at hV
  obtain ⟨p, sc, ss, cu, ru, rfl, rfl, -, -⟩ := hV
  obtain ⟨k1, k2, k3, k4, k5, k6, k7, k8⟩ := id K
  refine ev_aload_n dX1_checkPiece_0 rfl ?_
  refine ev_aload_n dX1_checkPiece_1 rfl ?_
  refine ev_getf dX1_checkPiece_2 gf_X1_37_X1 HO rfl ?_
  refine ev_getf dX1_checkPiece_5 gf_X1_121_X2 k1 rfl ?_
  refine ev_ifnull dX1_checkPiece_8 ?_
  refine ev_iconstZ dX1_checkPiece_11 ?_
  refine ev_goto (tgt := 16) dX1_checkPiece_12 (by decide) ?_
  refine ev_iconstZ dX1_checkPiece_16 ?_
  refine ev_callVN dX1_checkPiece_17 cv_X1_125_X1 ce_X1_checkReason HO rfl rfl rfl (k_checkReason1 (d := 0) (y := 3) HO hB) (by omega) (Nat.le_of_ble_eq_true rfl) ?_
  refine ev_return dX1_checkPiece_20 rfl ?_
  exact ⟨rfl, rfl⟩
set_option maxRecDepth 100000 in
set_option maxHeartbeats 4000000 in
theorem k_checkPieceF {I : HM} {a st fo : Nat} {D : Dn} (H : DnC g I h a st fo D) {o : Nat} {y1 y2 y3 y4 y5 y6 y7 y8 y9 : Value} (HO : h o = some (.inr (0, [.ref a, y1, y2, y3, y4, y5, y6, y7, y8, y9]))) (hB : gB g ≤ o) (hG : GKx g) (hp9 : D.2.2.2 = none) : Kc g mX1_checkPiece 7 (1) (6) [.ref o] h (fun r h' => ∃ q : Nat, r = .inr ("java/lang/IllegalStateException", q) ∧ h' o = some (.inr (0, [.ref a, y1, y2, y3, y4, y5, y6, y7, y8, vz 3])) ∧ Fr g h h' [o]) := by
  refine Kc.of (ls := [some (.ref o)]) (by decide +kernel) (Nat.le_of_ble_eq_true rfl) rfl ?_
  obtain ⟨A, B, pv, sv, K, hA, hB9, hV⟩ := id H
  rw [hp9] at hV
  obtain ⟨rfl, rfl⟩ := hV
  obtain ⟨k1, k2, k3, k4, k5, k6, k7, k8⟩ := id K
  refine ev_aload_n dX1_checkPiece_0 rfl ?_
  refine ev_aload_n dX1_checkPiece_1 rfl ?_
  refine ev_getf dX1_checkPiece_2 gf_X1_37_X1 HO rfl ?_
  refine ev_getf dX1_checkPiece_5 gf_X1_121_X2 k1 rfl ?_
  refine ev_ifnullN (tgt := 15) dX1_checkPiece_8 (by decide) ?_
  refine ev_iconstZ dX1_checkPiece_15 ?_
  refine ev_iconstZ dX1_checkPiece_16 ?_
  refine ev_callV dX1_checkPiece_17 cv_X1_125_X1 ce_X1_checkReason HO rfl rfl rfl (k_checkReason0 (y := 3) HO hB hG) (by omega) (by omega) (by omega) (Nat.le_of_ble_eq_true rfl) (fun v h2 q => ?_) (fun E q h2 r => ?_)
  · obtain ⟨q9, e9, -⟩ := q; cases e9
  · obtain ⟨q9, e9, e8, e7⟩ := r
    cases e9
    exact evx_out rfl ⟨_, rfl, e8, e7⟩
end V0S

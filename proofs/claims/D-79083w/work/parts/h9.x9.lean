/-! THE COMPONENT: the class, replace (printed by gen) -/
section X9S
variable {g : GB} {M : MI} {d c k : Nat} {h : HM}
section
variable {N : Nat} {B : Nat → Prop} {I h : HM} {own : Nat → Nat} {o : Nat} {p : Dp} {us : List Dp} {cl ud uv uh ib iv ic os ow : Nat} {sdv scv lev : Value} {cs : List Cm} {σ : Sp}
set_option maxRecDepth 100000 in
set_option maxHeartbeats 4000000 in
theorem k_setPieceX1 (hG : GKx g) (HO : h o = some (.inr (0, [.ref p.2.1, .ref cl, .ref ud, sdv, scv, .ref ib, .ref os, lev, vz σ.2.2.2.2.2.1, vz σ.2.2.2.2.1]))) (WR : WXr g N B I h own o p us cl ud uv uh ib iv ic os ow sdv scv lev cs σ) {r : Nat} {l : List Nd} (hN : NodeAt I 81 r l) (hok : pcOk l) (hsm : sem l = .ok (mean l)) (hln : l.length < 100000) (hd : 510 ≤ d) (hc : 30 ≤ c) (hk : 1000 ≤ k) : Kc g mX1_setPiece d c k [.ref o, .ref r] h (rR (fun v h' => v = none ∧ WX g (N + 1) B h' o (keepSp σ (wPiece σ.1 l)) ∧ Sub I h' ∧ ∃ S, Fr g h h' S ∧ ∀ x ∈ S, ¬ B x)) := by
  refine Kc.of (ls := [some (.ref o), some (.ref r), none]) (by decide +kernel) (Nat.le_of_ble_eq_true rfl) rfl ?_
  have WR0 := WR
  have HO0 := HO
  have hSI0 := WR.2.1.1
  have hlen := (len_ok 81 l hok.1 hok.2 _ hsm).2
  have hCok : cmOk ((1, (0, 0, 0), l) : Cm) := fun _ => ⟨by show l.length < 1000000; omega, hok.2, hsm⟩
  have hCk : cmK ((1, (0, 0, 0), l) : Cm) ≤ 908 := by show (if 1 = 1 then 9 * (mean l).1.1 + 17 else 0) ≤ 908; rw [if_pos rfl]; omega
  refine ev_aload_n dX1_setPiece_0 rfl ?_
  refine ev_newC (c' := 29) (k' := 996) [.null, .null, .null] dX1_setPiece_1 cf_X4 q1088 q1475 q136 rfl (by omega) (by omega) (fun q1 hp_2 e3 B4 Hq1_5 f6 => ?_)
  have HO_7 := (f6 _ (ne_no HO e3)).trans HO
  have z8 := ((Fr.refl (g := g) _ [])).fresh e3
  have F9 := ((Fr.refl (g := g) _ [])).alloc (Or.inl ⟨_, Hq1_5⟩) f6 e3
  refine ev_dup dX1_setPiece_4 rfl ?_
  refine ev_gets (i := 6) hG dX1_setPiece_5 rfl q2094 ?_
  refine ev_aload_n dX1_setPiece_8 rfl ?_
  refine ev_iconstZ dX1_setPiece_9 ?_
  refine ev_newA_int (N := 0) (c' := 28) (k' := 990) dX1_setPiece_10 (by omega) (by omega) (by omega) (by omega) (by omega) (fun q10 hp_11 e12 B13 Hq10_14 f15 => ?_)
  have HO_16 := (f15 _ (ne_no HO_7 e12)).trans HO_7
  have Hq1_17 := (f15 _ (ne_no Hq1_5 e12)).trans Hq1_5
  have z18 := (F9).fresh e12
  have F19 := (F9).alloc (Or.inr ⟨_, Hq10_14, Nat.le_of_ble_eq_true rfl⟩) f15 e12
  refine ev_callVR dX1_setPiece_12 ci_X1_100 ce_X4_init Hq1_17 rfl rfl rfl (k_initX4r Hq1_17 B4) (by omega) (by omega) (by omega) (Nat.le_of_ble_eq_true rfl) (fun v20 hk P20 => ?_)
  obtain ⟨rfl, H20, F20⟩ := P20
  have HO_21 := F20.keep HO_16 (by simp only [List.mem_cons, List.not_mem_nil, or_false, not_or]; exact (ne_no HO e3))
  have Hq10_22 := F20.keep Hq10_14 (by simp only [List.mem_cons, List.not_mem_nil, or_false, not_or]; exact ((ne_no Hq1_5 e12)).symm)
  have F23 := (F19).call F20 (fun x hx => Or.inr (Or.inl (by rw [List.mem_singleton.mp hx]; exact z8)))
  obtain ⟨J1, G1, s1, j1, -⟩ := Gw.ex ((Gw.refl hSI0).fr0 F23) hSI0 H20 z8
  obtain ⟨J2, G2, s2, j2, -⟩ := G1.ex hSI0 Hq10_22 z18
  have WR2 := WXr.gw WR0 (by rw [HO0]; exact fun q => by cases q) G2 F23
  have hCm : CmC g J2 q1 (((1, (0, 0, 0), l) : Cm)) := Or.inr (Or.inl ⟨rfl, q10, r, s2 _ _ j1, hN.sub G2.1⟩)
  have HOk := HO_21
  have Fk := F23
  refine ev_callVR dX1_setPiece_15 cv_X1_103_X1 ce_X1_carryOut HOk rfl rfl rfl (k_carryX1 hG HOk WR2 hCm hCok (Nat.le_refl 500) (Nat.le_refl 20) (Nat.le_refl _)) (by omega) (by omega) (by show cmK _ + 53 ≤ _; first | omega | (unfold cmK; simp; done) | (unfold cmK; simp; omega)) (Nat.le_of_ble_eq_true rfl) (fun v24 h9 P24 => ?_)
  obtain ⟨rfl, W9, hS9, S9, F9, hB9⟩ := P24
  refine ev_istore_n dX1_setPiece_18 (by decide) rfl ?_
  dsimp only [List.set]
  refine ev_return dX1_setPiece_19 rfl ?_
  exact ⟨_, rfl, rfl, W9, G2.1.trans hS9, S9, (Fk.more (S' := S9) (fun x hx => by cases hx)).call F9 (fun x hx => Or.inl hx), hB9⟩
set_option maxRecDepth 100000 in
set_option maxHeartbeats 4000000 in
theorem k_replaceT (hG : GKx g) (HO : h o = some (.inr (0, [.ref p.2.1, .ref cl, .ref ud, sdv, scv, .ref ib, .ref os, lev, vz σ.2.2.2.2.2.1, vz σ.2.2.2.2.1]))) (WR : WXr g N B I h own o p us cl ud uv uh ib iv ic os ow sdv scv lev cs σ) {r : Nat} {l : List Nd} (hN : NodeAt I 81 r l) (hok : pcOk l) (hsm : sem l = .ok (mean l)) (hln : l.length < 100000) (hdp : depV l ≤ 20) (hd : 520 ≤ d) (hc : 30 ≤ c) (hk : 1000 ≤ k) : Kc g mX1_replace d c k [.ref o, .ref r] h (rR (fun v h' => v = some (vz ((l.length : Nat) : Int)) ∧ WX g (N + 1) B h' o (keepSp σ (wPiece σ.1 l)) ∧ Sub I h' ∧ ∃ S, Fr g h h' S ∧ ∀ x ∈ S, ¬ B x)) := by
  refine Kc.of (ls := [some (.ref o), some (.ref r)]) (by decide +kernel) (Nat.le_of_ble_eq_true rfl) rfl ?_
  have hN82 := (hN.sub WR.2.1.1).mono (show 81 ≤ 82 by omega)
  have hcl := hN82.cls
  refine ev_aload_n dX1_replace_0 rfl ?_
  refine ev_aload_n dX1_replace_1 rfl ?_
  refine ev_callNE dX1_replace_2 (nv_X1_223 hG) fe_depth (hcl) rfl rfl (n_depth hG 82 r l hN82 (by omega) (by omega)) (by omega) (Nat.le_of_ble_eq_true rfl) ?_
  refine ev_bipushZ dX1_replace_5 rfl ?_
  refine ev_icmp_gtZ (tgt := 14) dX1_replace_7 (by decide) (by omega) (by omega) (fun c7 => by omega) (fun c7 => ?_)
  refine ev_iconstZ dX1_replace_10 ?_
  refine ev_goto (tgt := 15) dX1_replace_11 (by decide) ?_
  refine ev_bipushZ dX1_replace_15 rfl ?_
  refine ev_callVN dX1_replace_17 cv_X1_125_X1 ce_X1_checkReason HO rfl rfl rfl (k_checkReasonT (d := 0) HO WR.1.1 (y := 7) (b := true) rfl) (by omega) (Nat.le_of_ble_eq_true rfl) ?_
  refine ev_aload_n dX1_replace_20 rfl ?_
  refine ev_aload_n dX1_replace_21 rfl ?_
  refine ev_callVR dX1_replace_22 cv_X1_186_X1 ce_X1_setPiece HO rfl rfl rfl (k_setPieceX1 hG HO WR hN hok hsm hln (Nat.le_refl 510) (Nat.le_refl 30) (Nat.le_refl 1000)) (by omega) (by omega) (by omega) (Nat.le_of_ble_eq_true rfl) (fun v1 h9 P1 => ?_)
  obtain ⟨rfl, W9, hS9, S9, F9, hB9⟩ := P1
  refine ev_aload_n dX1_replace_25 rfl ?_
  refine ev_callNE dX1_replace_26 (nv_X1_226 hG) fe_nodes ((hN.sub hS9).cls) rfl rfl (n_nodes hG 81 r l (hN.sub hS9) (by omega)) (by omega) (Nat.le_of_ble_eq_true rfl) ?_
  refine ev_ireturn dX1_replace_29 rfl ?_
  exact ⟨_, rfl, rfl, W9, hS9, S9, F9, hB9⟩
set_option maxRecDepth 100000 in
set_option maxHeartbeats 4000000 in
theorem k_replaceF (hG : GKx g) (HO : h o = some (.inr (0, [.ref p.2.1, .ref cl, .ref ud, sdv, scv, .ref ib, .ref os, lev, vz σ.2.2.2.2.2.1, vz σ.2.2.2.2.1]))) (WR : WXr g N B I h own o p us cl ud uv uh ib iv ic os ow sdv scv lev cs σ) {r : Nat} {l : List Nd} (hN : NodeAt I 82 r l) (hln : l.length < 100000) (hdp : 20 < depV l) (hdp2 : depV l < 1000000) (hd : 520 ≤ d) (hc : 30 ≤ c) (hk : 1000 ≤ k) : Kc g mX1_replace d c k [.ref o, .ref r] h (fun r9 h' => ∃ q : Nat, r9 = .inr ("java/lang/IllegalStateException", q) ∧ WX g N B h' o (wReason σ 7) ∧ Fr g h h' [o]) := by
  refine Kc.of (ls := [some (.ref o), some (.ref r)]) (by decide +kernel) (Nat.le_of_ble_eq_true rfl) rfl ?_
  have hN82 := (hN.sub WR.2.1.1)
  have hcl := hN82.cls
  have hBo := WR.1.1
  refine ev_aload_n dX1_replace_0 rfl ?_
  refine ev_aload_n dX1_replace_1 rfl ?_
  refine ev_callNE dX1_replace_2 (nv_X1_223 hG) fe_depth (hcl) rfl rfl (n_depth hG 82 r l hN82 (by omega) (by omega)) (by omega) (Nat.le_of_ble_eq_true rfl) ?_
  refine ev_bipushZ dX1_replace_5 rfl ?_
  refine ev_icmp_gtZ (tgt := 14) dX1_replace_7 (by decide) (by omega) (by omega) (fun c7 => ?_) (fun c7 => by omega)
  refine ev_iconstZ dX1_replace_14 ?_
  refine ev_bipushZ dX1_replace_15 rfl ?_
  refine ev_callV dX1_replace_17 cv_X1_125_X1 ce_X1_checkReason HO rfl rfl rfl (k_checkReasonF HO hBo (y := 7) (b := false) hG rfl) (by omega) (by omega) (by omega) (Nat.le_of_ble_eq_true rfl) (fun v h2 q => ?_) (fun E q h2 r9 => ?_)
  · obtain ⟨q9, e9, -⟩ := q; cases e9
  · obtain ⟨q9, e9, e8, e7⟩ := r9
    cases e9
    exact evx_out rfl ⟨_, rfl, ⟨I, own, p, us, cl, ud, uv, uh, ib, iv, ic, os, ow, sdv, scv, lev, cs, e8, WR.self e7⟩, e7⟩
end
end X9S

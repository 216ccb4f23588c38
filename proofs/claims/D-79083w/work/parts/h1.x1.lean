/-! THE COMPONENT: the class, getters (printed by gen) -/
section X1S
variable {g : GB} {M : MI} {d c k : Nat} {h : HM}
variable {N : Nat} {B : Nat → Prop} {o : Nat} {σ : Sp}
/-- what is known of a sound piece -/
def PF (l : List Nd) (P : Pt) : Prop := sem l = .ok P ∧ pcOk l ∧ P.1.1 ≤ 99 ∧ (usedV l = P.1.2.1 ∧ cuesV l = P.1.2.2.2 ∧ depV l = P.1.2.2.1 ∧ lenV l = P.1.1) ∧ P.1.2.1 < 256 ∧ P.1.2.2.2 ≤ 999 ∧ nrP P ∧ ∀ e k, P.2.1 e k ≤ 4
theorem pf_of {l : List Nd} {P : Pt} (hk : pcOk l) (hs : sem l = .ok P) : PF l P := by
  have h1 := len_ok 81 l hk.1 hk.2 P hs
  have h2 := pt_ok 81 l hk.1 hk.2 P hs
  exact ⟨hs, hk, h1.2, ⟨h2.1, h2.2.1, h2.2.2, h1.1⟩, by rw [← h2.1]; exact usedV_lt 81 l hk.1 hk.2, by rw [← h2.2.1]; exact (cuesV_le hk.1 hk.2 ⟨P, hs⟩).2, nrP_sem 81 l P hk.1 hk.2 hs, st4_sem 81 l hk.1 hk.2 P hs⟩
theorem pf_dn {D : Dn} {l : List Nd} (hO : dnOk D) (h : D.2.2.2 = some l) : PF l (mean l) := pf_of (hO.2.2.2.2.2.2 l h).1 (hO.2.2.2.2.2.2 l h).2
/-- pieces aren't long -/
def dnLn (D : Dn) : Prop := ∀ l, D.2.2.2 = some l → l.length ≤ 1000
theorem nil_B {B : Nat → Prop} : ∀ x ∈ ([] : List Nat), ¬ B x := fun x hx => by cases hx
set_option maxRecDepth 100000 in
set_option maxHeartbeats 4000000 in
theorem kx_reason (hG : GKx g) (K0 : KC g h) (W : WX g N B h o σ) (hO : spOk σ)  (hd : 0 ≤ d) (hc : 0 ≤ c) (hk : 0 ≤ k) : Kc g mX1_reason d c k [.ref o] h (XQ g N B h o (fun m : Int => "java/lang/IllegalArgumentException") (opReason σ)) := by
  refine Kc.of (ls := [some (.ref o)]) (by decide +kernel) (Nat.le_of_ble_eq_true rfl) rfl ?_
  obtain ⟨I, own, ⟨pid, a, st, fo⟩, us, cl, ud, uv, uh, ib, iv, ic, os, ow, sdv, scv, lev, cs, HO, WR⟩ := id W
  have HO : h o = some (.inr (0, [.ref a, .ref cl, .ref ud, sdv, scv, .ref ib, .ref os, lev, vz σ.2.2.2.2.2.1, vz σ.2.2.2.2.1])) := HO
  obtain ⟨⟨hBo, ho1, hIo⟩, ⟨hSI, hCI, hBB⟩, KD, KCs, KU, KN, KS, KI, KOu, KE⟩ := id WR
  have H : DnC g I h a st fo σ.1 := KD.1
  have dO := hO.1
  obtain ⟨A, Bf, pv, sv, KDA, hA, hB9, hV⟩ := id H
  obtain ⟨k1, k2, k3, k4, k5, k6, k7, k8⟩ := id KDA
  refine ev_aload_n dX1_reason_0 rfl ?_
  refine ev_getf dX1_reason_1 gf_X1_16_X1 HO rfl ?_
  refine ev_ireturn dX1_reason_4 rfl ?_
  exact XQ.ok W (Fr.refl _ []) nil_B
set_option maxRecDepth 100000 in
set_option maxHeartbeats 4000000 in
theorem kx_refusedDancer (hG : GKx g) (K0 : KC g h) (W : WX g N B h o σ) (hO : spOk σ) (hr : inR σ.2.2.2.2.2.1) (hd : 8 ≤ d) (hc : 1 ≤ c) (hk : 6 ≤ k) : Kc g mX1_refusedDancer d c k [.ref o] h (XQ g N B h o (fun m : Int => "java/util/NoSuchElementException") (opRef σ)) := by
  refine Kc.of (ls := [some (.ref o)]) (by decide +kernel) (Nat.le_of_ble_eq_true rfl) rfl ?_
  obtain ⟨I, own, ⟨pid, a, st, fo⟩, us, cl, ud, uv, uh, ib, iv, ic, os, ow, sdv, scv, lev, cs, HO, WR⟩ := id W
  have HO : h o = some (.inr (0, [.ref a, .ref cl, .ref ud, sdv, scv, .ref ib, .ref os, lev, vz σ.2.2.2.2.2.1, vz σ.2.2.2.2.1])) := HO
  obtain ⟨⟨hBo, ho1, hIo⟩, ⟨hSI, hCI, hBB⟩, KD, KCs, KU, KN, KS, KI, KOu, KE⟩ := id WR
  have H : DnC g I h a st fo σ.1 := KD.1
  have dO := hO.1
  obtain ⟨A, Bf, pv, sv, KDA, hA, hB9, hV⟩ := id H
  obtain ⟨k1, k2, k3, k4, k5, k6, k7, k8⟩ := id KDA
  unfold opRef
  by_cases c9 : σ.2.2.2.2.2.1 = -1
  · rw [if_pos c9]
    refine ev_aload_n dX1_refusedDancer_0 rfl ?_
    refine ev_getf dX1_refusedDancer_1 gf_X1_68_X1 HO rfl ?_
    refine ev_iconstZ dX1_refusedDancer_4 ?_
    refine ev_icmp_eqZ (tgt := 12) dX1_refusedDancer_5 (by decide) (by omega) (by omega) (fun c5 => ?_) (fun c5 => by omega)
    refine ev_iconstZ dX1_refusedDancer_12 ?_
    refine ev_callS dX1_refusedDancer_13 cs_X1_203 ce_X1_checkElement rfl rfl (k_checkElementF (b := false) hG rfl) (by omega) (by omega) (by omega) (Nat.le_of_ble_eq_true rfl) (fun v h2 q => ?_) (fun E q h2 r => ?_)
    · obtain ⟨q9, e9, -⟩ := q; cases e9
    · obtain ⟨q9, e9, rfl⟩ := r
      cases e9
      exact evx_out rfl (XQ.no (by decide) rfl W (Fr.refl _ []) nil_B)
  · rw [if_neg c9]
    refine ev_aload_n dX1_refusedDancer_0 rfl ?_
    refine ev_getf dX1_refusedDancer_1 gf_X1_68_X1 HO rfl ?_
    refine ev_iconstZ dX1_refusedDancer_4 ?_
    refine ev_icmp_eqZ (tgt := 12) dX1_refusedDancer_5 (by decide) (by omega) (by omega) (fun c5 => by omega) (fun c5 => ?_)
    refine ev_iconstZ dX1_refusedDancer_8 ?_
    refine ev_goto (tgt := 13) dX1_refusedDancer_9 (by decide) ?_
    refine ev_callSN dX1_refusedDancer_13 cs_X1_203 ce_X1_checkElement rfl rfl (k_checkElementT (d := 0) (b := true) rfl) (by omega) (Nat.le_of_ble_eq_true rfl) ?_
    refine ev_aload_n dX1_refusedDancer_16 rfl ?_
    refine ev_getf dX1_refusedDancer_17 gf_X1_68_X1 HO rfl ?_
    refine ev_ireturn dX1_refusedDancer_20 rfl ?_
    exact XQ.ok W (Fr.refl _ []) nil_B
set_option maxRecDepth 100000 in
set_option maxHeartbeats 4000000 in
theorem kx_errorPosition (hG : GKx g) (K0 : KC g h) (W : WX g N B h o σ) (hO : spOk σ)  (hd : 8 ≤ d) (hc : 1 ≤ c) (hk : 6 ≤ k) : Kc g mX1_errorPosition d c k [.ref o] h (XQ g N B h o (fun m : Int => "java/util/NoSuchElementException") (opErr σ)) := by
  refine Kc.of (ls := [some (.ref o)]) (by decide +kernel) (Nat.le_of_ble_eq_true rfl) rfl ?_
  obtain ⟨I, own, ⟨pid, a, st, fo⟩, us, cl, ud, uv, uh, ib, iv, ic, os, ow, sdv, scv, lev, cs, HO, WR⟩ := id W
  have HO : h o = some (.inr (0, [.ref a, .ref cl, .ref ud, sdv, scv, .ref ib, .ref os, lev, vz σ.2.2.2.2.2.1, vz σ.2.2.2.2.1])) := HO
  obtain ⟨⟨hBo, ho1, hIo⟩, ⟨hSI, hCI, hBB⟩, KD, KCs, KU, KN, KS, KI, KOu, KE⟩ := id WR
  have H : DnC g I h a st fo σ.1 := KD.1
  have dO := hO.1
  obtain ⟨A, Bf, pv, sv, KDA, hA, hB9, hV⟩ := id H
  obtain ⟨k1, k2, k3, k4, k5, k6, k7, k8⟩ := id KDA
  unfold opErr
  rcases KE with ⟨e1, rfl⟩ | ⟨e1, qe, rfl, e2⟩
  · rw [if_pos e1]
    refine ev_aload_n dX1_errorPosition_0 rfl ?_
    refine ev_getf dX1_errorPosition_1 gf_X1_199_X1 HO rfl ?_
    refine ev_ifnullN (tgt := 11) dX1_errorPosition_4 (by decide) ?_
    refine ev_iconstZ dX1_errorPosition_11 ?_
    refine ev_callS dX1_errorPosition_12 cs_X1_203 ce_X1_checkElement rfl rfl (k_checkElementF (b := false) hG rfl) (by omega) (by omega) (by omega) (Nat.le_of_ble_eq_true rfl) (fun v h2 q => ?_) (fun E q h2 r => ?_)
    · obtain ⟨q9, e9, -⟩ := q; cases e9
    · obtain ⟨q9, e9, rfl⟩ := r
      cases e9
      exact evx_out rfl (XQ.no (by decide) rfl W (Fr.refl _ []) nil_B)
  · rw [if_neg (by omega)]
    have e3 := hSI _ _ e2
    refine ev_aload_n dX1_errorPosition_0 rfl ?_
    refine ev_getf dX1_errorPosition_1 gf_X1_199_X1 HO rfl ?_
    refine ev_ifnull dX1_errorPosition_4 ?_
    refine ev_iconstZ dX1_errorPosition_7 ?_
    refine ev_goto (tgt := 12) dX1_errorPosition_8 (by decide) ?_
    refine ev_callSN dX1_errorPosition_12 cs_X1_203 ce_X1_checkElement rfl rfl (k_checkElementT (d := 0) (b := true) rfl) (by omega) (Nat.le_of_ble_eq_true rfl) ?_
    refine ev_aload_n dX1_errorPosition_15 rfl ?_
    refine ev_getf dX1_errorPosition_16 gf_X1_199_X1 HO rfl ?_
    refine ev_getf dX1_errorPosition_19 gf_X1_206_X7 e3 rfl ?_
    refine ev_ireturn dX1_errorPosition_22 rfl ?_
    exact XQ.ok W (Fr.refl _ []) nil_B
set_option maxRecDepth 100000 in
set_option maxHeartbeats 4000000 in
theorem kx_output (hG : GKx g) (K0 : KC g h) (W : WX g N B h o σ) (hO : spOk σ) {i : Int} (hr : inR i) (hu8 : ∀ u ∈ σ.2.2.2.1.2, u < 128) (hd : 8 ≤ d) (hc : 1 ≤ c) (hk : 6 ≤ k) : Kc g mX1_output d c k [.ref o, vz i] h (XQ g N B h o (fun m : Int => "java/lang/IndexOutOfBoundsException") (opOutput σ i)) := by
  refine Kc.of (ls := [some (.ref o), some (vz i)]) (by decide +kernel) (Nat.le_of_ble_eq_true rfl) rfl ?_
  obtain ⟨I, own, ⟨pid, a, st, fo⟩, us, cl, ud, uv, uh, ib, iv, ic, os, ow, sdv, scv, lev, cs, HO, WR⟩ := id W
  have HO : h o = some (.inr (0, [.ref a, .ref cl, .ref ud, sdv, scv, .ref ib, .ref os, lev, vz σ.2.2.2.2.2.1, vz σ.2.2.2.2.1])) := HO
  obtain ⟨⟨hBo, ho1, hIo⟩, ⟨hSI, hCI, hBB⟩, KD, KCs, KU, KN, KS, KI, KOu, KE⟩ := id WR
  have H : DnC g I h a st fo σ.1 := KD.1
  have dO := hO.1
  obtain ⟨A, Bf, pv, sv, KDA, hA, hB9, hV⟩ := id H
  obtain ⟨k1, k2, k3, k4, k5, k6, k7, k8⟩ := id KDA
  unfold opOutput
  obtain ⟨KO, -, -⟩ := KOu
  obtain ⟨tA, tx, ty, ht1, ht2, htb, htl⟩ := id KO
  by_cases c9 : 0 ≤ i ∧ i ≤ ((σ.2.2.2.1.2.length : Nat) : Int) - 1
  · rw [if_pos c9]
    obtain ⟨u, hu⟩ : ∃ u, σ.2.2.2.1.2[i.toNat]? = some u := ⟨_, List.getElem?_eq_getElem (by omega)⟩
    have hu9 := hu8 u (List.mem_of_getElem? hu)
    refine ev_iload_n dX1_output_0 rfl ?_
    refine ev_i2l dX1_output_1 ?_
    refine ev_lconst0 dX1_output_2 ?_
    refine ev_aload_n dX1_output_3 rfl ?_
    refine ev_getf dX1_output_4 gf_X1_64_X1 HO rfl ?_
    refine ev_callVE dX1_output_7 cv_X1_216_J7 ce_J7_length ht1 rfl rfl rfl (st_length KO hG) (by omega) (Nat.le_of_ble_eq_true rfl) ?_
    refine ev_iconstZ dX1_output_10 ?_
    refine ev_isubZ dX1_output_11 ?_
    refine ev_i2l dX1_output_12 ?_
    refine ev_callSE dX1_output_13 cs_X1_108 ce_X1_inRange rfl rfl (k_inRange (d := 0) (a := i) (lo := 0) (hi := ((σ.2.2.2.1.2.length : Nat) : Int) - 1) (by omega)) (by omega) (Nat.le_of_ble_eq_true rfl) ?_
    refine ev_callSN dX1_output_16 cs_X1_112 ce_X1_checkIndex rfl rfl (k_checkIndexT (d := 0) (decide_eq_true c9)) (by omega) (Nat.le_of_ble_eq_true rfl) ?_
    refine ev_aload_n dX1_output_19 rfl ?_
    refine ev_getf dX1_output_20 gf_X1_64_X1 HO rfl ?_
    refine ev_iload_n dX1_output_23 rfl ?_
    refine ev_callVE dX1_output_24 cv_X1_219_J7 ce_J7_charAt ht1 rfl rfl rfl (st_charAt KO hG (by omega) hu) (by omega) (Nat.le_of_ble_eq_true rfl) ?_
    refine ev_zreturn dX1_output_27 rfl (congrArg Value.int (vp_nar_c ⟨by omega, by omega⟩)) ?_
    rw [List.getD_eq_getElem?_getD, hu]
    exact XQ.ok W (Fr.refl _ []) nil_B
  · rw [if_neg c9]
    refine ev_iload_n dX1_output_0 rfl ?_
    refine ev_i2l dX1_output_1 ?_
    refine ev_lconst0 dX1_output_2 ?_
    refine ev_aload_n dX1_output_3 rfl ?_
    refine ev_getf dX1_output_4 gf_X1_64_X1 HO rfl ?_
    refine ev_callVE dX1_output_7 cv_X1_216_J7 ce_J7_length ht1 rfl rfl rfl (st_length KO hG) (by omega) (Nat.le_of_ble_eq_true rfl) ?_
    refine ev_iconstZ dX1_output_10 ?_
    refine ev_isubZ dX1_output_11 ?_
    refine ev_i2l dX1_output_12 ?_
    refine ev_callSE dX1_output_13 cs_X1_108 ce_X1_inRange rfl rfl (k_inRange (d := 0) (a := i) (lo := 0) (hi := ((σ.2.2.2.1.2.length : Nat) : Int) - 1) (by omega)) (by omega) (Nat.le_of_ble_eq_true rfl) ?_
    refine ev_callS dX1_output_16 cs_X1_112 ce_X1_checkIndex rfl rfl (k_checkIndexF hG (decide_eq_false c9)) (by omega) (by omega) (by omega) (Nat.le_of_ble_eq_true rfl) (fun v h2 q => ?_) (fun E q h2 r => ?_)
    · obtain ⟨q9, e9, -⟩ := q; cases e9
    · obtain ⟨q9, e9, rfl⟩ := r
      cases e9
      exact evx_out rfl (XQ.no (by decide) rfl W (Fr.refl _ []) nil_B)
end X1S

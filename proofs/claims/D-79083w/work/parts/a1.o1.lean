/-! THE COMPONENT: Repeat.write (printed by gen) -/
section O1S
variable {g : GB} {M : MI} {d c k : Nat} {h : HM}
set_option maxRecDepth 100000 in
set_option maxHeartbeats 4000000 in
theorem k_wrX10a {a b v cap B q κ D n : Nat} {t : List Nat} {I : HM} {rk : List (List Nat)} (hG : GKx g) (hI : Sub I h) (K : KC g h) (H : SBh g h b v cap t) (hIb : I b = none) (hIv : I v = none) (hIa : I a = some (.inr (7, [.ref q, vz ((n : Nat) : Int)]))) (hn : n < 10) (hkc : ∃ fs, I q = some (.inr (nCi κ, fs))) (hk : Wk g I D κ q rk) (hB : capF ((([] : List (List Nat)) ++ [[48 + n]]) ++ (((([] : List (List Nat)) ++ [strB "("]) ++ rk) ++ [strB ")"])) cap t.length ≤ B) (hB4 : B < 400000) (hd : D + 8 ≤ d) (hκ : 6 ≤ κ) : Kc g mX10_write d (B - cap) (2 * (B - cap)) [.ref a, .ref b] h (rR (fun r h' => r = none ∧ Wr g h b v cap t (((([] : List (List Nat)) ++ [[48 + n]]) ++ (((([] : List (List Nat)) ++ [strB "("]) ++ rk) ++ [strB ")"]))) h')) := by
  refine Kc.of (ls := [some (.ref a), some (.ref b)]) (by decide +kernel) (Nat.le_of_ble_eq_true rfl) rfl ?_
  have ha := hI _ _ hIa
  have H0 : SBh g h b v (capF ([] : List (List Nat)) cap t.length) (t ++ ([] : List (List Nat)).flatten) := by rw [List.flatten_nil, List.append_nil]; exact H
  have e0 : capF ([] : List (List Nat)) cap t.length = cap := rfl
  have b2 : capF ((([] : List (List Nat)) ++ [[48 + n]]) ++ (((([] : List (List Nat)) ++ [strB "("]) ++ rk) ++ [strB ")"])) cap t.length ≤ B := hB
  have b1 : capF (([] : List (List Nat)) ++ [[48 + n]]) cap t.length ≤ B := Nat.le_trans (capF_pre _ _ _ _) b2
  refine ev_aload_n dX10_write_0 rfl ?_
  refine ev_aload_n dX10_write_1 rfl ?_
  refine ev_getf dX10_write_2 gf_X10_7_X10 ha rfl ?_
  obtain ⟨A1, haw1, -⟩ := id H0
  have l1_1 := capF_le [[48 + n]] (capF ([] : List (List Nat)) cap t.length) (t ++ ([] : List (List Nat)).flatten).length
  have l4_1 := capF_m ([48 + n]) (capF ([] : List (List Nat)) cap t.length) (t ++ ([] : List (List Nat)).flatten).length
  have l2_1 : capF (([] : List (List Nat)) ++ [[48 + n]]) cap t.length = capF [[48 + n]] (capF ([] : List (List Nat)) cap t.length) (t ++ ([] : List (List Nat)).flatten).length := by rw [capF_app, List.length_append]
  refine ev_callVR dX10_write_5 cv_X10_42_J6 ce_J6_append_2 haw1 rfl rfl rfl (w_int hG (K.fr (Fr.refl (g := g) h [b, v])) H0 hn ⟨by have e1 : ([48 + n] : List Nat).length = 1 := rfl; omega, by omega⟩) (by omega) (by omega) (by omega) (Nat.le_of_ble_eq_true rfl) (fun v1 hw_1 P1 => ?_)
  obtain ⟨rfl, W1⟩ := P1
  obtain ⟨w1, H1, o1, F1⟩ := Wr.cat (Or.inl rfl) (Fr.refl (g := g) h [b, v]) W1
  refine Ev.le (c' := B - capF (([] : List (List Nat)) ++ [[48 + n]]) cap t.length) (k' := 2 * (B - capF (([] : List (List Nat)) ++ [[48 + n]]) cap t.length)) (by omega) (by omega) ?_
  have ha_2 := F1.kp ha (fun _ => nin_sb hIa hIb hIv)
  refine ev_pop dX10_write_8 rfl ?_
  refine ev_aload_n dX10_write_9 rfl ?_
  refine ev_aload_n dX10_write_10 rfl ?_
  refine ev_aload_n dX10_write_11 rfl ?_
  refine ev_getf dX10_write_12 gf_X10_20_X10 ha_2 rfl ?_
  refine ev_aload_n dX10_write_15 rfl ?_
  refine ev_getf dX10_write_16 gf_X10_20_X10 ha_2 rfl ?_
  refine ev_instSev hG dX10_write_19 q1295 (hkc.imp (fun fs e => sub_sb hI F1 hIb hIv _ _ e)) ?_
  rw [if_pos hκ]
  refine ev_if_neZ (tgt := 35) dX10_write_22 (by decide) (by omega) (fun c22 => ?_) (fun c22 => by omega)
  refine ev_iconstZ dX10_write_35 ?_
  refine ev_goto (tgt := 40) dX10_write_36 (by decide) ?_
  have l1_3 := capF_le (((([] : List (List Nat)) ++ [strB "("]) ++ rk) ++ [strB ")"]) (capF (([] : List (List Nat)) ++ [[48 + n]]) cap t.length) (t ++ (([] : List (List Nat)) ++ [[48 + n]]).flatten).length
  have l2_3 : capF ((([] : List (List Nat)) ++ [[48 + n]]) ++ (((([] : List (List Nat)) ++ [strB "("]) ++ rk) ++ [strB ")"])) cap t.length = capF (((([] : List (List Nat)) ++ [strB "("]) ++ rk) ++ [strB ")"]) (capF (([] : List (List Nat)) ++ [[48 + n]]) cap t.length) (t ++ (([] : List (List Nat)) ++ [[48 + n]]).flatten).length := by rw [capF_app, List.length_append]
  refine ev_callVR dX10_write_40 cv_X10_50_X10 ce_X8_writePart ha_2 rfl rfl rfl (k_wpT (h := hw_1) (d := D + 7) (B := capF ((([] : List (List Nat)) ++ [[48 + n]]) ++ (((([] : List (List Nat)) ++ [strB "("]) ++ rk) ++ [strB ")"])) cap t.length) hG (sub_sb hI F1 hIb hIv) (K.fr F1) H1 hIb (sb_none hI hIv o1) hkc hk (by omega) (by omega) (by omega)) (by omega) (by omega) (by omega) (Nat.le_of_ble_eq_true rfl) (fun v3 hw_3 P3 => ?_)
  obtain ⟨rfl, W3⟩ := P3
  obtain ⟨w3, H3, o3, F3⟩ := Wr.cat o1 F1 W3
  refine ev_return dX10_write_43 rfl ?_
  exact ⟨_, rfl, rfl, w3, H3, o3, F3⟩
set_option maxRecDepth 100000 in
set_option maxHeartbeats 4000000 in
theorem k_wrX10b {a b v cap B q κ D n : Nat} {t : List Nat} {I : HM} {rk : List (List Nat)} (hG : GKx g) (hI : Sub I h) (K : KC g h) (H : SBh g h b v cap t) (hIb : I b = none) (hIv : I v = none) (hIa : I a = some (.inr (7, [.ref q, vz ((n : Nat) : Int)]))) (hn : n < 10) (hkc : ∃ fs, I q = some (.inr (nCi κ, fs))) (hk : Wk g I D κ q rk) (hB : capF ((([] : List (List Nat)) ++ [[48 + n]]) ++ (((([] : List (List Nat)) ++ [strB "("]) ++ rk) ++ [strB ")"])) cap t.length ≤ B) (hB4 : B < 400000) (hd : D + 8 ≤ d) (hκ : κ = 3) : Kc g mX10_write d (B - cap) (2 * (B - cap)) [.ref a, .ref b] h (rR (fun r h' => r = none ∧ Wr g h b v cap t (((([] : List (List Nat)) ++ [[48 + n]]) ++ (((([] : List (List Nat)) ++ [strB "("]) ++ rk) ++ [strB ")"]))) h')) := by
  refine Kc.of (ls := [some (.ref a), some (.ref b)]) (by decide +kernel) (Nat.le_of_ble_eq_true rfl) rfl ?_
  have ha := hI _ _ hIa
  have H0 : SBh g h b v (capF ([] : List (List Nat)) cap t.length) (t ++ ([] : List (List Nat)).flatten) := by rw [List.flatten_nil, List.append_nil]; exact H
  have e0 : capF ([] : List (List Nat)) cap t.length = cap := rfl
  have b2 : capF ((([] : List (List Nat)) ++ [[48 + n]]) ++ (((([] : List (List Nat)) ++ [strB "("]) ++ rk) ++ [strB ")"])) cap t.length ≤ B := hB
  have b1 : capF (([] : List (List Nat)) ++ [[48 + n]]) cap t.length ≤ B := Nat.le_trans (capF_pre _ _ _ _) b2
  refine ev_aload_n dX10_write_0 rfl ?_
  refine ev_aload_n dX10_write_1 rfl ?_
  refine ev_getf dX10_write_2 gf_X10_7_X10 ha rfl ?_
  obtain ⟨A1, haw1, -⟩ := id H0
  have l1_1 := capF_le [[48 + n]] (capF ([] : List (List Nat)) cap t.length) (t ++ ([] : List (List Nat)).flatten).length
  have l4_1 := capF_m ([48 + n]) (capF ([] : List (List Nat)) cap t.length) (t ++ ([] : List (List Nat)).flatten).length
  have l2_1 : capF (([] : List (List Nat)) ++ [[48 + n]]) cap t.length = capF [[48 + n]] (capF ([] : List (List Nat)) cap t.length) (t ++ ([] : List (List Nat)).flatten).length := by rw [capF_app, List.length_append]
  refine ev_callVR dX10_write_5 cv_X10_42_J6 ce_J6_append_2 haw1 rfl rfl rfl (w_int hG (K.fr (Fr.refl (g := g) h [b, v])) H0 hn ⟨by have e1 : ([48 + n] : List Nat).length = 1 := rfl; omega, by omega⟩) (by omega) (by omega) (by omega) (Nat.le_of_ble_eq_true rfl) (fun v1 hw_1 P1 => ?_)
  obtain ⟨rfl, W1⟩ := P1
  obtain ⟨w1, H1, o1, F1⟩ := Wr.cat (Or.inl rfl) (Fr.refl (g := g) h [b, v]) W1
  refine Ev.le (c' := B - capF (([] : List (List Nat)) ++ [[48 + n]]) cap t.length) (k' := 2 * (B - capF (([] : List (List Nat)) ++ [[48 + n]]) cap t.length)) (by omega) (by omega) ?_
  have ha_2 := F1.kp ha (fun _ => nin_sb hIa hIb hIv)
  refine ev_pop dX10_write_8 rfl ?_
  refine ev_aload_n dX10_write_9 rfl ?_
  refine ev_aload_n dX10_write_10 rfl ?_
  refine ev_aload_n dX10_write_11 rfl ?_
  refine ev_getf dX10_write_12 gf_X10_20_X10 ha_2 rfl ?_
  refine ev_aload_n dX10_write_15 rfl ?_
  refine ev_getf dX10_write_16 gf_X10_20_X10 ha_2 rfl ?_
  refine ev_instSev hG dX10_write_19 q1295 (hkc.imp (fun fs e => sub_sb hI F1 hIb hIv _ _ e)) ?_
  rw [if_neg (by omega)]
  refine ev_if_neZ (tgt := 35) dX10_write_22 (by decide) (by omega) (fun c22 => by omega) (fun c22 => ?_)
  refine ev_aload_n dX10_write_25 rfl ?_
  refine ev_getf dX10_write_26 gf_X10_20_X10 ha_2 rfl ?_
  refine ev_instRep hG dX10_write_29 q1296 (hkc.imp (fun fs e => sub_sb hI F1 hIb hIv _ _ e)) ?_
  rw [if_pos hκ]
  refine ev_if_eqZ (tgt := 39) dX10_write_32 (by decide) (by omega) (fun c32 => by omega) (fun c32 => ?_)
  refine ev_iconstZ dX10_write_35 ?_
  refine ev_goto (tgt := 40) dX10_write_36 (by decide) ?_
  have l1_3 := capF_le (((([] : List (List Nat)) ++ [strB "("]) ++ rk) ++ [strB ")"]) (capF (([] : List (List Nat)) ++ [[48 + n]]) cap t.length) (t ++ (([] : List (List Nat)) ++ [[48 + n]]).flatten).length
  have l2_3 : capF ((([] : List (List Nat)) ++ [[48 + n]]) ++ (((([] : List (List Nat)) ++ [strB "("]) ++ rk) ++ [strB ")"])) cap t.length = capF (((([] : List (List Nat)) ++ [strB "("]) ++ rk) ++ [strB ")"]) (capF (([] : List (List Nat)) ++ [[48 + n]]) cap t.length) (t ++ (([] : List (List Nat)) ++ [[48 + n]]).flatten).length := by rw [capF_app, List.length_append]
  refine ev_callVR dX10_write_40 cv_X10_50_X10 ce_X8_writePart ha_2 rfl rfl rfl (k_wpT (h := hw_1) (d := D + 7) (B := capF ((([] : List (List Nat)) ++ [[48 + n]]) ++ (((([] : List (List Nat)) ++ [strB "("]) ++ rk) ++ [strB ")"])) cap t.length) hG (sub_sb hI F1 hIb hIv) (K.fr F1) H1 hIb (sb_none hI hIv o1) hkc hk (by omega) (by omega) (by omega)) (by omega) (by omega) (by omega) (Nat.le_of_ble_eq_true rfl) (fun v3 hw_3 P3 => ?_)
  obtain ⟨rfl, W3⟩ := P3
  obtain ⟨w3, H3, o3, F3⟩ := Wr.cat o1 F1 W3
  refine ev_return dX10_write_43 rfl ?_
  exact ⟨_, rfl, rfl, w3, H3, o3, F3⟩
set_option maxRecDepth 100000 in
set_option maxHeartbeats 4000000 in
theorem k_wrX10c {a b v cap B q κ D n : Nat} {t : List Nat} {I : HM} {rk : List (List Nat)} (hG : GKx g) (hI : Sub I h) (K : KC g h) (H : SBh g h b v cap t) (hIb : I b = none) (hIv : I v = none) (hIa : I a = some (.inr (7, [.ref q, vz ((n : Nat) : Int)]))) (hn : n < 10) (hkc : ∃ fs, I q = some (.inr (nCi κ, fs))) (hk : Wk g I D κ q rk) (hB : capF ((([] : List (List Nat)) ++ [[48 + n]]) ++ (((([] : List (List Nat)) ++ [strB ""]) ++ rk) ++ [strB ""])) cap t.length ≤ B) (hB4 : B < 400000) (hd : D + 8 ≤ d) (hκ : ¬ 6 ≤ κ ∧ ¬ κ = 3) : Kc g mX10_write d (B - cap) (2 * (B - cap)) [.ref a, .ref b] h (rR (fun r h' => r = none ∧ Wr g h b v cap t (((([] : List (List Nat)) ++ [[48 + n]]) ++ (((([] : List (List Nat)) ++ [strB ""]) ++ rk) ++ [strB ""]))) h')) := by
  refine Kc.of (ls := [some (.ref a), some (.ref b)]) (by decide +kernel) (Nat.le_of_ble_eq_true rfl) rfl ?_
  have ha := hI _ _ hIa
  have H0 : SBh g h b v (capF ([] : List (List Nat)) cap t.length) (t ++ ([] : List (List Nat)).flatten) := by rw [List.flatten_nil, List.append_nil]; exact H
  have e0 : capF ([] : List (List Nat)) cap t.length = cap := rfl
  have b2 : capF ((([] : List (List Nat)) ++ [[48 + n]]) ++ (((([] : List (List Nat)) ++ [strB ""]) ++ rk) ++ [strB ""])) cap t.length ≤ B := hB
  have b1 : capF (([] : List (List Nat)) ++ [[48 + n]]) cap t.length ≤ B := Nat.le_trans (capF_pre _ _ _ _) b2
  refine ev_aload_n dX10_write_0 rfl ?_
  refine ev_aload_n dX10_write_1 rfl ?_
  refine ev_getf dX10_write_2 gf_X10_7_X10 ha rfl ?_
  obtain ⟨A1, haw1, -⟩ := id H0
  have l1_1 := capF_le [[48 + n]] (capF ([] : List (List Nat)) cap t.length) (t ++ ([] : List (List Nat)).flatten).length
  have l4_1 := capF_m ([48 + n]) (capF ([] : List (List Nat)) cap t.length) (t ++ ([] : List (List Nat)).flatten).length
  have l2_1 : capF (([] : List (List Nat)) ++ [[48 + n]]) cap t.length = capF [[48 + n]] (capF ([] : List (List Nat)) cap t.length) (t ++ ([] : List (List Nat)).flatten).length := by rw [capF_app, List.length_append]
  refine ev_callVR dX10_write_5 cv_X10_42_J6 ce_J6_append_2 haw1 rfl rfl rfl (w_int hG (K.fr (Fr.refl (g := g) h [b, v])) H0 hn ⟨by have e1 : ([48 + n] : List Nat).length = 1 := rfl; omega, by omega⟩) (by omega) (by omega) (by omega) (Nat.le_of_ble_eq_true rfl) (fun v1 hw_1 P1 => ?_)
  obtain ⟨rfl, W1⟩ := P1
  obtain ⟨w1, H1, o1, F1⟩ := Wr.cat (Or.inl rfl) (Fr.refl (g := g) h [b, v]) W1
  refine Ev.le (c' := B - capF (([] : List (List Nat)) ++ [[48 + n]]) cap t.length) (k' := 2 * (B - capF (([] : List (List Nat)) ++ [[48 + n]]) cap t.length)) (by omega) (by omega) ?_
  have ha_2 := F1.kp ha (fun _ => nin_sb hIa hIb hIv)
  refine ev_pop dX10_write_8 rfl ?_
  refine ev_aload_n dX10_write_9 rfl ?_
  refine ev_aload_n dX10_write_10 rfl ?_
  refine ev_aload_n dX10_write_11 rfl ?_
  refine ev_getf dX10_write_12 gf_X10_20_X10 ha_2 rfl ?_
  refine ev_aload_n dX10_write_15 rfl ?_
  refine ev_getf dX10_write_16 gf_X10_20_X10 ha_2 rfl ?_
  refine ev_instSev hG dX10_write_19 q1295 (hkc.imp (fun fs e => sub_sb hI F1 hIb hIv _ _ e)) ?_
  rw [if_neg (by omega)]
  refine ev_if_neZ (tgt := 35) dX10_write_22 (by decide) (by omega) (fun c22 => by omega) (fun c22 => ?_)
  refine ev_aload_n dX10_write_25 rfl ?_
  refine ev_getf dX10_write_26 gf_X10_20_X10 ha_2 rfl ?_
  refine ev_instRep hG dX10_write_29 q1296 (hkc.imp (fun fs e => sub_sb hI F1 hIb hIv _ _ e)) ?_
  rw [if_neg (by omega)]
  refine ev_if_eqZ (tgt := 39) dX10_write_32 (by decide) (by omega) (fun c32 => ?_) (fun c32 => by omega)
  refine ev_iconstZ dX10_write_39 ?_
  have l1_3 := capF_le (((([] : List (List Nat)) ++ [strB ""]) ++ rk) ++ [strB ""]) (capF (([] : List (List Nat)) ++ [[48 + n]]) cap t.length) (t ++ (([] : List (List Nat)) ++ [[48 + n]]).flatten).length
  have l2_3 : capF ((([] : List (List Nat)) ++ [[48 + n]]) ++ (((([] : List (List Nat)) ++ [strB ""]) ++ rk) ++ [strB ""])) cap t.length = capF (((([] : List (List Nat)) ++ [strB ""]) ++ rk) ++ [strB ""]) (capF (([] : List (List Nat)) ++ [[48 + n]]) cap t.length) (t ++ (([] : List (List Nat)) ++ [[48 + n]]).flatten).length := by rw [capF_app, List.length_append]
  refine ev_callVR dX10_write_40 cv_X10_50_X10 ce_X8_writePart ha_2 rfl rfl rfl (k_wpF (h := hw_1) (d := D + 7) (B := capF ((([] : List (List Nat)) ++ [[48 + n]]) ++ (((([] : List (List Nat)) ++ [strB ""]) ++ rk) ++ [strB ""])) cap t.length) hG (sub_sb hI F1 hIb hIv) (K.fr F1) H1 hIb (sb_none hI hIv o1) hkc hk (by omega) (by omega) (by omega)) (by omega) (by omega) (by omega) (Nat.le_of_ble_eq_true rfl) (fun v3 hw_3 P3 => ?_)
  obtain ⟨rfl, W3⟩ := P3
  obtain ⟨w3, H3, o3, F3⟩ := Wr.cat o1 F1 W3
  refine ev_return dX10_write_43 rfl ?_
  exact ⟨_, rfl, rfl, w3, H3, o3, F3⟩
end O1S

/-! THE COMPONENT: writing mirrored and reversed parts (printed by gen) -/
section N9S
variable {g : GB} {M : MI} {d c k : Nat} {h : HM}
theorem nin_sb {I : HM} {a b v : Nat} {e : MO} (ha : I a = some e) (hb : I b = none) (hv : I v = none) : a ∉ [b, v] := fun c => by
  rcases List.mem_cons.mp c with r | r
  · rw [r, hb] at ha; cases ha
  · rw [List.mem_singleton.mp r, hv] at ha; cases ha
set_option maxRecDepth 100000 in
set_option maxHeartbeats 4000000 in
theorem k_wrX14 {a b v cap B q κ D : Nat} {t : List Nat} {I : HM} {rk : List (List Nat)} (hG : GKx g) (hI : Sub I h) (K : KC g h) (H : SBh g h b v cap t) (hIb : I b = none) (hIv : I v = none) (hIa : I a = some (.inr (10, [.ref q]))) (hkc : ∃ fs, I q = some (.inr (nCi κ, fs))) (hk : Wk g I D κ q rk) (hB : capF ((([] : List (List Nat)) ++ [strB "m"]) ++ (((([] : List (List Nat)) ++ [strB "("]) ++ rk) ++ [strB ")"])) cap t.length ≤ B) (hB4 : B < 400000) (hd : D + 8 ≤ d) : Kc g mX14_write d (B - cap) (2 * (B - cap)) [.ref a, .ref b] h (rR (fun r h' => r = none ∧ Wr g h b v cap t (((([] : List (List Nat)) ++ [strB "m"]) ++ (((([] : List (List Nat)) ++ [strB "("]) ++ rk) ++ [strB ")"]))) h')) := by
  refine Kc.of (ls := [some (.ref a), some (.ref b)]) (by decide +kernel) (Nat.le_of_ble_eq_true rfl) rfl ?_
  have ha := hI _ _ hIa
  have H0 : SBh g h b v (capF ([] : List (List Nat)) cap t.length) (t ++ ([] : List (List Nat)).flatten) := by rw [List.flatten_nil, List.append_nil]; exact H
  have e0 : capF ([] : List (List Nat)) cap t.length = cap := rfl
  have b2 : capF ((([] : List (List Nat)) ++ [strB "m"]) ++ (((([] : List (List Nat)) ++ [strB "("]) ++ rk) ++ [strB ")"])) cap t.length ≤ B := hB
  have b1 : capF (([] : List (List Nat)) ++ [strB "m"]) cap t.length ≤ B := Nat.le_trans (capF_pre _ _ _ _) b2
  refine ev_aload_n dX14_write_0 rfl ?_
  refine ev_ldcS (i := 13) hG dX14_write_1 rfl ?_
  obtain ⟨A1, haw1, -⟩ := id H0
  have l1_1 := capF_le [strB "m"] (capF ([] : List (List Nat)) cap t.length) (t ++ ([] : List (List Nat)).flatten).length
  have l4_1 := capF_m (strB "m") (capF ([] : List (List Nat)) cap t.length) (t ++ ([] : List (List Nat)).flatten).length
  have l2_1 : capF (([] : List (List Nat)) ++ [strB "m"]) cap t.length = capF [strB "m"] (capF ([] : List (List Nat)) cap t.length) (t ++ ([] : List (List Nat)).flatten).length := by rw [capF_app, List.length_append]
  refine ev_callVR dX14_write_3 cv_X14_32_J6 ce_J6_append haw1 rfl rfl rfl (w_con (i := 13) hG (K.fr (Fr.refl (g := g) h [b, v])) H0 rfl ⟨by omega, by omega⟩) (by omega) (by omega) (by omega) (Nat.le_of_ble_eq_true rfl) (fun v1 hw_1 P1 => ?_)
  obtain ⟨rfl, W1⟩ := P1
  obtain ⟨w1, H1, o1, F1⟩ := Wr.cat (Or.inl rfl) (Fr.refl (g := g) h [b, v]) W1
  refine Ev.le (c' := B - capF (([] : List (List Nat)) ++ [strB "m"]) cap t.length) (k' := 2 * (B - capF (([] : List (List Nat)) ++ [strB "m"]) cap t.length)) (by omega) (by omega) ?_
  have ha_2 := F1.kp ha (fun _ => nin_sb hIa hIb hIv)
  refine ev_pop dX14_write_6 rfl ?_
  refine ev_aload_n dX14_write_7 rfl ?_
  refine ev_aload_n dX14_write_8 rfl ?_
  refine ev_aload_n dX14_write_9 rfl ?_
  refine ev_getf dX14_write_10 gf_X14_9_X14 ha_2 rfl ?_
  refine ev_iconstZ dX14_write_13 ?_
  have l1_3 := capF_le (((([] : List (List Nat)) ++ [strB "("]) ++ rk) ++ [strB ")"]) (capF (([] : List (List Nat)) ++ [strB "m"]) cap t.length) (t ++ (([] : List (List Nat)) ++ [strB "m"]).flatten).length
  have l2_3 : capF ((([] : List (List Nat)) ++ [strB "m"]) ++ (((([] : List (List Nat)) ++ [strB "("]) ++ rk) ++ [strB ")"])) cap t.length = capF (((([] : List (List Nat)) ++ [strB "("]) ++ rk) ++ [strB ")"]) (capF (([] : List (List Nat)) ++ [strB "m"]) cap t.length) (t ++ (([] : List (List Nat)) ++ [strB "m"]).flatten).length := by rw [capF_app, List.length_append]
  refine ev_callVR dX14_write_14 cv_X14_38_X14 ce_X8_writePart ha_2 rfl rfl rfl (k_wpT (h := hw_1) (d := D + 7) (B := capF ((([] : List (List Nat)) ++ [strB "m"]) ++ (((([] : List (List Nat)) ++ [strB "("]) ++ rk) ++ [strB ")"])) cap t.length) hG (sub_sb hI F1 hIb hIv) (K.fr F1) H1 hIb (sb_none hI hIv o1) hkc hk (by omega) (by omega) (by omega)) (by omega) (by omega) (by omega) (Nat.le_of_ble_eq_true rfl) (fun v3 hw_3 P3 => ?_)
  obtain ⟨rfl, W3⟩ := P3
  obtain ⟨w3, H3, o3, F3⟩ := Wr.cat o1 F1 W3
  refine ev_return dX14_write_17 rfl ?_
  exact ⟨_, rfl, rfl, w3, H3, o3, F3⟩
set_option maxRecDepth 100000 in
set_option maxHeartbeats 4000000 in
theorem k_wrX15 {a b v cap B q κ D : Nat} {t : List Nat} {I : HM} {rk : List (List Nat)} (hG : GKx g) (hI : Sub I h) (K : KC g h) (H : SBh g h b v cap t) (hIb : I b = none) (hIv : I v = none) (hIa : I a = some (.inr (11, [.ref q]))) (hkc : ∃ fs, I q = some (.inr (nCi κ, fs))) (hk : Wk g I D κ q rk) (hB : capF ((([] : List (List Nat)) ++ [strB "r"]) ++ (((([] : List (List Nat)) ++ [strB "("]) ++ rk) ++ [strB ")"])) cap t.length ≤ B) (hB4 : B < 400000) (hd : D + 8 ≤ d) : Kc g mX15_write d (B - cap) (2 * (B - cap)) [.ref a, .ref b] h (rR (fun r h' => r = none ∧ Wr g h b v cap t (((([] : List (List Nat)) ++ [strB "r"]) ++ (((([] : List (List Nat)) ++ [strB "("]) ++ rk) ++ [strB ")"]))) h')) := by
  refine Kc.of (ls := [some (.ref a), some (.ref b)]) (by decide +kernel) (Nat.le_of_ble_eq_true rfl) rfl ?_
  have ha := hI _ _ hIa
  have H0 : SBh g h b v (capF ([] : List (List Nat)) cap t.length) (t ++ ([] : List (List Nat)).flatten) := by rw [List.flatten_nil, List.append_nil]; exact H
  have e0 : capF ([] : List (List Nat)) cap t.length = cap := rfl
  have b2 : capF ((([] : List (List Nat)) ++ [strB "r"]) ++ (((([] : List (List Nat)) ++ [strB "("]) ++ rk) ++ [strB ")"])) cap t.length ≤ B := hB
  have b1 : capF (([] : List (List Nat)) ++ [strB "r"]) cap t.length ≤ B := Nat.le_trans (capF_pre _ _ _ _) b2
  refine ev_aload_n dX15_write_0 rfl ?_
  refine ev_ldcS (i := 14) hG dX15_write_1 rfl ?_
  obtain ⟨A1, haw1, -⟩ := id H0
  have l1_1 := capF_le [strB "r"] (capF ([] : List (List Nat)) cap t.length) (t ++ ([] : List (List Nat)).flatten).length
  have l4_1 := capF_m (strB "r") (capF ([] : List (List Nat)) cap t.length) (t ++ ([] : List (List Nat)).flatten).length
  have l2_1 : capF (([] : List (List Nat)) ++ [strB "r"]) cap t.length = capF [strB "r"] (capF ([] : List (List Nat)) cap t.length) (t ++ ([] : List (List Nat)).flatten).length := by rw [capF_app, List.length_append]
  refine ev_callVR dX15_write_3 cv_X15_32_J6 ce_J6_append haw1 rfl rfl rfl (w_con (i := 14) hG (K.fr (Fr.refl (g := g) h [b, v])) H0 rfl ⟨by omega, by omega⟩) (by omega) (by omega) (by omega) (Nat.le_of_ble_eq_true rfl) (fun v1 hw_1 P1 => ?_)
  obtain ⟨rfl, W1⟩ := P1
  obtain ⟨w1, H1, o1, F1⟩ := Wr.cat (Or.inl rfl) (Fr.refl (g := g) h [b, v]) W1
  refine Ev.le (c' := B - capF (([] : List (List Nat)) ++ [strB "r"]) cap t.length) (k' := 2 * (B - capF (([] : List (List Nat)) ++ [strB "r"]) cap t.length)) (by omega) (by omega) ?_
  have ha_2 := F1.kp ha (fun _ => nin_sb hIa hIb hIv)
  refine ev_pop dX15_write_6 rfl ?_
  refine ev_aload_n dX15_write_7 rfl ?_
  refine ev_aload_n dX15_write_8 rfl ?_
  refine ev_aload_n dX15_write_9 rfl ?_
  refine ev_getf dX15_write_10 gf_X15_9_X15 ha_2 rfl ?_
  refine ev_iconstZ dX15_write_13 ?_
  have l1_3 := capF_le (((([] : List (List Nat)) ++ [strB "("]) ++ rk) ++ [strB ")"]) (capF (([] : List (List Nat)) ++ [strB "r"]) cap t.length) (t ++ (([] : List (List Nat)) ++ [strB "r"]).flatten).length
  have l2_3 : capF ((([] : List (List Nat)) ++ [strB "r"]) ++ (((([] : List (List Nat)) ++ [strB "("]) ++ rk) ++ [strB ")"])) cap t.length = capF (((([] : List (List Nat)) ++ [strB "("]) ++ rk) ++ [strB ")"]) (capF (([] : List (List Nat)) ++ [strB "r"]) cap t.length) (t ++ (([] : List (List Nat)) ++ [strB "r"]).flatten).length := by rw [capF_app, List.length_append]
  refine ev_callVR dX15_write_14 cv_X15_38_X15 ce_X8_writePart ha_2 rfl rfl rfl (k_wpT (h := hw_1) (d := D + 7) (B := capF ((([] : List (List Nat)) ++ [strB "r"]) ++ (((([] : List (List Nat)) ++ [strB "("]) ++ rk) ++ [strB ")"])) cap t.length) hG (sub_sb hI F1 hIb hIv) (K.fr F1) H1 hIb (sb_none hI hIv o1) hkc hk (by omega) (by omega) (by omega)) (by omega) (by omega) (by omega) (Nat.le_of_ble_eq_true rfl) (fun v3 hw_3 P3 => ?_)
  obtain ⟨rfl, W3⟩ := P3
  obtain ⟨w3, H3, o3, F3⟩ := Wr.cat o1 F1 W3
  refine ev_return dX15_write_17 rfl ?_
  exact ⟨_, rfl, rfl, w3, H3, o3, F3⟩
end N9S

/-! THE COMPONENT: writing (printed by gen) -/
section N8S
variable {g : GB} {M : MI} {d c k : Nat} {h : HM}
set_option maxRecDepth 100000 in
set_option maxHeartbeats 4000000 in
theorem k_wrC {a b v cap B : Nat} {t : List Nat} (hG : GKx g) (K : KC g h) (H : SBh g h b v cap t) (hB : capF (([] : List (List Nat)) ++ [strB "!"]) cap t.length ≤ B) (hB4 : B < 400000) (hd : 6 ≤ d) : Kc g mX12_write d (B - cap) (2 * (B - cap)) [.ref a, .ref b] h (rR (fun r h' => r = none ∧ Wr g h b v cap t ((([] : List (List Nat)) ++ [strB "!"])) h')) := by
  refine Kc.of (ls := [some (.ref a), some (.ref b)]) (by decide +kernel) (Nat.le_of_ble_eq_true rfl) rfl ?_
  have H0 : SBh g h b v (capF ([] : List (List Nat)) cap t.length) (t ++ ([] : List (List Nat)).flatten) := by rw [List.flatten_nil, List.append_nil]; exact H
  have e0 : capF ([] : List (List Nat)) cap t.length = cap := rfl
  have b1 : capF (([] : List (List Nat)) ++ [strB "!"]) cap t.length ≤ B := hB
  have b0 : capF ([] : List (List Nat)) cap t.length ≤ B := Nat.le_trans (capF_pre _ _ _ _) b1
  refine ev_aload_n dX12_write_0 rfl ?_
  refine ev_ldcS (i := 10) hG dX12_write_1 rfl ?_
  obtain ⟨A1, haw1, -⟩ := id H0
  have l1_1 := capF_le [strB "!"] (capF ([] : List (List Nat)) cap t.length) (t ++ ([] : List (List Nat)).flatten).length
  have l4_1 := capF_m (strB "!") (capF ([] : List (List Nat)) cap t.length) (t ++ ([] : List (List Nat)).flatten).length
  have l2_1 : capF (([] : List (List Nat)) ++ [strB "!"]) cap t.length = capF [strB "!"] (capF ([] : List (List Nat)) cap t.length) (t ++ ([] : List (List Nat)).flatten).length := by rw [capF_app, List.length_append]
  refine ev_callVR dX12_write_3 cv_X12_15_J6 ce_J6_append haw1 rfl rfl rfl (w_con (i := 10) hG (K.fr (Fr.refl (g := g) h [b, v])) H0 rfl ⟨by omega, by omega⟩) (by omega) (by omega) (by omega) (Nat.le_of_ble_eq_true rfl) (fun v1 hw_1 P1 => ?_)
  obtain ⟨rfl, W1⟩ := P1
  obtain ⟨w1, H1, o1, F1⟩ := Wr.cat (Or.inl rfl) (Fr.refl (g := g) h [b, v]) W1
  refine Ev.le (c' := B - capF (([] : List (List Nat)) ++ [strB "!"]) cap t.length) (k' := 2 * (B - capF (([] : List (List Nat)) ++ [strB "!"]) cap t.length)) (by omega) (by omega) ?_
  refine ev_pop dX12_write_6 rfl ?_
  refine ev_return dX12_write_7 rfl ?_
  exact ⟨_, rfl, rfl, w1, H1, o1, F1⟩
/-- how a node at q of the kind κ writes itself: the chunks r -/
def Wk (g : GB) (I : HM) (D κ q : Nat) (r : List (List Nat)) : Prop := ∀ (h : HM) (b v cap B : Nat) (t : List Nat), Sub I h → KC g h → SBh g h b v cap t → I b = none → I v = none → capF r cap t.length ≤ B → B < 400000 → Kc g (fam_write κ) D (B - cap) (2 * (B - cap)) [.ref q, .ref b] h (rR (fun x h' => x = none ∧ Wr g h b v cap t r h'))
theorem Sub.none {I h : HM} {q : Nat} (hI : Sub I h) (hq : h q = none) : I q = none := by
  cases e : I q with
  | none => rfl
  | some x => rw [hI q x e] at hq; cases hq
theorem sub_sb {I h1 : HM} {b v : Nat} (hI : Sub I h) (F : Fr g h h1 [b, v]) (hb : I b = none) (hv : I v = none) : Sub I h1 := hI.fr F (fun x hx => by
  rcases List.mem_cons.mp hx with r | r
  · exact Or.inl (by rw [r]; exact hb)
  · exact Or.inl (by rw [List.mem_singleton.mp r]; exact hv))
theorem sb_none {I : HM} {v v2 : Nat} (hI : Sub I h) (hv : I v = none) (o : v2 = v ∨ h v2 = none) : I v2 = none := o.elim (fun e => by rw [e]; exact hv) (fun e => hI.none e)
set_option maxRecDepth 100000 in
set_option maxHeartbeats 4000000 in
theorem k_wpT {a b v cap B q κ D : Nat} {t : List Nat} {I : HM} {rk : List (List Nat)} (hG : GKx g) (hI : Sub I h) (K : KC g h) (H : SBh g h b v cap t) (hIb : I b = none) (hIv : I v = none) (hkc : ∃ fs, I q = some (.inr (nCi κ, fs))) (hk : Wk g I D κ q rk) (hB : capF (((([] : List (List Nat)) ++ [strB "("]) ++ rk) ++ [strB ")"]) cap t.length ≤ B) (hB4 : B < 400000) (hd : 6 ≤ d ∧ D + 1 ≤ d) : Kc g mX8_writePart d (B - cap) (2 * (B - cap)) [.ref a, .ref b, .ref q, vz 1] h (rR (fun r h' => r = none ∧ Wr g h b v cap t ((((([] : List (List Nat)) ++ [strB "("]) ++ rk) ++ [strB ")"])) h')) := by
  refine Kc.of (ls := [some (.ref a), some (.ref b), some (.ref q), some (vz 1)]) (by decide +kernel) (Nat.le_of_ble_eq_true rfl) rfl ?_
  have H0 : SBh g h b v (capF ([] : List (List Nat)) cap t.length) (t ++ ([] : List (List Nat)).flatten) := by rw [List.flatten_nil, List.append_nil]; exact H
  have e0 : capF ([] : List (List Nat)) cap t.length = cap := rfl
  have b3 : capF (((([] : List (List Nat)) ++ [strB "("]) ++ rk) ++ [strB ")"]) cap t.length ≤ B := hB
  have b2 : capF ((([] : List (List Nat)) ++ [strB "("]) ++ rk) cap t.length ≤ B := Nat.le_trans (capF_pre _ _ _ _) b3
  have b1 : capF (([] : List (List Nat)) ++ [strB "("]) cap t.length ≤ B := Nat.le_trans (capF_pre _ _ _ _) b2
  refine ev_aload_n dX8_writePart_0 rfl ?_
  refine ev_iload_n dX8_writePart_1 rfl ?_
  refine ev_if_eqZ (tgt := 10) dX8_writePart_2 (by decide) (by omega) (fun c2 => by omega) (fun c2 => ?_)
  refine ev_ldcS (i := 21) hG dX8_writePart_5 rfl ?_
  refine ev_goto (tgt := 12) dX8_writePart_7 (by decide) ?_
  obtain ⟨A1, haw1, -⟩ := id H0
  have l1_1 := capF_le [strB "("] (capF ([] : List (List Nat)) cap t.length) (t ++ ([] : List (List Nat)).flatten).length
  have l4_1 := capF_m (strB "(") (capF ([] : List (List Nat)) cap t.length) (t ++ ([] : List (List Nat)).flatten).length
  have l2_1 : capF (([] : List (List Nat)) ++ [strB "("]) cap t.length = capF [strB "("] (capF ([] : List (List Nat)) cap t.length) (t ++ ([] : List (List Nat)).flatten).length := by rw [capF_app, List.length_append]
  refine ev_callVR dX8_writePart_12 cv_X8_49_J6 ce_J6_append haw1 rfl rfl rfl (w_con (i := 21) hG (K.fr (Fr.refl (g := g) h [b, v])) H0 rfl ⟨by omega, by omega⟩) (by omega) (by omega) (by omega) (Nat.le_of_ble_eq_true rfl) (fun v1 hw_1 P1 => ?_)
  obtain ⟨rfl, W1⟩ := P1
  obtain ⟨w1, H1, o1, F1⟩ := Wr.cat (Or.inl rfl) (Fr.refl (g := g) h [b, v]) W1
  refine Ev.le (c' := B - capF (([] : List (List Nat)) ++ [strB "("]) cap t.length) (k' := 2 * (B - capF (([] : List (List Nat)) ++ [strB "("]) cap t.length)) (by omega) (by omega) ?_
  refine ev_pop dX8_writePart_15 rfl ?_
  refine ev_aload_n dX8_writePart_16 rfl ?_
  refine ev_aload_n dX8_writePart_17 rfl ?_
  have l1_2 := capF_le rk (capF (([] : List (List Nat)) ++ [strB "("]) cap t.length) (t ++ (([] : List (List Nat)) ++ [strB "("]).flatten).length
  have l2_2 : capF ((([] : List (List Nat)) ++ [strB "("]) ++ rk) cap t.length = capF rk (capF (([] : List (List Nat)) ++ [strB "("]) cap t.length) (t ++ (([] : List (List Nat)) ++ [strB "("]).flatten).length := by rw [capF_app, List.length_append]
  refine ev_callNR dX8_writePart_18 (nv_X8_55 hG) fe_write (h := hw_1) (κ := κ) (hkc.imp (fun fs e => sub_sb hI F1 hIb hIv _ _ e)) rfl rfl (hk hw_1 b w1 _ (capF ((([] : List (List Nat)) ++ [strB "("]) ++ rk) cap t.length) _ (sub_sb hI F1 hIb hIv) (K.fr F1) H1 hIb (sb_none hI hIv o1) (by omega) (by omega)) (by omega) (by omega) (by omega) (Nat.le_of_ble_eq_true rfl) (fun v2 hw_2 P2 => ?_)
  obtain ⟨rfl, W2⟩ := P2
  obtain ⟨w2, H2, o2, F2⟩ := Wr.cat o1 F1 W2
  refine Ev.le (c' := B - capF ((([] : List (List Nat)) ++ [strB "("]) ++ rk) cap t.length) (k' := 2 * (B - capF ((([] : List (List Nat)) ++ [strB "("]) ++ rk) cap t.length)) (by omega) (by omega) ?_
  refine ev_aload_n dX8_writePart_21 rfl ?_
  refine ev_iload_n dX8_writePart_22 rfl ?_
  refine ev_if_eqZ (tgt := 31) dX8_writePart_23 (by decide) (by omega) (fun c23 => by omega) (fun c23 => ?_)
  refine ev_ldcS (i := 23) hG dX8_writePart_26 rfl ?_
  refine ev_goto (tgt := 33) dX8_writePart_28 (by decide) ?_
  obtain ⟨A3, haw3, -⟩ := id H2
  have l1_3 := capF_le [strB ")"] (capF ((([] : List (List Nat)) ++ [strB "("]) ++ rk) cap t.length) (t ++ ((([] : List (List Nat)) ++ [strB "("]) ++ rk).flatten).length
  have l4_3 := capF_m (strB ")") (capF ((([] : List (List Nat)) ++ [strB "("]) ++ rk) cap t.length) (t ++ ((([] : List (List Nat)) ++ [strB "("]) ++ rk).flatten).length
  have l2_3 : capF (((([] : List (List Nat)) ++ [strB "("]) ++ rk) ++ [strB ")"]) cap t.length = capF [strB ")"] (capF ((([] : List (List Nat)) ++ [strB "("]) ++ rk) cap t.length) (t ++ ((([] : List (List Nat)) ++ [strB "("]) ++ rk).flatten).length := by rw [capF_app, List.length_append]
  refine ev_callVR dX8_writePart_33 cv_X8_49_J6 ce_J6_append haw3 rfl rfl rfl (w_con (i := 23) hG (K.fr F2) H2 rfl ⟨by omega, by omega⟩) (by omega) (by omega) (by omega) (Nat.le_of_ble_eq_true rfl) (fun v3 hw_3 P3 => ?_)
  obtain ⟨rfl, W3⟩ := P3
  obtain ⟨w3, H3, o3, F3⟩ := Wr.cat o2 F2 W3
  refine Ev.le (c' := B - capF (((([] : List (List Nat)) ++ [strB "("]) ++ rk) ++ [strB ")"]) cap t.length) (k' := 2 * (B - capF (((([] : List (List Nat)) ++ [strB "("]) ++ rk) ++ [strB ")"]) cap t.length)) (by omega) (by omega) ?_
  refine ev_pop dX8_writePart_36 rfl ?_
  refine ev_return dX8_writePart_37 rfl ?_
  exact ⟨_, rfl, rfl, w3, H3, o3, F3⟩
set_option maxRecDepth 100000 in
set_option maxHeartbeats 4000000 in
theorem k_wpF {a b v cap B q κ D : Nat} {t : List Nat} {I : HM} {rk : List (List Nat)} (hG : GKx g) (hI : Sub I h) (K : KC g h) (H : SBh g h b v cap t) (hIb : I b = none) (hIv : I v = none) (hkc : ∃ fs, I q = some (.inr (nCi κ, fs))) (hk : Wk g I D κ q rk) (hB : capF (((([] : List (List Nat)) ++ [strB ""]) ++ rk) ++ [strB ""]) cap t.length ≤ B) (hB4 : B < 400000) (hd : 6 ≤ d ∧ D + 1 ≤ d) : Kc g mX8_writePart d (B - cap) (2 * (B - cap)) [.ref a, .ref b, .ref q, vz 0] h (rR (fun r h' => r = none ∧ Wr g h b v cap t ((((([] : List (List Nat)) ++ [strB ""]) ++ rk) ++ [strB ""])) h')) := by
  refine Kc.of (ls := [some (.ref a), some (.ref b), some (.ref q), some (vz 0)]) (by decide +kernel) (Nat.le_of_ble_eq_true rfl) rfl ?_
  have H0 : SBh g h b v (capF ([] : List (List Nat)) cap t.length) (t ++ ([] : List (List Nat)).flatten) := by rw [List.flatten_nil, List.append_nil]; exact H
  have e0 : capF ([] : List (List Nat)) cap t.length = cap := rfl
  have b3 : capF (((([] : List (List Nat)) ++ [strB ""]) ++ rk) ++ [strB ""]) cap t.length ≤ B := hB
  have b2 : capF ((([] : List (List Nat)) ++ [strB ""]) ++ rk) cap t.length ≤ B := Nat.le_trans (capF_pre _ _ _ _) b3
  have b1 : capF (([] : List (List Nat)) ++ [strB ""]) cap t.length ≤ B := Nat.le_trans (capF_pre _ _ _ _) b2
  refine ev_aload_n dX8_writePart_0 rfl ?_
  refine ev_iload_n dX8_writePart_1 rfl ?_
  refine ev_if_eqZ (tgt := 10) dX8_writePart_2 (by decide) (by omega) (fun c2 => ?_) (fun c2 => by omega)
  refine ev_ldcS (i := 22) hG dX8_writePart_10 rfl ?_
  obtain ⟨A1, haw1, -⟩ := id H0
  have l1_1 := capF_le [strB ""] (capF ([] : List (List Nat)) cap t.length) (t ++ ([] : List (List Nat)).flatten).length
  have l4_1 := capF_m (strB "") (capF ([] : List (List Nat)) cap t.length) (t ++ ([] : List (List Nat)).flatten).length
  have l2_1 : capF (([] : List (List Nat)) ++ [strB ""]) cap t.length = capF [strB ""] (capF ([] : List (List Nat)) cap t.length) (t ++ ([] : List (List Nat)).flatten).length := by rw [capF_app, List.length_append]
  refine ev_callVR dX8_writePart_12 cv_X8_49_J6 ce_J6_append haw1 rfl rfl rfl (w_con (i := 22) hG (K.fr (Fr.refl (g := g) h [b, v])) H0 rfl ⟨by omega, by omega⟩) (by omega) (by omega) (by omega) (Nat.le_of_ble_eq_true rfl) (fun v1 hw_1 P1 => ?_)
  obtain ⟨rfl, W1⟩ := P1
  obtain ⟨w1, H1, o1, F1⟩ := Wr.cat (Or.inl rfl) (Fr.refl (g := g) h [b, v]) W1
  refine Ev.le (c' := B - capF (([] : List (List Nat)) ++ [strB ""]) cap t.length) (k' := 2 * (B - capF (([] : List (List Nat)) ++ [strB ""]) cap t.length)) (by omega) (by omega) ?_
  refine ev_pop dX8_writePart_15 rfl ?_
  refine ev_aload_n dX8_writePart_16 rfl ?_
  refine ev_aload_n dX8_writePart_17 rfl ?_
  have l1_2 := capF_le rk (capF (([] : List (List Nat)) ++ [strB ""]) cap t.length) (t ++ (([] : List (List Nat)) ++ [strB ""]).flatten).length
  have l2_2 : capF ((([] : List (List Nat)) ++ [strB ""]) ++ rk) cap t.length = capF rk (capF (([] : List (List Nat)) ++ [strB ""]) cap t.length) (t ++ (([] : List (List Nat)) ++ [strB ""]).flatten).length := by rw [capF_app, List.length_append]
  refine ev_callNR dX8_writePart_18 (nv_X8_55 hG) fe_write (h := hw_1) (κ := κ) (hkc.imp (fun fs e => sub_sb hI F1 hIb hIv _ _ e)) rfl rfl (hk hw_1 b w1 _ (capF ((([] : List (List Nat)) ++ [strB ""]) ++ rk) cap t.length) _ (sub_sb hI F1 hIb hIv) (K.fr F1) H1 hIb (sb_none hI hIv o1) (by omega) (by omega)) (by omega) (by omega) (by omega) (Nat.le_of_ble_eq_true rfl) (fun v2 hw_2 P2 => ?_)
  obtain ⟨rfl, W2⟩ := P2
  obtain ⟨w2, H2, o2, F2⟩ := Wr.cat o1 F1 W2
  refine Ev.le (c' := B - capF ((([] : List (List Nat)) ++ [strB ""]) ++ rk) cap t.length) (k' := 2 * (B - capF ((([] : List (List Nat)) ++ [strB ""]) ++ rk) cap t.length)) (by omega) (by omega) ?_
  refine ev_aload_n dX8_writePart_21 rfl ?_
  refine ev_iload_n dX8_writePart_22 rfl ?_
  refine ev_if_eqZ (tgt := 31) dX8_writePart_23 (by decide) (by omega) (fun c23 => ?_) (fun c23 => by omega)
  refine ev_ldcS (i := 22) hG dX8_writePart_31 rfl ?_
  obtain ⟨A3, haw3, -⟩ := id H2
  have l1_3 := capF_le [strB ""] (capF ((([] : List (List Nat)) ++ [strB ""]) ++ rk) cap t.length) (t ++ ((([] : List (List Nat)) ++ [strB ""]) ++ rk).flatten).length
  have l4_3 := capF_m (strB "") (capF ((([] : List (List Nat)) ++ [strB ""]) ++ rk) cap t.length) (t ++ ((([] : List (List Nat)) ++ [strB ""]) ++ rk).flatten).length
  have l2_3 : capF (((([] : List (List Nat)) ++ [strB ""]) ++ rk) ++ [strB ""]) cap t.length = capF [strB ""] (capF ((([] : List (List Nat)) ++ [strB ""]) ++ rk) cap t.length) (t ++ ((([] : List (List Nat)) ++ [strB ""]) ++ rk).flatten).length := by rw [capF_app, List.length_append]
  refine ev_callVR dX8_writePart_33 cv_X8_49_J6 ce_J6_append haw3 rfl rfl rfl (w_con (i := 22) hG (K.fr F2) H2 rfl ⟨by omega, by omega⟩) (by omega) (by omega) (by omega) (Nat.le_of_ble_eq_true rfl) (fun v3 hw_3 P3 => ?_)
  obtain ⟨rfl, W3⟩ := P3
  obtain ⟨w3, H3, o3, F3⟩ := Wr.cat o2 F2 W3
  refine Ev.le (c' := B - capF (((([] : List (List Nat)) ++ [strB ""]) ++ rk) ++ [strB ""]) cap t.length) (k' := 2 * (B - capF (((([] : List (List Nat)) ++ [strB ""]) ++ rk) ++ [strB ""]) cap t.length)) (by omega) (by omega) ?_
  refine ev_pop dX8_writePart_36 rfl ?_
  refine ev_return dX8_writePart_37 rfl ?_
  exact ⟨_, rfl, rfl, w3, H3, o3, F3⟩
end N8S

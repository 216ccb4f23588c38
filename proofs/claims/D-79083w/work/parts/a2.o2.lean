/-! THE COMPONENT: a loop with budgets; Phrase.write (printed by gen) -/
section O2S
variable {g : GB} {M : MI} {d c k : Nat} {h : HM}
section
variable {Q : RS → HM → Prop} {pc : Nat} {ls : List (Option Value)} {st : List Value}
/-- a loop that counts up and allocates -/
theorem ev_forB (n : Nat) (C K : Nat → Nat) (P : Nat → HM → Prop) (L : Nat → List (Option Value)) (a : Nat) (ha : a ≤ n) (hP : P a h) (hc : C a ≤ c) (hk : K a ≤ k) (hl : wkL (L a) ls)
    (step : ∀ (i : Nat) (h : HM), a ≤ i → i < n → P i h → (∀ (ls' : List (Option Value)) (h' : HM) (c' k' : Nat), C (i + 1) ≤ c' → K (i + 1) ≤ k' → wkL (L (i + 1)) ls' → P (i + 1) h' → Ev g M d c' k' Q pc ls' st h') → Ev g M d (C i) (K i) Q pc (L i) st h)
    (last : ∀ h, P n h → Ev g M d (C n) (K n) Q pc (L n) st h) : Ev g M d c k Q pc ls st h := by
  refine Ev.forget (Ev.le hc hk ?_) hl
  have key : ∀ (m i : Nat) (h : HM), m + i = n → a ≤ i → P i h → Ev g M d (C i) (K i) Q pc (L i) st h := by
    intro m
    induction m with
    | zero => intro i h e _ hp; rw [show i = n by omega] at hp ⊢; exact last h hp
    | succ m ih => intro i h e hi hp; exact step i h hi (by omega) hp (fun ls' h' c' k' h1 h2 hw hp' => Ev.le h1 h2 (Ev.forget (ih (i + 1) h' (by omega) (by omega) hp') hw))
  exact key (n - a) a h (by omega) (Nat.le_refl _) hP
end
/-- a phrase's chunks: offset, dancers, steps -/
def phW (o : Nat) (ds : List Nat) (tx : List Nat) : List (List Nat) := (if 0 < o then [strB "c", [48 + o]] else []) ++ (ds.map (fun x => [65 + x]) ++ [strB ":", tx])
theorem sv_ne {I : HM} {sv v v2 : Nat} {e : MO} (hs : I sv = some e) (hv : I v = none) (hI : Sub I h) (o : v2 = v ∨ h v2 = none) : sv ≠ v2 := fun c => by
  subst c
  rcases o with c | c
  · rw [c, hv] at hs; cases hs
  · rw [hI _ _ hs] at c; cases c
set_option maxRecDepth 100000 in
set_option maxHeartbeats 4000000 in
theorem k_wrX13 {a b v cap B da st sv o : Nat} {t ds tx : List Nat} {I : HM} {D : Nat → Int} (hG : GKx g) (hI : Sub I h) (K : KC g h) (H : SBh g h b v cap t) (hIb : I b = none) (hIv : I v = none) (hIa : I a = some (.inr (9, [vz ((o : Nat) : Int), .ref da, .ref st]))) (hIda : I da = some (.inl (0, (ds.length, .inl (fun j => zI (D j)))))) (hD : ∀ j x : Nat, ds[j]? = some x → D j = (x : Int)) (hT : STh I st sv tx) (hds : ∀ x ∈ ds, x < 8) (hl : ds.length < 1000000) (ho : o < 10) (hB : capF (phW o ds tx) cap t.length ≤ B) (hB4 : B < 400000) (hd : 6 ≤ d) : Kc g mX13_write d (B - cap) (2 * (B - cap)) [.ref a, .ref b] h (rR (fun r h' => r = none ∧ Wr g h b v cap t (phW o ds tx) h')) := by
  refine Kc.of (ls := [some (.ref a), some (.ref b), none, none, none, none]) (by decide +kernel) (Nat.le_of_ble_eq_true rfl) rfl ?_
  have ha := hI _ _ hIa
  have hda := hI _ _ hIda
  have K9 := hT.sub hI
  obtain ⟨A9, x9, y9, hIs, hIsv, -⟩ := id hT
  have H0 : SBh g h b v (capF ([] : List (List Nat)) cap t.length) (t ++ ([] : List (List Nat)).flatten) := by rw [List.flatten_nil, List.append_nil]; exact H
  have e0 : capF ([] : List (List Nat)) cap t.length = cap := rfl
  have T21 : ∀ (h1 : HM) (w1 : Nat) (R0 : List (List Nat)), R0 ++ (ds.map (fun x => [65 + x]) ++ [strB ":", tx]) = phW o ds tx → SBh g h1 b w1 (capF R0 cap t.length) (t ++ R0.flatten) → (w1 = v ∨ h w1 = none) → Fr g h h1 [b, v] → Ev g mX13_write d (B - capF R0 cap t.length) (2 * (B - capF R0 cap t.length)) (rR (fun r h' => r = none ∧ Wr g h b v cap t (phW o ds tx) h')) 21 [some (.ref a), some (.ref b), none, none, none, none] [] h1 := by
    intro h1 w1 R0 hR H1 o1 F1
    have ha1 := F1.kp ha (fun _ => nin_sb hIa hIb hIv)
    have hda1 := F1.kp hda (fun _ => nin_sb hIda hIb hIv)
    refine ev_aload_n dX13_write_21 rfl ?_
    refine ev_getf dX13_write_22 gf_X13_19_X13 ha1 rfl ?_
    refine ev_astore_n dX13_write_25 (by decide) rfl ?_
    dsimp only [List.set]
    refine ev_aload_n dX13_write_26 rfl ?_
    refine ev_alenZ dX13_write_27 hda1 rfl ?_
    refine ev_istore_n dX13_write_28 (by decide) rfl ?_
    dsimp only [List.set]
    refine ev_iconstZ dX13_write_29 ?_
    refine ev_istore dX13_write_30 (by decide) rfl ?_
    dsimp only [List.set]
    have e0 : (R0 ++ (ds.take 0).map (fun x => [65 + x])) = R0 := by simp
    have e3 : ((R0 ++ ds.map (fun x => [65 + x])) ++ [strB ":"]) ++ [tx] = phW o ds tx := by rw [← hR]; simp
    have b3 : capF (((R0 ++ ds.map (fun x => [65 + x])) ++ [strB ":"]) ++ [tx]) cap t.length ≤ B := by rw [e3]; exact hB
    have b2 := Nat.le_trans (capF_pre _ [tx] cap t.length) b3
    have b1 := Nat.le_trans (capF_pre _ [strB ":"] cap t.length) b2
    refine ev_forB ds.length (fun i => B - capF (R0 ++ (ds.take i).map (fun x => [65 + x])) cap t.length) (fun i => 2 * (B - capF (R0 ++ (ds.take i).map (fun x => [65 + x])) cap t.length)) (fun i h2 => ∃ w2, SBh g h2 b w2 (capF (R0 ++ (ds.take i).map (fun x => [65 + x])) cap t.length) (t ++ (R0 ++ (ds.take i).map (fun x => [65 + x])).flatten) ∧ (w2 = v ∨ h w2 = none) ∧ Fr g h h2 [b, v]) (fun i => [some (.ref a), some (.ref b), some (.ref da), some (vz ((ds.length : Nat) : Int)), some (vz ((i : Nat) : Int)), none]) 0 (Nat.zero_le _) ⟨w1, by rw [e0]; exact H1, o1, F1⟩ (by rw [e0]; exact Nat.le_refl _) (by rw [e0]; exact Nat.le_refl _) ⟨rfl, rfl, rfl, rfl, rfl, trivial⟩ (fun i h2 _ hi hP hN => ?_) (fun h2 hP => ?_)
    · obtain ⟨w2, H2, o2, F2⟩ := hP
      obtain ⟨x, hx⟩ : ∃ x, ds[i]? = some x := ⟨_, List.getElem?_eq_getElem hi⟩
      have hx8 := hds x (List.mem_of_getElem? hx)
      have hDx : D ((i : Nat) : Int).toNat = ((x : Nat) : Int) := by rw [Int.toNat_natCast]; exact hD i x hx
      have eR : (R0 ++ (ds.take (i + 1)).map (fun x => [65 + x])) = (R0 ++ (ds.take i).map (fun x => [65 + x])) ++ [[65 + x]] := by rw [take_snoc hx, List.map_append, ← List.append_assoc]; rfl
      have bR : capF ((R0 ++ (ds.take i).map (fun x => [65 + x])) ++ [[65 + x]]) cap t.length ≤ B := by
        rw [← eR]
        have e4 : R0 ++ ds.map (fun x => [65 + x]) = (R0 ++ (ds.take (i + 1)).map (fun x => [65 + x])) ++ (ds.drop (i + 1)).map (fun x => [65 + x]) := by rw [List.append_assoc, ← List.map_append, List.take_append_drop]
        rw [e4] at b1; exact Nat.le_trans (capF_pre _ _ _ _) b1
      have ha2 := F2.kp ha (fun _ => nin_sb hIa hIb hIv)
      have hda2 := F2.kp hda (fun _ => nin_sb hIda hIb hIv)
      refine ev_iload dX13_write_32 rfl ?_
      refine ev_iload_n dX13_write_34 rfl ?_
      refine ev_icmp_geZ (tgt := 61) dX13_write_35 (by decide) (by omega) (by omega) (fun c35 => by omega) (fun c35 => ?_)
      refine ev_aload_n dX13_write_38 rfl ?_
      refine ev_iload dX13_write_39 rfl ?_
      refine ev_ialdY dX13_write_41 hda2 (by omega) ?_
      rw [hDx]
      refine ev_istore dX13_write_42 (by decide) rfl ?_
      dsimp only [List.set]
      refine ev_aload_n dX13_write_44 rfl ?_
      refine ev_bipushZ dX13_write_45 rfl ?_
      refine ev_iload dX13_write_47 rfl ?_
      refine ev_iaddZ dX13_write_49 ?_
      refine ev_to (b := ((65 + x : Nat) : Int)) (by omega) ?_
      refine ev_i2cI dX13_write_50 (by omega) ?_
      obtain ⟨A1, haw1, -⟩ := id H2
      have l1_1 := capF_le [[65 + x]] (capF (R0 ++ (ds.take i).map (fun x => [65 + x])) cap t.length) (t ++ (R0 ++ (ds.take i).map (fun x => [65 + x])).flatten).length
      have l4_1 := capF_m ([65 + x]) (capF (R0 ++ (ds.take i).map (fun x => [65 + x])) cap t.length) (t ++ (R0 ++ (ds.take i).map (fun x => [65 + x])).flatten).length
      have l2_1 : capF ((R0 ++ (ds.take i).map (fun x => [65 + x])) ++ [[65 + x]]) cap t.length = capF [[65 + x]] (capF (R0 ++ (ds.take i).map (fun x => [65 + x])) cap t.length) (t ++ (R0 ++ (ds.take i).map (fun x => [65 + x])).flatten).length := by rw [capF_app, List.length_append]
      refine ev_callVR dX13_write_51 cv_X13_88_J6 ce_J6_append_3 haw1 rfl rfl rfl (w_chr (x := 65 + x) hG H2 (by omega) ⟨by have e1 : ([65 + x] : List Nat).length = 1 := rfl; omega, by omega⟩) (by omega) (by omega) (by omega) (Nat.le_of_ble_eq_true rfl) (fun v1 hw_1 P1 => ?_)
      obtain ⟨rfl, W1⟩ := P1
      obtain ⟨w1, H1, o1, F1⟩ := Wr.cat o2 F2 W1
      refine Ev.le (c' := B - capF ((R0 ++ (ds.take i).map (fun x => [65 + x])) ++ [[65 + x]]) cap t.length) (k' := 2 * (B - capF ((R0 ++ (ds.take i).map (fun x => [65 + x])) ++ [[65 + x]]) cap t.length)) (by omega) (by omega) ?_
      have ha2_2 := F1.kp ha (fun _ => nin_sb hIa hIb hIv)
      have hda2_3 := F1.kp hda (fun _ => nin_sb hIda hIb hIv)
      refine ev_pop dX13_write_54 rfl ?_
      refine ev_iincZ dX13_write_55 rfl (by decide) rfl ?_
      dsimp only [List.set]
      refine ev_goto (tgt := 32) dX13_write_58 (by decide) ?_
      exact hN _ _ _ _ (by rw [eR]; exact Nat.le_refl _) (by rw [eR]; exact Nat.le_refl _) (by repeat' first | exact rfl | exact trivial | exact vz_eq (by omega) | refine And.intro ?_ ?_) ⟨_, by rw [eR]; exact H1, o1, F1⟩
    · obtain ⟨w2, H2, o2, F2⟩ := hP
      rw [List.take_length] at H2 ⊢
      have ha2 := F2.kp ha (fun _ => nin_sb hIa hIb hIv)
      have hda2 := F2.kp hda (fun _ => nin_sb hIda hIb hIv)
      refine ev_iload dX13_write_32 rfl ?_
      refine ev_iload_n dX13_write_34 rfl ?_
      refine ev_icmp_geZ (tgt := 61) dX13_write_35 (by decide) (by omega) (by omega) (fun c35 => ?_) (fun c35 => by omega)
      refine ev_aload_n dX13_write_61 rfl ?_
      refine ev_ldcS (i := 12) hG dX13_write_62 rfl ?_
      obtain ⟨A1, haw1, -⟩ := id H2
      have l1_1 := capF_le [strB ":"] (capF (R0 ++ ds.map (fun x => [65 + x])) cap t.length) (t ++ (R0 ++ ds.map (fun x => [65 + x])).flatten).length
      have l4_1 := capF_m (strB ":") (capF (R0 ++ ds.map (fun x => [65 + x])) cap t.length) (t ++ (R0 ++ ds.map (fun x => [65 + x])).flatten).length
      have l2_1 : capF ((R0 ++ ds.map (fun x => [65 + x])) ++ [strB ":"]) cap t.length = capF [strB ":"] (capF (R0 ++ ds.map (fun x => [65 + x])) cap t.length) (t ++ (R0 ++ ds.map (fun x => [65 + x])).flatten).length := by rw [capF_app, List.length_append]
      refine ev_callVR dX13_write_64 cv_X13_79_J6 ce_J6_append haw1 rfl rfl rfl (w_con (i := 12) hG (K.fr F2) H2 rfl ⟨by omega, by omega⟩) (by omega) (by omega) (by omega) (Nat.le_of_ble_eq_true rfl) (fun v1 hw_1 P1 => ?_)
      obtain ⟨rfl, W1⟩ := P1
      obtain ⟨w1, H1, o1, F1⟩ := Wr.cat o2 F2 W1
      refine Ev.le (c' := B - capF ((R0 ++ ds.map (fun x => [65 + x])) ++ [strB ":"]) cap t.length) (k' := 2 * (B - capF ((R0 ++ ds.map (fun x => [65 + x])) ++ [strB ":"]) cap t.length)) (by omega) (by omega) ?_
      have ha2_2 := F1.kp ha (fun _ => nin_sb hIa hIb hIv)
      have hda2_3 := F1.kp hda (fun _ => nin_sb hIda hIb hIv)
      refine ev_aload_n dX13_write_67 rfl ?_
      refine ev_getf dX13_write_68 gf_X13_15_X13 ha2_2 rfl ?_
      obtain ⟨A4, haw4, -⟩ := id H1
      have l1_4 := capF_le [tx] (capF ((R0 ++ ds.map (fun x => [65 + x])) ++ [strB ":"]) cap t.length) (t ++ ((R0 ++ ds.map (fun x => [65 + x])) ++ [strB ":"]).flatten).length
      have l4_4 := capF_m (tx) (capF ((R0 ++ ds.map (fun x => [65 + x])) ++ [strB ":"]) cap t.length) (t ++ ((R0 ++ ds.map (fun x => [65 + x])) ++ [strB ":"]).flatten).length
      have l2_4 : capF (((R0 ++ ds.map (fun x => [65 + x])) ++ [strB ":"]) ++ [tx]) cap t.length = capF [tx] (capF ((R0 ++ ds.map (fun x => [65 + x])) ++ [strB ":"]) cap t.length) (t ++ ((R0 ++ ds.map (fun x => [65 + x])) ++ [strB ":"]).flatten).length := by rw [capF_app, List.length_append]
      refine ev_callVR dX13_write_71 cv_X13_79_J6 ce_J6_append haw4 rfl rfl rfl (w_str hG H1 (K9.fr F1 (fun _ => nin_sb hIs hIb hIv) (fun _ => nin_sb hIsv hIb hIv)) (sv_ne hIsv hIv hI o1) ⟨by omega, by omega⟩) (by omega) (by omega) (by omega) (Nat.le_of_ble_eq_true rfl) (fun v4 hw_4 P4 => ?_)
      obtain ⟨rfl, W4⟩ := P4
      obtain ⟨w4, H4, o4, F4⟩ := Wr.cat o1 F1 W4
      refine Ev.le (c' := B - capF (((R0 ++ ds.map (fun x => [65 + x])) ++ [strB ":"]) ++ [tx]) cap t.length) (k' := 2 * (B - capF (((R0 ++ ds.map (fun x => [65 + x])) ++ [strB ":"]) ++ [tx]) cap t.length)) (by omega) (by omega) ?_
      have ha2_5 := F4.kp ha (fun _ => nin_sb hIa hIb hIv)
      have hda2_6 := F4.kp hda (fun _ => nin_sb hIda hIb hIv)
      refine ev_pop dX13_write_74 rfl ?_
      refine ev_return dX13_write_75 rfl ?_
      exact ⟨_, rfl, rfl, w4, by rw [← e3]; exact H4, o4, F4⟩
  refine ev_aload_n dX13_write_0 rfl ?_
  refine ev_getf dX13_write_1 gf_X13_9_X13 ha rfl ?_
  refine ev_if_leZ (tgt := 21) dX13_write_4 (by decide) (by omega) (fun c4 => ?_) (fun c4 => ?_)
  · exact Ev.le (by omega) (by omega) (T21 _ _ [] (by unfold phW; rw [if_neg (by omega)]) H0 (Or.inl rfl) (Fr.refl _ _))
  · have eC : ((([] : List (List Nat)) ++ [strB "c"]) ++ [[48 + o]]) ++ (ds.map (fun x => [65 + x]) ++ [strB ":", tx]) = phW o ds tx := by unfold phW; rw [if_pos (by omega)]; rfl
    have b2 : capF ((([] : List (List Nat)) ++ [strB "c"]) ++ [[48 + o]]) cap t.length ≤ B := by rw [← eC] at hB; exact Nat.le_trans (capF_pre _ _ _ _) hB
    have b1 : capF (([] : List (List Nat)) ++ [strB "c"]) cap t.length ≤ B := Nat.le_trans (capF_pre _ _ _ _) b2
    refine ev_aload_n dX13_write_7 rfl ?_
    refine ev_ldcS (i := 11) hG dX13_write_8 rfl ?_
    obtain ⟨A1, haw1, -⟩ := id H0
    have l1_1 := capF_le [strB "c"] (capF ([] : List (List Nat)) cap t.length) (t ++ ([] : List (List Nat)).flatten).length
    have l4_1 := capF_m (strB "c") (capF ([] : List (List Nat)) cap t.length) (t ++ ([] : List (List Nat)).flatten).length
    have l2_1 : capF (([] : List (List Nat)) ++ [strB "c"]) cap t.length = capF [strB "c"] (capF ([] : List (List Nat)) cap t.length) (t ++ ([] : List (List Nat)).flatten).length := by rw [capF_app, List.length_append]
    refine ev_callVR dX13_write_10 cv_X13_79_J6 ce_J6_append haw1 rfl rfl rfl (w_con (i := 11) hG (K.fr (Fr.refl (g := g) h [b, v])) H0 rfl ⟨by omega, by omega⟩) (by omega) (by omega) (by omega) (Nat.le_of_ble_eq_true rfl) (fun v1 hw_1 P1 => ?_)
    obtain ⟨rfl, W1⟩ := P1
    obtain ⟨w1, H1, o1, F1⟩ := Wr.cat (Or.inl rfl) (Fr.refl (g := g) h [b, v]) W1
    refine Ev.le (c' := B - capF (([] : List (List Nat)) ++ [strB "c"]) cap t.length) (k' := 2 * (B - capF (([] : List (List Nat)) ++ [strB "c"]) cap t.length)) (by omega) (by omega) ?_
    have ha_2 := F1.kp ha (fun _ => nin_sb hIa hIb hIv)
    have hda_3 := F1.kp hda (fun _ => nin_sb hIda hIb hIv)
    refine ev_aload_n dX13_write_13 rfl ?_
    refine ev_getf dX13_write_14 gf_X13_9_X13 ha_2 rfl ?_
    obtain ⟨A4, haw4, -⟩ := id H1
    have l1_4 := capF_le [[48 + o]] (capF (([] : List (List Nat)) ++ [strB "c"]) cap t.length) (t ++ (([] : List (List Nat)) ++ [strB "c"]).flatten).length
    have l4_4 := capF_m ([48 + o]) (capF (([] : List (List Nat)) ++ [strB "c"]) cap t.length) (t ++ (([] : List (List Nat)) ++ [strB "c"]).flatten).length
    have l2_4 : capF ((([] : List (List Nat)) ++ [strB "c"]) ++ [[48 + o]]) cap t.length = capF [[48 + o]] (capF (([] : List (List Nat)) ++ [strB "c"]) cap t.length) (t ++ (([] : List (List Nat)) ++ [strB "c"]).flatten).length := by rw [capF_app, List.length_append]
    refine ev_callVR dX13_write_17 cv_X13_85_J6 ce_J6_append_2 haw4 rfl rfl rfl (w_int hG (K.fr F1) H1 ho ⟨by have e1 : ([48 + o] : List Nat).length = 1 := rfl; omega, by omega⟩) (by omega) (by omega) (by omega) (Nat.le_of_ble_eq_true rfl) (fun v4 hw_4 P4 => ?_)
    obtain ⟨rfl, W4⟩ := P4
    obtain ⟨w4, H4, o4, F4⟩ := Wr.cat o1 F1 W4
    refine Ev.le (c' := B - capF ((([] : List (List Nat)) ++ [strB "c"]) ++ [[48 + o]]) cap t.length) (k' := 2 * (B - capF ((([] : List (List Nat)) ++ [strB "c"]) ++ [[48 + o]]) cap t.length)) (by omega) (by omega) ?_
    have ha_5 := F4.kp ha (fun _ => nin_sb hIa hIb hIv)
    have hda_6 := F4.kp hda (fun _ => nin_sb hIda hIb hIv)
    refine ev_pop dX13_write_20 rfl ?_
    exact T21 _ _ _ eC H4 o4 F4
end O2S

/-! THE COMPONENT: trees by their depth; with of a dance (printed by gen) -/
section T2S
variable {g : GB} {M : MI} {d c k : Nat} {h : HM}
def reF (nd : Nd) (cs : List (List Nd)) : List Nd := nd :: cs.flatten
theorem re_val : ∀ (n : Nat) (l : List Nd), TR n l → val reF [] l = l := by
  intro n
  induction n with
  | zero => intro l h; exact h.elim
  | succ n ih =>
    intro l h
    obtain ⟨nd, cs, rfl, hc, hk, hcs⟩ := id h
    have h1 := stk_tree reF [] (n + 1) _ h []
    rw [stk_cons, stk_forest reF [] hcs, List.append_nil] at h1
    have h2 : cs.map (val reF []) = cs := by
      have : ∀ c ∈ cs, val reF [] c = id c := fun c hc => ih c (hcs c hc)
      rw [List.map_congr_left this, List.map_id]
    rw [h2, hc, List.take_length] at h1
    have h3 := List.head_eq_of_cons_eq h1
    exact h3.symm
theorem forest_inj {n m : Nat} {cs ds : List (List Nd)} (h1 : ∀ c ∈ cs, TR n c) (h2 : ∀ c ∈ ds, TR m c) (e : cs.flatten = ds.flatten) : cs = ds := by
  have a1 := stk_forest reF [] h1 []
  have a2 := stk_forest reF [] h2 []
  rw [e, a2] at a1
  have b1 : cs.map (val reF []) = cs := by
    have : ∀ c ∈ cs, val reF [] c = id c := fun c hc => re_val n c (h1 c hc)
    rw [List.map_congr_left this, List.map_id]
  have b2 : ds.map (val reF []) = ds := by
    have : ∀ c ∈ ds, val reF [] c = id c := fun c hc => re_val m c (h2 c hc)
    rw [List.map_congr_left this, List.map_id]
  rw [b1, b2, List.append_nil, List.append_nil] at a1
  exact a1.symm
/-- a tree at a is as high as its rows say -/
theorem NodeAt.down {I : HM} : ∀ (n m a : Nat) (l : List Nd), NodeAt I n a l → TR m l → NodeAt I m a l := by
  intro n
  induction n with
  | zero => intro m a l h; exact h.elim
  | succ n ih =>
    intro m a l H hT
    have hT1 := H.tree
    obtain ⟨nd, cs, as, e1, e2, e3, e4, e5, e6⟩ := H
    cases m with
    | zero => exact hT.elim
    | succ m =>
      obtain ⟨nd', ds, f1, f2, f3, f4⟩ := hT
      have hcs : ∀ c ∈ cs, TR n c := fun c hc => by
        obtain ⟨i, hi⟩ := List.getElem?_of_mem hc
        have hl2 := (List.getElem?_eq_some_iff.mp hi).1
        exact (e6 i _ c hi (List.getElem?_eq_getElem (by omega : i < as.length))).tree
      rw [e1] at f1
      injection f1 with g1 g2
      have g3 := forest_inj hcs f4 g2
      subst g3
      exact ⟨nd, cs, as, e1, e2, e3, e4, e5, fun i q c hc hq => ih m q c (e6 i q c hc hq) (f4 c (List.mem_of_getElem? hc))⟩
/-- the rows of a piece with one more layer behind -/
def wthL (nd2 : Nd) (l ly : List Nd) : List Nd := nd2 :: ((if rootK l = 7 then l.tail else l) ++ ly)
def wthN (l : List Nd) : Nat := if rootK l = 7 then (l.headD noNd).2.2.1 + 1 else 2
set_option maxRecDepth 100000 in
set_option maxHeartbeats 4000000 in
theorem k_withX2 {I : HM} {a st fo last : Nat} {D : Dn} {l ly : List Nd} (hG : GKx g) (hSI : Sub I h) (hKC : KC g h) (H : DnC g I h a st fo D) (hp9 : D.2.2.2 = some l) (hL : NodeAt I 81 last ly) (hl : l.length < 100000) (hok : ∀ nd ∈ l, ndOk2 nd) (hCI : CapI I) (hd : 9 ≤ d) (hc : 4 ≤ c) (hk : 3 * l.length + 27 ≤ k) : Kc g mX2_with d c k [.ref a, .ref last] h (rR (fun v h' => ∃ (r : Nat) (J : HM), v = some (.ref r) ∧ Gw I h J h' ∧ (∀ nd2 : Nd, nd2.1 = 7 → nd2.2.2.1 = wthN l → NodeAt J 82 r (wthL nd2 l ly)) ∧ Fr g h h' [])) := by
  refine Kc.of (ls := [some (.ref a), some (.ref last), none, none]) (by decide +kernel) (Nat.le_of_ble_eq_true rfl) rfl ?_
  obtain ⟨A, B, pv, sv, K, hA, hB9, hV⟩ := id H
  obtain ⟨k1, k2, k3, k4, k5, k6, k7, k8⟩ := id K
  rw [hp9] at hV
  obtain ⟨p, sc, ss, cu, ru, rfl, rfl, hN, hSc⟩ := hV
  have hLh := hL.sub hSI
  obtain ⟨fl9, el9⟩ := hLh.cls
  have hlo : isO h last := Or.inl ⟨_, el9⟩
  obtain ⟨fp9, ep9⟩ := (hN.sub hSI).cls
  have hpo : isO h p := Or.inl ⟨_, ep9⟩
  obtain ⟨nd, cs, as, rfl, e2, e3, e4, e5, e6⟩ := id hN
  have hcl : cs.length ≤ cs.flatten.length := flat_len (fun c hc => by
    obtain ⟨i, hi⟩ := List.getElem?_of_mem hc
    have hl2 := (List.getElem?_eq_some_iff.mp hi).1
    exact (e6 i _ c hi (List.getElem?_eq_getElem (by omega : i < as.length))).tree.ne |> List.length_pos_iff.mpr)
  have fin2 : ∀ (J : HM) (r : Nat), ¬ rootK (nd :: cs.flatten) = 7 → Sub I J → SevAt J r false [p, last] → ∀ nd2 : Nd, nd2.1 = 7 → nd2.2.2.1 = wthN (nd :: cs.flatten) → NodeAt J 82 r (wthL nd2 (nd :: cs.flatten) ly) := by
    intro J r h67 hS HSV nd2 hk7 hm
    unfold wthN at hm
    rw [if_neg h67] at hm
    unfold wthL
    rw [if_neg h67]
    refine ⟨nd2, [nd :: cs.flatten, ly], [p, last], by simp, hm, ⟨fun q => by omega, fun q => by cases q⟩, rfl, SevAt.nd (by rw [hk7]; exact HSV) (by omega), fun i q c hc hq => ?_⟩
    match i with
    | 0 => cases hc; cases hq; exact hN.sub hS
    | 1 => cases hc; cases hq; exact hL.sub hS
    | i + 2 => simp at hc
  have fin7 : ∀ (J : HM) (r : Nat), nd.1 = 7 → Sub I J → SevAt J r false (as ++ [last]) → ∀ nd2 : Nd, nd2.1 = 7 → nd2.2.2.1 = wthN (nd :: cs.flatten) → NodeAt J 82 r (wthL nd2 (nd :: cs.flatten) ly) := by
    intro J r h67 hS HSV nd2 hk7 hm
    have hr7 : rootK (nd :: cs.flatten) = 7 := h67
    unfold wthN at hm
    rw [if_pos hr7] at hm
    unfold wthL
    rw [if_pos hr7]
    have hm2 : nd2.2.2.1 = nd.2.2.1 + 1 := hm
    refine ⟨nd2, cs ++ [ly], as ++ [last], by simp, by rw [hm2, e2, List.length_append]; rfl, ⟨fun q => by omega, fun q => by simp at q⟩, by rw [List.length_append, List.length_append, e4]; rfl, SevAt.nd (by rw [hk7]; exact HSV) (by omega), fun i q c hc hq => ?_⟩
    by_cases hi : i < cs.length
    · rw [List.getElem?_append_left hi] at hc
      rw [List.getElem?_append_left (by omega)] at hq
      exact NodeAt.mono ((e6 i q c hc hq).sub hS) (Nat.le_succ 80)
    · have hi2 : i = cs.length := by have := (List.getElem?_eq_some_iff.mp hc).1; rw [List.length_append, List.length_singleton] at this; omega
      subst hi2
      rw [List.getElem?_append_right (Nat.le_refl _), Nat.sub_self] at hc
      rw [← e4, List.getElem?_append_right (Nat.le_refl _), Nat.sub_self] at hq
      cases hc; cases hq; exact hL.sub hS
  let QW : RS → HM → Prop := rR (fun v h' => ∃ (r : Nat) (J : HM), v = some (.ref r) ∧ Gw I h J h' ∧ (∀ nd2 : Nd, nd2.1 = 7 → nd2.2.2.1 = wthN (nd :: cs.flatten) → NodeAt J 82 r (wthL nd2 (nd :: cs.flatten) ly)) ∧ Fr g h h' [])
  have q3 : ([] : List Nat).length = 0 := rfl
  have q4 : (([] : List Nat) ++ [p]).length = 1 := rfl
  have hlc9 : cs.flatten.length + 1 = (nd :: cs.flatten).length := rfl
  have T30 : ¬ rootK (nd :: cs.flatten) = 7 → ∀ z : Option Value, Ev g mX2_with d c k QW 30 [some (.ref a), some (.ref last), z, some (.ref p)] [] h := by
    intro h67 z
    refine ev_newC (c' := 3) (k' := 24) [vz 0, .null, vz 0] dX2_with_30 cf_J26 q2657 q376 q152 rfl (by omega) (by omega) (fun q1 hp_2 e3 B4 Hq1_5 f6 => ?_)
    have k1_7 := (f6 _ (ne_no k1 e3)).trans k1
    have z8 := ((Fr.refl (g := g) _ [])).fresh e3
    have F9 := ((Fr.refl (g := g) _ [])).alloc (Or.inl ⟨_, Hq1_5⟩) f6 e3
    refine ev_dup dX2_with_33 rfl ?_
    refine ev_callVR dX2_with_34 ci_X2_110 ce_J26_init Hq1_5 rfl rfl rfl (al_init hG Hq1_5 B4) (by omega) (by omega) (by omega) (Nat.le_of_ble_eq_true rfl) (fun v10 g1 P10 => ?_)
    obtain ⟨rfl, hn10, fr10⟩ := P10
    have F1 := (F9).call fr10 (fun x hx => Or.inr (Or.inl (by rw [List.mem_singleton.mp hx]; exact z8)))
    have AL0 := al_new (hKC.fr F1).1.1 hn10 B4
    have ka1 := F1.keep k1 (fun q => by cases q)
    refine ev_astore_n dX2_with_37 (by decide) rfl ?_
    dsimp only [List.set]
    refine ev_aload_n dX2_with_38 rfl ?_
    refine ev_aload_n dX2_with_39 rfl ?_
    refine ev_getf dX2_with_40 gf_X2_36_X2 ka1 rfl ?_
    refine ev_callVR dX2_with_43 cv_X2_111_J26 ce_J26_add AL0.1 rfl rfl rfl (al_add hG (hKC.fr F1).1.1 AL0 (by simp) (F1.o hpo)) (by omega) (by omega) (by simp only [List.length_nil, List.length_cons, List.length_append]; omega) (Nat.le_of_ble_eq_true rfl) (fun v9 g2 P9 => ?_)
    obtain ⟨rfl, w1, cap1, AL1, hw1, fr19⟩ := P9
    have F2 := F1.call fr19 (fun x hx => (List.mem_cons.mp hx).elim (fun e => Or.inr (Or.inl (by rw [e]; exact z8))) (fun e => by rw [List.mem_singleton.mp e]; exact (Or.inr (Or.inr hKC.1.2))))
    have zw1 : h w1 = none := by
      obtain ⟨-, -, -, -, y6, y7, y8⟩ := id AL1
      rcases hw1 with e | e
      · have := hKC.1.2
        rcases y8 with ⟨-, q⟩ | ⟨-, q⟩
        · simp only [List.length_append, List.length_cons, List.length_nil] at y6; omega
        · omega
      · exact F1.fresh e
    refine ev_if_eqZ (tgt := 61) dX2_with_46 (by decide) (by omega) (fun c46 => by omega) (fun c46 => ?_)
    refine ev_aload_n dX2_with_49 rfl ?_
    refine ev_aload_n dX2_with_50 rfl ?_
    refine ev_callVR dX2_with_51 cv_X2_111_J26 ce_J26_add AL1.1 rfl rfl rfl (al_add hG (hKC.fr F2).1.1 AL1 (by simp) (F2.o hlo)) (by omega) (by omega) (by simp only [List.length_nil, List.length_cons, List.length_append]; omega) (Nat.le_of_ble_eq_true rfl) (fun v9 g3 P9 => ?_)
    obtain ⟨rfl, w2, cap2, AL2, hw2, fr29⟩ := P9
    have F3 := F2.call fr29 (fun x hx => (List.mem_cons.mp hx).elim (fun e => Or.inr (Or.inl (by rw [e]; exact z8))) (fun e => by rw [List.mem_singleton.mp e]; exact (Or.inr (Or.inl zw1))))
    have zw2 : h w2 = none := by
      rcases hw2 with e | e
      · rw [e]; exact zw1
      · exact F2.fresh e
    obtain ⟨y1, y2, ⟨f3, y3, y4⟩, y5, y6, y7, y8⟩ := id AL2
    refine ev_if_eqZ (tgt := 61) dX2_with_54 (by decide) (by omega) (fun c54 => by omega) (fun c54 => ?_)
    refine ev_iconstZ dX2_with_57 ?_
    refine ev_goto (tgt := 62) dX2_with_58 (by decide) ?_
    refine ev_istore_n dX2_with_62 (by decide) rfl ?_
    dsimp only [List.set]
    refine ev_newC (c' := 0) (k' := 0) [vz 0, .null] dX2_with_63 cf_X16 q2634 q1955 q166 rfl (by omega) (by omega) (fun q11 hp_12 e13 B14 Hq11_15 f16 => ?_)
    have y1_17 := (f16 _ (ne_no y1 e13)).trans y1
    have y3_18 := (f16 _ (ne_no y3 e13)).trans y3
    have z19 := (F3).fresh e13
    have F20 := (F3).alloc (Or.inl ⟨_, Hq11_15⟩) f16 e13
    refine ev_dup dX2_with_66 rfl ?_
    refine ev_iconstZ dX2_with_67 ?_
    refine ev_aload_n dX2_with_68 rfl ?_
    refine ev_callVR dX2_with_69 ci_X2_114 ce_X16_init Hq11_15 rfl rfl rfl (k_i16 (b := false) Hq11_15 B14) (by omega) (by omega) (by omega) (Nat.le_of_ble_eq_true rfl) (fun v21 hp_21 P21 => ?_)
    obtain ⟨rfl, hn21, fr21⟩ := P21
    have y1_22 := fr21.keep y1_17 (by simp only [List.mem_cons, List.not_mem_nil, or_false, not_or]; exact (ne_no y1 e13))
    have y3_23 := fr21.keep y3_18 (by simp only [List.mem_cons, List.not_mem_nil, or_false, not_or]; exact (ne_no y3 e13))
    have F24 := (F20).call fr21 (fun x hx => Or.inr (Or.inl (by rw [List.mem_singleton.mp hx]; exact z19)))
    refine ev_areturn dX2_with_72 rfl (Or.inl ⟨_, rfl⟩) (Or.inr ⟨_, rfl⟩) ?_
    have G0 := (Gw.refl hSI).fr0 F24
    have G1 := G0.add hSI y1_22 z8
    have sA := G0.subadd y1_22
    have G2 := G1.add hSI y3_23 zw2 (AL2.cap (by simp))
    have sB := G1.subadd y3_23
    have G3 := G2.add hSI hn21 z19
    have sC := G2.subadd hn21
    have HSV : SevAt _ q11 false [p, last] := ⟨q1, w2, cap2, _, f3, hs_same _ _ _, sC _ _ (sB _ _ (hs_same _ _ _)), sC _ _ (hs_same _ _ _), y4, y6⟩
    exact ⟨_, rfl, q11, _, rfl, G3, fin2 _ q11 h67 G3.1 HSV, F24⟩
  by_cases h6 : 6 ≤ nd.1
  · obtain ⟨pl, v, cap, mc, f, f1, f2, f3, hf, hcap⟩ := e5.2.2.2.2.2 h6
    rw [← bI_dec] at f1
    have hcap2 := hCI v cap f f3
    have hp16 := hSI _ _ f1
    have hpl := hSI _ _ f2
    have hv := hSI _ _ f3
    have hal : as.length < 100000 := by omega
    have h2l := (hok nd List.mem_cons_self).2.2.1 h6
    have h1l : 1 ≤ as.length := by omega
    have h7k := (hok nd List.mem_cons_self).1.1
    have hel : ∀ y ∈ as, isO h y := fun y hy => by
      obtain ⟨i, hi⟩ := List.getElem?_of_mem hy
      have hl2 := (List.getElem?_eq_some_iff.mp hi).1
      obtain ⟨fs9, es9⟩ := ((e6 i y _ (List.getElem?_eq_getElem (by omega : i < cs.length)) hi).sub hSI).cls
      exact Or.inl ⟨_, es9⟩
    refine ev_aload_n dX2_with_0 rfl ?_
    refine ev_getf dX2_with_1 gf_X2_36_X2 k1 rfl ?_
    refine ev_astore_n dX2_with_4 (by decide) rfl ?_
    dsimp only [List.set]
    refine ev_aload_n dX2_with_5 rfl ?_
    refine ev_instYZ dX2_with_6 q2634 hp16 rfl rfl ?_
    refine ev_if_eqZ (tgt := 30) dX2_with_9 (by decide) (by omega) (fun c9 => by omega) (fun c9 => ?_)
    refine ev_aload_n dX2_with_12 rfl ?_
    refine ev_castY dX2_with_13 q2634 hp16 rfl (Or.inl rfl) ?_
    refine ev_astore_n dX2_with_16 (by decide) rfl ?_
    dsimp only [List.set]
    refine ev_aload_n dX2_with_17 rfl ?_
    refine ev_getf dX2_with_18 gf_X2_100_X16 hp16 rfl ?_
    refine ev_if_neB (tgt := 30) dX2_with_21 (by decide) (fun c21 => ?_) (fun c21 => ?_)
    · have h76 := of_decide_eq_true c21
      exact T30 (by show ¬ nd.1 = 7; omega) _
    · have h76 := of_decide_eq_false c21
      refine ev_aload_n dX2_with_24 rfl ?_
      refine ev_aload_n dX2_with_25 rfl ?_
      refine ev_callVR dX2_with_26 cv_X2_104_X16 ce_X16_with hp16 rfl rfl rfl (k_with16 hG hSI hKC hp16 hpl hv hf ⟨hcap, hcap2⟩ hel hlo hal h1l) (by omega) (by omega) (by omega) (Nat.le_of_ble_eq_true rfl) (fun v9 h2 P9 => ?_)
      obtain ⟨r, J, rfl, G, HSV, F2⟩ := P9
      refine ev_areturn dX2_with_29 rfl (Or.inl ⟨_, rfl⟩) (Or.inr ⟨_, rfl⟩) ?_
      exact ⟨_, rfl, r, J, rfl, G, fin7 J r (by show nd.1 = 7; omega) G.1 HSV, F2⟩
  · have hcls : ∃ fs, h p = some (.inr (nCi nd.1, fs)) := ⟨fp9, ep9⟩
    refine ev_aload_n dX2_with_0 rfl ?_
    refine ev_getf dX2_with_1 gf_X2_36_X2 k1 rfl ?_
    refine ev_astore_n dX2_with_4 (by decide) rfl ?_
    dsimp only [List.set]
    refine ev_aload_n dX2_with_5 rfl ?_
    refine ev_instSev (κ := nd.1) hG dX2_with_6 q2634 hcls ?_
    rw [if_neg h6]
    refine ev_if_eqZ (tgt := 30) dX2_with_9 (by decide) (by omega) (fun c9 => ?_) (fun c9 => by omega)
    exact T30 (by show ¬ nd.1 = 7; omega) _
end T2S
